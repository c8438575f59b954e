set_option maxRecDepth 100000
theorem cw_X6_274 {R : Room} {s : State} {args : Array Value} (hts : ∀ w ∈ lw_all, w.before args s = true) {rm : Room} (hR : rm.frames + 1 ≤ R.frames ∧ 8 + (3 + 11) + rm.locals ≤ R.locals) : CallW R s args RX6 RX6 274 yX6_ofInn cX6_ofInn 3 (some .int) (ws_ yX6_ofInn cX6_ofInn 3 (some .int)) rm rm.cells rm.slots 2 := cwV 2 hts (lw_V q2677 q2679 qs57 q98 q2680) rfl rfl rfl (by decide +kernel) hR
theorem cw_X6_277 {R : Room} {s : State} {args : Array Value} (hts : ∀ w ∈ lw_all, w.before args s = true) {rm : Room} (hR : rm.frames + 1 ≤ R.frames ∧ 8 + (3 + 11) + rm.locals ≤ R.locals) : CallW R s args RX6 RX6 277 yX6_openOnes cX6_openOnes 3 (some .int) (ws_ yX6_openOnes cX6_openOnes 3 (some .int)) rm rm.cells rm.slots 0 := cwV 0 hts (lw_V q2717 q2719 qs58 q98 q2720) rfl rfl rfl (by decide +kernel) hR
theorem cw_X6_286 {R : Room} {s : State} {args : Array Value} (hts : ∀ w ∈ lw_all, w.before args s = true) {rm : Room} (hR : rm.frames + 1 ≤ R.frames ∧ 8 + (2 + 11) + rm.locals ≤ R.locals) : CallW R s args RX6 RX6 286 yX6_dangles cX6_dangles 2 (some .int) (ws_ yX6_dangles cX6_dangles 2 (some .int)) rm rm.cells rm.slots 1 := cwV 1 hts (lw_V q2771 q2773 qs59 q98 q2774) rfl rfl rfl (by decide +kernel) hR
theorem cw_X6_289 {R : Room} {s : State} {args : Array Value} (hts : ∀ w ∈ lw_all, w.before args s = true) {rm : Room} (hR : rm.frames + 1 ≤ R.frames ∧ 8 + (3 + 11) + rm.locals ≤ R.locals) : CallW R s args RX6 RX6 289 yX6_areInns cX6_areInns 3 (some .boolean) (ws_ yX6_areInns cX6_areInns 3 (some .boolean)) rm rm.cells rm.slots 2 := cwV 2 hts (lw_V q2795 q2797 qs60 q98 q2798) rfl rfl rfl (by decide +kernel) hR
theorem cw_X6_267 {R : Room} {s : State} {args : Array Value} (hts : ∀ w ∈ lw_all, w.before args s = true) {rm : Room} (hR : rm.frames + 1 ≤ R.frames ∧ 8 + (6 + 11) + rm.locals ≤ R.locals) : CallW R s args RX6 RX6 267 yX6_rides cX6_rides 6 (some .boolean) (ws_ yX6_rides cX6_rides 6 (some .boolean)) rm rm.cells rm.slots 3 := cwV 3 hts (lw_V q2638 q2640 qs56 q98 q2641) rfl rfl rfl (by decide +kernel) hR
section
variable {p : Program} {l : Launch} {e : Env} {s : State} {m : MethodId} {args : Array Value} {below : List Frame} {meth : Method} {c : Code} {g : gG} {F : nM} {adr : Nat → Nat}
abbrev rm_X6_inns : Room := ({ frames := 2, cells := 0, slots := 0, locals := 128 } : Room)
set_option maxHeartbeats 4000000 in
theorem wk_X6_inns (l : Launch) (g : gG) (F : nM) (adr : Nat → Nat) (i : Nat → Int32) (a : Nat → Nat → Int32) (q : Nat → Nat)  (post : Int32 → MSt → Prop) (hw : wp_X6_inns post i a q ) : Met l yX6_inns (ws_ yX6_inns cX6_inns 1 (some .int)) rm_X6_inns (va_Pc [.ref (adr 0)] (Pg g (MS g F adr i a q))) (va_Qi post (fun u t => MS g F adr u.1 u.2.1 u.2.2 t.heap) (Ag g)) 0 0 (Ag g) := by
  refine Met.ofW (cc := cX6_inns) (maxL := 1) (ret := (some .int)) (by decide) rfl ?_
  intro p e s m args below meth c s₁ B hml hv
  obtain ⟨rfl, hG, hM⟩ := hv
  have C : Cx p s m _ meth c cX6_inns 1 RX6 (some .int) g := Cx.of B hml hG
  have hx := C.1
  have hb := C.2.1
  have hown := C.2.2.2.1
  have hr := C.2.2.2.2.2.1
  have hlocks := C.2.2.2.2.2.2.1
  have hS : va_S (Ag g) s.heap s.heap [] := va_S.rf
  refine lv_start ([.ref (adr 0)] : List Value) (L := [(0, .ref (adr 0))]) (Nat.le_of_ble_eq_true rfl) rfl (fun ls hl => ?_)
  refine lv_aload_n hx hb dX6_inns_0 rfl (lv_at hl 0 rfl) ?_
  refine lv_iconst (v := 0) hx hb dX6_inns_1 (by decide) ?_
  refine m_put C hM hS 0 rfl q2338 rfl rfl rfl dX6_inns_2 (fun i1 H locs ei1 hM hS => ?_)
  have hw := hw i1 ei1
  refine lv_aload_n hx hb dX6_inns_5 rfl (lv_at hl 0 rfl) ?_
  refine m_get C hM 1 (by decide) q2339 rfl rfl dX6_inns_6 ?_
  refine vp_callSi (va_runS (As := [.ref (adr 1)]) (rest := []) C.fix (met_X6_innsOf l g F adr i1 a q 1 (by decide) ) (cw_X6_71 C.ts ⟨Nat.le_of_ble_eq_true rfl, Nat.le_of_ble_eq_true rfl⟩) (preS_of C (P := (MS g F adr i1 a q)) hS hM _) rfl rfl hl.1 rfl (lv_room (Nat.le_of_ble_eq_true rfl)) dX6_inns_9 ⟨Nat.le_of_ble_eq_true rfl, Nat.le_of_ble_eq_true rfl⟩).run (fun r2 er2 => ?_)
  have hw := hw r2 er2
  exact W.iret (v := r2) hx hb hr (fun t ht _ => ⟨⟨r2, (i1, a, q), rfl, hw, hM.at ht⟩, hS.F ht⟩) hS.2.2 dX6_inns_12
set_option maxHeartbeats 4000000 in
theorem met_X6_inns (l : Launch) (g : gG) (F : nM) (adr : Nat → Nat) (i : Nat → Int32) (a : Nat → Nat → Int32) (q : Nat → Nat)  (hpre : pre_X6_inns i a q ) : Met l yX6_inns (ws_ yX6_inns cX6_inns 1 (some .int)) rm_X6_inns (va_Pc [.ref (adr 0)] (Pg g (MS g F adr i a q))) (va_Qi (fun r u => post_X6_inns i a q  r u) (fun u t => MS g F adr u.1 u.2.1 u.2.2 t.heap) (Ag g)) 0 0 (Ag g) :=
  wk_X6_inns l g F adr i a q  _ (pr_X6_inns i a q  hpre)

abbrev rm_X6_hasInn : Room := ({ frames := 3, cells := 0, slots := 0, locals := 192 } : Room)
set_option maxHeartbeats 4000000 in
theorem wkb_X6_hasInn_18 (C : Cx p s m args meth c cX6_hasInn 2 RX6 (some .boolean) g) (post : Int32 → MSt → Prop)  (x : Int32) (i : Nat → Int32) (a : Nat → Nat → Int32) (q : Nat → Nat) (s0 : Int32) (hw : wpb_X6_hasInn_18 post  x i a q s0) {H : Heap} {locs : List Loc} (hM : MS g F adr i a q H) (hS : va_S (Ag g) s.heap H locs) {ls : Array Slot} (hl : lv_has ls 2 [(0, .ref (adr 0)), (1, .int x)]) : W p l e rm_X6_hasInn s m args below meth c H locs 0 0 (MQ below (va_Qi post (fun u t => MS g F adr u.1 u.2.1 u.2.2 t.heap) (Ag g)) args s 0 0 (Ag g)) (F0 m 18 ls [.int s0, .ref (adr 0)]) := by
  have hx := C.1
  have hb := C.2.1
  have hown := C.2.2.2.1
  have hr := C.2.2.2.2.2.1
  have hlocks := C.2.2.2.2.2.2.1
  refine m_put C hM hS 0 rfl q2338 rfl rfl rfl dX6_hasInn_18 (fun i3 H locs ei3 hM hS => ?_)
  have hw := hw i3 ei3
  refine lv_aload_n hx hb dX6_hasInn_21 rfl (lv_at hl 0 rfl) ?_
  refine m_get C hM 1 (by decide) q2339 rfl rfl dX6_hasInn_22 ?_
  refine lv_iload_n hx hb dX6_hasInn_25 rfl (lv_at hl 1 rfl) ?_
  refine vp_callSi (va_runS (As := [.ref (adr 1), .int x]) (rest := []) C.fix (met_X6_hasInnAt l g F adr i3 a q 1 (by decide) x ) (cw_X6_85 C.ts ⟨Nat.le_of_ble_eq_true rfl, Nat.le_of_ble_eq_true rfl⟩) (preS_of C (P := (MS g F adr i3 a q)) hS hM _) rfl rfl hl.1 rfl (lv_room (Nat.le_of_ble_eq_true rfl)) dX6_hasInn_26 ⟨Nat.le_of_ble_eq_true rfl, Nat.le_of_ble_eq_true rfl⟩).run (fun r4 er4 => ?_)
  have hw := hw r4 er4
  exact W.zret (v := r4) hx hb hr hw.1 (fun t ht _ => ⟨⟨r4, (i3, a, q), rfl, hw.2, hM.at ht⟩, hS.F ht⟩) hS.2.2 dX6_hasInn_29
set_option maxHeartbeats 4000000 in
theorem wk_X6_hasInn (l : Launch) (g : gG) (F : nM) (adr : Nat → Nat) (i : Nat → Int32) (a : Nat → Nat → Int32) (q : Nat → Nat) (x : Int32) (post : Int32 → MSt → Prop) (hw : wp_X6_hasInn post i a q x) : Met l yX6_hasInn (ws_ yX6_hasInn cX6_hasInn 2 (some .boolean)) rm_X6_hasInn (va_Pc [.ref (adr 0), .int x] (Pg g (MS g F adr i a q))) (va_Qi post (fun u t => MS g F adr u.1 u.2.1 u.2.2 t.heap) (Ag g)) 0 0 (Ag g) := by
  refine Met.ofW (cc := cX6_hasInn) (maxL := 2) (ret := (some .boolean)) (by decide) rfl ?_
  intro p e s m args below meth c s₁ B hml hv
  obtain ⟨rfl, hG, hM⟩ := hv
  have C : Cx p s m _ meth c cX6_hasInn 2 RX6 (some .boolean) g := Cx.of B hml hG
  have hx := C.1
  have hb := C.2.1
  have hown := C.2.2.2.1
  have hr := C.2.2.2.2.2.1
  have hlocks := C.2.2.2.2.2.2.1
  have hS : va_S (Ag g) s.heap s.heap [] := va_S.rf
  refine lv_start ([.ref (adr 0), .int x] : List Value) (L := [(0, .ref (adr 0)), (1, .int x)]) (Nat.le_of_ble_eq_true rfl) rfl (fun ls hl => ?_)
  refine lv_aload_n hx hb dX6_hasInn_0 rfl (lv_at hl 0 rfl) ?_
  refine lv_iload_n hx hb dX6_hasInn_1 rfl (lv_at hl 1 rfl) ?_
  refine lv_i2l hx hb dX6_hasInn_2 rfl ?_
  refine lv_lconst (v := 0) hx hb dX6_hasInn_3 (by decide) ?_
  refine lv_ldc2 (v := 11) hx hb hown (C.ts _ q2541) dX6_hasInn_4 ?_
  refine vp_callSi (va_runS (As := [.long x.toInt64, .long 0, .long 11]) (rest := [.ref (adr 0)]) C.fix (met_X6_isIn l g  x.toInt64 0 11 ) (cw_X6_61 C.ts ⟨Nat.le_of_ble_eq_true rfl, Nat.le_of_ble_eq_true rfl⟩) (preS_of C (P := (fun _ => True)) hS trivial _) rfl rfl hl.1 rfl (lv_room (Nat.le_of_ble_eq_true rfl)) dX6_hasInn_7 ⟨Nat.le_of_ble_eq_true rfl, Nat.le_of_ble_eq_true rfl⟩).run (fun r1 er1 => ?_)
  have hw := hw r1 er1
  refine lv_if_eq (tgt := 17) hx hb dX6_hasInn_10 (by decide) (fun c2 => ?_) (fun c2 => ?_)
  · have hw := hw.1 c2
    refine lv_iconst (v := 1) hx hb dX6_hasInn_17 (by decide) ?_
    exact wkb_X6_hasInn_18 C post x  i a q 1 hw hM hS (lv_sub hl [0, 1] rfl)
  · have hw := hw.2 c2
    refine lv_iconst (v := 0) hx hb dX6_hasInn_13 (by decide) ?_
    refine lv_goto (tgt := 18) hx hb dX6_hasInn_14 (by decide) ?_
    exact wkb_X6_hasInn_18 C post x  i a q 0 hw hM hS (lv_sub hl [0, 1] rfl)
set_option maxHeartbeats 4000000 in
theorem met_X6_hasInn (l : Launch) (g : gG) (F : nM) (adr : Nat → Nat) (i : Nat → Int32) (a : Nat → Nat → Int32) (q : Nat → Nat) (x : Int32) (hpre : pre_X6_hasInn i a q x) : Met l yX6_hasInn (ws_ yX6_hasInn cX6_hasInn 2 (some .boolean)) rm_X6_hasInn (va_Pc [.ref (adr 0), .int x] (Pg g (MS g F adr i a q))) (va_Qi (fun r u => post_X6_hasInn i a q x r u) (fun u t => MS g F adr u.1 u.2.1 u.2.2 t.heap) (Ag g)) 0 0 (Ag g) :=
  wk_X6_hasInn l g F adr i a q x _ (pr_X6_hasInn i a q x hpre)

abbrev rm_X6_ofInn : Room := ({ frames := 3, cells := 0, slots := 0, locals := 192 } : Room)
set_option maxHeartbeats 4000000 in
theorem wk_X6_ofInn (l : Launch) (g : gG) (F : nM) (adr : Nat → Nat) (i : Nat → Int32) (a : Nat → Nat → Int32) (q : Nat → Nat) (x : Int32) (y : Int32) (post : Int32 → MSt → Prop) (hw : wp_X6_ofInn post i a q x y) : Met l yX6_ofInn (ws_ yX6_ofInn cX6_ofInn 3 (some .int)) rm_X6_ofInn (va_Pc [.ref (adr 0), .int x, .int y] (Pg g (MS g F adr i a q))) (va_Qi post (fun u t => MS g F adr u.1 u.2.1 u.2.2 t.heap) (Ag g)) 0 0 (Ag g) := by
  refine Met.ofW (cc := cX6_ofInn) (maxL := 3) (ret := (some .int)) (by decide) rfl ?_
  intro p e s m args below meth c s₁ B hml hv
  obtain ⟨rfl, hG, hM⟩ := hv
  have C : Cx p s m _ meth c cX6_ofInn 3 RX6 (some .int) g := Cx.of B hml hG
  have hx := C.1
  have hb := C.2.1
  have hown := C.2.2.2.1
  have hr := C.2.2.2.2.2.1
  have hlocks := C.2.2.2.2.2.2.1
  have hS : va_S (Ag g) s.heap s.heap [] := va_S.rf
  refine lv_start ([.ref (adr 0), .int x, .int y] : List Value) (L := [(0, .ref (adr 0)), (1, .int x), (2, .int y)]) (Nat.le_of_ble_eq_true rfl) rfl (fun ls hl => ?_)
  refine lv_aload_n hx hb dX6_ofInn_0 rfl (lv_at hl 0 rfl) ?_
  refine m_get C hM 1 (by decide) q2339 rfl rfl dX6_ofInn_1 ?_
  refine lv_iload_n hx hb dX6_ofInn_4 rfl (lv_at hl 2 rfl) ?_
  refine vp_callSi (va_runS (As := [.ref (adr 1), .int y]) (rest := []) C.fix (met_X6_hasInnAt l g F adr i a q 1 (by decide) y ) (cw_X6_85 C.ts ⟨Nat.le_of_ble_eq_true rfl, Nat.le_of_ble_eq_true rfl⟩) (preS_of C (P := (MS g F adr i a q)) hS hM _) rfl rfl hl.1 rfl (lv_room (Nat.le_of_ble_eq_true rfl)) dX6_ofInn_5 ⟨Nat.le_of_ble_eq_true rfl, Nat.le_of_ble_eq_true rfl⟩).run (fun r1 er1 => ?_)
  have hw := hw r1 er1
  refine lv_if_eq (tgt := 22) hx hb dX6_ofInn_8 (by decide) (fun c2 => ?_) (fun c2 => ?_)
  · have hw := hw.1 c2
    refine lv_aload_n hx hb dX6_ofInn_22 rfl (lv_at hl 0 rfl) ?_
    refine lv_iconst (v := 1) hx hb dX6_ofInn_23 (by decide) ?_
    refine va_calli (va_runV (As := [.int 1]) (rest := []) C.fix (met_X6_fails l g F adr i a q 1 ) (cw_X6_136 C.ts ⟨Nat.le_of_ble_eq_true rfl, Nat.le_of_ble_eq_true rfl⟩) (preV_of C (P := (MS g F adr i a q)) (MS.recv C hM) hS hM _) rfl rfl hl.1 rfl (lv_room (Nat.le_of_ble_eq_true rfl)) dX6_ofInn_24 ⟨Nat.le_of_ble_eq_true rfl, Nat.le_of_ble_eq_true rfl⟩) hS (fun _ _ h => h) (fun _ h => h) (fun r3 z_u t H locs ht _ hw1 hB _ _ hS => ?_)
    obtain ⟨i4, a5, q6⟩ := z_u
    have hM : MS g F adr i4 a5 q6 H := by rw [← ht]; exact hB
    have hw := hw r3 i4 a5 q6 hw1
    exact W.iret (v := r3) hx hb hr (fun t ht _ => ⟨⟨r3, (i4, a5, q6), rfl, hw, hM.at ht⟩, hS.F ht⟩) hS.2.2 dX6_ofInn_27
  · have hw := hw.2 c2
    refine lv_aload_n hx hb dX6_ofInn_11 rfl (lv_at hl 0 rfl) ?_
    refine m_get C hM 1 (by decide) q2339 rfl rfl dX6_ofInn_12 ?_
    refine lv_iload_n hx hb dX6_ofInn_15 rfl (lv_at hl 1 rfl) ?_
    refine lv_iload_n hx hb dX6_ofInn_16 rfl (lv_at hl 2 rfl) ?_
    refine lv_iadd hx hb dX6_ofInn_17 ?_
    refine m_ald C hM (j := 1) rfl hw.1 dX6_ofInn_18 ?_
    have hw := hw.2
    refine lv_goto (tgt := 27) hx hb dX6_ofInn_19 (by decide) ?_
    exact W.iret (v := (a 1 (x + y).toNatClampNeg)) hx hb hr (fun t ht _ => ⟨⟨(a 1 (x + y).toNatClampNeg), (i, a, q), rfl, hw, hM.at ht⟩, hS.F ht⟩) hS.2.2 dX6_ofInn_27
set_option maxHeartbeats 4000000 in
theorem met_X6_ofInn (l : Launch) (g : gG) (F : nM) (adr : Nat → Nat) (i : Nat → Int32) (a : Nat → Nat → Int32) (q : Nat → Nat) (x : Int32) (y : Int32) (hpre : pre_X6_ofInn i a q x y) : Met l yX6_ofInn (ws_ yX6_ofInn cX6_ofInn 3 (some .int)) rm_X6_ofInn (va_Pc [.ref (adr 0), .int x, .int y] (Pg g (MS g F adr i a q))) (va_Qi (fun r u => post_X6_ofInn i a q x y r u) (fun u t => MS g F adr u.1 u.2.1 u.2.2 t.heap) (Ag g)) 0 0 (Ag g) :=
  wk_X6_ofInn l g F adr i a q x y _ (pr_X6_ofInn i a q x y hpre)

abbrev rm_X6_mile : Room := ({ frames := 4, cells := 0, slots := 0, locals := 256 } : Room)
set_option maxHeartbeats 4000000 in
theorem wk_X6_mile (l : Launch) (g : gG) (F : nM) (adr : Nat → Nat) (i : Nat → Int32) (a : Nat → Nat → Int32) (q : Nat → Nat) (x : Int32) (post : Int32 → MSt → Prop) (hw : wp_X6_mile post i a q x) : Met l yX6_mile (ws_ yX6_mile cX6_mile 2 (some .int)) rm_X6_mile (va_Pc [.ref (adr 0), .int x] (Pg g (MS g F adr i a q))) (va_Qi post (fun u t => MS g F adr u.1 u.2.1 u.2.2 t.heap) (Ag g)) 0 0 (Ag g) := by
  refine Met.ofW (cc := cX6_mile) (maxL := 2) (ret := (some .int)) (by decide) rfl ?_
  intro p e s m args below meth c s₁ B hml hv
  obtain ⟨rfl, hG, hM⟩ := hv
  have C : Cx p s m _ meth c cX6_mile 2 RX6 (some .int) g := Cx.of B hml hG
  have hx := C.1
  have hb := C.2.1
  have hown := C.2.2.2.1
  have hr := C.2.2.2.2.2.1
  have hlocks := C.2.2.2.2.2.2.1
  have hS : va_S (Ag g) s.heap s.heap [] := va_S.rf
  refine lv_start ([.ref (adr 0), .int x] : List Value) (L := [(0, .ref (adr 0)), (1, .int x)]) (Nat.le_of_ble_eq_true rfl) rfl (fun ls hl => ?_)
  refine lv_aload_n hx hb dX6_mile_0 rfl (lv_at hl 0 rfl) ?_
  refine lv_iconst (v := 0) hx hb dX6_mile_1 (by decide) ?_
  refine m_put C hM hS 0 rfl q2338 rfl rfl rfl dX6_mile_2 (fun i1 H locs ei1 hM hS => ?_)
  have hw := hw i1 ei1
  refine lv_aload_n hx hb dX6_mile_5 rfl (lv_at hl 0 rfl) ?_
  refine lv_bipush (v := 15) hx hb dX6_mile_6 (by decide) ?_
  refine lv_iload_n hx hb dX6_mile_8 rfl (lv_at hl 1 rfl) ?_
  refine va_calli (va_runV (As := [.int 15, .int x]) (rest := []) C.fix (met_X6_ofInn l g F adr i1 a q 15 x hw.1) (cw_X6_274 C.ts ⟨Nat.le_of_ble_eq_true rfl, Nat.le_of_ble_eq_true rfl⟩) (preV_of C (P := (MS g F adr i1 a q)) (MS.recv C hM) hS hM _) rfl rfl hl.1 rfl (lv_room (Nat.le_of_ble_eq_true rfl)) dX6_mile_9 ⟨Nat.le_of_ble_eq_true rfl, Nat.le_of_ble_eq_true rfl⟩) hS (fun _ _ h => h) (fun _ h => h) (fun r2 z_u t H locs ht _ hw1 hB _ _ hS => ?_)
  obtain ⟨i3, a4, q5⟩ := z_u
  have hM : MS g F adr i3 a4 q5 H := by rw [← ht]; exact hB
  have hw := hw.2 r2 i3 a4 q5 hw1
  exact W.iret (v := r2) hx hb hr (fun t ht _ => ⟨⟨r2, (i3, a4, q5), rfl, hw, hM.at ht⟩, hS.F ht⟩) hS.2.2 dX6_mile_12
set_option maxHeartbeats 4000000 in
theorem met_X6_mile (l : Launch) (g : gG) (F : nM) (adr : Nat → Nat) (i : Nat → Int32) (a : Nat → Nat → Int32) (q : Nat → Nat) (x : Int32) (hpre : pre_X6_mile i a q x) : Met l yX6_mile (ws_ yX6_mile cX6_mile 2 (some .int)) rm_X6_mile (va_Pc [.ref (adr 0), .int x] (Pg g (MS g F adr i a q))) (va_Qi (fun r u => post_X6_mile i a q x r u) (fun u t => MS g F adr u.1 u.2.1 u.2.2 t.heap) (Ag g)) 0 0 (Ag g) :=
  wk_X6_mile l g F adr i a q x _ (pr_X6_mile i a q x hpre)

abbrev rm_X6_next : Room := ({ frames := 4, cells := 0, slots := 0, locals := 256 } : Room)
set_option maxHeartbeats 4000000 in
theorem wk_X6_next (l : Launch) (g : gG) (F : nM) (adr : Nat → Nat) (i : Nat → Int32) (a : Nat → Nat → Int32) (q : Nat → Nat) (x : Int32) (post : Int32 → MSt → Prop) (hw : wp_X6_next post i a q x) : Met l yX6_next (ws_ yX6_next cX6_next 2 (some .int)) rm_X6_next (va_Pc [.ref (adr 0), .int x] (Pg g (MS g F adr i a q))) (va_Qi post (fun u t => MS g F adr u.1 u.2.1 u.2.2 t.heap) (Ag g)) 0 0 (Ag g) := by
  refine Met.ofW (cc := cX6_next) (maxL := 2) (ret := (some .int)) (by decide) rfl ?_
  intro p e s m args below meth c s₁ B hml hv
  obtain ⟨rfl, hG, hM⟩ := hv
  have C : Cx p s m _ meth c cX6_next 2 RX6 (some .int) g := Cx.of B hml hG
  have hx := C.1
  have hb := C.2.1
  have hown := C.2.2.2.1
  have hr := C.2.2.2.2.2.1
  have hlocks := C.2.2.2.2.2.2.1
  have hS : va_S (Ag g) s.heap s.heap [] := va_S.rf
  refine lv_start ([.ref (adr 0), .int x] : List Value) (L := [(0, .ref (adr 0)), (1, .int x)]) (Nat.le_of_ble_eq_true rfl) rfl (fun ls hl => ?_)
  refine lv_aload_n hx hb dX6_next_0 rfl (lv_at hl 0 rfl) ?_
  refine lv_iconst (v := 0) hx hb dX6_next_1 (by decide) ?_
  refine m_put C hM hS 0 rfl q2338 rfl rfl rfl dX6_next_2 (fun i1 H locs ei1 hM hS => ?_)
  have hw := hw i1 ei1
  refine lv_aload_n hx hb dX6_next_5 rfl (lv_at hl 0 rfl) ?_
  refine lv_bipush (v := 54) hx hb dX6_next_6 (by decide) ?_
  refine lv_iload_n hx hb dX6_next_8 rfl (lv_at hl 1 rfl) ?_
  refine va_calli (va_runV (As := [.int 54, .int x]) (rest := []) C.fix (met_X6_ofInn l g F adr i1 a q 54 x hw.1) (cw_X6_274 C.ts ⟨Nat.le_of_ble_eq_true rfl, Nat.le_of_ble_eq_true rfl⟩) (preV_of C (P := (MS g F adr i1 a q)) (MS.recv C hM) hS hM _) rfl rfl hl.1 rfl (lv_room (Nat.le_of_ble_eq_true rfl)) dX6_next_9 ⟨Nat.le_of_ble_eq_true rfl, Nat.le_of_ble_eq_true rfl⟩) hS (fun _ _ h => h) (fun _ h => h) (fun r2 z_u t H locs ht _ hw1 hB _ _ hS => ?_)
  obtain ⟨i3, a4, q5⟩ := z_u
  have hM : MS g F adr i3 a4 q5 H := by rw [← ht]; exact hB
  have hw := hw.2 r2 i3 a4 q5 hw1
  exact W.iret (v := r2) hx hb hr (fun t ht _ => ⟨⟨r2, (i3, a4, q5), rfl, hw, hM.at ht⟩, hS.F ht⟩) hS.2.2 dX6_next_12
set_option maxHeartbeats 4000000 in
theorem met_X6_next (l : Launch) (g : gG) (F : nM) (adr : Nat → Nat) (i : Nat → Int32) (a : Nat → Nat → Int32) (q : Nat → Nat) (x : Int32) (hpre : pre_X6_next i a q x) : Met l yX6_next (ws_ yX6_next cX6_next 2 (some .int)) rm_X6_next (va_Pc [.ref (adr 0), .int x] (Pg g (MS g F adr i a q))) (va_Qi (fun r u => post_X6_next i a q x r u) (fun u t => MS g F adr u.1 u.2.1 u.2.2 t.heap) (Ag g)) 0 0 (Ag g) :=
  wk_X6_next l g F adr i a q x _ (pr_X6_next i a q x hpre)

abbrev rm_X6_skip : Room := ({ frames := 4, cells := 0, slots := 0, locals := 256 } : Room)
set_option maxHeartbeats 4000000 in
theorem wk_X6_skip (l : Launch) (g : gG) (F : nM) (adr : Nat → Nat) (i : Nat → Int32) (a : Nat → Nat → Int32) (q : Nat → Nat) (x : Int32) (post : Int32 → MSt → Prop) (hw : wp_X6_skip post i a q x) : Met l yX6_skip (ws_ yX6_skip cX6_skip 2 (some .int)) rm_X6_skip (va_Pc [.ref (adr 0), .int x] (Pg g (MS g F adr i a q))) (va_Qi post (fun u t => MS g F adr u.1 u.2.1 u.2.2 t.heap) (Ag g)) 0 0 (Ag g) := by
  refine Met.ofW (cc := cX6_skip) (maxL := 2) (ret := (some .int)) (by decide) rfl ?_
  intro p e s m args below meth c s₁ B hml hv
  obtain ⟨rfl, hG, hM⟩ := hv
  have C : Cx p s m _ meth c cX6_skip 2 RX6 (some .int) g := Cx.of B hml hG
  have hx := C.1
  have hb := C.2.1
  have hown := C.2.2.2.1
  have hr := C.2.2.2.2.2.1
  have hlocks := C.2.2.2.2.2.2.1
  have hS : va_S (Ag g) s.heap s.heap [] := va_S.rf
  refine lv_start ([.ref (adr 0), .int x] : List Value) (L := [(0, .ref (adr 0)), (1, .int x)]) (Nat.le_of_ble_eq_true rfl) rfl (fun ls hl => ?_)
  refine lv_aload_n hx hb dX6_skip_0 rfl (lv_at hl 0 rfl) ?_
  refine lv_iconst (v := 0) hx hb dX6_skip_1 (by decide) ?_
  refine m_put C hM hS 0 rfl q2338 rfl rfl rfl dX6_skip_2 (fun i1 H locs ei1 hM hS => ?_)
  have hw := hw i1 ei1
  refine lv_aload_n hx hb dX6_skip_5 rfl (lv_at hl 0 rfl) ?_
  refine lv_bipush (v := 66) hx hb dX6_skip_6 (by decide) ?_
  refine lv_iload_n hx hb dX6_skip_8 rfl (lv_at hl 1 rfl) ?_
  refine va_calli (va_runV (As := [.int 66, .int x]) (rest := []) C.fix (met_X6_ofInn l g F adr i1 a q 66 x hw.1) (cw_X6_274 C.ts ⟨Nat.le_of_ble_eq_true rfl, Nat.le_of_ble_eq_true rfl⟩) (preV_of C (P := (MS g F adr i1 a q)) (MS.recv C hM) hS hM _) rfl rfl hl.1 rfl (lv_room (Nat.le_of_ble_eq_true rfl)) dX6_skip_9 ⟨Nat.le_of_ble_eq_true rfl, Nat.le_of_ble_eq_true rfl⟩) hS (fun _ _ h => h) (fun _ h => h) (fun r2 z_u t H locs ht _ hw1 hB _ _ hS => ?_)
  obtain ⟨i3, a4, q5⟩ := z_u
  have hM : MS g F adr i3 a4 q5 H := by rw [← ht]; exact hB
  have hw := hw.2 r2 i3 a4 q5 hw1
  exact W.iret (v := r2) hx hb hr (fun t ht _ => ⟨⟨r2, (i3, a4, q5), rfl, hw, hM.at ht⟩, hS.F ht⟩) hS.2.2 dX6_skip_12
set_option maxHeartbeats 4000000 in
theorem met_X6_skip (l : Launch) (g : gG) (F : nM) (adr : Nat → Nat) (i : Nat → Int32) (a : Nat → Nat → Int32) (q : Nat → Nat) (x : Int32) (hpre : pre_X6_skip i a q x) : Met l yX6_skip (ws_ yX6_skip cX6_skip 2 (some .int)) rm_X6_skip (va_Pc [.ref (adr 0), .int x] (Pg g (MS g F adr i a q))) (va_Qi (fun r u => post_X6_skip i a q x r u) (fun u t => MS g F adr u.1 u.2.1 u.2.2 t.heap) (Ag g)) 0 0 (Ag g) :=
  wk_X6_skip l g F adr i a q x _ (pr_X6_skip i a q x hpre)

abbrev rm_X6_letters : Room := ({ frames := 4, cells := 0, slots := 0, locals := 256 } : Room)
set_option maxHeartbeats 4000000 in
theorem wk_X6_letters (l : Launch) (g : gG) (F : nM) (adr : Nat → Nat) (i : Nat → Int32) (a : Nat → Nat → Int32) (q : Nat → Nat) (x : Int32) (post : Int32 → MSt → Prop) (hw : wp_X6_letters post i a q x) : Met l yX6_letters (ws_ yX6_letters cX6_letters 2 (some .int)) rm_X6_letters (va_Pc [.ref (adr 0), .int x] (Pg g (MS g F adr i a q))) (va_Qi post (fun u t => MS g F adr u.1 u.2.1 u.2.2 t.heap) (Ag g)) 0 0 (Ag g) := by
  refine Met.ofW (cc := cX6_letters) (maxL := 2) (ret := (some .int)) (by decide) rfl ?_
  intro p e s m args below meth c s₁ B hml hv
  obtain ⟨rfl, hG, hM⟩ := hv
  have C : Cx p s m _ meth c cX6_letters 2 RX6 (some .int) g := Cx.of B hml hG
  have hx := C.1
  have hb := C.2.1
  have hown := C.2.2.2.1
  have hr := C.2.2.2.2.2.1
  have hlocks := C.2.2.2.2.2.2.1
  have hS : va_S (Ag g) s.heap s.heap [] := va_S.rf
  refine lv_start ([.ref (adr 0), .int x] : List Value) (L := [(0, .ref (adr 0)), (1, .int x)]) (Nat.le_of_ble_eq_true rfl) rfl (fun ls hl => ?_)
  refine lv_aload_n hx hb dX6_letters_0 rfl (lv_at hl 0 rfl) ?_
  refine lv_iconst (v := 0) hx hb dX6_letters_1 (by decide) ?_
  refine m_put C hM hS 0 rfl q2338 rfl rfl rfl dX6_letters_2 (fun i1 H locs ei1 hM hS => ?_)
  have hw := hw i1 ei1
  refine lv_aload_n hx hb dX6_letters_5 rfl (lv_at hl 0 rfl) ?_
  refine lv_bipush (v := 39) hx hb dX6_letters_6 (by decide) ?_
  refine lv_iload_n hx hb dX6_letters_8 rfl (lv_at hl 1 rfl) ?_
  refine va_calli (va_runV (As := [.int 39, .int x]) (rest := []) C.fix (met_X6_ofInn l g F adr i1 a q 39 x hw.1) (cw_X6_274 C.ts ⟨Nat.le_of_ble_eq_true rfl, Nat.le_of_ble_eq_true rfl⟩) (preV_of C (P := (MS g F adr i1 a q)) (MS.recv C hM) hS hM _) rfl rfl hl.1 rfl (lv_room (Nat.le_of_ble_eq_true rfl)) dX6_letters_9 ⟨Nat.le_of_ble_eq_true rfl, Nat.le_of_ble_eq_true rfl⟩) hS (fun _ _ h => h) (fun _ h => h) (fun r2 z_u t H locs ht _ hw1 hB _ _ hS => ?_)
  obtain ⟨i3, a4, q5⟩ := z_u
  have hM : MS g F adr i3 a4 q5 H := by rw [← ht]; exact hB
  have hw := hw.2 r2 i3 a4 q5 hw1
  exact W.iret (v := r2) hx hb hr (fun t ht _ => ⟨⟨r2, (i3, a4, q5), rfl, hw, hM.at ht⟩, hS.F ht⟩) hS.2.2 dX6_letters_12
set_option maxHeartbeats 4000000 in
theorem met_X6_letters (l : Launch) (g : gG) (F : nM) (adr : Nat → Nat) (i : Nat → Int32) (a : Nat → Nat → Int32) (q : Nat → Nat) (x : Int32) (hpre : pre_X6_letters i a q x) : Met l yX6_letters (ws_ yX6_letters cX6_letters 2 (some .int)) rm_X6_letters (va_Pc [.ref (adr 0), .int x] (Pg g (MS g F adr i a q))) (va_Qi (fun r u => post_X6_letters i a q x r u) (fun u t => MS g F adr u.1 u.2.1 u.2.2 t.heap) (Ag g)) 0 0 (Ag g) :=
  wk_X6_letters l g F adr i a q x _ (pr_X6_letters i a q x hpre)

abbrev rm_X6_isOpen : Room := ({ frames := 4, cells := 0, slots := 0, locals := 256 } : Room)
set_option maxHeartbeats 4000000 in
theorem wk_X6_isOpen (l : Launch) (g : gG) (F : nM) (adr : Nat → Nat) (i : Nat → Int32) (a : Nat → Nat → Int32) (q : Nat → Nat) (x : Int32) (post : Int32 → MSt → Prop) (hw : wp_X6_isOpen post i a q x) : Met l yX6_isOpen (ws_ yX6_isOpen cX6_isOpen 2 (some .boolean)) rm_X6_isOpen (va_Pc [.ref (adr 0), .int x] (Pg g (MS g F adr i a q))) (va_Qi post (fun u t => MS g F adr u.1 u.2.1 u.2.2 t.heap) (Ag g)) 0 0 (Ag g) := by
  refine Met.ofW (cc := cX6_isOpen) (maxL := 2) (ret := (some .boolean)) (by decide) rfl ?_
  intro p e s m args below meth c s₁ B hml hv
  obtain ⟨rfl, hG, hM⟩ := hv
  have C : Cx p s m _ meth c cX6_isOpen 2 RX6 (some .boolean) g := Cx.of B hml hG
  have hx := C.1
  have hb := C.2.1
  have hown := C.2.2.2.1
  have hr := C.2.2.2.2.2.1
  have hlocks := C.2.2.2.2.2.2.1
  have hS : va_S (Ag g) s.heap s.heap [] := va_S.rf
  refine lv_start ([.ref (adr 0), .int x] : List Value) (L := [(0, .ref (adr 0)), (1, .int x)]) (Nat.le_of_ble_eq_true rfl) rfl (fun ls hl => ?_)
  refine lv_aload_n hx hb dX6_isOpen_0 rfl (lv_at hl 0 rfl) ?_
  refine lv_iconst (v := 0) hx hb dX6_isOpen_1 (by decide) ?_
  refine m_put C hM hS 0 rfl q2338 rfl rfl rfl dX6_isOpen_2 (fun i1 H locs ei1 hM hS => ?_)
  have hw := hw i1 ei1
  refine lv_aload_n hx hb dX6_isOpen_5 rfl (lv_at hl 0 rfl) ?_
  refine lv_bipush (v := 27) hx hb dX6_isOpen_6 (by decide) ?_
  refine lv_iload_n hx hb dX6_isOpen_8 rfl (lv_at hl 1 rfl) ?_
  refine va_calli (va_runV (As := [.int 27, .int x]) (rest := []) C.fix (met_X6_ofInn l g F adr i1 a q 27 x hw.1) (cw_X6_274 C.ts ⟨Nat.le_of_ble_eq_true rfl, Nat.le_of_ble_eq_true rfl⟩) (preV_of C (P := (MS g F adr i1 a q)) (MS.recv C hM) hS hM _) rfl rfl hl.1 rfl (lv_room (Nat.le_of_ble_eq_true rfl)) dX6_isOpen_9 ⟨Nat.le_of_ble_eq_true rfl, Nat.le_of_ble_eq_true rfl⟩) hS (fun _ _ h => h) (fun _ h => h) (fun r2 z_u t H locs ht _ hw1 hB _ _ hS => ?_)
  obtain ⟨i3, a4, q5⟩ := z_u
  have hM : MS g F adr i3 a4 q5 H := by rw [← ht]; exact hB
  have hw := hw.2 r2 i3 a4 q5 hw1
  refine lv_iconst (v := 1) hx hb dX6_isOpen_12 (by decide) ?_
  refine lv_icmp_ne (tgt := 20) hx hb dX6_isOpen_13 (by decide) (fun c6 => ?_) (fun c6 => ?_)
  · have hw := hw.1 c6
    refine lv_iconst (v := 0) hx hb dX6_isOpen_20 (by decide) ?_
    exact W.zret (v := 0) hx hb hr hw.1 (fun t ht _ => ⟨⟨0, (i3, a4, q5), rfl, hw.2, hM.at ht⟩, hS.F ht⟩) hS.2.2 dX6_isOpen_21
  · have hw := hw.2 c6
    refine lv_iconst (v := 1) hx hb dX6_isOpen_16 (by decide) ?_
    refine lv_goto (tgt := 21) hx hb dX6_isOpen_17 (by decide) ?_
    exact W.zret (v := 1) hx hb hr hw.1 (fun t ht _ => ⟨⟨1, (i3, a4, q5), rfl, hw.2, hM.at ht⟩, hS.F ht⟩) hS.2.2 dX6_isOpen_21
set_option maxHeartbeats 4000000 in
theorem met_X6_isOpen (l : Launch) (g : gG) (F : nM) (adr : Nat → Nat) (i : Nat → Int32) (a : Nat → Nat → Int32) (q : Nat → Nat) (x : Int32) (hpre : pre_X6_isOpen i a q x) : Met l yX6_isOpen (ws_ yX6_isOpen cX6_isOpen 2 (some .boolean)) rm_X6_isOpen (va_Pc [.ref (adr 0), .int x] (Pg g (MS g F adr i a q))) (va_Qi (fun r u => post_X6_isOpen i a q x r u) (fun u t => MS g F adr u.1 u.2.1 u.2.2 t.heap) (Ag g)) 0 0 (Ag g) :=
  wk_X6_isOpen l g F adr i a q x _ (pr_X6_isOpen i a q x hpre)

abbrev rm_X6_first : Room := ({ frames := 1, cells := 0, slots := 0, locals := 64 } : Room)
set_option maxHeartbeats 4000000 in
theorem wk_X6_first (l : Launch) (g : gG) (F : nM) (adr : Nat → Nat) (i : Nat → Int32) (a : Nat → Nat → Int32) (q : Nat → Nat)  (post : Int32 → MSt → Prop) (hw : wp_X6_first post i a q ) : Met l yX6_first (ws_ yX6_first cX6_first 1 (some .int)) rm_X6_first (va_Pc [.ref (adr 0)] (Pg g (MS g F adr i a q))) (va_Qi post (fun u t => MS g F adr u.1 u.2.1 u.2.2 t.heap) (Ag g)) 0 0 (Ag g) := by
  refine Met.ofW (cc := cX6_first) (maxL := 1) (ret := (some .int)) (by decide) rfl ?_
  intro p e s m args below meth c s₁ B hml hv
  obtain ⟨rfl, hG, hM⟩ := hv
  have C : Cx p s m _ meth c cX6_first 1 RX6 (some .int) g := Cx.of B hml hG
  have hx := C.1
  have hb := C.2.1
  have hown := C.2.2.2.1
  have hr := C.2.2.2.2.2.1
  have hlocks := C.2.2.2.2.2.2.1
  have hS : va_S (Ag g) s.heap s.heap [] := va_S.rf
  refine lv_start ([.ref (adr 0)] : List Value) (L := [(0, .ref (adr 0))]) (Nat.le_of_ble_eq_true rfl) rfl (fun ls hl => ?_)
  refine lv_aload_n hx hb dX6_first_0 rfl (lv_at hl 0 rfl) ?_
  refine lv_iconst (v := 0) hx hb dX6_first_1 (by decide) ?_
  refine m_put C hM hS 0 rfl q2338 rfl rfl rfl dX6_first_2 (fun i1 H locs ei1 hM hS => ?_)
  have hw := hw i1 ei1
  refine lv_aload_n hx hb dX6_first_5 rfl (lv_at hl 0 rfl) ?_
  refine m_get C hM 1 (by decide) q2339 rfl rfl dX6_first_6 ?_
  refine lv_bipush (v := 51) hx hb dX6_first_9 (by decide) ?_
  refine m_ald C hM (j := 1) rfl hw.1 dX6_first_11 ?_
  have hw := hw.2
  exact W.iret (v := (a 1 (51 : Int32).toNatClampNeg)) hx hb hr (fun t ht _ => ⟨⟨(a 1 (51 : Int32).toNatClampNeg), (i1, a, q), rfl, hw, hM.at ht⟩, hS.F ht⟩) hS.2.2 dX6_first_12
set_option maxHeartbeats 4000000 in
theorem met_X6_first (l : Launch) (g : gG) (F : nM) (adr : Nat → Nat) (i : Nat → Int32) (a : Nat → Nat → Int32) (q : Nat → Nat)  (hpre : pre_X6_first i a q ) : Met l yX6_first (ws_ yX6_first cX6_first 1 (some .int)) rm_X6_first (va_Pc [.ref (adr 0)] (Pg g (MS g F adr i a q))) (va_Qi (fun r u => post_X6_first i a q  r u) (fun u t => MS g F adr u.1 u.2.1 u.2.2 t.heap) (Ag g)) 0 0 (Ag g) :=
  wk_X6_first l g F adr i a q  _ (pr_X6_first i a q  hpre)

abbrev rm_X6_second : Room := ({ frames := 1, cells := 0, slots := 0, locals := 64 } : Room)
set_option maxHeartbeats 4000000 in
theorem wk_X6_second (l : Launch) (g : gG) (F : nM) (adr : Nat → Nat) (i : Nat → Int32) (a : Nat → Nat → Int32) (q : Nat → Nat)  (post : Int32 → MSt → Prop) (hw : wp_X6_second post i a q ) : Met l yX6_second (ws_ yX6_second cX6_second 1 (some .int)) rm_X6_second (va_Pc [.ref (adr 0)] (Pg g (MS g F adr i a q))) (va_Qi post (fun u t => MS g F adr u.1 u.2.1 u.2.2 t.heap) (Ag g)) 0 0 (Ag g) := by
  refine Met.ofW (cc := cX6_second) (maxL := 1) (ret := (some .int)) (by decide) rfl ?_
  intro p e s m args below meth c s₁ B hml hv
  obtain ⟨rfl, hG, hM⟩ := hv
  have C : Cx p s m _ meth c cX6_second 1 RX6 (some .int) g := Cx.of B hml hG
  have hx := C.1
  have hb := C.2.1
  have hown := C.2.2.2.1
  have hr := C.2.2.2.2.2.1
  have hlocks := C.2.2.2.2.2.2.1
  have hS : va_S (Ag g) s.heap s.heap [] := va_S.rf
  refine lv_start ([.ref (adr 0)] : List Value) (L := [(0, .ref (adr 0))]) (Nat.le_of_ble_eq_true rfl) rfl (fun ls hl => ?_)
  refine lv_aload_n hx hb dX6_second_0 rfl (lv_at hl 0 rfl) ?_
  refine lv_iconst (v := 0) hx hb dX6_second_1 (by decide) ?_
  refine m_put C hM hS 0 rfl q2338 rfl rfl rfl dX6_second_2 (fun i1 H locs ei1 hM hS => ?_)
  have hw := hw i1 ei1
  refine lv_aload_n hx hb dX6_second_5 rfl (lv_at hl 0 rfl) ?_
  refine m_get C hM 1 (by decide) q2339 rfl rfl dX6_second_6 ?_
  refine lv_bipush (v := 52) hx hb dX6_second_9 (by decide) ?_
  refine m_ald C hM (j := 1) rfl hw.1 dX6_second_11 ?_
  have hw := hw.2
  exact W.iret (v := (a 1 (52 : Int32).toNatClampNeg)) hx hb hr (fun t ht _ => ⟨⟨(a 1 (52 : Int32).toNatClampNeg), (i1, a, q), rfl, hw, hM.at ht⟩, hS.F ht⟩) hS.2.2 dX6_second_12
set_option maxHeartbeats 4000000 in
theorem met_X6_second (l : Launch) (g : gG) (F : nM) (adr : Nat → Nat) (i : Nat → Int32) (a : Nat → Nat → Int32) (q : Nat → Nat)  (hpre : pre_X6_second i a q ) : Met l yX6_second (ws_ yX6_second cX6_second 1 (some .int)) rm_X6_second (va_Pc [.ref (adr 0)] (Pg g (MS g F adr i a q))) (va_Qi (fun r u => post_X6_second i a q  r u) (fun u t => MS g F adr u.1 u.2.1 u.2.2 t.heap) (Ag g)) 0 0 (Ag g) :=
  wk_X6_second l g F adr i a q  _ (pr_X6_second i a q  hpre)

abbrev rm_X6_storedCount : Room := ({ frames := 1, cells := 0, slots := 0, locals := 64 } : Room)
set_option maxHeartbeats 4000000 in
theorem wk_X6_storedCount (l : Launch) (g : gG) (F : nM) (adr : Nat → Nat) (i : Nat → Int32) (a : Nat → Nat → Int32) (q : Nat → Nat)  (post : Int32 → MSt → Prop) (hw : wp_X6_storedCount post i a q ) : Met l yX6_storedCount (ws_ yX6_storedCount cX6_storedCount 1 (some .int)) rm_X6_storedCount (va_Pc [.ref (adr 0)] (Pg g (MS g F adr i a q))) (va_Qi post (fun u t => MS g F adr u.1 u.2.1 u.2.2 t.heap) (Ag g)) 0 0 (Ag g) := by
  refine Met.ofW (cc := cX6_storedCount) (maxL := 1) (ret := (some .int)) (by decide) rfl ?_
  intro p e s m args below meth c s₁ B hml hv
  obtain ⟨rfl, hG, hM⟩ := hv
  have C : Cx p s m _ meth c cX6_storedCount 1 RX6 (some .int) g := Cx.of B hml hG
  have hx := C.1
  have hb := C.2.1
  have hown := C.2.2.2.1
  have hr := C.2.2.2.2.2.1
  have hlocks := C.2.2.2.2.2.2.1
  have hS : va_S (Ag g) s.heap s.heap [] := va_S.rf
  refine lv_start ([.ref (adr 0)] : List Value) (L := [(0, .ref (adr 0))]) (Nat.le_of_ble_eq_true rfl) rfl (fun ls hl => ?_)
  refine lv_aload_n hx hb dX6_storedCount_0 rfl (lv_at hl 0 rfl) ?_
  refine lv_iconst (v := 0) hx hb dX6_storedCount_1 (by decide) ?_
  refine m_put C hM hS 0 rfl q2338 rfl rfl rfl dX6_storedCount_2 (fun i1 H locs ei1 hM hS => ?_)
  have hw := hw i1 ei1
  refine lv_aload_n hx hb dX6_storedCount_5 rfl (lv_at hl 0 rfl) ?_
  refine m_get C hM 1 (by decide) q2339 rfl rfl dX6_storedCount_6 ?_
  refine lv_bipush (v := 53) hx hb dX6_storedCount_9 (by decide) ?_
  refine m_ald C hM (j := 1) rfl hw.1 dX6_storedCount_11 ?_
  have hw := hw.2
  exact W.iret (v := (a 1 (53 : Int32).toNatClampNeg)) hx hb hr (fun t ht _ => ⟨⟨(a 1 (53 : Int32).toNatClampNeg), (i1, a, q), rfl, hw, hM.at ht⟩, hS.F ht⟩) hS.2.2 dX6_storedCount_12
set_option maxHeartbeats 4000000 in
theorem met_X6_storedCount (l : Launch) (g : gG) (F : nM) (adr : Nat → Nat) (i : Nat → Int32) (a : Nat → Nat → Int32) (q : Nat → Nat)  (hpre : pre_X6_storedCount i a q ) : Met l yX6_storedCount (ws_ yX6_storedCount cX6_storedCount 1 (some .int)) rm_X6_storedCount (va_Pc [.ref (adr 0)] (Pg g (MS g F adr i a q))) (va_Qi (fun r u => post_X6_storedCount i a q  r u) (fun u t => MS g F adr u.1 u.2.1 u.2.2 t.heap) (Ag g)) 0 0 (Ag g) :=
  wk_X6_storedCount l g F adr i a q  _ (pr_X6_storedCount i a q  hpre)

abbrev rm_X6_range : Room := ({ frames := 1, cells := 0, slots := 0, locals := 64 } : Room)
set_option maxHeartbeats 4000000 in
theorem wk_X6_range (l : Launch) (g : gG) (F : nM) (adr : Nat → Nat) (i : Nat → Int32) (a : Nat → Nat → Int32) (q : Nat → Nat)  (post : Int32 → MSt → Prop) (hw : wp_X6_range post i a q ) : Met l yX6_range (ws_ yX6_range cX6_range 1 (some .int)) rm_X6_range (va_Pc [.ref (adr 0)] (Pg g (MS g F adr i a q))) (va_Qi post (fun u t => MS g F adr u.1 u.2.1 u.2.2 t.heap) (Ag g)) 0 0 (Ag g) := by
  refine Met.ofW (cc := cX6_range) (maxL := 1) (ret := (some .int)) (by decide) rfl ?_
  intro p e s m args below meth c s₁ B hml hv
  obtain ⟨rfl, hG, hM⟩ := hv
  have C : Cx p s m _ meth c cX6_range 1 RX6 (some .int) g := Cx.of B hml hG
  have hx := C.1
  have hb := C.2.1
  have hown := C.2.2.2.1
  have hr := C.2.2.2.2.2.1
  have hlocks := C.2.2.2.2.2.2.1
  have hS : va_S (Ag g) s.heap s.heap [] := va_S.rf
  refine lv_start ([.ref (adr 0)] : List Value) (L := [(0, .ref (adr 0))]) (Nat.le_of_ble_eq_true rfl) rfl (fun ls hl => ?_)
  refine lv_aload_n hx hb dX6_range_0 rfl (lv_at hl 0 rfl) ?_
  refine lv_iconst (v := 0) hx hb dX6_range_1 (by decide) ?_
  refine m_put C hM hS 0 rfl q2338 rfl rfl rfl dX6_range_2 (fun i1 H locs ei1 hM hS => ?_)
  have hw := hw i1 ei1
  refine lv_aload_n hx hb dX6_range_5 rfl (lv_at hl 0 rfl) ?_
  refine m_get C hM 1 (by decide) q2339 rfl rfl dX6_range_6 ?_
  refine lv_iconst (v := 0) hx hb dX6_range_9 (by decide) ?_
  refine m_ald C hM (j := 1) rfl hw.1 dX6_range_10 ?_
  have hw := hw.2
  exact W.iret (v := (a 1 (0 : Int32).toNatClampNeg)) hx hb hr (fun t ht _ => ⟨⟨(a 1 (0 : Int32).toNatClampNeg), (i1, a, q), rfl, hw, hM.at ht⟩, hS.F ht⟩) hS.2.2 dX6_range_11
set_option maxHeartbeats 4000000 in
theorem met_X6_range (l : Launch) (g : gG) (F : nM) (adr : Nat → Nat) (i : Nat → Int32) (a : Nat → Nat → Int32) (q : Nat → Nat)  (hpre : pre_X6_range i a q ) : Met l yX6_range (ws_ yX6_range cX6_range 1 (some .int)) rm_X6_range (va_Pc [.ref (adr 0)] (Pg g (MS g F adr i a q))) (va_Qi (fun r u => post_X6_range i a q  r u) (fun u t => MS g F adr u.1 u.2.1 u.2.2 t.heap) (Ag g)) 0 0 (Ag g) :=
  wk_X6_range l g F adr i a q  _ (pr_X6_range i a q  hpre)

abbrev rm_X6_stagesRidden : Room := ({ frames := 1, cells := 0, slots := 0, locals := 64 } : Room)
set_option maxHeartbeats 4000000 in
theorem wk_X6_stagesRidden (l : Launch) (g : gG) (F : nM) (adr : Nat → Nat) (i : Nat → Int32) (a : Nat → Nat → Int32) (q : Nat → Nat)  (post : Int32 → MSt → Prop) (hw : wp_X6_stagesRidden post i a q ) : Met l yX6_stagesRidden (ws_ yX6_stagesRidden cX6_stagesRidden 1 (some .int)) rm_X6_stagesRidden (va_Pc [.ref (adr 0)] (Pg g (MS g F adr i a q))) (va_Qi post (fun u t => MS g F adr u.1 u.2.1 u.2.2 t.heap) (Ag g)) 0 0 (Ag g) := by
  refine Met.ofW (cc := cX6_stagesRidden) (maxL := 1) (ret := (some .int)) (by decide) rfl ?_
  intro p e s m args below meth c s₁ B hml hv
  obtain ⟨rfl, hG, hM⟩ := hv
  have C : Cx p s m _ meth c cX6_stagesRidden 1 RX6 (some .int) g := Cx.of B hml hG
  have hx := C.1
  have hb := C.2.1
  have hown := C.2.2.2.1
  have hr := C.2.2.2.2.2.1
  have hlocks := C.2.2.2.2.2.2.1
  have hS : va_S (Ag g) s.heap s.heap [] := va_S.rf
  refine lv_start ([.ref (adr 0)] : List Value) (L := [(0, .ref (adr 0))]) (Nat.le_of_ble_eq_true rfl) rfl (fun ls hl => ?_)
  refine lv_aload_n hx hb dX6_stagesRidden_0 rfl (lv_at hl 0 rfl) ?_
  refine lv_iconst (v := 0) hx hb dX6_stagesRidden_1 (by decide) ?_
  refine m_put C hM hS 0 rfl q2338 rfl rfl rfl dX6_stagesRidden_2 (fun i1 H locs ei1 hM hS => ?_)
  have hw := hw i1 ei1
  refine lv_aload_n hx hb dX6_stagesRidden_5 rfl (lv_at hl 0 rfl) ?_
  refine m_get C hM 1 (by decide) q2339 rfl rfl dX6_stagesRidden_6 ?_
  refine lv_iconst (v := 1) hx hb dX6_stagesRidden_9 (by decide) ?_
  refine m_ald C hM (j := 1) rfl hw.1 dX6_stagesRidden_10 ?_
  have hw := hw.2
  exact W.iret (v := (a 1 (1 : Int32).toNatClampNeg)) hx hb hr (fun t ht _ => ⟨⟨(a 1 (1 : Int32).toNatClampNeg), (i1, a, q), rfl, hw, hM.at ht⟩, hS.F ht⟩) hS.2.2 dX6_stagesRidden_11
set_option maxHeartbeats 4000000 in
theorem met_X6_stagesRidden (l : Launch) (g : gG) (F : nM) (adr : Nat → Nat) (i : Nat → Int32) (a : Nat → Nat → Int32) (q : Nat → Nat)  (hpre : pre_X6_stagesRidden i a q ) : Met l yX6_stagesRidden (ws_ yX6_stagesRidden cX6_stagesRidden 1 (some .int)) rm_X6_stagesRidden (va_Pc [.ref (adr 0)] (Pg g (MS g F adr i a q))) (va_Qi (fun r u => post_X6_stagesRidden i a q  r u) (fun u t => MS g F adr u.1 u.2.1 u.2.2 t.heap) (Ag g)) 0 0 (Ag g) :=
  wk_X6_stagesRidden l g F adr i a q  _ (pr_X6_stagesRidden i a q  hpre)

abbrev rm_X6_lettersDelivered : Room := ({ frames := 1, cells := 0, slots := 0, locals := 64 } : Room)
set_option maxHeartbeats 4000000 in
theorem wk_X6_lettersDelivered (l : Launch) (g : gG) (F : nM) (adr : Nat → Nat) (i : Nat → Int32) (a : Nat → Nat → Int32) (q : Nat → Nat)  (post : Int32 → MSt → Prop) (hw : wp_X6_lettersDelivered post i a q ) : Met l yX6_lettersDelivered (ws_ yX6_lettersDelivered cX6_lettersDelivered 1 (some .int)) rm_X6_lettersDelivered (va_Pc [.ref (adr 0)] (Pg g (MS g F adr i a q))) (va_Qi post (fun u t => MS g F adr u.1 u.2.1 u.2.2 t.heap) (Ag g)) 0 0 (Ag g) := by
  refine Met.ofW (cc := cX6_lettersDelivered) (maxL := 1) (ret := (some .int)) (by decide) rfl ?_
  intro p e s m args below meth c s₁ B hml hv
  obtain ⟨rfl, hG, hM⟩ := hv
  have C : Cx p s m _ meth c cX6_lettersDelivered 1 RX6 (some .int) g := Cx.of B hml hG
  have hx := C.1
  have hb := C.2.1
  have hown := C.2.2.2.1
  have hr := C.2.2.2.2.2.1
  have hlocks := C.2.2.2.2.2.2.1
  have hS : va_S (Ag g) s.heap s.heap [] := va_S.rf
  refine lv_start ([.ref (adr 0)] : List Value) (L := [(0, .ref (adr 0))]) (Nat.le_of_ble_eq_true rfl) rfl (fun ls hl => ?_)
  refine lv_aload_n hx hb dX6_lettersDelivered_0 rfl (lv_at hl 0 rfl) ?_
  refine lv_iconst (v := 0) hx hb dX6_lettersDelivered_1 (by decide) ?_
  refine m_put C hM hS 0 rfl q2338 rfl rfl rfl dX6_lettersDelivered_2 (fun i1 H locs ei1 hM hS => ?_)
  have hw := hw i1 ei1
  refine lv_aload_n hx hb dX6_lettersDelivered_5 rfl (lv_at hl 0 rfl) ?_
  refine m_get C hM 1 (by decide) q2339 rfl rfl dX6_lettersDelivered_6 ?_
  refine lv_iconst (v := 2) hx hb dX6_lettersDelivered_9 (by decide) ?_
  refine m_ald C hM (j := 1) rfl hw.1 dX6_lettersDelivered_10 ?_
  have hw := hw.2
  exact W.iret (v := (a 1 (2 : Int32).toNatClampNeg)) hx hb hr (fun t ht _ => ⟨⟨(a 1 (2 : Int32).toNatClampNeg), (i1, a, q), rfl, hw, hM.at ht⟩, hS.F ht⟩) hS.2.2 dX6_lettersDelivered_11
set_option maxHeartbeats 4000000 in
theorem met_X6_lettersDelivered (l : Launch) (g : gG) (F : nM) (adr : Nat → Nat) (i : Nat → Int32) (a : Nat → Nat → Int32) (q : Nat → Nat)  (hpre : pre_X6_lettersDelivered i a q ) : Met l yX6_lettersDelivered (ws_ yX6_lettersDelivered cX6_lettersDelivered 1 (some .int)) rm_X6_lettersDelivered (va_Pc [.ref (adr 0)] (Pg g (MS g F adr i a q))) (va_Qi (fun r u => post_X6_lettersDelivered i a q  r u) (fun u t => MS g F adr u.1 u.2.1 u.2.2 t.heap) (Ag g)) 0 0 (Ag g) :=
  wk_X6_lettersDelivered l g F adr i a q  _ (pr_X6_lettersDelivered i a q  hpre)

abbrev rm_X6_openOnes : Room := ({ frames := 1, cells := 0, slots := 0, locals := 64 } : Room)
set_option maxHeartbeats 4000000 in
theorem wkb_X6_openOnes_36 (C : Cx p s m args meth c cX6_openOnes 3 RX6 (some .int) g) (post : Int32 → Prop) (i : Nat → Int32) (a : Nat → Nat → Int32) (q : Nat → Nat) (hM : MS g F adr i a q s.heap)  (K4 : Int32 → Int32 → Prop) (hK4 : ∀ (y1 : Int32) (y2 : Int32), K4 y1 y2 → ∀ ls : Array Slot, lv_has ls 3 [(0, .ref (adr 0)), (1, .int y1), (2, .int y2)] → W p l e rm_X6_openOnes s m args below meth c s.heap [] 0 0 (MQ below (vp_Si post) args s 0 0 (fun _ => False)) (F0 m 4 ls [])) (x2 : Int32) (s0 : Int32) (s1 : Int32) (hw : wpb_X6_openOnes_36 post K4 i a q  x2 s0 s1) {ls : Array Slot} (hl : lv_has ls 3 [(0, .ref (adr 0)), (2, .int x2)]) : W p l e rm_X6_openOnes s m args below meth c s.heap [] 0 0 (MQ below (vp_Si post) args s 0 0 (fun _ => False)) (F0 m 36 ls [.int s0, .int s1]) := by
  have hx := C.1
  have hb := C.2.1
  have hown := C.2.2.2.1
  have hr := C.2.2.2.2.2.1
  have hlocks := C.2.2.2.2.2.2.1
  refine lv_iadd hx hb dX6_openOnes_36 ?_
  refine lv_topi (fun z3 ez3 => ?_)
  have hw := hw z3 ez3
  refine lv_istore_n (lv' := [(1, .int z3), (0, .ref (adr 0)), (2, .int x2)]) hx hb dX6_openOnes_37 rfl hl (by decide) rfl (fun ls hl => ?_)
  obtain ⟨z4, ez4⟩ : ∃ y : Int32, y = x2 + 1 := ⟨_, rfl⟩
  have hw := hw z4 ez4
  refine lv_iinc (v := z4) (lv' := [(2, .int z4), (1, .int z3), (0, .ref (adr 0))]) hx hb dX6_openOnes_38 hl (k := 2) rfl (by rw [ez4]; rfl) (by decide) rfl (fun ls hl => ?_)
  refine lv_goto (tgt := 4) hx hb dX6_openOnes_41 (by decide) ?_
  exact hK4 z3 z4 hw  _ (lv_sub hl [2, 1, 0] rfl)
set_option maxHeartbeats 4000000 in
theorem wkb_X6_openOnes_4 (C : Cx p s m args meth c cX6_openOnes 3 RX6 (some .int) g) (post : Int32 → Prop) (i : Nat → Int32) (a : Nat → Nat → Int32) (q : Nat → Nat) (hM : MS g F adr i a q s.heap)   : ∀ (n : Nat) (x1 : Int32) (x2 : Int32), wpb_X6_openOnes_4 post  i a q  n x1 x2 → ∀ ls : Array Slot, lv_has ls 3 [(0, .ref (adr 0)), (1, .int x1), (2, .int x2)] → W p l e rm_X6_openOnes s m args below meth c s.heap [] 0 0 (MQ below (vp_Si post) args s 0 0 (fun _ => False)) (F0 m 4 ls []) := by
  have hx := C.1
  have hb := C.2.1
  have hown := C.2.2.2.1
  have hr := C.2.2.2.2.2.1
  have hlocks := C.2.2.2.2.2.2.1
  intro n
  induction n with
  | zero =>
    intro x1 x2 hw
    exact hw.elim
  | succ n ih =>
    intro x1 x2 hw  ls hl
    refine lv_iload_n hx hb dX6_openOnes_4 rfl (lv_at hl 2 rfl) ?_
    refine lv_bipush (v := 12) hx hb dX6_openOnes_5 (by decide) ?_
    refine lv_icmp_ge (tgt := 44) hx hb dX6_openOnes_7 (by decide) (fun c1 => ?_) (fun c1 => ?_)
    · have hw := hw.1 c1
      refine lv_iload_n hx hb dX6_openOnes_44 rfl (lv_at hl 1 rfl) ?_
      exact W.iret (v := x1) hx hb hr (fun t ht _ => ⟨x1, rfl, hw, ht⟩) (fun _ h => by cases h) dX6_openOnes_45
    · have hw := hw.2 c1
      refine lv_iload_n hx hb dX6_openOnes_10 rfl (lv_at hl 1 rfl) ?_
      refine lv_aload_n hx hb dX6_openOnes_11 rfl (lv_at hl 0 rfl) ?_
      refine m_get C hM 1 (by decide) q2339 rfl rfl dX6_openOnes_12 ?_
      refine lv_iconst (v := 3) hx hb dX6_openOnes_15 (by decide) ?_
      refine lv_iload_n hx hb dX6_openOnes_16 rfl (lv_at hl 2 rfl) ?_
      refine lv_iadd hx hb dX6_openOnes_17 ?_
      refine m_ald C hM (j := 1) rfl hw.1 dX6_openOnes_18 ?_
      have hw := hw.2
      refine lv_iconst (v := 1) hx hb dX6_openOnes_19 (by decide) ?_
      refine lv_icmp_ne (tgt := 35) hx hb dX6_openOnes_20 (by decide) (fun c2 => ?_) (fun c2 => ?_)
      · have hw := hw.1 c2
        refine lv_iconst (v := 0) hx hb dX6_openOnes_35 (by decide) ?_
        exact wkb_X6_openOnes_36 C post i a q hM  (wpb_X6_openOnes_4 post  i a q  n) ih x2 0 x1 hw  (lv_sub hl [0, 2] rfl)
      · have hw := hw.2 c2
        refine lv_aload_n hx hb dX6_openOnes_23 rfl (lv_at hl 0 rfl) ?_
        refine m_get C hM 1 (by decide) q2339 rfl rfl dX6_openOnes_24 ?_
        refine lv_bipush (v := 27) hx hb dX6_openOnes_27 (by decide) ?_
        refine lv_iload_n hx hb dX6_openOnes_29 rfl (lv_at hl 2 rfl) ?_
        refine lv_iadd hx hb dX6_openOnes_30 ?_
        refine m_ald C hM (j := 1) rfl hw.1 dX6_openOnes_31 ?_
        have hw := hw.2
        refine lv_goto (tgt := 36) hx hb dX6_openOnes_32 (by decide) ?_
        exact wkb_X6_openOnes_36 C post i a q hM  (wpb_X6_openOnes_4 post  i a q  n) ih x2 (a 1 (27 + x2).toNatClampNeg) x1 hw  (lv_sub hl [0, 2] rfl)
set_option maxHeartbeats 4000000 in
theorem wk_X6_openOnes (l : Launch) (g : gG) (F : nM) (adr : Nat → Nat) (i : Nat → Int32) (a : Nat → Nat → Int32) (q : Nat → Nat)  (post : Int32 → Prop) (hw : wp_X6_openOnes post i a q ) : Met l yX6_openOnes (ws_ yX6_openOnes cX6_openOnes 3 (some .int)) rm_X6_openOnes (va_Pc [.ref (adr 0)] (Pg g (MS g F adr i a q))) (vp_Si post) 0 0 (fun _ => False) := by
  refine Met.ofW (cc := cX6_openOnes) (maxL := 3) (ret := (some .int)) (by decide) rfl ?_
  intro p e s m args below meth c s₁ B hml hv
  obtain ⟨rfl, hG, hM⟩ := hv
  have C : Cx p s m _ meth c cX6_openOnes 3 RX6 (some .int) g := Cx.of B hml hG
  have hx := C.1
  have hb := C.2.1
  have hown := C.2.2.2.1
  have hr := C.2.2.2.2.2.1
  have hlocks := C.2.2.2.2.2.2.1
  refine lv_start ([.ref (adr 0)] : List Value) (L := [(0, .ref (adr 0))]) (Nat.le_of_ble_eq_true rfl) rfl (fun ls hl => ?_)
  refine lv_iconst (v := 0) hx hb dX6_openOnes_0 (by decide) ?_
  refine lv_istore_n (lv' := [(1, .int 0), (0, .ref (adr 0))]) hx hb dX6_openOnes_1 rfl hl (by decide) rfl (fun ls hl => ?_)
  refine lv_iconst (v := 0) hx hb dX6_openOnes_2 (by decide) ?_
  refine lv_istore_n (lv' := [(2, .int 0), (1, .int 0), (0, .ref (adr 0))]) hx hb dX6_openOnes_3 rfl hl (by decide) rfl (fun ls hl => ?_)
  obtain ⟨n, hw⟩ := hw
  exact wkb_X6_openOnes_4 C post i a q hM   n 0 0 hw  _ (lv_sub hl [2, 1, 0] rfl)
set_option maxHeartbeats 4000000 in
theorem met_X6_openOnes (l : Launch) (g : gG) (F : nM) (adr : Nat → Nat) (i : Nat → Int32) (a : Nat → Nat → Int32) (q : Nat → Nat)  : Met l yX6_openOnes (ws_ yX6_openOnes cX6_openOnes 3 (some .int)) rm_X6_openOnes (va_Pc [.ref (adr 0)] (Pg g (MS g F adr i a q))) (vp_Si (fun r => post_X6_openOnes i a q  r)) 0 0 (fun _ => False) :=
  wk_X6_openOnes l g F adr i a q  _ (pr_X6_openOnes i a q )

abbrev rm_X6_openInns : Room := ({ frames := 2, cells := 0, slots := 0, locals := 128 } : Room)
set_option maxHeartbeats 4000000 in
theorem wk_X6_openInns (l : Launch) (g : gG) (F : nM) (adr : Nat → Nat) (i : Nat → Int32) (a : Nat → Nat → Int32) (q : Nat → Nat)  (post : Int32 → MSt → Prop) (hw : wp_X6_openInns post i a q ) : Met l yX6_openInns (ws_ yX6_openInns cX6_openInns 1 (some .int)) rm_X6_openInns (va_Pc [.ref (adr 0)] (Pg g (MS g F adr i a q))) (va_Qi post (fun u t => MS g F adr u.1 u.2.1 u.2.2 t.heap) (Ag g)) 0 0 (Ag g) := by
  refine Met.ofW (cc := cX6_openInns) (maxL := 1) (ret := (some .int)) (by decide) rfl ?_
  intro p e s m args below meth c s₁ B hml hv
  obtain ⟨rfl, hG, hM⟩ := hv
  have C : Cx p s m _ meth c cX6_openInns 1 RX6 (some .int) g := Cx.of B hml hG
  have hx := C.1
  have hb := C.2.1
  have hown := C.2.2.2.1
  have hr := C.2.2.2.2.2.1
  have hlocks := C.2.2.2.2.2.2.1
  have hS : va_S (Ag g) s.heap s.heap [] := va_S.rf
  refine lv_start ([.ref (adr 0)] : List Value) (L := [(0, .ref (adr 0))]) (Nat.le_of_ble_eq_true rfl) rfl (fun ls hl => ?_)
  refine lv_aload_n hx hb dX6_openInns_0 rfl (lv_at hl 0 rfl) ?_
  refine lv_iconst (v := 0) hx hb dX6_openInns_1 (by decide) ?_
  refine m_put C hM hS 0 rfl q2338 rfl rfl rfl dX6_openInns_2 (fun i1 H locs ei1 hM hS => ?_)
  have hw := hw i1 ei1
  refine lv_aload_n hx hb dX6_openInns_5 rfl (lv_at hl 0 rfl) ?_
  refine vp_callSi (va_runV (As := []) (rest := []) C.fix (met_X6_openOnes l g F adr i1 a q  ) (cw_X6_277 C.ts ⟨Nat.le_of_ble_eq_true rfl, Nat.le_of_ble_eq_true rfl⟩) (preV_of C (P := (MS g F adr i1 a q)) (MS.recv C hM) hS hM _) rfl rfl hl.1 rfl (lv_room (Nat.le_of_ble_eq_true rfl)) dX6_openInns_6 ⟨Nat.le_of_ble_eq_true rfl, Nat.le_of_ble_eq_true rfl⟩).run (fun r2 er2 => ?_)
  have hw := hw r2 er2
  exact W.iret (v := r2) hx hb hr (fun t ht _ => ⟨⟨r2, (i1, a, q), rfl, hw, hM.at ht⟩, hS.F ht⟩) hS.2.2 dX6_openInns_9
set_option maxHeartbeats 4000000 in
theorem met_X6_openInns (l : Launch) (g : gG) (F : nM) (adr : Nat → Nat) (i : Nat → Int32) (a : Nat → Nat → Int32) (q : Nat → Nat)  (hpre : pre_X6_openInns i a q ) : Met l yX6_openInns (ws_ yX6_openInns cX6_openInns 1 (some .int)) rm_X6_openInns (va_Pc [.ref (adr 0)] (Pg g (MS g F adr i a q))) (va_Qi (fun r u => post_X6_openInns i a q  r u) (fun u t => MS g F adr u.1 u.2.1 u.2.2 t.heap) (Ag g)) 0 0 (Ag g) :=
  wk_X6_openInns l g F adr i a q  _ (pr_X6_openInns i a q  hpre)

abbrev rm_X6_innAtMile : Room := ({ frames := 2, cells := 0, slots := 0, locals := 128 } : Room)
set_option maxHeartbeats 4000000 in
theorem wk_X6_innAtMile (l : Launch) (g : gG) (F : nM) (adr : Nat → Nat) (i : Nat → Int32) (a : Nat → Nat → Int32) (q : Nat → Nat) (x : Int32) (post : Int32 → MSt → Prop) (hw : wp_X6_innAtMile post i a q x) : Met l yX6_innAtMile (ws_ yX6_innAtMile cX6_innAtMile 2 (some .int)) rm_X6_innAtMile (va_Pc [.ref (adr 0), .int x] (Pg g (MS g F adr i a q))) (va_Qi post (fun u t => MS g F adr u.1 u.2.1 u.2.2 t.heap) (Ag g)) 0 0 (Ag g) := by
  refine Met.ofW (cc := cX6_innAtMile) (maxL := 2) (ret := (some .int)) (by decide) rfl ?_
  intro p e s m args below meth c s₁ B hml hv
  obtain ⟨rfl, hG, hM⟩ := hv
  have C : Cx p s m _ meth c cX6_innAtMile 2 RX6 (some .int) g := Cx.of B hml hG
  have hx := C.1
  have hb := C.2.1
  have hown := C.2.2.2.1
  have hr := C.2.2.2.2.2.1
  have hlocks := C.2.2.2.2.2.2.1
  have hS : va_S (Ag g) s.heap s.heap [] := va_S.rf
  refine lv_start ([.ref (adr 0), .int x] : List Value) (L := [(0, .ref (adr 0)), (1, .int x)]) (Nat.le_of_ble_eq_true rfl) rfl (fun ls hl => ?_)
  refine lv_aload_n hx hb dX6_innAtMile_0 rfl (lv_at hl 0 rfl) ?_
  refine lv_iconst (v := 0) hx hb dX6_innAtMile_1 (by decide) ?_
  refine m_put C hM hS 0 rfl q2338 rfl rfl rfl dX6_innAtMile_2 (fun i1 H locs ei1 hM hS => ?_)
  have hw := hw i1 ei1
  refine lv_aload_n hx hb dX6_innAtMile_5 rfl (lv_at hl 0 rfl) ?_
  refine m_get C hM 1 (by decide) q2339 rfl rfl dX6_innAtMile_6 ?_
  refine lv_iload_n hx hb dX6_innAtMile_9 rfl (lv_at hl 1 rfl) ?_
  refine vp_callSi (va_runS (As := [.ref (adr 1), .int x]) (rest := []) C.fix (met_X6_atMile l g F adr i1 a q 1 (by decide) x ) (cw_X6_196 C.ts ⟨Nat.le_of_ble_eq_true rfl, Nat.le_of_ble_eq_true rfl⟩) (preS_of C (P := (MS g F adr i1 a q)) hS hM _) rfl rfl hl.1 rfl (lv_room (Nat.le_of_ble_eq_true rfl)) dX6_innAtMile_10 ⟨Nat.le_of_ble_eq_true rfl, Nat.le_of_ble_eq_true rfl⟩).run (fun r2 er2 => ?_)
  have hw := hw r2 er2
  exact W.iret (v := r2) hx hb hr (fun t ht _ => ⟨⟨r2, (i1, a, q), rfl, hw, hM.at ht⟩, hS.F ht⟩) hS.2.2 dX6_innAtMile_13
set_option maxHeartbeats 4000000 in
theorem met_X6_innAtMile (l : Launch) (g : gG) (F : nM) (adr : Nat → Nat) (i : Nat → Int32) (a : Nat → Nat → Int32) (q : Nat → Nat) (x : Int32) (hpre : pre_X6_innAtMile i a q x) : Met l yX6_innAtMile (ws_ yX6_innAtMile cX6_innAtMile 2 (some .int)) rm_X6_innAtMile (va_Pc [.ref (adr 0), .int x] (Pg g (MS g F adr i a q))) (va_Qi (fun r u => post_X6_innAtMile i a q x r u) (fun u t => MS g F adr u.1 u.2.1 u.2.2 t.heap) (Ag g)) 0 0 (Ag g) :=
  wk_X6_innAtMile l g F adr i a q x _ (pr_X6_innAtMile i a q x hpre)

abbrev rm_X6_totalLetters : Room := ({ frames := 1, cells := 0, slots := 0, locals := 64 } : Room)
set_option maxHeartbeats 4000000 in
theorem wkb_X6_totalLetters_41 (C : Cx p s m args meth c cX6_totalLetters 3 RX6 (some .int) g) (post : Int32 → MSt → Prop)  (K9 : (Nat → Int32) → (Nat → Nat → Int32) → (Nat → Nat) → Int32 → Int32 → Prop) (hK9 : ∀ (i : Nat → Int32) (a : Nat → Nat → Int32) (q : Nat → Nat) (y1 : Int32) (y2 : Int32), K9 i a q y1 y2 → ∀ (H : Heap) (locs : List Loc), MS g F adr i a q H → va_S (Ag g) s.heap H locs → ∀ ls : Array Slot, lv_has ls 3 [(0, .ref (adr 0)), (1, .int y1), (2, .int y2)] → W p l e rm_X6_totalLetters s m args below meth c H locs 0 0 (MQ below (va_Qi post (fun u t => MS g F adr u.1 u.2.1 u.2.2 t.heap) (Ag g)) args s 0 0 (Ag g)) (F0 m 9 ls [])) (i : Nat → Int32) (a : Nat → Nat → Int32) (q : Nat → Nat) (x2 : Int32) (s0 : Int32) (s1 : Int32) (hw : wpb_X6_totalLetters_41 post K9  i a q x2 s0 s1) {H : Heap} {locs : List Loc} (hM : MS g F adr i a q H) (hS : va_S (Ag g) s.heap H locs) {ls : Array Slot} (hl : lv_has ls 3 [(0, .ref (adr 0)), (2, .int x2)]) : W p l e rm_X6_totalLetters s m args below meth c H locs 0 0 (MQ below (va_Qi post (fun u t => MS g F adr u.1 u.2.1 u.2.2 t.heap) (Ag g)) args s 0 0 (Ag g)) (F0 m 41 ls [.int s0, .int s1]) := by
  have hx := C.1
  have hb := C.2.1
  have hown := C.2.2.2.1
  have hr := C.2.2.2.2.2.1
  have hlocks := C.2.2.2.2.2.2.1
  refine lv_iadd hx hb dX6_totalLetters_41 ?_
  refine lv_topi (fun z4 ez4 => ?_)
  have hw := hw z4 ez4
  refine lv_istore_n (lv' := [(1, .int z4), (0, .ref (adr 0)), (2, .int x2)]) hx hb dX6_totalLetters_42 rfl hl (by decide) rfl (fun ls hl => ?_)
  obtain ⟨z5, ez5⟩ : ∃ y : Int32, y = x2 + 1 := ⟨_, rfl⟩
  have hw := hw z5 ez5
  refine lv_iinc (v := z5) (lv' := [(2, .int z5), (1, .int z4), (0, .ref (adr 0))]) hx hb dX6_totalLetters_43 hl (k := 2) rfl (by rw [ez5]; rfl) (by decide) rfl (fun ls hl => ?_)
  refine lv_goto (tgt := 9) hx hb dX6_totalLetters_46 (by decide) ?_
  exact hK9 i a q z4 z5 hw _ _ hM hS _ (lv_sub hl [2, 1, 0] rfl)
set_option maxHeartbeats 4000000 in
theorem wkb_X6_totalLetters_9 (C : Cx p s m args meth c cX6_totalLetters 3 RX6 (some .int) g) (post : Int32 → MSt → Prop)   : ∀ (n : Nat) (i : Nat → Int32) (a : Nat → Nat → Int32) (q : Nat → Nat) (x1 : Int32) (x2 : Int32), wpb_X6_totalLetters_9 post   n i a q x1 x2 → ∀ (H : Heap) (locs : List Loc), MS g F adr i a q H → va_S (Ag g) s.heap H locs → ∀ ls : Array Slot, lv_has ls 3 [(0, .ref (adr 0)), (1, .int x1), (2, .int x2)] → W p l e rm_X6_totalLetters s m args below meth c H locs 0 0 (MQ below (va_Qi post (fun u t => MS g F adr u.1 u.2.1 u.2.2 t.heap) (Ag g)) args s 0 0 (Ag g)) (F0 m 9 ls []) := by
  have hx := C.1
  have hb := C.2.1
  have hown := C.2.2.2.1
  have hr := C.2.2.2.2.2.1
  have hlocks := C.2.2.2.2.2.2.1
  intro n
  induction n with
  | zero =>
    intro i a q x1 x2 hw
    exact hw.elim
  | succ n ih =>
    intro i a q x1 x2 hw H locs hM hS ls hl
    refine lv_iload_n hx hb dX6_totalLetters_9 rfl (lv_at hl 2 rfl) ?_
    refine lv_bipush (v := 12) hx hb dX6_totalLetters_10 (by decide) ?_
    refine lv_icmp_ge (tgt := 49) hx hb dX6_totalLetters_12 (by decide) (fun c2 => ?_) (fun c2 => ?_)
    · have hw := hw.1 c2
      refine lv_iload_n hx hb dX6_totalLetters_49 rfl (lv_at hl 1 rfl) ?_
      exact W.iret (v := x1) hx hb hr (fun t ht _ => ⟨⟨x1, (i, a, q), rfl, hw, hM.at ht⟩, hS.F ht⟩) hS.2.2 dX6_totalLetters_50
    · have hw := hw.2 c2
      refine lv_iload_n hx hb dX6_totalLetters_15 rfl (lv_at hl 1 rfl) ?_
      refine lv_aload_n hx hb dX6_totalLetters_16 rfl (lv_at hl 0 rfl) ?_
      refine m_get C hM 1 (by decide) q2339 rfl rfl dX6_totalLetters_17 ?_
      refine lv_iconst (v := 3) hx hb dX6_totalLetters_20 (by decide) ?_
      refine lv_iload_n hx hb dX6_totalLetters_21 rfl (lv_at hl 2 rfl) ?_
      refine lv_iadd hx hb dX6_totalLetters_22 ?_
      refine m_ald C hM (j := 1) rfl hw.1 dX6_totalLetters_23 ?_
      have hw := hw.2
      refine lv_iconst (v := 1) hx hb dX6_totalLetters_24 (by decide) ?_
      refine lv_icmp_ne (tgt := 40) hx hb dX6_totalLetters_25 (by decide) (fun c3 => ?_) (fun c3 => ?_)
      · have hw := hw.1 c3
        refine lv_iconst (v := 0) hx hb dX6_totalLetters_40 (by decide) ?_
        exact wkb_X6_totalLetters_41 C post  (wpb_X6_totalLetters_9 post   n) ih i a q x2 0 x1 hw hM hS (lv_sub hl [0, 2] rfl)
      · have hw := hw.2 c3
        refine lv_aload_n hx hb dX6_totalLetters_28 rfl (lv_at hl 0 rfl) ?_
        refine m_get C hM 1 (by decide) q2339 rfl rfl dX6_totalLetters_29 ?_
        refine lv_bipush (v := 39) hx hb dX6_totalLetters_32 (by decide) ?_
        refine lv_iload_n hx hb dX6_totalLetters_34 rfl (lv_at hl 2 rfl) ?_
        refine lv_iadd hx hb dX6_totalLetters_35 ?_
        refine m_ald C hM (j := 1) rfl hw.1 dX6_totalLetters_36 ?_
        have hw := hw.2
        refine lv_goto (tgt := 41) hx hb dX6_totalLetters_37 (by decide) ?_
        exact wkb_X6_totalLetters_41 C post  (wpb_X6_totalLetters_9 post   n) ih i a q x2 (a 1 (39 + x2).toNatClampNeg) x1 hw hM hS (lv_sub hl [0, 2] rfl)
set_option maxHeartbeats 4000000 in
theorem wk_X6_totalLetters (l : Launch) (g : gG) (F : nM) (adr : Nat → Nat) (i : Nat → Int32) (a : Nat → Nat → Int32) (q : Nat → Nat)  (post : Int32 → MSt → Prop) (hw : wp_X6_totalLetters post i a q ) : Met l yX6_totalLetters (ws_ yX6_totalLetters cX6_totalLetters 3 (some .int)) rm_X6_totalLetters (va_Pc [.ref (adr 0)] (Pg g (MS g F adr i a q))) (va_Qi post (fun u t => MS g F adr u.1 u.2.1 u.2.2 t.heap) (Ag g)) 0 0 (Ag g) := by
  refine Met.ofW (cc := cX6_totalLetters) (maxL := 3) (ret := (some .int)) (by decide) rfl ?_
  intro p e s m args below meth c s₁ B hml hv
  obtain ⟨rfl, hG, hM⟩ := hv
  have C : Cx p s m _ meth c cX6_totalLetters 3 RX6 (some .int) g := Cx.of B hml hG
  have hx := C.1
  have hb := C.2.1
  have hown := C.2.2.2.1
  have hr := C.2.2.2.2.2.1
  have hlocks := C.2.2.2.2.2.2.1
  have hS : va_S (Ag g) s.heap s.heap [] := va_S.rf
  refine lv_start ([.ref (adr 0)] : List Value) (L := [(0, .ref (adr 0))]) (Nat.le_of_ble_eq_true rfl) rfl (fun ls hl => ?_)
  refine lv_aload_n hx hb dX6_totalLetters_0 rfl (lv_at hl 0 rfl) ?_
  refine lv_iconst (v := 0) hx hb dX6_totalLetters_1 (by decide) ?_
  refine m_put C hM hS 0 rfl q2338 rfl rfl rfl dX6_totalLetters_2 (fun i1 H locs ei1 hM hS => ?_)
  have hw := hw i1 ei1
  refine lv_iconst (v := 0) hx hb dX6_totalLetters_5 (by decide) ?_
  refine lv_istore_n (lv' := [(1, .int 0), (0, .ref (adr 0))]) hx hb dX6_totalLetters_6 rfl hl (by decide) rfl (fun ls hl => ?_)
  refine lv_iconst (v := 0) hx hb dX6_totalLetters_7 (by decide) ?_
  refine lv_istore_n (lv' := [(2, .int 0), (1, .int 0), (0, .ref (adr 0))]) hx hb dX6_totalLetters_8 rfl hl (by decide) rfl (fun ls hl => ?_)
  obtain ⟨n, hw⟩ := hw
  exact wkb_X6_totalLetters_9 C post   n i1 a q 0 0 hw _ _ hM hS _ (lv_sub hl [2, 1, 0] rfl)
set_option maxHeartbeats 4000000 in
theorem met_X6_totalLetters (l : Launch) (g : gG) (F : nM) (adr : Nat → Nat) (i : Nat → Int32) (a : Nat → Nat → Int32) (q : Nat → Nat)  (hpre : pre_X6_totalLetters i a q ) : Met l yX6_totalLetters (ws_ yX6_totalLetters cX6_totalLetters 3 (some .int)) rm_X6_totalLetters (va_Pc [.ref (adr 0)] (Pg g (MS g F adr i a q))) (va_Qi (fun r u => post_X6_totalLetters i a q  r u) (fun u t => MS g F adr u.1 u.2.1 u.2.2 t.heap) (Ag g)) 0 0 (Ag g) :=
  wk_X6_totalLetters l g F adr i a q  _ (pr_X6_totalLetters i a q  hpre)

abbrev rm_X6_isConsistent : Room := ({ frames := 5, cells := 0, slots := 0, locals := 320 } : Room)
set_option maxHeartbeats 4000000 in
theorem wk_X6_isConsistent (l : Launch) (g : gG) (F : nM) (adr : Nat → Nat) (i : Nat → Int32) (a : Nat → Nat → Int32) (q : Nat → Nat)  (post : Int32 → MSt → Prop) (hw : wp_X6_isConsistent post i a q ) : Met l yX6_isConsistent (ws_ yX6_isConsistent cX6_isConsistent 1 (some .boolean)) rm_X6_isConsistent (va_Pc [.ref (adr 0)] (Pg g (MS g F adr i a q))) (va_Qi post (fun u t => MS g F adr u.1 u.2.1 u.2.2 t.heap) (Ag g)) 0 0 (Ag g) := by
  refine Met.ofW (cc := cX6_isConsistent) (maxL := 1) (ret := (some .boolean)) (by decide) rfl ?_
  intro p e s m args below meth c s₁ B hml hv
  obtain ⟨rfl, hG, hM⟩ := hv
  have C : Cx p s m _ meth c cX6_isConsistent 1 RX6 (some .boolean) g := Cx.of B hml hG
  have hx := C.1
  have hb := C.2.1
  have hown := C.2.2.2.1
  have hr := C.2.2.2.2.2.1
  have hlocks := C.2.2.2.2.2.2.1
  have hS : va_S (Ag g) s.heap s.heap [] := va_S.rf
  refine lv_start ([.ref (adr 0)] : List Value) (L := [(0, .ref (adr 0))]) (Nat.le_of_ble_eq_true rfl) rfl (fun ls hl => ?_)
  refine lv_aload_n hx hb dX6_isConsistent_0 rfl (lv_at hl 0 rfl) ?_
  refine lv_iconst (v := 0) hx hb dX6_isConsistent_1 (by decide) ?_
  refine m_put C hM hS 0 rfl q2338 rfl rfl rfl dX6_isConsistent_2 (fun i1 H locs ei1 hM hS => ?_)
  have hw := hw i1 ei1
  refine lv_aload_n hx hb dX6_isConsistent_5 rfl (lv_at hl 0 rfl) ?_
  refine lv_aload_n hx hb dX6_isConsistent_6 rfl (lv_at hl 0 rfl) ?_
  refine m_get C hM 1 (by decide) q2339 rfl rfl dX6_isConsistent_7 ?_
  refine va_calli (va_runV (As := [.ref (adr 1)]) (rest := []) C.fix (met_X6_isSound l g F adr i1 a q 1 (by decide) hw.1) (cw_X6_101 C.ts ⟨Nat.le_of_ble_eq_true rfl, Nat.le_of_ble_eq_true rfl⟩) (preV_of C (P := (MS g F adr i1 a q)) (MS.recv C hM) hS hM _) rfl rfl hl.1 rfl (lv_room (Nat.le_of_ble_eq_true rfl)) dX6_isConsistent_10 ⟨Nat.le_of_ble_eq_true rfl, Nat.le_of_ble_eq_true rfl⟩) hS (fun _ _ h => h) (fun _ h => h) (fun r2 z_u t H locs ht _ hw1 hB _ _ hS => ?_)
  obtain ⟨i3, a4, q5⟩ := z_u
  have hM : MS g F adr i3 a4 q5 H := by rw [← ht]; exact hB
  have hw := hw.2 r2 i3 a4 q5 hw1
  exact W.zret (v := r2) hx hb hr hw.1 (fun t ht _ => ⟨⟨r2, (i3, a4, q5), rfl, hw.2, hM.at ht⟩, hS.F ht⟩) hS.2.2 dX6_isConsistent_13
set_option maxHeartbeats 4000000 in
theorem met_X6_isConsistent (l : Launch) (g : gG) (F : nM) (adr : Nat → Nat) (i : Nat → Int32) (a : Nat → Nat → Int32) (q : Nat → Nat)  (hpre : pre_X6_isConsistent i a q ) : Met l yX6_isConsistent (ws_ yX6_isConsistent cX6_isConsistent 1 (some .boolean)) rm_X6_isConsistent (va_Pc [.ref (adr 0)] (Pg g (MS g F adr i a q))) (va_Qi (fun r u => post_X6_isConsistent i a q  r u) (fun u t => MS g F adr u.1 u.2.1 u.2.2 t.heap) (Ag g)) 0 0 (Ag g) :=
  wk_X6_isConsistent l g F adr i a q  _ (pr_X6_isConsistent i a q  hpre)

abbrev rm_X6_chainLength : Room := ({ frames := 4, cells := 0, slots := 0, locals := 256 } : Room)
set_option maxHeartbeats 4000000 in
theorem wk_X6_chainLength (l : Launch) (g : gG) (F : nM) (adr : Nat → Nat) (i : Nat → Int32) (a : Nat → Nat → Int32) (q : Nat → Nat)  (post : Int32 → MSt → Prop) (hw : wp_X6_chainLength post i a q ) : Met l yX6_chainLength (ws_ yX6_chainLength cX6_chainLength 1 (some .int)) rm_X6_chainLength (va_Pc [.ref (adr 0)] (Pg g (MS g F adr i a q))) (va_Qi post (fun u t => MS g F adr u.1 u.2.1 u.2.2 t.heap) (Ag g)) 0 0 (Ag g) := by
  refine Met.ofW (cc := cX6_chainLength) (maxL := 1) (ret := (some .int)) (by decide) rfl ?_
  intro p e s m args below meth c s₁ B hml hv
  obtain ⟨rfl, hG, hM⟩ := hv
  have C : Cx p s m _ meth c cX6_chainLength 1 RX6 (some .int) g := Cx.of B hml hG
  have hx := C.1
  have hb := C.2.1
  have hown := C.2.2.2.1
  have hr := C.2.2.2.2.2.1
  have hlocks := C.2.2.2.2.2.2.1
  have hS : va_S (Ag g) s.heap s.heap [] := va_S.rf
  refine lv_start ([.ref (adr 0)] : List Value) (L := [(0, .ref (adr 0))]) (Nat.le_of_ble_eq_true rfl) rfl (fun ls hl => ?_)
  refine lv_aload_n hx hb dX6_chainLength_0 rfl (lv_at hl 0 rfl) ?_
  refine lv_iconst (v := 0) hx hb dX6_chainLength_1 (by decide) ?_
  refine m_put C hM hS 0 rfl q2338 rfl rfl rfl dX6_chainLength_2 (fun i1 H locs ei1 hM hS => ?_)
  have hw := hw i1 ei1
  refine lv_aload_n hx hb dX6_chainLength_5 rfl (lv_at hl 0 rfl) ?_
  refine lv_aload_n hx hb dX6_chainLength_6 rfl (lv_at hl 0 rfl) ?_
  refine m_get C hM 1 (by decide) q2339 rfl rfl dX6_chainLength_7 ?_
  refine va_callv (va_runV (As := [.ref (adr 1)]) (rest := []) C.fix (met_X6_laysChain l g F adr i1 a q 1 (by decide) ) (cw_X6_95 C.ts ⟨Nat.le_of_ble_eq_true rfl, Nat.le_of_ble_eq_true rfl⟩) (preV_of C (P := (MS g F adr i1 a q)) (MS.recv C hM) hS hM _) rfl rfl hl.1 rfl (lv_room (Nat.le_of_ble_eq_true rfl)) dX6_chainLength_10 ⟨Nat.le_of_ble_eq_true rfl, Nat.le_of_ble_eq_true rfl⟩) hS (fun _ _ h => h) (fun _ h => h) (fun z_u t H locs ht _ hw1 hB _ _ hS => ?_)
  obtain ⟨i3, a4, q5⟩ := z_u
  have hM : MS g F adr i3 a4 q5 H := by rw [← ht]; exact hB
  have hw := hw i3 a4 q5 hw1
  refine lv_aload_n hx hb dX6_chainLength_13 rfl (lv_at hl 0 rfl) ?_
  refine m_get C hM 10 (by decide) q2348 rfl rfl dX6_chainLength_14 ?_
  exact W.iret (v := (i3 10)) hx hb hr (fun t ht _ => ⟨⟨(i3 10), (i3, a4, q5), rfl, hw, hM.at ht⟩, hS.F ht⟩) hS.2.2 dX6_chainLength_17
set_option maxHeartbeats 4000000 in
theorem met_X6_chainLength (l : Launch) (g : gG) (F : nM) (adr : Nat → Nat) (i : Nat → Int32) (a : Nat → Nat → Int32) (q : Nat → Nat)  (hpre : pre_X6_chainLength i a q ) : Met l yX6_chainLength (ws_ yX6_chainLength cX6_chainLength 1 (some .int)) rm_X6_chainLength (va_Pc [.ref (adr 0)] (Pg g (MS g F adr i a q))) (va_Qi (fun r u => post_X6_chainLength i a q  r u) (fun u t => MS g F adr u.1 u.2.1 u.2.2 t.heap) (Ag g)) 0 0 (Ag g) :=
  wk_X6_chainLength l g F adr i a q  _ (pr_X6_chainLength i a q  hpre)

abbrev rm_X6_chainInn : Room := ({ frames := 4, cells := 0, slots := 0, locals := 256 } : Room)
set_option maxHeartbeats 4000000 in
theorem wk_X6_chainInn (l : Launch) (g : gG) (F : nM) (adr : Nat → Nat) (i : Nat → Int32) (a : Nat → Nat → Int32) (q : Nat → Nat) (x : Int32) (post : Int32 → MSt → Prop) (hw : wp_X6_chainInn post i a q x) : Met l yX6_chainInn (ws_ yX6_chainInn cX6_chainInn 2 (some .int)) rm_X6_chainInn (va_Pc [.ref (adr 0), .int x] (Pg g (MS g F adr i a q))) (va_Qi post (fun u t => MS g F adr u.1 u.2.1 u.2.2 t.heap) (Ag g)) 0 0 (Ag g) := by
  refine Met.ofW (cc := cX6_chainInn) (maxL := 2) (ret := (some .int)) (by decide) rfl ?_
  intro p e s m args below meth c s₁ B hml hv
  obtain ⟨rfl, hG, hM⟩ := hv
  have C : Cx p s m _ meth c cX6_chainInn 2 RX6 (some .int) g := Cx.of B hml hG
  have hx := C.1
  have hb := C.2.1
  have hown := C.2.2.2.1
  have hr := C.2.2.2.2.2.1
  have hlocks := C.2.2.2.2.2.2.1
  have hS : va_S (Ag g) s.heap s.heap [] := va_S.rf
  refine lv_start ([.ref (adr 0), .int x] : List Value) (L := [(0, .ref (adr 0)), (1, .int x)]) (Nat.le_of_ble_eq_true rfl) rfl (fun ls hl => ?_)
  refine lv_aload_n hx hb dX6_chainInn_0 rfl (lv_at hl 0 rfl) ?_
  refine lv_iconst (v := 0) hx hb dX6_chainInn_1 (by decide) ?_
  refine m_put C hM hS 0 rfl q2338 rfl rfl rfl dX6_chainInn_2 (fun i1 H locs ei1 hM hS => ?_)
  have hw := hw i1 ei1
  refine lv_aload_n hx hb dX6_chainInn_5 rfl (lv_at hl 0 rfl) ?_
  refine lv_aload_n hx hb dX6_chainInn_6 rfl (lv_at hl 0 rfl) ?_
  refine m_get C hM 1 (by decide) q2339 rfl rfl dX6_chainInn_7 ?_
  refine va_callv (va_runV (As := [.ref (adr 1)]) (rest := []) C.fix (met_X6_laysChain l g F adr i1 a q 1 (by decide) ) (cw_X6_95 C.ts ⟨Nat.le_of_ble_eq_true rfl, Nat.le_of_ble_eq_true rfl⟩) (preV_of C (P := (MS g F adr i1 a q)) (MS.recv C hM) hS hM _) rfl rfl hl.1 rfl (lv_room (Nat.le_of_ble_eq_true rfl)) dX6_chainInn_10 ⟨Nat.le_of_ble_eq_true rfl, Nat.le_of_ble_eq_true rfl⟩) hS (fun _ _ h => h) (fun _ h => h) (fun z_u t H locs ht _ hw1 hB _ _ hS => ?_)
  obtain ⟨i3, a4, q5⟩ := z_u
  have hM : MS g F adr i3 a4 q5 H := by rw [← ht]; exact hB
  have hw := hw i3 a4 q5 hw1
  refine lv_iload_n hx hb dX6_chainInn_13 rfl (lv_at hl 1 rfl) ?_
  refine lv_i2l hx hb dX6_chainInn_14 rfl ?_
  refine lv_lconst (v := 0) hx hb dX6_chainInn_15 (by decide) ?_
  refine lv_aload_n hx hb dX6_chainInn_16 rfl (lv_at hl 0 rfl) ?_
  refine m_get C hM 10 (by decide) q2348 rfl rfl dX6_chainInn_17 ?_
  refine lv_iconst (v := 1) hx hb dX6_chainInn_20 (by decide) ?_
  refine lv_isub hx hb dX6_chainInn_21 ?_
  refine lv_i2l hx hb dX6_chainInn_22 rfl ?_
  refine vp_callSi (va_runS (As := [.long x.toInt64, .long 0, .long (((i3 10) - 1).toInt64)]) (rest := []) C.fix (met_X6_isIn l g  x.toInt64 0 (((i3 10) - 1).toInt64) ) (cw_X6_61 C.ts ⟨Nat.le_of_ble_eq_true rfl, Nat.le_of_ble_eq_true rfl⟩) (preS_of C (P := (fun _ => True)) hS trivial _) rfl rfl hl.1 rfl (lv_room (Nat.le_of_ble_eq_true rfl)) dX6_chainInn_23 ⟨Nat.le_of_ble_eq_true rfl, Nat.le_of_ble_eq_true rfl⟩).run (fun r6 er6 => ?_)
  have hw := hw r6 er6
  refine lv_if_eq (tgt := 38) hx hb dX6_chainInn_26 (by decide) (fun c7 => ?_) (fun c7 => ?_)
  · have hw := hw.1 c7
    refine lv_aload_n hx hb dX6_chainInn_38 rfl (lv_at hl 0 rfl) ?_
    refine lv_iconst (v := 1) hx hb dX6_chainInn_39 (by decide) ?_
    refine va_calli (va_runV (As := [.int 1]) (rest := []) C.fix (met_X6_fails l g F adr i3 a4 q5 1 ) (cw_X6_136 C.ts ⟨Nat.le_of_ble_eq_true rfl, Nat.le_of_ble_eq_true rfl⟩) (preV_of C (P := (MS g F adr i3 a4 q5)) (MS.recv C hM) hS hM _) rfl rfl hl.1 rfl (lv_room (Nat.le_of_ble_eq_true rfl)) dX6_chainInn_40 ⟨Nat.le_of_ble_eq_true rfl, Nat.le_of_ble_eq_true rfl⟩) hS (fun _ _ h => h) (fun _ h => h) (fun r8 z_u t H locs ht _ hw1 hB _ _ hS => ?_)
    obtain ⟨i9, a10, q11⟩ := z_u
    have hM : MS g F adr i9 a10 q11 H := by rw [← ht]; exact hB
    have hw := hw r8 i9 a10 q11 hw1
    exact W.iret (v := r8) hx hb hr (fun t ht _ => ⟨⟨r8, (i9, a10, q11), rfl, hw, hM.at ht⟩, hS.F ht⟩) hS.2.2 dX6_chainInn_43
  · have hw := hw.2 c7
    refine lv_aload_n hx hb dX6_chainInn_29 rfl (lv_at hl 0 rfl) ?_
    refine m_get C hM 9 (by decide) q2347 rfl rfl dX6_chainInn_30 ?_
    refine lv_iload_n hx hb dX6_chainInn_33 rfl (lv_at hl 1 rfl) ?_
    refine m_ald C hM (j := 7) rfl hw.1 dX6_chainInn_34 ?_
    have hw := hw.2
    refine lv_goto (tgt := 43) hx hb dX6_chainInn_35 (by decide) ?_
    exact W.iret (v := (a4 7 x.toNatClampNeg)) hx hb hr (fun t ht _ => ⟨⟨(a4 7 x.toNatClampNeg), (i3, a4, q5), rfl, hw, hM.at ht⟩, hS.F ht⟩) hS.2.2 dX6_chainInn_43
set_option maxHeartbeats 4000000 in
theorem met_X6_chainInn (l : Launch) (g : gG) (F : nM) (adr : Nat → Nat) (i : Nat → Int32) (a : Nat → Nat → Int32) (q : Nat → Nat) (x : Int32) (hpre : pre_X6_chainInn i a q x) : Met l yX6_chainInn (ws_ yX6_chainInn cX6_chainInn 2 (some .int)) rm_X6_chainInn (va_Pc [.ref (adr 0), .int x] (Pg g (MS g F adr i a q))) (va_Qi (fun r u => post_X6_chainInn i a q x r u) (fun u t => MS g F adr u.1 u.2.1 u.2.2 t.heap) (Ag g)) 0 0 (Ag g) :=
  wk_X6_chainInn l g F adr i a q x _ (pr_X6_chainInn i a q x hpre)

abbrev rm_X6_position : Room := ({ frames := 4, cells := 0, slots := 0, locals := 256 } : Room)
set_option maxHeartbeats 4000000 in
theorem wk_X6_position (l : Launch) (g : gG) (F : nM) (adr : Nat → Nat) (i : Nat → Int32) (a : Nat → Nat → Int32) (q : Nat → Nat) (x : Int32) (post : Int32 → MSt → Prop) (hw : wp_X6_position post i a q x) : Met l yX6_position (ws_ yX6_position cX6_position 2 (some .int)) rm_X6_position (va_Pc [.ref (adr 0), .int x] (Pg g (MS g F adr i a q))) (va_Qi post (fun u t => MS g F adr u.1 u.2.1 u.2.2 t.heap) (Ag g)) 0 0 (Ag g) := by
  refine Met.ofW (cc := cX6_position) (maxL := 2) (ret := (some .int)) (by decide) rfl ?_
  intro p e s m args below meth c s₁ B hml hv
  obtain ⟨rfl, hG, hM⟩ := hv
  have C : Cx p s m _ meth c cX6_position 2 RX6 (some .int) g := Cx.of B hml hG
  have hx := C.1
  have hb := C.2.1
  have hown := C.2.2.2.1
  have hr := C.2.2.2.2.2.1
  have hlocks := C.2.2.2.2.2.2.1
  have hS : va_S (Ag g) s.heap s.heap [] := va_S.rf
  refine lv_start ([.ref (adr 0), .int x] : List Value) (L := [(0, .ref (adr 0)), (1, .int x)]) (Nat.le_of_ble_eq_true rfl) rfl (fun ls hl => ?_)
  refine lv_aload_n hx hb dX6_position_0 rfl (lv_at hl 0 rfl) ?_
  refine lv_iconst (v := 0) hx hb dX6_position_1 (by decide) ?_
  refine m_put C hM hS 0 rfl q2338 rfl rfl rfl dX6_position_2 (fun i1 H locs ei1 hM hS => ?_)
  have hw := hw i1 ei1
  refine lv_aload_n hx hb dX6_position_5 rfl (lv_at hl 0 rfl) ?_
  refine lv_aload_n hx hb dX6_position_6 rfl (lv_at hl 0 rfl) ?_
  refine m_get C hM 1 (by decide) q2339 rfl rfl dX6_position_7 ?_
  refine va_callv (va_runV (As := [.ref (adr 1)]) (rest := []) C.fix (met_X6_laysChain l g F adr i1 a q 1 (by decide) ) (cw_X6_95 C.ts ⟨Nat.le_of_ble_eq_true rfl, Nat.le_of_ble_eq_true rfl⟩) (preV_of C (P := (MS g F adr i1 a q)) (MS.recv C hM) hS hM _) rfl rfl hl.1 rfl (lv_room (Nat.le_of_ble_eq_true rfl)) dX6_position_10 ⟨Nat.le_of_ble_eq_true rfl, Nat.le_of_ble_eq_true rfl⟩) hS (fun _ _ h => h) (fun _ h => h) (fun z_u t H locs ht _ hw1 hB _ _ hS => ?_)
  obtain ⟨i3, a4, q5⟩ := z_u
  have hM : MS g F adr i3 a4 q5 H := by rw [← ht]; exact hB
  have hw := hw i3 a4 q5 hw1
  refine lv_aload_n hx hb dX6_position_13 rfl (lv_at hl 0 rfl) ?_
  refine m_get C hM 1 (by decide) q2339 rfl rfl dX6_position_14 ?_
  refine lv_iload_n hx hb dX6_position_17 rfl (lv_at hl 1 rfl) ?_
  refine vp_callSi (va_runS (As := [.ref (adr 1), .int x]) (rest := []) C.fix (met_X6_hasInnAt l g F adr i3 a4 q5 1 (by decide) x ) (cw_X6_85 C.ts ⟨Nat.le_of_ble_eq_true rfl, Nat.le_of_ble_eq_true rfl⟩) (preS_of C (P := (MS g F adr i3 a4 q5)) hS hM _) rfl rfl hl.1 rfl (lv_room (Nat.le_of_ble_eq_true rfl)) dX6_position_18 ⟨Nat.le_of_ble_eq_true rfl, Nat.le_of_ble_eq_true rfl⟩).run (fun r6 er6 => ?_)
  have hw := hw r6 er6
  refine lv_if_eq (tgt := 32) hx hb dX6_position_21 (by decide) (fun c7 => ?_) (fun c7 => ?_)
  · have hw := hw.1 c7
    refine lv_aload_n hx hb dX6_position_32 rfl (lv_at hl 0 rfl) ?_
    refine lv_iconst (v := 1) hx hb dX6_position_33 (by decide) ?_
    refine va_calli (va_runV (As := [.int 1]) (rest := []) C.fix (met_X6_fails l g F adr i3 a4 q5 1 ) (cw_X6_136 C.ts ⟨Nat.le_of_ble_eq_true rfl, Nat.le_of_ble_eq_true rfl⟩) (preV_of C (P := (MS g F adr i3 a4 q5)) (MS.recv C hM) hS hM _) rfl rfl hl.1 rfl (lv_room (Nat.le_of_ble_eq_true rfl)) dX6_position_34 ⟨Nat.le_of_ble_eq_true rfl, Nat.le_of_ble_eq_true rfl⟩) hS (fun _ _ h => h) (fun _ h => h) (fun r8 z_u t H locs ht _ hw1 hB _ _ hS => ?_)
    obtain ⟨i9, a10, q11⟩ := z_u
    have hM : MS g F adr i9 a10 q11 H := by rw [← ht]; exact hB
    have hw := hw r8 i9 a10 q11 hw1
    exact W.iret (v := r8) hx hb hr (fun t ht _ => ⟨⟨r8, (i9, a10, q11), rfl, hw, hM.at ht⟩, hS.F ht⟩) hS.2.2 dX6_position_37
  · have hw := hw.2 c7
    refine lv_aload_n hx hb dX6_position_24 rfl (lv_at hl 0 rfl) ?_
    refine lv_iload_n hx hb dX6_position_25 rfl (lv_at hl 1 rfl) ?_
    refine vp_callSi (va_runV (As := [.int x]) (rest := []) C.fix (met_X6_positionOf l g F adr i3 a4 q5 x hw.1) (cw_X6_88 C.ts ⟨Nat.le_of_ble_eq_true rfl, Nat.le_of_ble_eq_true rfl⟩) (preV_of C (P := (MS g F adr i3 a4 q5)) (MS.recv C hM) hS hM _) rfl rfl hl.1 rfl (lv_room (Nat.le_of_ble_eq_true rfl)) dX6_position_26 ⟨Nat.le_of_ble_eq_true rfl, Nat.le_of_ble_eq_true rfl⟩).run (fun r12 er12 => ?_)
    have hw := hw.2 r12 er12
    refine lv_goto (tgt := 37) hx hb dX6_position_29 (by decide) ?_
    exact W.iret (v := r12) hx hb hr (fun t ht _ => ⟨⟨r12, (i3, a4, q5), rfl, hw, hM.at ht⟩, hS.F ht⟩) hS.2.2 dX6_position_37
set_option maxHeartbeats 4000000 in
theorem met_X6_position (l : Launch) (g : gG) (F : nM) (adr : Nat → Nat) (i : Nat → Int32) (a : Nat → Nat → Int32) (q : Nat → Nat) (x : Int32) (hpre : pre_X6_position i a q x) : Met l yX6_position (ws_ yX6_position cX6_position 2 (some .int)) rm_X6_position (va_Pc [.ref (adr 0), .int x] (Pg g (MS g F adr i a q))) (va_Qi (fun r u => post_X6_position i a q x r u) (fun u t => MS g F adr u.1 u.2.1 u.2.2 t.heap) (Ag g)) 0 0 (Ag g) :=
  wk_X6_position l g F adr i a q x _ (pr_X6_position i a q x hpre)

abbrev rm_X6_hasCycle : Room := ({ frames := 4, cells := 0, slots := 0, locals := 256 } : Room)
set_option maxHeartbeats 4000000 in
theorem wk_X6_hasCycle (l : Launch) (g : gG) (F : nM) (adr : Nat → Nat) (i : Nat → Int32) (a : Nat → Nat → Int32) (q : Nat → Nat)  (post : Int32 → MSt → Prop) (hw : wp_X6_hasCycle post i a q ) : Met l yX6_hasCycle (ws_ yX6_hasCycle cX6_hasCycle 1 (some .boolean)) rm_X6_hasCycle (va_Pc [.ref (adr 0)] (Pg g (MS g F adr i a q))) (va_Qi post (fun u t => MS g F adr u.1 u.2.1 u.2.2 t.heap) (Ag g)) 0 0 (Ag g) := by
  refine Met.ofW (cc := cX6_hasCycle) (maxL := 1) (ret := (some .boolean)) (by decide) rfl ?_
  intro p e s m args below meth c s₁ B hml hv
  obtain ⟨rfl, hG, hM⟩ := hv
  have C : Cx p s m _ meth c cX6_hasCycle 1 RX6 (some .boolean) g := Cx.of B hml hG
  have hx := C.1
  have hb := C.2.1
  have hown := C.2.2.2.1
  have hr := C.2.2.2.2.2.1
  have hlocks := C.2.2.2.2.2.2.1
  have hS : va_S (Ag g) s.heap s.heap [] := va_S.rf
  refine lv_start ([.ref (adr 0)] : List Value) (L := [(0, .ref (adr 0))]) (Nat.le_of_ble_eq_true rfl) rfl (fun ls hl => ?_)
  refine lv_aload_n hx hb dX6_hasCycle_0 rfl (lv_at hl 0 rfl) ?_
  refine lv_iconst (v := 0) hx hb dX6_hasCycle_1 (by decide) ?_
  refine m_put C hM hS 0 rfl q2338 rfl rfl rfl dX6_hasCycle_2 (fun i1 H locs ei1 hM hS => ?_)
  have hw := hw i1 ei1
  refine lv_aload_n hx hb dX6_hasCycle_5 rfl (lv_at hl 0 rfl) ?_
  refine lv_aload_n hx hb dX6_hasCycle_6 rfl (lv_at hl 0 rfl) ?_
  refine m_get C hM 1 (by decide) q2339 rfl rfl dX6_hasCycle_7 ?_
  refine va_callv (va_runV (As := [.ref (adr 1)]) (rest := []) C.fix (met_X6_laysChain l g F adr i1 a q 1 (by decide) ) (cw_X6_95 C.ts ⟨Nat.le_of_ble_eq_true rfl, Nat.le_of_ble_eq_true rfl⟩) (preV_of C (P := (MS g F adr i1 a q)) (MS.recv C hM) hS hM _) rfl rfl hl.1 rfl (lv_room (Nat.le_of_ble_eq_true rfl)) dX6_hasCycle_10 ⟨Nat.le_of_ble_eq_true rfl, Nat.le_of_ble_eq_true rfl⟩) hS (fun _ _ h => h) (fun _ h => h) (fun z_u t H locs ht _ hw1 hB _ _ hS => ?_)
  obtain ⟨i3, a4, q5⟩ := z_u
  have hM : MS g F adr i3 a4 q5 H := by rw [← ht]; exact hB
  have hw := hw i3 a4 q5 hw1
  refine lv_aload_n hx hb dX6_hasCycle_13 rfl (lv_at hl 0 rfl) ?_
  refine m_get C hM 1 (by decide) q2339 rfl rfl dX6_hasCycle_14 ?_
  refine lv_aload_n hx hb dX6_hasCycle_17 rfl (lv_at hl 0 rfl) ?_
  refine m_get C hM 11 (by decide) q2349 rfl rfl dX6_hasCycle_18 ?_
  refine vp_callSi (va_runS (As := [.ref (adr 1), .int (i3 11)]) (rest := []) C.fix (met_X6_hasInnAt l g F adr i3 a4 q5 1 (by decide) (i3 11) ) (cw_X6_85 C.ts ⟨Nat.le_of_ble_eq_true rfl, Nat.le_of_ble_eq_true rfl⟩) (preS_of C (P := (MS g F adr i3 a4 q5)) hS hM _) rfl rfl hl.1 rfl (lv_room (Nat.le_of_ble_eq_true rfl)) dX6_hasCycle_21 ⟨Nat.le_of_ble_eq_true rfl, Nat.le_of_ble_eq_true rfl⟩).run (fun r6 er6 => ?_)
  have hw := hw r6 er6
  exact W.zret (v := r6) hx hb hr hw.1 (fun t ht _ => ⟨⟨r6, (i3, a4, q5), rfl, hw.2, hM.at ht⟩, hS.F ht⟩) hS.2.2 dX6_hasCycle_24
set_option maxHeartbeats 4000000 in
theorem met_X6_hasCycle (l : Launch) (g : gG) (F : nM) (adr : Nat → Nat) (i : Nat → Int32) (a : Nat → Nat → Int32) (q : Nat → Nat)  (hpre : pre_X6_hasCycle i a q ) : Met l yX6_hasCycle (ws_ yX6_hasCycle cX6_hasCycle 1 (some .boolean)) rm_X6_hasCycle (va_Pc [.ref (adr 0)] (Pg g (MS g F adr i a q))) (va_Qi (fun r u => post_X6_hasCycle i a q  r u) (fun u t => MS g F adr u.1 u.2.1 u.2.2 t.heap) (Ag g)) 0 0 (Ag g) :=
  wk_X6_hasCycle l g F adr i a q  _ (pr_X6_hasCycle i a q  hpre)

abbrev rm_X6_dangles : Room := ({ frames := 3, cells := 0, slots := 0, locals := 192 } : Room)
set_option maxHeartbeats 4000000 in
theorem wk_X6_dangles (l : Launch) (g : gG) (F : nM) (adr : Nat → Nat) (i : Nat → Int32) (a : Nat → Nat → Int32) (q : Nat → Nat) (x : Int32) (post : Int32 → Prop) (hw : wp_X6_dangles post i a q x) : Met l yX6_dangles (ws_ yX6_dangles cX6_dangles 2 (some .int)) rm_X6_dangles (va_Pc [.ref (adr 0), .int x] (Pg g (MS g F adr i a q))) (vp_Si post) 0 0 (fun _ => False) := by
  refine Met.ofW (cc := cX6_dangles) (maxL := 2) (ret := (some .int)) (by decide) rfl ?_
  intro p e s m args below meth c s₁ B hml hv
  obtain ⟨rfl, hG, hM⟩ := hv
  have C : Cx p s m _ meth c cX6_dangles 2 RX6 (some .int) g := Cx.of B hml hG
  have hx := C.1
  have hb := C.2.1
  have hown := C.2.2.2.1
  have hr := C.2.2.2.2.2.1
  have hlocks := C.2.2.2.2.2.2.1
  refine lv_start ([.ref (adr 0), .int x] : List Value) (L := [(0, .ref (adr 0)), (1, .int x)]) (Nat.le_of_ble_eq_true rfl) rfl (fun ls hl => ?_)
  refine lv_iload_n hx hb dX6_dangles_0 rfl (lv_at hl 1 rfl) ?_
  refine lv_iconst (v := (-1)) hx hb dX6_dangles_1 (by decide) ?_
  refine lv_icmp_eq (tgt := 20) hx hb dX6_dangles_2 (by decide) (fun c1 => ?_) (fun c1 => ?_)
  · have hw := hw.1 c1
    refine lv_iconst (v := 0) hx hb dX6_dangles_20 (by decide) ?_
    exact W.iret (v := 0) hx hb hr (fun t ht _ => ⟨0, rfl, hw, ht⟩) (fun _ h => by cases h) dX6_dangles_21
  · have hw := hw.2 c1
    refine lv_aload_n hx hb dX6_dangles_5 rfl (lv_at hl 0 rfl) ?_
    refine m_get C hM 1 (by decide) q2339 rfl rfl dX6_dangles_6 ?_
    refine lv_iload_n hx hb dX6_dangles_9 rfl (lv_at hl 1 rfl) ?_
    refine vp_callSi (va_runS (As := [.ref (adr 1), .int x]) (rest := []) C.fix (met_X6_hasInnAt l g F adr i a q 1 (by decide) x ) (cw_X6_85 C.ts ⟨Nat.le_of_ble_eq_true rfl, Nat.le_of_ble_eq_true rfl⟩) (preS_of C (P := (MS g F adr i a q)) va_S.rf hM _) rfl rfl hl.1 rfl (lv_room (Nat.le_of_ble_eq_true rfl)) dX6_dangles_10 ⟨Nat.le_of_ble_eq_true rfl, Nat.le_of_ble_eq_true rfl⟩).run (fun r2 er2 => ?_)
    have hw := hw r2 er2
    refine lv_if_ne (tgt := 20) hx hb dX6_dangles_13 (by decide) (fun c3 => ?_) (fun c3 => ?_)
    · have hw := hw.1 c3
      refine lv_iconst (v := 0) hx hb dX6_dangles_20 (by decide) ?_
      exact W.iret (v := 0) hx hb hr (fun t ht _ => ⟨0, rfl, hw, ht⟩) (fun _ h => by cases h) dX6_dangles_21
    · have hw := hw.2 c3
      refine lv_iconst (v := 1) hx hb dX6_dangles_16 (by decide) ?_
      refine lv_goto (tgt := 21) hx hb dX6_dangles_17 (by decide) ?_
      exact W.iret (v := 1) hx hb hr (fun t ht _ => ⟨1, rfl, hw, ht⟩) (fun _ h => by cases h) dX6_dangles_21
set_option maxHeartbeats 4000000 in
theorem met_X6_dangles (l : Launch) (g : gG) (F : nM) (adr : Nat → Nat) (i : Nat → Int32) (a : Nat → Nat → Int32) (q : Nat → Nat) (x : Int32) : Met l yX6_dangles (ws_ yX6_dangles cX6_dangles 2 (some .int)) rm_X6_dangles (va_Pc [.ref (adr 0), .int x] (Pg g (MS g F adr i a q))) (vp_Si (fun r => post_X6_dangles i a q x r)) 0 0 (fun _ => False) :=
  wk_X6_dangles l g F adr i a q x _ (pr_X6_dangles i a q x)

abbrev rm_X6_danglingPointers : Room := ({ frames := 4, cells := 0, slots := 0, locals := 256 } : Room)
set_option maxHeartbeats 4000000 in
theorem wkb_X6_danglingPointers_81 (C : Cx p s m args meth c cX6_danglingPointers 3 RX6 (some .int) g) (post : Int32 → MSt → Prop)  (K31 : (Nat → Int32) → (Nat → Nat → Int32) → (Nat → Nat) → Int32 → Int32 → Prop) (hK31 : ∀ (i : Nat → Int32) (a : Nat → Nat → Int32) (q : Nat → Nat) (y1 : Int32) (y2 : Int32), K31 i a q y1 y2 → ∀ (H : Heap) (locs : List Loc), MS g F adr i a q H → va_S (Ag g) s.heap H locs → ∀ ls : Array Slot, lv_has ls 3 [(0, .ref (adr 0)), (1, .int y1), (2, .int y2)] → W p l e rm_X6_danglingPointers s m args below meth c H locs 0 0 (MQ below (va_Qi post (fun u t => MS g F adr u.1 u.2.1 u.2.2 t.heap) (Ag g)) args s 0 0 (Ag g)) (F0 m 31 ls [])) (i : Nat → Int32) (a : Nat → Nat → Int32) (q : Nat → Nat) (x2 : Int32) (s0 : Int32) (s1 : Int32) (hw : wpb_X6_danglingPointers_81 post K31  i a q x2 s0 s1) {H : Heap} {locs : List Loc} (hM : MS g F adr i a q H) (hS : va_S (Ag g) s.heap H locs) {ls : Array Slot} (hl : lv_has ls 3 [(0, .ref (adr 0)), (2, .int x2)]) : W p l e rm_X6_danglingPointers s m args below meth c H locs 0 0 (MQ below (va_Qi post (fun u t => MS g F adr u.1 u.2.1 u.2.2 t.heap) (Ag g)) args s 0 0 (Ag g)) (F0 m 81 ls [.int s0, .int s1]) := by
  have hx := C.1
  have hb := C.2.1
  have hown := C.2.2.2.1
  have hr := C.2.2.2.2.2.1
  have hlocks := C.2.2.2.2.2.2.1
  refine lv_iadd hx hb dX6_danglingPointers_81 ?_
  refine lv_topi (fun z9 ez9 => ?_)
  have hw := hw z9 ez9
  refine lv_istore_n (lv' := [(1, .int z9), (0, .ref (adr 0)), (2, .int x2)]) hx hb dX6_danglingPointers_82 rfl hl (by decide) rfl (fun ls hl => ?_)
  obtain ⟨z10, ez10⟩ : ∃ y : Int32, y = x2 + 1 := ⟨_, rfl⟩
  have hw := hw z10 ez10
  refine lv_iinc (v := z10) (lv' := [(2, .int z10), (1, .int z9), (0, .ref (adr 0))]) hx hb dX6_danglingPointers_83 hl (k := 2) rfl (by rw [ez10]; rfl) (by decide) rfl (fun ls hl => ?_)
  refine lv_goto (tgt := 31) hx hb dX6_danglingPointers_86 (by decide) ?_
  exact hK31 i a q z9 z10 hw _ _ hM hS _ (lv_sub hl [2, 1, 0] rfl)
set_option maxHeartbeats 4000000 in
theorem wkb_X6_danglingPointers_31 (C : Cx p s m args meth c cX6_danglingPointers 3 RX6 (some .int) g) (post : Int32 → MSt → Prop)   : ∀ (n : Nat) (i : Nat → Int32) (a : Nat → Nat → Int32) (q : Nat → Nat) (x1 : Int32) (x2 : Int32), wpb_X6_danglingPointers_31 post   n i a q x1 x2 → ∀ (H : Heap) (locs : List Loc), MS g F adr i a q H → va_S (Ag g) s.heap H locs → ∀ ls : Array Slot, lv_has ls 3 [(0, .ref (adr 0)), (1, .int x1), (2, .int x2)] → W p l e rm_X6_danglingPointers s m args below meth c H locs 0 0 (MQ below (va_Qi post (fun u t => MS g F adr u.1 u.2.1 u.2.2 t.heap) (Ag g)) args s 0 0 (Ag g)) (F0 m 31 ls []) := by
  have hx := C.1
  have hb := C.2.1
  have hown := C.2.2.2.1
  have hr := C.2.2.2.2.2.1
  have hlocks := C.2.2.2.2.2.2.1
  intro n
  induction n with
  | zero =>
    intro i a q x1 x2 hw
    exact hw.elim
  | succ n ih =>
    intro i a q x1 x2 hw H locs hM hS ls hl
    refine lv_iload_n hx hb dX6_danglingPointers_31 rfl (lv_at hl 2 rfl) ?_
    refine lv_bipush (v := 12) hx hb dX6_danglingPointers_32 (by decide) ?_
    refine lv_icmp_ge (tgt := 89) hx hb dX6_danglingPointers_34 (by decide) (fun c5 => ?_) (fun c5 => ?_)
    · have hw := hw.1 c5
      refine lv_iload_n hx hb dX6_danglingPointers_89 rfl (lv_at hl 1 rfl) ?_
      exact W.iret (v := x1) hx hb hr (fun t ht _ => ⟨⟨x1, (i, a, q), rfl, hw, hM.at ht⟩, hS.F ht⟩) hS.2.2 dX6_danglingPointers_90
    · have hw := hw.2 c5
      refine lv_iload_n hx hb dX6_danglingPointers_37 rfl (lv_at hl 1 rfl) ?_
      refine lv_aload_n hx hb dX6_danglingPointers_38 rfl (lv_at hl 0 rfl) ?_
      refine m_get C hM 1 (by decide) q2339 rfl rfl dX6_danglingPointers_39 ?_
      refine lv_iconst (v := 3) hx hb dX6_danglingPointers_42 (by decide) ?_
      refine lv_iload_n hx hb dX6_danglingPointers_43 rfl (lv_at hl 2 rfl) ?_
      refine lv_iadd hx hb dX6_danglingPointers_44 ?_
      refine m_ald C hM (j := 1) rfl hw.1 dX6_danglingPointers_45 ?_
      have hw := hw.2
      refine lv_iconst (v := 1) hx hb dX6_danglingPointers_46 (by decide) ?_
      refine lv_icmp_ne (tgt := 80) hx hb dX6_danglingPointers_47 (by decide) (fun c6 => ?_) (fun c6 => ?_)
      · have hw := hw.1 c6
        refine lv_iconst (v := 0) hx hb dX6_danglingPointers_80 (by decide) ?_
        exact wkb_X6_danglingPointers_81 C post  (wpb_X6_danglingPointers_31 post   n) ih i a q x2 0 x1 hw hM hS (lv_sub hl [0, 2] rfl)
      · have hw := hw.2 c6
        refine lv_aload_n hx hb dX6_danglingPointers_50 rfl (lv_at hl 0 rfl) ?_
        refine lv_aload_n hx hb dX6_danglingPointers_51 rfl (lv_at hl 0 rfl) ?_
        refine m_get C hM 1 (by decide) q2339 rfl rfl dX6_danglingPointers_52 ?_
        refine lv_bipush (v := 54) hx hb dX6_danglingPointers_55 (by decide) ?_
        refine lv_iload_n hx hb dX6_danglingPointers_57 rfl (lv_at hl 2 rfl) ?_
        refine lv_iadd hx hb dX6_danglingPointers_58 ?_
        refine m_ald C hM (j := 1) rfl hw.1 dX6_danglingPointers_59 ?_
        have hw := hw.2
        refine vp_callSi (va_runV (As := [.int (a 1 (54 + x2).toNatClampNeg)]) (rest := [.int x1]) C.fix (met_X6_dangles l g F adr i a q (a 1 (54 + x2).toNatClampNeg) ) (cw_X6_286 C.ts ⟨Nat.le_of_ble_eq_true rfl, Nat.le_of_ble_eq_true rfl⟩) (preV_of C (P := (MS g F adr i a q)) (MS.recv C hM) hS hM _) rfl rfl hl.1 rfl (lv_room (Nat.le_of_ble_eq_true rfl)) dX6_danglingPointers_60 ⟨Nat.le_of_ble_eq_true rfl, Nat.le_of_ble_eq_true rfl⟩).run (fun r7 er7 => ?_)
        have hw := hw r7 er7
        refine lv_aload_n hx hb dX6_danglingPointers_63 rfl (lv_at hl 0 rfl) ?_
        refine lv_aload_n hx hb dX6_danglingPointers_64 rfl (lv_at hl 0 rfl) ?_
        refine m_get C hM 1 (by decide) q2339 rfl rfl dX6_danglingPointers_65 ?_
        refine lv_bipush (v := 66) hx hb dX6_danglingPointers_68 (by decide) ?_
        refine lv_iload_n hx hb dX6_danglingPointers_70 rfl (lv_at hl 2 rfl) ?_
        refine lv_iadd hx hb dX6_danglingPointers_71 ?_
        refine m_ald C hM (j := 1) rfl hw.1 dX6_danglingPointers_72 ?_
        have hw := hw.2
        refine vp_callSi (va_runV (As := [.int (a 1 (66 + x2).toNatClampNeg)]) (rest := [.int r7, .int x1]) C.fix (met_X6_dangles l g F adr i a q (a 1 (66 + x2).toNatClampNeg) ) (cw_X6_286 C.ts ⟨Nat.le_of_ble_eq_true rfl, Nat.le_of_ble_eq_true rfl⟩) (preV_of C (P := (MS g F adr i a q)) (MS.recv C hM) hS hM _) rfl rfl hl.1 rfl (lv_room (Nat.le_of_ble_eq_true rfl)) dX6_danglingPointers_73 ⟨Nat.le_of_ble_eq_true rfl, Nat.le_of_ble_eq_true rfl⟩).run (fun r8 er8 => ?_)
        have hw := hw r8 er8
        refine lv_iadd hx hb dX6_danglingPointers_76 ?_
        refine lv_goto (tgt := 81) hx hb dX6_danglingPointers_77 (by decide) ?_
        exact wkb_X6_danglingPointers_81 C post  (wpb_X6_danglingPointers_31 post   n) ih i a q x2 (r7 + r8) x1 hw hM hS (lv_sub hl [0, 2] rfl)
set_option maxHeartbeats 4000000 in
theorem wk_X6_danglingPointers (l : Launch) (g : gG) (F : nM) (adr : Nat → Nat) (i : Nat → Int32) (a : Nat → Nat → Int32) (q : Nat → Nat)  (post : Int32 → MSt → Prop) (hw : wp_X6_danglingPointers post i a q ) : Met l yX6_danglingPointers (ws_ yX6_danglingPointers cX6_danglingPointers 3 (some .int)) rm_X6_danglingPointers (va_Pc [.ref (adr 0)] (Pg g (MS g F adr i a q))) (va_Qi post (fun u t => MS g F adr u.1 u.2.1 u.2.2 t.heap) (Ag g)) 0 0 (Ag g) := by
  refine Met.ofW (cc := cX6_danglingPointers) (maxL := 3) (ret := (some .int)) (by decide) rfl ?_
  intro p e s m args below meth c s₁ B hml hv
  obtain ⟨rfl, hG, hM⟩ := hv
  have C : Cx p s m _ meth c cX6_danglingPointers 3 RX6 (some .int) g := Cx.of B hml hG
  have hx := C.1
  have hb := C.2.1
  have hown := C.2.2.2.1
  have hr := C.2.2.2.2.2.1
  have hlocks := C.2.2.2.2.2.2.1
  have hS : va_S (Ag g) s.heap s.heap [] := va_S.rf
  refine lv_start ([.ref (adr 0)] : List Value) (L := [(0, .ref (adr 0))]) (Nat.le_of_ble_eq_true rfl) rfl (fun ls hl => ?_)
  refine lv_aload_n hx hb dX6_danglingPointers_0 rfl (lv_at hl 0 rfl) ?_
  refine lv_iconst (v := 0) hx hb dX6_danglingPointers_1 (by decide) ?_
  refine m_put C hM hS 0 rfl q2338 rfl rfl rfl dX6_danglingPointers_2 (fun i1 H locs ei1 hM hS => ?_)
  have hw := hw i1 ei1
  refine lv_aload_n hx hb dX6_danglingPointers_5 rfl (lv_at hl 0 rfl) ?_
  refine lv_aload_n hx hb dX6_danglingPointers_6 rfl (lv_at hl 0 rfl) ?_
  refine m_get C hM 1 (by decide) q2339 rfl rfl dX6_danglingPointers_7 ?_
  refine lv_bipush (v := 51) hx hb dX6_danglingPointers_10 (by decide) ?_
  refine m_ald C hM (j := 1) rfl hw.1 dX6_danglingPointers_12 ?_
  have hw := hw.2
  refine vp_callSi (va_runV (As := [.int (a 1 (51 : Int32).toNatClampNeg)]) (rest := []) C.fix (met_X6_dangles l g F adr i1 a q (a 1 (51 : Int32).toNatClampNeg) ) (cw_X6_286 C.ts ⟨Nat.le_of_ble_eq_true rfl, Nat.le_of_ble_eq_true rfl⟩) (preV_of C (P := (MS g F adr i1 a q)) (MS.recv C hM) hS hM _) rfl rfl hl.1 rfl (lv_room (Nat.le_of_ble_eq_true rfl)) dX6_danglingPointers_13 ⟨Nat.le_of_ble_eq_true rfl, Nat.le_of_ble_eq_true rfl⟩).run (fun r2 er2 => ?_)
  have hw := hw r2 er2
  refine lv_aload_n hx hb dX6_danglingPointers_16 rfl (lv_at hl 0 rfl) ?_
  refine lv_aload_n hx hb dX6_danglingPointers_17 rfl (lv_at hl 0 rfl) ?_
  refine m_get C hM 1 (by decide) q2339 rfl rfl dX6_danglingPointers_18 ?_
  refine lv_bipush (v := 52) hx hb dX6_danglingPointers_21 (by decide) ?_
  refine m_ald C hM (j := 1) rfl hw.1 dX6_danglingPointers_23 ?_
  have hw := hw.2
  refine vp_callSi (va_runV (As := [.int (a 1 (52 : Int32).toNatClampNeg)]) (rest := [.int r2]) C.fix (met_X6_dangles l g F adr i1 a q (a 1 (52 : Int32).toNatClampNeg) ) (cw_X6_286 C.ts ⟨Nat.le_of_ble_eq_true rfl, Nat.le_of_ble_eq_true rfl⟩) (preV_of C (P := (MS g F adr i1 a q)) (MS.recv C hM) hS hM _) rfl rfl hl.1 rfl (lv_room (Nat.le_of_ble_eq_true rfl)) dX6_danglingPointers_24 ⟨Nat.le_of_ble_eq_true rfl, Nat.le_of_ble_eq_true rfl⟩).run (fun r3 er3 => ?_)
  have hw := hw r3 er3
  refine lv_iadd hx hb dX6_danglingPointers_27 ?_
  refine lv_topi (fun z4 ez4 => ?_)
  have hw := hw z4 ez4
  refine lv_istore_n (lv' := [(1, .int z4), (0, .ref (adr 0))]) hx hb dX6_danglingPointers_28 rfl hl (by decide) rfl (fun ls hl => ?_)
  refine lv_iconst (v := 0) hx hb dX6_danglingPointers_29 (by decide) ?_
  refine lv_istore_n (lv' := [(2, .int 0), (1, .int z4), (0, .ref (adr 0))]) hx hb dX6_danglingPointers_30 rfl hl (by decide) rfl (fun ls hl => ?_)
  obtain ⟨n, hw⟩ := hw
  exact wkb_X6_danglingPointers_31 C post   n i1 a q z4 0 hw _ _ hM hS _ (lv_sub hl [2, 1, 0] rfl)
set_option maxHeartbeats 4000000 in
theorem met_X6_danglingPointers (l : Launch) (g : gG) (F : nM) (adr : Nat → Nat) (i : Nat → Int32) (a : Nat → Nat → Int32) (q : Nat → Nat)  (hpre : pre_X6_danglingPointers i a q ) : Met l yX6_danglingPointers (ws_ yX6_danglingPointers cX6_danglingPointers 3 (some .int)) rm_X6_danglingPointers (va_Pc [.ref (adr 0)] (Pg g (MS g F adr i a q))) (va_Qi (fun r u => post_X6_danglingPointers i a q  r u) (fun u t => MS g F adr u.1 u.2.1 u.2.2 t.heap) (Ag g)) 0 0 (Ag g) :=
  wk_X6_danglingPointers l g F adr i a q  _ (pr_X6_danglingPointers i a q  hpre)

abbrev rm_X6_wrongValues : Room := ({ frames := 5, cells := 0, slots := 0, locals := 320 } : Room)
set_option maxHeartbeats 4000000 in
theorem wk_X6_wrongValues (l : Launch) (g : gG) (F : nM) (adr : Nat → Nat) (i : Nat → Int32) (a : Nat → Nat → Int32) (q : Nat → Nat)  (post : Int32 → MSt → Prop) (hw : wp_X6_wrongValues post i a q ) : Met l yX6_wrongValues (ws_ yX6_wrongValues cX6_wrongValues 1 (some .int)) rm_X6_wrongValues (va_Pc [.ref (adr 0)] (Pg g (MS g F adr i a q))) (va_Qi post (fun u t => MS g F adr u.1 u.2.1 u.2.2 t.heap) (Ag g)) 0 0 (Ag g) := by
  refine Met.ofW (cc := cX6_wrongValues) (maxL := 1) (ret := (some .int)) (by decide) rfl ?_
  intro p e s m args below meth c s₁ B hml hv
  obtain ⟨rfl, hG, hM⟩ := hv
  have C : Cx p s m _ meth c cX6_wrongValues 1 RX6 (some .int) g := Cx.of B hml hG
  have hx := C.1
  have hb := C.2.1
  have hown := C.2.2.2.1
  have hr := C.2.2.2.2.2.1
  have hlocks := C.2.2.2.2.2.2.1
  have hS : va_S (Ag g) s.heap s.heap [] := va_S.rf
  refine lv_start ([.ref (adr 0)] : List Value) (L := [(0, .ref (adr 0))]) (Nat.le_of_ble_eq_true rfl) rfl (fun ls hl => ?_)
  refine lv_aload_n hx hb dX6_wrongValues_0 rfl (lv_at hl 0 rfl) ?_
  refine lv_iconst (v := 0) hx hb dX6_wrongValues_1 (by decide) ?_
  refine m_put C hM hS 0 rfl q2338 rfl rfl rfl dX6_wrongValues_2 (fun i1 H locs ei1 hM hS => ?_)
  have hw := hw i1 ei1
  refine lv_aload_n hx hb dX6_wrongValues_5 rfl (lv_at hl 0 rfl) ?_
  refine va_calli (va_runV (As := []) (rest := []) C.fix (met_X6_wrongOnes l g F adr i1 a q  ) (cw_X6_262 C.ts ⟨Nat.le_of_ble_eq_true rfl, Nat.le_of_ble_eq_true rfl⟩) (preV_of C (P := (MS g F adr i1 a q)) (MS.recv C hM) hS hM _) rfl rfl hl.1 rfl (lv_room (Nat.le_of_ble_eq_true rfl)) dX6_wrongValues_6 ⟨Nat.le_of_ble_eq_true rfl, Nat.le_of_ble_eq_true rfl⟩) hS (fun _ _ h => h) (fun _ h => h) (fun r2 z_u t H locs ht _ hw1 hB _ _ hS => ?_)
  obtain ⟨i3, a4, q5⟩ := z_u
  have hM : MS g F adr i3 a4 q5 H := by rw [← ht]; exact hB
  have hw := hw r2 i3 a4 q5 hw1
  exact W.iret (v := r2) hx hb hr (fun t ht _ => ⟨⟨r2, (i3, a4, q5), rfl, hw, hM.at ht⟩, hS.F ht⟩) hS.2.2 dX6_wrongValues_9
set_option maxHeartbeats 4000000 in
theorem met_X6_wrongValues (l : Launch) (g : gG) (F : nM) (adr : Nat → Nat) (i : Nat → Int32) (a : Nat → Nat → Int32) (q : Nat → Nat)  (hpre : pre_X6_wrongValues i a q ) : Met l yX6_wrongValues (ws_ yX6_wrongValues cX6_wrongValues 1 (some .int)) rm_X6_wrongValues (va_Pc [.ref (adr 0)] (Pg g (MS g F adr i a q))) (va_Qi (fun r u => post_X6_wrongValues i a q  r u) (fun u t => MS g F adr u.1 u.2.1 u.2.2 t.heap) (Ag g)) 0 0 (Ag g) :=
  wk_X6_wrongValues l g F adr i a q  _ (pr_X6_wrongValues i a q  hpre)

abbrev rm_X6_hasSingleFault : Room := ({ frames := 6, cells := 0, slots := 0, locals := 384 } : Room)
set_option maxHeartbeats 4000000 in
theorem wk_X6_hasSingleFault (l : Launch) (g : gG) (F : nM) (adr : Nat → Nat) (i : Nat → Int32) (a : Nat → Nat → Int32) (q : Nat → Nat)  (post : Int32 → MSt → Prop) (hw : wp_X6_hasSingleFault post i a q ) : Met l yX6_hasSingleFault (ws_ yX6_hasSingleFault cX6_hasSingleFault 1 (some .boolean)) rm_X6_hasSingleFault (va_Pc [.ref (adr 0)] (Pg g (MS g F adr i a q))) (va_Qi post (fun u t => MS g F adr u.1 u.2.1 u.2.2 t.heap) (Ag g)) 0 0 (Ag g) := by
  refine Met.ofW (cc := cX6_hasSingleFault) (maxL := 1) (ret := (some .boolean)) (by decide) rfl ?_
  intro p e s m args below meth c s₁ B hml hv
  obtain ⟨rfl, hG, hM⟩ := hv
  have C : Cx p s m _ meth c cX6_hasSingleFault 1 RX6 (some .boolean) g := Cx.of B hml hG
  have hx := C.1
  have hb := C.2.1
  have hown := C.2.2.2.1
  have hr := C.2.2.2.2.2.1
  have hlocks := C.2.2.2.2.2.2.1
  have hS : va_S (Ag g) s.heap s.heap [] := va_S.rf
  refine lv_start ([.ref (adr 0)] : List Value) (L := [(0, .ref (adr 0))]) (Nat.le_of_ble_eq_true rfl) rfl (fun ls hl => ?_)
  refine lv_aload_n hx hb dX6_hasSingleFault_0 rfl (lv_at hl 0 rfl) ?_
  refine lv_iconst (v := 0) hx hb dX6_hasSingleFault_1 (by decide) ?_
  refine m_put C hM hS 0 rfl q2338 rfl rfl rfl dX6_hasSingleFault_2 (fun i1 H locs ei1 hM hS => ?_)
  have hw := hw i1 ei1
  refine lv_aload_n hx hb dX6_hasSingleFault_5 rfl (lv_at hl 0 rfl) ?_
  refine va_calli (va_runV (As := []) (rest := []) C.fix (met_X6_fault l g F adr i1 a q  hw.1) (cw_X6_259 C.ts ⟨Nat.le_of_ble_eq_true rfl, Nat.le_of_ble_eq_true rfl⟩) (preV_of C (P := (MS g F adr i1 a q)) (MS.recv C hM) hS hM _) rfl rfl hl.1 rfl (lv_room (Nat.le_of_ble_eq_true rfl)) dX6_hasSingleFault_6 ⟨Nat.le_of_ble_eq_true rfl, Nat.le_of_ble_eq_true rfl⟩) hS (fun _ _ h => h) (fun _ h => h) (fun r2 z_u t H locs ht _ hw1 hB _ _ hS => ?_)
  obtain ⟨i3, a4, q5⟩ := z_u
  have hM : MS g F adr i3 a4 q5 H := by rw [← ht]; exact hB
  have hw := hw.2 r2 i3 a4 q5 hw1
  refine lv_iconst (v := (-1)) hx hb dX6_hasSingleFault_9 (by decide) ?_
  refine lv_icmp_eq (tgt := 17) hx hb dX6_hasSingleFault_10 (by decide) (fun c6 => ?_) (fun c6 => ?_)
  · have hw := hw.1 c6
    refine lv_iconst (v := 0) hx hb dX6_hasSingleFault_17 (by decide) ?_
    exact W.zret (v := 0) hx hb hr hw.1 (fun t ht _ => ⟨⟨0, (i3, a4, q5), rfl, hw.2, hM.at ht⟩, hS.F ht⟩) hS.2.2 dX6_hasSingleFault_18
  · have hw := hw.2 c6
    refine lv_iconst (v := 1) hx hb dX6_hasSingleFault_13 (by decide) ?_
    refine lv_goto (tgt := 18) hx hb dX6_hasSingleFault_14 (by decide) ?_
    exact W.zret (v := 1) hx hb hr hw.1 (fun t ht _ => ⟨⟨1, (i3, a4, q5), rfl, hw.2, hM.at ht⟩, hS.F ht⟩) hS.2.2 dX6_hasSingleFault_18
set_option maxHeartbeats 4000000 in
theorem met_X6_hasSingleFault (l : Launch) (g : gG) (F : nM) (adr : Nat → Nat) (i : Nat → Int32) (a : Nat → Nat → Int32) (q : Nat → Nat)  (hpre : pre_X6_hasSingleFault i a q ) : Met l yX6_hasSingleFault (ws_ yX6_hasSingleFault cX6_hasSingleFault 1 (some .boolean)) rm_X6_hasSingleFault (va_Pc [.ref (adr 0)] (Pg g (MS g F adr i a q))) (va_Qi (fun r u => post_X6_hasSingleFault i a q  r u) (fun u t => MS g F adr u.1 u.2.1 u.2.2 t.heap) (Ag g)) 0 0 (Ag g) :=
  wk_X6_hasSingleFault l g F adr i a q  _ (pr_X6_hasSingleFault i a q  hpre)

abbrev rm_X6_faultyInn : Room := ({ frames := 6, cells := 0, slots := 0, locals := 384 } : Room)
set_option maxHeartbeats 4000000 in
theorem wk_X6_faultyInn (l : Launch) (g : gG) (F : nM) (adr : Nat → Nat) (i : Nat → Int32) (a : Nat → Nat → Int32) (q : Nat → Nat)  (post : Int32 → MSt → Prop) (hw : wp_X6_faultyInn post i a q ) : Met l yX6_faultyInn (ws_ yX6_faultyInn cX6_faultyInn 2 (some .int)) rm_X6_faultyInn (va_Pc [.ref (adr 0)] (Pg g (MS g F adr i a q))) (va_Qi post (fun u t => MS g F adr u.1 u.2.1 u.2.2 t.heap) (Ag g)) 0 0 (Ag g) := by
  refine Met.ofW (cc := cX6_faultyInn) (maxL := 2) (ret := (some .int)) (by decide) rfl ?_
  intro p e s m args below meth c s₁ B hml hv
  obtain ⟨rfl, hG, hM⟩ := hv
  have C : Cx p s m _ meth c cX6_faultyInn 2 RX6 (some .int) g := Cx.of B hml hG
  have hx := C.1
  have hb := C.2.1
  have hown := C.2.2.2.1
  have hr := C.2.2.2.2.2.1
  have hlocks := C.2.2.2.2.2.2.1
  have hS : va_S (Ag g) s.heap s.heap [] := va_S.rf
  refine lv_start ([.ref (adr 0)] : List Value) (L := [(0, .ref (adr 0))]) (Nat.le_of_ble_eq_true rfl) rfl (fun ls hl => ?_)
  refine lv_aload_n hx hb dX6_faultyInn_0 rfl (lv_at hl 0 rfl) ?_
  refine lv_iconst (v := 0) hx hb dX6_faultyInn_1 (by decide) ?_
  refine m_put C hM hS 0 rfl q2338 rfl rfl rfl dX6_faultyInn_2 (fun i1 H locs ei1 hM hS => ?_)
  have hw := hw i1 ei1
  refine lv_aload_n hx hb dX6_faultyInn_5 rfl (lv_at hl 0 rfl) ?_
  refine va_calli (va_runV (As := []) (rest := []) C.fix (met_X6_fault l g F adr i1 a q  hw.1) (cw_X6_259 C.ts ⟨Nat.le_of_ble_eq_true rfl, Nat.le_of_ble_eq_true rfl⟩) (preV_of C (P := (MS g F adr i1 a q)) (MS.recv C hM) hS hM _) rfl rfl hl.1 rfl (lv_room (Nat.le_of_ble_eq_true rfl)) dX6_faultyInn_6 ⟨Nat.le_of_ble_eq_true rfl, Nat.le_of_ble_eq_true rfl⟩) hS (fun _ _ h => h) (fun _ h => h) (fun r2 z_u t H locs ht _ hw1 hB _ _ hS => ?_)
  obtain ⟨i3, a4, q5⟩ := z_u
  have hM : MS g F adr i3 a4 q5 H := by rw [← ht]; exact hB
  have hw := hw.2 r2 i3 a4 q5 hw1
  refine lv_istore_n (lv' := [(1, .int r2), (0, .ref (adr 0))]) hx hb dX6_faultyInn_9 rfl hl (by decide) rfl (fun ls hl => ?_)
  refine lv_iload_n hx hb dX6_faultyInn_10 rfl (lv_at hl 0 rfl) ?_
  refine lv_bipush (v := 54) hx hb dX6_faultyInn_11 (by decide) ?_
  refine lv_icmp_ge (tgt := 20) hx hb dX6_faultyInn_13 (by decide) (fun c6 => ?_) (fun c6 => ?_)
  · have hw := hw.1 c6
    refine lv_iload_n hx hb dX6_faultyInn_20 rfl (lv_at hl 0 rfl) ?_
    refine lv_bipush (v := 54) hx hb dX6_faultyInn_21 (by decide) ?_
    refine lv_isub hx hb dX6_faultyInn_23 ?_
    refine lv_bipush (v := 12) hx hb dX6_faultyInn_24 (by decide) ?_
    refine lv_irem hx hb dX6_faultyInn_26 (by decide) ?_
    exact W.iret (v := ((r2 - 54) - (r2 - 54) / 12 * 12)) hx hb hr (fun t ht _ => ⟨⟨((r2 - 54) - (r2 - 54) / 12 * 12), (i3, a4, q5), rfl, hw, hM.at ht⟩, hS.F ht⟩) hS.2.2 dX6_faultyInn_27
  · have hw := hw.2 c6
    refine lv_iconst (v := (-1)) hx hb dX6_faultyInn_16 (by decide) ?_
    refine lv_goto (tgt := 27) hx hb dX6_faultyInn_17 (by decide) ?_
    exact W.iret (v := (-1)) hx hb hr (fun t ht _ => ⟨⟨(-1), (i3, a4, q5), rfl, hw, hM.at ht⟩, hS.F ht⟩) hS.2.2 dX6_faultyInn_27
set_option maxHeartbeats 4000000 in
theorem met_X6_faultyInn (l : Launch) (g : gG) (F : nM) (adr : Nat → Nat) (i : Nat → Int32) (a : Nat → Nat → Int32) (q : Nat → Nat)  (hpre : pre_X6_faultyInn i a q ) : Met l yX6_faultyInn (ws_ yX6_faultyInn cX6_faultyInn 2 (some .int)) rm_X6_faultyInn (va_Pc [.ref (adr 0)] (Pg g (MS g F adr i a q))) (va_Qi (fun r u => post_X6_faultyInn i a q  r u) (fun u t => MS g F adr u.1 u.2.1 u.2.2 t.heap) (Ag g)) 0 0 (Ag g) :=
  wk_X6_faultyInn l g F adr i a q  _ (pr_X6_faultyInn i a q  hpre)

abbrev rm_X6_areInns : Room := ({ frames := 3, cells := 0, slots := 0, locals := 192 } : Room)
set_option maxHeartbeats 4000000 in
theorem wk_X6_areInns (l : Launch) (g : gG) (F : nM) (adr : Nat → Nat) (i : Nat → Int32) (a : Nat → Nat → Int32) (q : Nat → Nat) (x : Int32) (y : Int32) (post : Int32 → Prop) (hw : wp_X6_areInns post i a q x y) : Met l yX6_areInns (ws_ yX6_areInns cX6_areInns 3 (some .boolean)) rm_X6_areInns (va_Pc [.ref (adr 0), .int x, .int y] (Pg g (MS g F adr i a q))) (vp_Si post) 0 0 (fun _ => False) := by
  refine Met.ofW (cc := cX6_areInns) (maxL := 3) (ret := (some .boolean)) (by decide) rfl ?_
  intro p e s m args below meth c s₁ B hml hv
  obtain ⟨rfl, hG, hM⟩ := hv
  have C : Cx p s m _ meth c cX6_areInns 3 RX6 (some .boolean) g := Cx.of B hml hG
  have hx := C.1
  have hb := C.2.1
  have hown := C.2.2.2.1
  have hr := C.2.2.2.2.2.1
  have hlocks := C.2.2.2.2.2.2.1
  refine lv_start ([.ref (adr 0), .int x, .int y] : List Value) (L := [(0, .ref (adr 0)), (1, .int x), (2, .int y)]) (Nat.le_of_ble_eq_true rfl) rfl (fun ls hl => ?_)
  refine lv_aload_n hx hb dX6_areInns_0 rfl (lv_at hl 0 rfl) ?_
  refine m_get C hM 1 (by decide) q2339 rfl rfl dX6_areInns_1 ?_
  refine lv_iload_n hx hb dX6_areInns_4 rfl (lv_at hl 1 rfl) ?_
  refine vp_callSi (va_runS (As := [.ref (adr 1), .int x]) (rest := []) C.fix (met_X6_hasInnAt l g F adr i a q 1 (by decide) x ) (cw_X6_85 C.ts ⟨Nat.le_of_ble_eq_true rfl, Nat.le_of_ble_eq_true rfl⟩) (preS_of C (P := (MS g F adr i a q)) va_S.rf hM _) rfl rfl hl.1 rfl (lv_room (Nat.le_of_ble_eq_true rfl)) dX6_areInns_5 ⟨Nat.le_of_ble_eq_true rfl, Nat.le_of_ble_eq_true rfl⟩).run (fun r1 er1 => ?_)
  have hw := hw r1 er1
  refine lv_if_eq (tgt := 26) hx hb dX6_areInns_8 (by decide) (fun c2 => ?_) (fun c2 => ?_)
  · have hw := hw.1 c2
    refine lv_iconst (v := 0) hx hb dX6_areInns_26 (by decide) ?_
    exact W.zret (v := 0) hx hb hr hw.1 (fun t ht _ => ⟨0, rfl, hw.2, ht⟩) (fun _ h => by cases h) dX6_areInns_27
  · have hw := hw.2 c2
    refine lv_aload_n hx hb dX6_areInns_11 rfl (lv_at hl 0 rfl) ?_
    refine m_get C hM 1 (by decide) q2339 rfl rfl dX6_areInns_12 ?_
    refine lv_iload_n hx hb dX6_areInns_15 rfl (lv_at hl 2 rfl) ?_
    refine vp_callSi (va_runS (As := [.ref (adr 1), .int y]) (rest := []) C.fix (met_X6_hasInnAt l g F adr i a q 1 (by decide) y ) (cw_X6_85 C.ts ⟨Nat.le_of_ble_eq_true rfl, Nat.le_of_ble_eq_true rfl⟩) (preS_of C (P := (MS g F adr i a q)) va_S.rf hM _) rfl rfl hl.1 rfl (lv_room (Nat.le_of_ble_eq_true rfl)) dX6_areInns_16 ⟨Nat.le_of_ble_eq_true rfl, Nat.le_of_ble_eq_true rfl⟩).run (fun r3 er3 => ?_)
    have hw := hw r3 er3
    refine lv_if_eq (tgt := 26) hx hb dX6_areInns_19 (by decide) (fun c4 => ?_) (fun c4 => ?_)
    · have hw := hw.1 c4
      refine lv_iconst (v := 0) hx hb dX6_areInns_26 (by decide) ?_
      exact W.zret (v := 0) hx hb hr hw.1 (fun t ht _ => ⟨0, rfl, hw.2, ht⟩) (fun _ h => by cases h) dX6_areInns_27
    · have hw := hw.2 c4
      refine lv_iconst (v := 1) hx hb dX6_areInns_22 (by decide) ?_
      refine lv_goto (tgt := 27) hx hb dX6_areInns_23 (by decide) ?_
      exact W.zret (v := 1) hx hb hr hw.1 (fun t ht _ => ⟨1, rfl, hw.2, ht⟩) (fun _ h => by cases h) dX6_areInns_27
set_option maxHeartbeats 4000000 in
theorem met_X6_areInns (l : Launch) (g : gG) (F : nM) (adr : Nat → Nat) (i : Nat → Int32) (a : Nat → Nat → Int32) (q : Nat → Nat) (x : Int32) (y : Int32) : Met l yX6_areInns (ws_ yX6_areInns cX6_areInns 3 (some .boolean)) rm_X6_areInns (va_Pc [.ref (adr 0), .int x, .int y] (Pg g (MS g F adr i a q))) (vp_Si (fun r => post_X6_areInns i a q x y r)) 0 0 (fun _ => False) :=
  wk_X6_areInns l g F adr i a q x y _ (pr_X6_areInns i a q x y)

abbrev rm_X6_isReachable : Room := ({ frames := 5, cells := 0, slots := 0, locals := 320 } : Room)
set_option maxHeartbeats 4000000 in
theorem wk_X6_isReachable (l : Launch) (g : gG) (F : nM) (adr : Nat → Nat) (i : Nat → Int32) (a : Nat → Nat → Int32) (q : Nat → Nat) (x : Int32) (y : Int32) (post : Int32 → MSt → Prop) (hw : wp_X6_isReachable post i a q x y) : Met l yX6_isReachable (ws_ yX6_isReachable cX6_isReachable 3 (some .boolean)) rm_X6_isReachable (va_Pc [.ref (adr 0), .int x, .int y] (Pg g (MS g F adr i a q))) (va_Qi post (fun u t => MS g F adr u.1 u.2.1 u.2.2 t.heap) (Ag g)) 0 0 (Ag g) := by
  refine Met.ofW (cc := cX6_isReachable) (maxL := 3) (ret := (some .boolean)) (by decide) rfl ?_
  intro p e s m args below meth c s₁ B hml hv
  obtain ⟨rfl, hG, hM⟩ := hv
  have C : Cx p s m _ meth c cX6_isReachable 3 RX6 (some .boolean) g := Cx.of B hml hG
  have hx := C.1
  have hb := C.2.1
  have hown := C.2.2.2.1
  have hr := C.2.2.2.2.2.1
  have hlocks := C.2.2.2.2.2.2.1
  have hS : va_S (Ag g) s.heap s.heap [] := va_S.rf
  refine lv_start ([.ref (adr 0), .int x, .int y] : List Value) (L := [(0, .ref (adr 0)), (1, .int x), (2, .int y)]) (Nat.le_of_ble_eq_true rfl) rfl (fun ls hl => ?_)
  refine lv_aload_n hx hb dX6_isReachable_0 rfl (lv_at hl 0 rfl) ?_
  refine lv_iconst (v := 0) hx hb dX6_isReachable_1 (by decide) ?_
  refine m_put C hM hS 0 rfl q2338 rfl rfl rfl dX6_isReachable_2 (fun i1 H locs ei1 hM hS => ?_)
  have hw := hw i1 ei1
  refine lv_aload_n hx hb dX6_isReachable_5 rfl (lv_at hl 0 rfl) ?_
  refine lv_iload_n hx hb dX6_isReachable_6 rfl (lv_at hl 1 rfl) ?_
  refine lv_iload_n hx hb dX6_isReachable_7 rfl (lv_at hl 2 rfl) ?_
  refine vp_callSi (va_runV (As := [.int x, .int y]) (rest := []) C.fix (met_X6_areInns l g F adr i1 a q x y ) (cw_X6_289 C.ts ⟨Nat.le_of_ble_eq_true rfl, Nat.le_of_ble_eq_true rfl⟩) (preV_of C (P := (MS g F adr i1 a q)) (MS.recv C hM) hS hM _) rfl rfl hl.1 rfl (lv_room (Nat.le_of_ble_eq_true rfl)) dX6_isReachable_8 ⟨Nat.le_of_ble_eq_true rfl, Nat.le_of_ble_eq_true rfl⟩).run (fun r2 er2 => ?_)
  have hw := hw r2 er2
  refine lv_if_ne (tgt := 21) hx hb dX6_isReachable_11 (by decide) (fun c3 => ?_) (fun c3 => ?_)
  · have hw := hw.1 c3
    refine lv_aload_n hx hb dX6_isReachable_21 rfl (lv_at hl 0 rfl) ?_
    refine lv_aload_n hx hb dX6_isReachable_22 rfl (lv_at hl 0 rfl) ?_
    refine m_get C hM 1 (by decide) q2339 rfl rfl dX6_isReachable_23 ?_
    refine lv_iload_n hx hb dX6_isReachable_26 rfl (lv_at hl 1 rfl) ?_
    refine lv_iload_n hx hb dX6_isReachable_27 rfl (lv_at hl 2 rfl) ?_
    refine va_calli (va_runV (As := [.ref (adr 1), .int x, .int y]) (rest := []) C.fix (met_X6_rides l g F adr i1 a q 1 (by decide) x y hw.1) (cw_X6_267 C.ts ⟨Nat.le_of_ble_eq_true rfl, Nat.le_of_ble_eq_true rfl⟩) (preV_of C (P := (MS g F adr i1 a q)) (MS.recv C hM) hS hM _) rfl rfl hl.1 rfl (lv_room (Nat.le_of_ble_eq_true rfl)) dX6_isReachable_28 ⟨Nat.le_of_ble_eq_true rfl, Nat.le_of_ble_eq_true rfl⟩) hS (fun _ _ h => h) (fun _ h => h) (fun r4 z_u t H locs ht _ hw1 hB _ _ hS => ?_)
    obtain ⟨i5, a6, q7⟩ := z_u
    have hM : MS g F adr i5 a6 q7 H := by rw [← ht]; exact hB
    have hw := hw.2 r4 i5 a6 q7 hw1
    exact W.zret (v := r4) hx hb hr hw.1 (fun t ht _ => ⟨⟨r4, (i5, a6, q7), rfl, hw.2, hM.at ht⟩, hS.F ht⟩) hS.2.2 dX6_isReachable_31
  · have hw := hw.2 c3
    refine lv_aload_n hx hb dX6_isReachable_14 rfl (lv_at hl 0 rfl) ?_
    refine lv_iconst (v := 1) hx hb dX6_isReachable_15 (by decide) ?_
    refine m_put C hM hS 0 rfl q2338 rfl rfl rfl dX6_isReachable_16 (fun i8 H locs ei8 hM hS => ?_)
    have hw := hw i8 ei8
    refine lv_iconst (v := 0) hx hb dX6_isReachable_19 (by decide) ?_
    exact W.zret (v := 0) hx hb hr hw.1 (fun t ht _ => ⟨⟨0, (i8, a, q), rfl, hw.2, hM.at ht⟩, hS.F ht⟩) hS.2.2 dX6_isReachable_20
set_option maxHeartbeats 4000000 in
theorem met_X6_isReachable (l : Launch) (g : gG) (F : nM) (adr : Nat → Nat) (i : Nat → Int32) (a : Nat → Nat → Int32) (q : Nat → Nat) (x : Int32) (y : Int32) (hpre : pre_X6_isReachable i a q x y) : Met l yX6_isReachable (ws_ yX6_isReachable cX6_isReachable 3 (some .boolean)) rm_X6_isReachable (va_Pc [.ref (adr 0), .int x, .int y] (Pg g (MS g F adr i a q))) (va_Qi (fun r u => post_X6_isReachable i a q x y r u) (fun u t => MS g F adr u.1 u.2.1 u.2.2 t.heap) (Ag g)) 0 0 (Ag g) :=
  wk_X6_isReachable l g F adr i a q x y _ (pr_X6_isReachable i a q x y hpre)

abbrev rm_X6_stages : Room := ({ frames := 5, cells := 0, slots := 0, locals := 320 } : Room)
set_option maxHeartbeats 4000000 in
theorem wk_X6_stages (l : Launch) (g : gG) (F : nM) (adr : Nat → Nat) (i : Nat → Int32) (a : Nat → Nat → Int32) (q : Nat → Nat) (x : Int32) (y : Int32) (post : Int32 → MSt → Prop) (hw : wp_X6_stages post i a q x y) : Met l yX6_stages (ws_ yX6_stages cX6_stages 3 (some .int)) rm_X6_stages (va_Pc [.ref (adr 0), .int x, .int y] (Pg g (MS g F adr i a q))) (va_Qi post (fun u t => MS g F adr u.1 u.2.1 u.2.2 t.heap) (Ag g)) 0 0 (Ag g) := by
  refine Met.ofW (cc := cX6_stages) (maxL := 3) (ret := (some .int)) (by decide) rfl ?_
  intro p e s m args below meth c s₁ B hml hv
  obtain ⟨rfl, hG, hM⟩ := hv
  have C : Cx p s m _ meth c cX6_stages 3 RX6 (some .int) g := Cx.of B hml hG
  have hx := C.1
  have hb := C.2.1
  have hown := C.2.2.2.1
  have hr := C.2.2.2.2.2.1
  have hlocks := C.2.2.2.2.2.2.1
  have hS : va_S (Ag g) s.heap s.heap [] := va_S.rf
  refine lv_start ([.ref (adr 0), .int x, .int y] : List Value) (L := [(0, .ref (adr 0)), (1, .int x), (2, .int y)]) (Nat.le_of_ble_eq_true rfl) rfl (fun ls hl => ?_)
  refine lv_aload_n hx hb dX6_stages_0 rfl (lv_at hl 0 rfl) ?_
  refine lv_iconst (v := 0) hx hb dX6_stages_1 (by decide) ?_
  refine m_put C hM hS 0 rfl q2338 rfl rfl rfl dX6_stages_2 (fun i1 H locs ei1 hM hS => ?_)
  have hw := hw i1 ei1
  refine lv_aload_n hx hb dX6_stages_5 rfl (lv_at hl 0 rfl) ?_
  refine lv_iload_n hx hb dX6_stages_6 rfl (lv_at hl 1 rfl) ?_
  refine lv_iload_n hx hb dX6_stages_7 rfl (lv_at hl 2 rfl) ?_
  refine vp_callSi (va_runV (As := [.int x, .int y]) (rest := []) C.fix (met_X6_areInns l g F adr i1 a q x y ) (cw_X6_289 C.ts ⟨Nat.le_of_ble_eq_true rfl, Nat.le_of_ble_eq_true rfl⟩) (preV_of C (P := (MS g F adr i1 a q)) (MS.recv C hM) hS hM _) rfl rfl hl.1 rfl (lv_room (Nat.le_of_ble_eq_true rfl)) dX6_stages_8 ⟨Nat.le_of_ble_eq_true rfl, Nat.le_of_ble_eq_true rfl⟩).run (fun r2 er2 => ?_)
  have hw := hw r2 er2
  refine lv_if_ne (tgt := 20) hx hb dX6_stages_11 (by decide) (fun c3 => ?_) (fun c3 => ?_)
  · have hw := hw.1 c3
    refine lv_aload_n hx hb dX6_stages_20 rfl (lv_at hl 0 rfl) ?_
    refine lv_aload_n hx hb dX6_stages_21 rfl (lv_at hl 0 rfl) ?_
    refine m_get C hM 1 (by decide) q2339 rfl rfl dX6_stages_22 ?_
    refine lv_iload_n hx hb dX6_stages_25 rfl (lv_at hl 1 rfl) ?_
    refine lv_iload_n hx hb dX6_stages_26 rfl (lv_at hl 2 rfl) ?_
    refine va_calli (va_runV (As := [.ref (adr 1), .int x, .int y]) (rest := []) C.fix (met_X6_rides l g F adr i1 a q 1 (by decide) x y hw.1) (cw_X6_267 C.ts ⟨Nat.le_of_ble_eq_true rfl, Nat.le_of_ble_eq_true rfl⟩) (preV_of C (P := (MS g F adr i1 a q)) (MS.recv C hM) hS hM _) rfl rfl hl.1 rfl (lv_room (Nat.le_of_ble_eq_true rfl)) dX6_stages_27 ⟨Nat.le_of_ble_eq_true rfl, Nat.le_of_ble_eq_true rfl⟩) hS (fun _ _ h => h) (fun _ h => h) (fun r4 z_u t H locs ht _ hw1 hB _ _ hS => ?_)
    obtain ⟨i5, a6, q7⟩ := z_u
    have hM : MS g F adr i5 a6 q7 H := by rw [← ht]; exact hB
    have hw := hw.2 r4 i5 a6 q7 hw1
    refine lv_if_eq (tgt := 40) hx hb dX6_stages_30 (by decide) (fun c8 => ?_) (fun c8 => ?_)
    · have hw := hw.1 c8
      refine lv_iconst (v := (-1)) hx hb dX6_stages_40 (by decide) ?_
      exact W.iret (v := (-1)) hx hb hr (fun t ht _ => ⟨⟨(-1), (i5, a6, q7), rfl, hw, hM.at ht⟩, hS.F ht⟩) hS.2.2 dX6_stages_41
    · have hw := hw.2 c8
      refine lv_aload_n hx hb dX6_stages_33 rfl (lv_at hl 0 rfl) ?_
      refine m_get C hM 12 (by decide) q2350 rfl rfl dX6_stages_34 ?_
      refine lv_goto (tgt := 41) hx hb dX6_stages_37 (by decide) ?_
      exact W.iret (v := (i5 12)) hx hb hr (fun t ht _ => ⟨⟨(i5 12), (i5, a6, q7), rfl, hw, hM.at ht⟩, hS.F ht⟩) hS.2.2 dX6_stages_41
  · have hw := hw.2 c3
    refine lv_aload_n hx hb dX6_stages_14 rfl (lv_at hl 0 rfl) ?_
    refine lv_iconst (v := 1) hx hb dX6_stages_15 (by decide) ?_
    refine va_calli (va_runV (As := [.int 1]) (rest := []) C.fix (met_X6_fails l g F adr i1 a q 1 ) (cw_X6_136 C.ts ⟨Nat.le_of_ble_eq_true rfl, Nat.le_of_ble_eq_true rfl⟩) (preV_of C (P := (MS g F adr i1 a q)) (MS.recv C hM) hS hM _) rfl rfl hl.1 rfl (lv_room (Nat.le_of_ble_eq_true rfl)) dX6_stages_16 ⟨Nat.le_of_ble_eq_true rfl, Nat.le_of_ble_eq_true rfl⟩) hS (fun _ _ h => h) (fun _ h => h) (fun r9 z_u t H locs ht _ hw1 hB _ _ hS => ?_)
    obtain ⟨i10, a11, q12⟩ := z_u
    have hM : MS g F adr i10 a11 q12 H := by rw [← ht]; exact hB
    have hw := hw r9 i10 a11 q12 hw1
    exact W.iret (v := r9) hx hb hr (fun t ht _ => ⟨⟨r9, (i10, a11, q12), rfl, hw, hM.at ht⟩, hS.F ht⟩) hS.2.2 dX6_stages_19
set_option maxHeartbeats 4000000 in
theorem met_X6_stages (l : Launch) (g : gG) (F : nM) (adr : Nat → Nat) (i : Nat → Int32) (a : Nat → Nat → Int32) (q : Nat → Nat) (x : Int32) (y : Int32) (hpre : pre_X6_stages i a q x y) : Met l yX6_stages (ws_ yX6_stages cX6_stages 3 (some .int)) rm_X6_stages (va_Pc [.ref (adr 0), .int x, .int y] (Pg g (MS g F adr i a q))) (va_Qi (fun r u => post_X6_stages i a q x y r u) (fun u t => MS g F adr u.1 u.2.1 u.2.2 t.heap) (Ag g)) 0 0 (Ag g) :=
  wk_X6_stages l g F adr i a q x y _ (pr_X6_stages i a q x y hpre)

abbrev rm_X6_rideLength : Room := ({ frames := 5, cells := 0, slots := 0, locals := 320 } : Room)
set_option maxHeartbeats 4000000 in
theorem wk_X6_rideLength (l : Launch) (g : gG) (F : nM) (adr : Nat → Nat) (i : Nat → Int32) (a : Nat → Nat → Int32) (q : Nat → Nat) (x : Int32) (y : Int32) (post : Int32 → MSt → Prop) (hw : wp_X6_rideLength post i a q x y) : Met l yX6_rideLength (ws_ yX6_rideLength cX6_rideLength 3 (some .int)) rm_X6_rideLength (va_Pc [.ref (adr 0), .int x, .int y] (Pg g (MS g F adr i a q))) (va_Qi post (fun u t => MS g F adr u.1 u.2.1 u.2.2 t.heap) (Ag g)) 0 0 (Ag g) := by
  refine Met.ofW (cc := cX6_rideLength) (maxL := 3) (ret := (some .int)) (by decide) rfl ?_
  intro p e s m args below meth c s₁ B hml hv
  obtain ⟨rfl, hG, hM⟩ := hv
  have C : Cx p s m _ meth c cX6_rideLength 3 RX6 (some .int) g := Cx.of B hml hG
  have hx := C.1
  have hb := C.2.1
  have hown := C.2.2.2.1
  have hr := C.2.2.2.2.2.1
  have hlocks := C.2.2.2.2.2.2.1
  have hS : va_S (Ag g) s.heap s.heap [] := va_S.rf
  refine lv_start ([.ref (adr 0), .int x, .int y] : List Value) (L := [(0, .ref (adr 0)), (1, .int x), (2, .int y)]) (Nat.le_of_ble_eq_true rfl) rfl (fun ls hl => ?_)
  refine lv_aload_n hx hb dX6_rideLength_0 rfl (lv_at hl 0 rfl) ?_
  refine lv_iconst (v := 0) hx hb dX6_rideLength_1 (by decide) ?_
  refine m_put C hM hS 0 rfl q2338 rfl rfl rfl dX6_rideLength_2 (fun i1 H locs ei1 hM hS => ?_)
  have hw := hw i1 ei1
  refine lv_aload_n hx hb dX6_rideLength_5 rfl (lv_at hl 0 rfl) ?_
  refine lv_iload_n hx hb dX6_rideLength_6 rfl (lv_at hl 1 rfl) ?_
  refine lv_iload_n hx hb dX6_rideLength_7 rfl (lv_at hl 2 rfl) ?_
  refine vp_callSi (va_runV (As := [.int x, .int y]) (rest := []) C.fix (met_X6_areInns l g F adr i1 a q x y ) (cw_X6_289 C.ts ⟨Nat.le_of_ble_eq_true rfl, Nat.le_of_ble_eq_true rfl⟩) (preV_of C (P := (MS g F adr i1 a q)) (MS.recv C hM) hS hM _) rfl rfl hl.1 rfl (lv_room (Nat.le_of_ble_eq_true rfl)) dX6_rideLength_8 ⟨Nat.le_of_ble_eq_true rfl, Nat.le_of_ble_eq_true rfl⟩).run (fun r2 er2 => ?_)
  have hw := hw r2 er2
  refine lv_if_ne (tgt := 20) hx hb dX6_rideLength_11 (by decide) (fun c3 => ?_) (fun c3 => ?_)
  · have hw := hw.1 c3
    refine lv_aload_n hx hb dX6_rideLength_20 rfl (lv_at hl 0 rfl) ?_
    refine lv_aload_n hx hb dX6_rideLength_21 rfl (lv_at hl 0 rfl) ?_
    refine m_get C hM 1 (by decide) q2339 rfl rfl dX6_rideLength_22 ?_
    refine lv_iload_n hx hb dX6_rideLength_25 rfl (lv_at hl 1 rfl) ?_
    refine lv_iload_n hx hb dX6_rideLength_26 rfl (lv_at hl 2 rfl) ?_
    refine va_calli (va_runV (As := [.ref (adr 1), .int x, .int y]) (rest := []) C.fix (met_X6_rides l g F adr i1 a q 1 (by decide) x y hw.1) (cw_X6_267 C.ts ⟨Nat.le_of_ble_eq_true rfl, Nat.le_of_ble_eq_true rfl⟩) (preV_of C (P := (MS g F adr i1 a q)) (MS.recv C hM) hS hM _) rfl rfl hl.1 rfl (lv_room (Nat.le_of_ble_eq_true rfl)) dX6_rideLength_27 ⟨Nat.le_of_ble_eq_true rfl, Nat.le_of_ble_eq_true rfl⟩) hS (fun _ _ h => h) (fun _ h => h) (fun r4 z_u t H locs ht _ hw1 hB _ _ hS => ?_)
    obtain ⟨i5, a6, q7⟩ := z_u
    have hM : MS g F adr i5 a6 q7 H := by rw [← ht]; exact hB
    have hw := hw.2 r4 i5 a6 q7 hw1
    refine lv_if_eq (tgt := 40) hx hb dX6_rideLength_30 (by decide) (fun c8 => ?_) (fun c8 => ?_)
    · have hw := hw.1 c8
      refine lv_iconst (v := (-1)) hx hb dX6_rideLength_40 (by decide) ?_
      exact W.iret (v := (-1)) hx hb hr (fun t ht _ => ⟨⟨(-1), (i5, a6, q7), rfl, hw, hM.at ht⟩, hS.F ht⟩) hS.2.2 dX6_rideLength_41
    · have hw := hw.2 c8
      refine lv_aload_n hx hb dX6_rideLength_33 rfl (lv_at hl 0 rfl) ?_
      refine m_get C hM 13 (by decide) q2351 rfl rfl dX6_rideLength_34 ?_
      refine lv_goto (tgt := 41) hx hb dX6_rideLength_37 (by decide) ?_
      exact W.iret (v := (i5 13)) hx hb hr (fun t ht _ => ⟨⟨(i5 13), (i5, a6, q7), rfl, hw, hM.at ht⟩, hS.F ht⟩) hS.2.2 dX6_rideLength_41
  · have hw := hw.2 c3
    refine lv_aload_n hx hb dX6_rideLength_14 rfl (lv_at hl 0 rfl) ?_
    refine lv_iconst (v := 1) hx hb dX6_rideLength_15 (by decide) ?_
    refine va_calli (va_runV (As := [.int 1]) (rest := []) C.fix (met_X6_fails l g F adr i1 a q 1 ) (cw_X6_136 C.ts ⟨Nat.le_of_ble_eq_true rfl, Nat.le_of_ble_eq_true rfl⟩) (preV_of C (P := (MS g F adr i1 a q)) (MS.recv C hM) hS hM _) rfl rfl hl.1 rfl (lv_room (Nat.le_of_ble_eq_true rfl)) dX6_rideLength_16 ⟨Nat.le_of_ble_eq_true rfl, Nat.le_of_ble_eq_true rfl⟩) hS (fun _ _ h => h) (fun _ h => h) (fun r9 z_u t H locs ht _ hw1 hB _ _ hS => ?_)
    obtain ⟨i10, a11, q12⟩ := z_u
    have hM : MS g F adr i10 a11 q12 H := by rw [← ht]; exact hB
    have hw := hw r9 i10 a11 q12 hw1
    exact W.iret (v := r9) hx hb hr (fun t ht _ => ⟨⟨r9, (i10, a11, q12), rfl, hw, hM.at ht⟩, hS.F ht⟩) hS.2.2 dX6_rideLength_19
set_option maxHeartbeats 4000000 in
theorem met_X6_rideLength (l : Launch) (g : gG) (F : nM) (adr : Nat → Nat) (i : Nat → Int32) (a : Nat → Nat → Int32) (q : Nat → Nat) (x : Int32) (y : Int32) (hpre : pre_X6_rideLength i a q x y) : Met l yX6_rideLength (ws_ yX6_rideLength cX6_rideLength 3 (some .int)) rm_X6_rideLength (va_Pc [.ref (adr 0), .int x, .int y] (Pg g (MS g F adr i a q))) (va_Qi (fun r u => post_X6_rideLength i a q x y r u) (fun u t => MS g F adr u.1 u.2.1 u.2.2 t.heap) (Ag g)) 0 0 (Ag g) :=
  wk_X6_rideLength l g F adr i a q x y _ (pr_X6_rideLength i a q x y hpre)

abbrev rm_X6_skippingStages : Room := ({ frames := 5, cells := 0, slots := 0, locals := 320 } : Room)
set_option maxHeartbeats 4000000 in
theorem wk_X6_skippingStages (l : Launch) (g : gG) (F : nM) (adr : Nat → Nat) (i : Nat → Int32) (a : Nat → Nat → Int32) (q : Nat → Nat) (x : Int32) (y : Int32) (post : Int32 → MSt → Prop) (hw : wp_X6_skippingStages post i a q x y) : Met l yX6_skippingStages (ws_ yX6_skippingStages cX6_skippingStages 3 (some .int)) rm_X6_skippingStages (va_Pc [.ref (adr 0), .int x, .int y] (Pg g (MS g F adr i a q))) (va_Qi post (fun u t => MS g F adr u.1 u.2.1 u.2.2 t.heap) (Ag g)) 0 0 (Ag g) := by
  refine Met.ofW (cc := cX6_skippingStages) (maxL := 3) (ret := (some .int)) (by decide) rfl ?_
  intro p e s m args below meth c s₁ B hml hv
  obtain ⟨rfl, hG, hM⟩ := hv
  have C : Cx p s m _ meth c cX6_skippingStages 3 RX6 (some .int) g := Cx.of B hml hG
  have hx := C.1
  have hb := C.2.1
  have hown := C.2.2.2.1
  have hr := C.2.2.2.2.2.1
  have hlocks := C.2.2.2.2.2.2.1
  have hS : va_S (Ag g) s.heap s.heap [] := va_S.rf
  refine lv_start ([.ref (adr 0), .int x, .int y] : List Value) (L := [(0, .ref (adr 0)), (1, .int x), (2, .int y)]) (Nat.le_of_ble_eq_true rfl) rfl (fun ls hl => ?_)
  refine lv_aload_n hx hb dX6_skippingStages_0 rfl (lv_at hl 0 rfl) ?_
  refine lv_iconst (v := 0) hx hb dX6_skippingStages_1 (by decide) ?_
  refine m_put C hM hS 0 rfl q2338 rfl rfl rfl dX6_skippingStages_2 (fun i1 H locs ei1 hM hS => ?_)
  have hw := hw i1 ei1
  refine lv_aload_n hx hb dX6_skippingStages_5 rfl (lv_at hl 0 rfl) ?_
  refine lv_iload_n hx hb dX6_skippingStages_6 rfl (lv_at hl 1 rfl) ?_
  refine lv_iload_n hx hb dX6_skippingStages_7 rfl (lv_at hl 2 rfl) ?_
  refine vp_callSi (va_runV (As := [.int x, .int y]) (rest := []) C.fix (met_X6_areInns l g F adr i1 a q x y ) (cw_X6_289 C.ts ⟨Nat.le_of_ble_eq_true rfl, Nat.le_of_ble_eq_true rfl⟩) (preV_of C (P := (MS g F adr i1 a q)) (MS.recv C hM) hS hM _) rfl rfl hl.1 rfl (lv_room (Nat.le_of_ble_eq_true rfl)) dX6_skippingStages_8 ⟨Nat.le_of_ble_eq_true rfl, Nat.le_of_ble_eq_true rfl⟩).run (fun r2 er2 => ?_)
  have hw := hw r2 er2
  refine lv_if_ne (tgt := 20) hx hb dX6_skippingStages_11 (by decide) (fun c3 => ?_) (fun c3 => ?_)
  · have hw := hw.1 c3
    refine lv_aload_n hx hb dX6_skippingStages_20 rfl (lv_at hl 0 rfl) ?_
    refine lv_aload_n hx hb dX6_skippingStages_21 rfl (lv_at hl 0 rfl) ?_
    refine m_get C hM 1 (by decide) q2339 rfl rfl dX6_skippingStages_22 ?_
    refine lv_iload_n hx hb dX6_skippingStages_25 rfl (lv_at hl 1 rfl) ?_
    refine lv_iload_n hx hb dX6_skippingStages_26 rfl (lv_at hl 2 rfl) ?_
    refine va_calli (va_runV (As := [.ref (adr 1), .int x, .int y]) (rest := []) C.fix (met_X6_rides l g F adr i1 a q 1 (by decide) x y hw.1) (cw_X6_267 C.ts ⟨Nat.le_of_ble_eq_true rfl, Nat.le_of_ble_eq_true rfl⟩) (preV_of C (P := (MS g F adr i1 a q)) (MS.recv C hM) hS hM _) rfl rfl hl.1 rfl (lv_room (Nat.le_of_ble_eq_true rfl)) dX6_skippingStages_27 ⟨Nat.le_of_ble_eq_true rfl, Nat.le_of_ble_eq_true rfl⟩) hS (fun _ _ h => h) (fun _ h => h) (fun r4 z_u t H locs ht _ hw1 hB _ _ hS => ?_)
    obtain ⟨i5, a6, q7⟩ := z_u
    have hM : MS g F adr i5 a6 q7 H := by rw [← ht]; exact hB
    have hw := hw.2 r4 i5 a6 q7 hw1
    refine lv_if_eq (tgt := 40) hx hb dX6_skippingStages_30 (by decide) (fun c8 => ?_) (fun c8 => ?_)
    · have hw := hw.1 c8
      refine lv_iconst (v := (-1)) hx hb dX6_skippingStages_40 (by decide) ?_
      exact W.iret (v := (-1)) hx hb hr (fun t ht _ => ⟨⟨(-1), (i5, a6, q7), rfl, hw, hM.at ht⟩, hS.F ht⟩) hS.2.2 dX6_skippingStages_41
    · have hw := hw.2 c8
      refine lv_aload_n hx hb dX6_skippingStages_33 rfl (lv_at hl 0 rfl) ?_
      refine m_get C hM 14 (by decide) q2352 rfl rfl dX6_skippingStages_34 ?_
      refine lv_goto (tgt := 41) hx hb dX6_skippingStages_37 (by decide) ?_
      exact W.iret (v := (i5 14)) hx hb hr (fun t ht _ => ⟨⟨(i5 14), (i5, a6, q7), rfl, hw, hM.at ht⟩, hS.F ht⟩) hS.2.2 dX6_skippingStages_41
  · have hw := hw.2 c3
    refine lv_aload_n hx hb dX6_skippingStages_14 rfl (lv_at hl 0 rfl) ?_
    refine lv_iconst (v := 1) hx hb dX6_skippingStages_15 (by decide) ?_
    refine va_calli (va_runV (As := [.int 1]) (rest := []) C.fix (met_X6_fails l g F adr i1 a q 1 ) (cw_X6_136 C.ts ⟨Nat.le_of_ble_eq_true rfl, Nat.le_of_ble_eq_true rfl⟩) (preV_of C (P := (MS g F adr i1 a q)) (MS.recv C hM) hS hM _) rfl rfl hl.1 rfl (lv_room (Nat.le_of_ble_eq_true rfl)) dX6_skippingStages_16 ⟨Nat.le_of_ble_eq_true rfl, Nat.le_of_ble_eq_true rfl⟩) hS (fun _ _ h => h) (fun _ h => h) (fun r9 z_u t H locs ht _ hw1 hB _ _ hS => ?_)
    obtain ⟨i10, a11, q12⟩ := z_u
    have hM : MS g F adr i10 a11 q12 H := by rw [← ht]; exact hB
    have hw := hw r9 i10 a11 q12 hw1
    exact W.iret (v := r9) hx hb hr (fun t ht _ => ⟨⟨r9, (i10, a11, q12), rfl, hw, hM.at ht⟩, hS.F ht⟩) hS.2.2 dX6_skippingStages_19
set_option maxHeartbeats 4000000 in
theorem met_X6_skippingStages (l : Launch) (g : gG) (F : nM) (adr : Nat → Nat) (i : Nat → Int32) (a : Nat → Nat → Int32) (q : Nat → Nat) (x : Int32) (y : Int32) (hpre : pre_X6_skippingStages i a q x y) : Met l yX6_skippingStages (ws_ yX6_skippingStages cX6_skippingStages 3 (some .int)) rm_X6_skippingStages (va_Pc [.ref (adr 0), .int x, .int y] (Pg g (MS g F adr i a q))) (va_Qi (fun r u => post_X6_skippingStages i a q x y r u) (fun u t => MS g F adr u.1 u.2.1 u.2.2 t.heap) (Ag g)) 0 0 (Ag g) :=
  wk_X6_skippingStages l g F adr i a q x y _ (pr_X6_skippingStages i a q x y hpre)

abbrev rm_X6_stuckAt : Room := ({ frames := 5, cells := 0, slots := 0, locals := 320 } : Room)
set_option maxHeartbeats 4000000 in
theorem wk_X6_stuckAt (l : Launch) (g : gG) (F : nM) (adr : Nat → Nat) (i : Nat → Int32) (a : Nat → Nat → Int32) (q : Nat → Nat) (x : Int32) (y : Int32) (post : Int32 → MSt → Prop) (hw : wp_X6_stuckAt post i a q x y) : Met l yX6_stuckAt (ws_ yX6_stuckAt cX6_stuckAt 3 (some .int)) rm_X6_stuckAt (va_Pc [.ref (adr 0), .int x, .int y] (Pg g (MS g F adr i a q))) (va_Qi post (fun u t => MS g F adr u.1 u.2.1 u.2.2 t.heap) (Ag g)) 0 0 (Ag g) := by
  refine Met.ofW (cc := cX6_stuckAt) (maxL := 3) (ret := (some .int)) (by decide) rfl ?_
  intro p e s m args below meth c s₁ B hml hv
  obtain ⟨rfl, hG, hM⟩ := hv
  have C : Cx p s m _ meth c cX6_stuckAt 3 RX6 (some .int) g := Cx.of B hml hG
  have hx := C.1
  have hb := C.2.1
  have hown := C.2.2.2.1
  have hr := C.2.2.2.2.2.1
  have hlocks := C.2.2.2.2.2.2.1
  have hS : va_S (Ag g) s.heap s.heap [] := va_S.rf
  refine lv_start ([.ref (adr 0), .int x, .int y] : List Value) (L := [(0, .ref (adr 0)), (1, .int x), (2, .int y)]) (Nat.le_of_ble_eq_true rfl) rfl (fun ls hl => ?_)
  refine lv_aload_n hx hb dX6_stuckAt_0 rfl (lv_at hl 0 rfl) ?_
  refine lv_iconst (v := 0) hx hb dX6_stuckAt_1 (by decide) ?_
  refine m_put C hM hS 0 rfl q2338 rfl rfl rfl dX6_stuckAt_2 (fun i1 H locs ei1 hM hS => ?_)
  have hw := hw i1 ei1
  refine lv_aload_n hx hb dX6_stuckAt_5 rfl (lv_at hl 0 rfl) ?_
  refine lv_iload_n hx hb dX6_stuckAt_6 rfl (lv_at hl 1 rfl) ?_
  refine lv_iload_n hx hb dX6_stuckAt_7 rfl (lv_at hl 2 rfl) ?_
  refine vp_callSi (va_runV (As := [.int x, .int y]) (rest := []) C.fix (met_X6_areInns l g F adr i1 a q x y ) (cw_X6_289 C.ts ⟨Nat.le_of_ble_eq_true rfl, Nat.le_of_ble_eq_true rfl⟩) (preV_of C (P := (MS g F adr i1 a q)) (MS.recv C hM) hS hM _) rfl rfl hl.1 rfl (lv_room (Nat.le_of_ble_eq_true rfl)) dX6_stuckAt_8 ⟨Nat.le_of_ble_eq_true rfl, Nat.le_of_ble_eq_true rfl⟩).run (fun r2 er2 => ?_)
  have hw := hw r2 er2
  refine lv_if_ne (tgt := 20) hx hb dX6_stuckAt_11 (by decide) (fun c3 => ?_) (fun c3 => ?_)
  · have hw := hw.1 c3
    refine lv_aload_n hx hb dX6_stuckAt_20 rfl (lv_at hl 0 rfl) ?_
    refine lv_aload_n hx hb dX6_stuckAt_21 rfl (lv_at hl 0 rfl) ?_
    refine m_get C hM 1 (by decide) q2339 rfl rfl dX6_stuckAt_22 ?_
    refine lv_iload_n hx hb dX6_stuckAt_25 rfl (lv_at hl 1 rfl) ?_
    refine lv_iload_n hx hb dX6_stuckAt_26 rfl (lv_at hl 2 rfl) ?_
    refine va_calli (va_runV (As := [.ref (adr 1), .int x, .int y]) (rest := []) C.fix (met_X6_rides l g F adr i1 a q 1 (by decide) x y hw.1) (cw_X6_267 C.ts ⟨Nat.le_of_ble_eq_true rfl, Nat.le_of_ble_eq_true rfl⟩) (preV_of C (P := (MS g F adr i1 a q)) (MS.recv C hM) hS hM _) rfl rfl hl.1 rfl (lv_room (Nat.le_of_ble_eq_true rfl)) dX6_stuckAt_27 ⟨Nat.le_of_ble_eq_true rfl, Nat.le_of_ble_eq_true rfl⟩) hS (fun _ _ h => h) (fun _ h => h) (fun r4 z_u t H locs ht _ hw1 hB _ _ hS => ?_)
    obtain ⟨i5, a6, q7⟩ := z_u
    have hM : MS g F adr i5 a6 q7 H := by rw [← ht]; exact hB
    have hw := hw.2 r4 i5 a6 q7 hw1
    refine lv_if_ne (tgt := 42) hx hb dX6_stuckAt_30 (by decide) (fun c8 => ?_) (fun c8 => ?_)
    · have hw := hw.1 c8
      refine lv_iconst (v := (-1)) hx hb dX6_stuckAt_42 (by decide) ?_
      refine lv_goto (tgt := 50) hx hb dX6_stuckAt_43 (by decide) ?_
      exact W.iret (v := (-1)) hx hb hr (fun t ht _ => ⟨⟨(-1), (i5, a6, q7), rfl, hw, hM.at ht⟩, hS.F ht⟩) hS.2.2 dX6_stuckAt_50
    · have hw := hw.2 c8
      refine lv_aload_n hx hb dX6_stuckAt_33 rfl (lv_at hl 0 rfl) ?_
      refine m_get C hM 12 (by decide) q2350 rfl rfl dX6_stuckAt_34 ?_
      refine lv_bipush (v := 24) hx hb dX6_stuckAt_37 (by decide) ?_
      refine lv_icmp_ne (tgt := 46) hx hb dX6_stuckAt_39 (by decide) (fun c9 => ?_) (fun c9 => ?_)
      · have hw := hw.1 c9
        refine lv_aload_n hx hb dX6_stuckAt_46 rfl (lv_at hl 0 rfl) ?_
        refine m_get C hM 15 (by decide) q2353 rfl rfl dX6_stuckAt_47 ?_
        exact W.iret (v := (i5 15)) hx hb hr (fun t ht _ => ⟨⟨(i5 15), (i5, a6, q7), rfl, hw, hM.at ht⟩, hS.F ht⟩) hS.2.2 dX6_stuckAt_50
      · have hw := hw.2 c9
        refine lv_iconst (v := (-1)) hx hb dX6_stuckAt_42 (by decide) ?_
        refine lv_goto (tgt := 50) hx hb dX6_stuckAt_43 (by decide) ?_
        exact W.iret (v := (-1)) hx hb hr (fun t ht _ => ⟨⟨(-1), (i5, a6, q7), rfl, hw, hM.at ht⟩, hS.F ht⟩) hS.2.2 dX6_stuckAt_50
  · have hw := hw.2 c3
    refine lv_aload_n hx hb dX6_stuckAt_14 rfl (lv_at hl 0 rfl) ?_
    refine lv_iconst (v := 1) hx hb dX6_stuckAt_15 (by decide) ?_
    refine va_calli (va_runV (As := [.int 1]) (rest := []) C.fix (met_X6_fails l g F adr i1 a q 1 ) (cw_X6_136 C.ts ⟨Nat.le_of_ble_eq_true rfl, Nat.le_of_ble_eq_true rfl⟩) (preV_of C (P := (MS g F adr i1 a q)) (MS.recv C hM) hS hM _) rfl rfl hl.1 rfl (lv_room (Nat.le_of_ble_eq_true rfl)) dX6_stuckAt_16 ⟨Nat.le_of_ble_eq_true rfl, Nat.le_of_ble_eq_true rfl⟩) hS (fun _ _ h => h) (fun _ h => h) (fun r10 z_u t H locs ht _ hw1 hB _ _ hS => ?_)
    obtain ⟨i11, a12, q13⟩ := z_u
    have hM : MS g F adr i11 a12 q13 H := by rw [← ht]; exact hB
    have hw := hw r10 i11 a12 q13 hw1
    exact W.iret (v := r10) hx hb hr (fun t ht _ => ⟨⟨r10, (i11, a12, q13), rfl, hw, hM.at ht⟩, hS.F ht⟩) hS.2.2 dX6_stuckAt_19
set_option maxHeartbeats 4000000 in
theorem met_X6_stuckAt (l : Launch) (g : gG) (F : nM) (adr : Nat → Nat) (i : Nat → Int32) (a : Nat → Nat → Int32) (q : Nat → Nat) (x : Int32) (y : Int32) (hpre : pre_X6_stuckAt i a q x y) : Met l yX6_stuckAt (ws_ yX6_stuckAt cX6_stuckAt 3 (some .int)) rm_X6_stuckAt (va_Pc [.ref (adr 0), .int x, .int y] (Pg g (MS g F adr i a q))) (va_Qi (fun r u => post_X6_stuckAt i a q x y r u) (fun u t => MS g F adr u.1 u.2.1 u.2.2 t.heap) (Ag g)) 0 0 (Ag g) :=
  wk_X6_stuckAt l g F adr i a q x y _ (pr_X6_stuckAt i a q x y hpre)
end
