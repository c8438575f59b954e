set_option maxRecDepth 100000
theorem cw_X6_238 {R : Room} {s : State} {args : Array Value} (hts : ∀ w ∈ lw_all, w.before args s = true) {rm : Room} (hR : rm.frames + 1 ≤ R.frames ∧ 8 + (6 + 11) + rm.locals ≤ R.locals) : CallW R s args RX6 RX6 238 yX6_reads cX6_reads 6 (some .boolean) (ws_ yX6_reads cX6_reads 6 (some .boolean)) rm rm.cells rm.slots 0 := cwV 0 hts (lw_V q2440 q2442 qs33 q98 q2443) rfl rfl rfl (by decide +kernel) hR
theorem cw_X6_242 {R : Room} {s : State} {args : Array Value} (hts : ∀ w ∈ lw_all, w.before args s = true) {rm : Room} (hR : rm.frames + 1 ≤ R.frames ∧ 8 + (3 + 11) + rm.locals ≤ R.locals) : CallW R s args RX6 RX6 242 yX6_remembers cX6_remembers 3 none (ws_ yX6_remembers cX6_remembers 3 none) rm rm.cells rm.slots 0 := cwV 0 hts (lw_V q2518 q2520 qs47 q98 q2521) rfl rfl rfl (by decide +kernel) hR
theorem cw_X6_250 {R : Room} {s : State} {args : Array Value} (hts : ∀ w ∈ lw_all, w.before args s = true) {rm : Room} (hR : rm.frames + 1 ≤ R.frames ∧ 8 + (1 + 11) + rm.locals ≤ R.locals) : CallB R s args RX6 250 yX6_isPointer cX6_isPointer 1 (some .boolean) (ws_ yX6_isPointer cX6_isPointer 1 (some .boolean)) rm rm.cells rm.slots 1 ∧ (Cond.static yX6_isPointer).before args s = true := va_cwS 1 hts (lw_S q2581 q2582 q98 q2583) rfl rfl rfl (by decide +kernel) hR
theorem cw_X6_253 {R : Room} {s : State} {args : Array Value} (hts : ∀ w ∈ lw_all, w.before args s = true) {rm : Room} (hR : rm.frames + 1 ≤ R.frames ∧ 8 + (4 + 11) + rm.locals ≤ R.locals) : CallW R s args RX6 RX6 253 yX6_overwrites cX6_overwrites 4 (some .int) (ws_ yX6_overwrites cX6_overwrites 4 (some .int)) rm rm.cells rm.slots 2 := cwV 2 hts (lw_V q2585 q2587 qs52 q98 q2588) rfl rfl rfl (by decide +kernel) hR
theorem cw_X6_247 {R : Room} {s : State} {args : Array Value} (hts : ∀ w ∈ lw_all, w.before args s = true) {rm : Room} (hR : rm.frames + 1 ≤ R.frames ∧ 8 + (4 + 11) + rm.locals ≤ R.locals) : CallW R s args RX6 RX6 247 yX6_setsOpen cX6_setsOpen 4 (some .boolean) (ws_ yX6_setsOpen cX6_setsOpen 4 (some .boolean)) rm rm.cells rm.slots 2 := cwV 2 hts (lw_V q2557 q2559 qs51 q98 q2560) rfl rfl rfl (by decide +kernel) hR
section
variable {p : Program} {l : Launch} {e : Env} {s : State} {m : MethodId} {args : Array Value} {below : List Frame} {meth : Method} {c : Code} {g : gG} {F : nM} {adr : Nat → Nat}
abbrev rm_X6_errorPosition : Room := ({ frames := 12, cells := 0, slots := 0, locals := 768 } : Room)
set_option maxHeartbeats 4000000 in
theorem wk_X6_errorPosition (l : Launch) (g : gG) (F : nM) (adr : Nat → Nat) (i : Nat → Int32) (a : Nat → Nat → Int32) (q : Nat → Nat)  (post : Int32 → MSt → Prop) (hw : wp_X6_errorPosition post i a q ) : Met l yX6_errorPosition (ws_ yX6_errorPosition cX6_errorPosition 1 (some .int)) rm_X6_errorPosition (va_Pc [.ref (adr 0)] (Pg g (MS g F adr i a q))) (va_Qi post (fun u t => MS g F adr u.1 u.2.1 u.2.2 t.heap) (Ag g)) 0 0 (Ag g) := by
  refine Met.ofW (cc := cX6_errorPosition) (maxL := 1) (ret := (some .int)) (by decide) rfl ?_
  intro p e s m args below meth c s₁ B hml hv
  obtain ⟨rfl, hG, hM⟩ := hv
  have C : Cx p s m _ meth c cX6_errorPosition 1 RX6 (some .int) g := Cx.of B hml hG
  have hx := C.1
  have hb := C.2.1
  have hown := C.2.2.2.1
  have hr := C.2.2.2.2.2.1
  have hlocks := C.2.2.2.2.2.2.1
  have hS : va_S (Ag g) s.heap s.heap [] := va_S.rf
  refine lv_start ([.ref (adr 0)] : List Value) (L := [(0, .ref (adr 0))]) (Nat.le_of_ble_eq_true rfl) rfl (fun ls hl => ?_)
  refine lv_aload_n hx hb dX6_errorPosition_0 rfl (lv_at hl 0 rfl) ?_
  refine lv_iconst (v := 0) hx hb dX6_errorPosition_1 (by decide) ?_
  refine m_put C hM hS 0 rfl q2338 rfl rfl rfl dX6_errorPosition_2 (fun i1 H locs ei1 hM hS => ?_)
  have hw := hw i1 ei1
  refine lv_aload_n hx hb dX6_errorPosition_5 rfl (lv_at hl 0 rfl) ?_
  refine va_calli (va_runV (As := []) (rest := []) C.fix (met_X6_reads l g F adr i1 a q  hw.1) (cw_X6_238 C.ts ⟨Nat.le_of_ble_eq_true rfl, Nat.le_of_ble_eq_true rfl⟩) (preV_of C (P := (MS g F adr i1 a q)) (MS.recv C hM) hS hM _) rfl rfl hl.1 rfl (lv_room (Nat.le_of_ble_eq_true rfl)) dX6_errorPosition_6 ⟨Nat.le_of_ble_eq_true rfl, Nat.le_of_ble_eq_true rfl⟩) hS (fun _ _ h => h) (fun _ h => h) (fun r2 z_u t H locs ht _ hw1 hB _ _ hS => ?_)
  obtain ⟨i3, a4, q5⟩ := z_u
  have hM : MS g F adr i3 a4 q5 H := by rw [← ht]; exact hB
  have hw := hw.2 r2 i3 a4 q5 hw1
  refine lv_if_eq (tgt := 16) hx hb dX6_errorPosition_9 (by decide) (fun c6 => ?_) (fun c6 => ?_)
  · have hw := hw.1 c6
    refine lv_aload_n hx hb dX6_errorPosition_16 rfl (lv_at hl 0 rfl) ?_
    refine m_get C hM 21 (by decide) q2359 rfl rfl dX6_errorPosition_17 ?_
    exact W.iret (v := (i3 21)) hx hb hr (fun t ht _ => ⟨⟨(i3 21), (i3, a4, q5), rfl, hw, hM.at ht⟩, hS.F ht⟩) hS.2.2 dX6_errorPosition_20
  · have hw := hw.2 c6
    refine lv_iconst (v := (-1)) hx hb dX6_errorPosition_12 (by decide) ?_
    refine lv_goto (tgt := 20) hx hb dX6_errorPosition_13 (by decide) ?_
    exact W.iret (v := (-1)) hx hb hr (fun t ht _ => ⟨⟨(-1), (i3, a4, q5), rfl, hw, hM.at ht⟩, hS.F ht⟩) hS.2.2 dX6_errorPosition_20
set_option maxHeartbeats 4000000 in
theorem met_X6_errorPosition (l : Launch) (g : gG) (F : nM) (adr : Nat → Nat) (i : Nat → Int32) (a : Nat → Nat → Int32) (q : Nat → Nat)  (hpre : pre_X6_errorPosition i a q ) : Met l yX6_errorPosition (ws_ yX6_errorPosition cX6_errorPosition 1 (some .int)) rm_X6_errorPosition (va_Pc [.ref (adr 0)] (Pg g (MS g F adr i a q))) (va_Qi (fun r u => post_X6_errorPosition i a q  r u) (fun u t => MS g F adr u.1 u.2.1 u.2.2 t.heap) (Ag g)) 0 0 (Ag g) :=
  wk_X6_errorPosition l g F adr i a q  _ (pr_X6_errorPosition i a q  hpre)

abbrev rm_X6_load : Room := ({ frames := 12, cells := 0, slots := 0, locals := 768 } : Room)
set_option maxHeartbeats 4000000 in
theorem wk_X6_load (l : Launch) (g : gG) (F : nM) (adr : Nat → Nat) (i : Nat → Int32) (a : Nat → Nat → Int32) (q : Nat → Nat)  (post : Int32 → MSt → Prop) (hw : wp_X6_load post i a q ) : Met l yX6_load (ws_ yX6_load cX6_load 1 (some .int)) rm_X6_load (va_Pc [.ref (adr 0)] (Pg g (MS g F adr i a q))) (va_Qi post (fun u t => MS g F adr u.1 u.2.1 u.2.2 t.heap) (Ag g)) 0 0 (Ag g) := by
  refine Met.ofW (cc := cX6_load) (maxL := 1) (ret := (some .int)) (by decide) rfl ?_
  intro p e s m args below meth c s₁ B hml hv
  obtain ⟨rfl, hG, hM⟩ := hv
  have C : Cx p s m _ meth c cX6_load 1 RX6 (some .int) g := Cx.of B hml hG
  have hx := C.1
  have hb := C.2.1
  have hown := C.2.2.2.1
  have hr := C.2.2.2.2.2.1
  have hlocks := C.2.2.2.2.2.2.1
  have hS : va_S (Ag g) s.heap s.heap [] := va_S.rf
  refine lv_start ([.ref (adr 0)] : List Value) (L := [(0, .ref (adr 0))]) (Nat.le_of_ble_eq_true rfl) rfl (fun ls hl => ?_)
  refine lv_aload_n hx hb dX6_load_0 rfl (lv_at hl 0 rfl) ?_
  refine lv_iconst (v := 0) hx hb dX6_load_1 (by decide) ?_
  refine m_put C hM hS 0 rfl q2338 rfl rfl rfl dX6_load_2 (fun i1 H locs ei1 hM hS => ?_)
  have hw := hw i1 ei1
  refine lv_aload_n hx hb dX6_load_5 rfl (lv_at hl 0 rfl) ?_
  refine va_calli (va_runV (As := []) (rest := []) C.fix (met_X6_reads l g F adr i1 a q  hw.1) (cw_X6_238 C.ts ⟨Nat.le_of_ble_eq_true rfl, Nat.le_of_ble_eq_true rfl⟩) (preV_of C (P := (MS g F adr i1 a q)) (MS.recv C hM) hS hM _) rfl rfl hl.1 rfl (lv_room (Nat.le_of_ble_eq_true rfl)) dX6_load_6 ⟨Nat.le_of_ble_eq_true rfl, Nat.le_of_ble_eq_true rfl⟩) hS (fun _ _ h => h) (fun _ h => h) (fun r2 z_u t H locs ht _ hw1 hB _ _ hS => ?_)
  obtain ⟨i3, a4, q5⟩ := z_u
  have hM : MS g F adr i3 a4 q5 H := by rw [← ht]; exact hB
  have hw := hw.2 r2 i3 a4 q5 hw1
  refine lv_if_ne (tgt := 18) hx hb dX6_load_9 (by decide) (fun c6 => ?_) (fun c6 => ?_)
  · have hw := hw.1 c6
    refine lv_aload_n hx hb dX6_load_18 rfl (lv_at hl 0 rfl) ?_
    refine va_callv (va_runV (As := []) (rest := []) C.fix (met_X6_remembers l g F adr i3 a4 q5  hw.1) (cw_X6_242 C.ts ⟨Nat.le_of_ble_eq_true rfl, Nat.le_of_ble_eq_true rfl⟩) (preV_of C (P := (MS g F adr i3 a4 q5)) (MS.recv C hM) hS hM _) rfl rfl hl.1 rfl (lv_room (Nat.le_of_ble_eq_true rfl)) dX6_load_19 ⟨Nat.le_of_ble_eq_true rfl, Nat.le_of_ble_eq_true rfl⟩) hS (fun _ _ h => h) (fun _ h => h) (fun z_u t H locs ht _ hw1 hB _ _ hS => ?_)
    obtain ⟨i8, a9, q10⟩ := z_u
    have hM : MS g F adr i8 a9 q10 H := by rw [← ht]; exact hB
    have hw := hw.2 i8 a9 q10 hw1
    refine lv_aload_n hx hb dX6_load_22 rfl (lv_at hl 0 rfl) ?_
    refine m_get C hM 3 (by decide) q2341 rfl rfl dX6_load_23 ?_
    refine lv_aload_n hx hb dX6_load_26 rfl (lv_at hl 0 rfl) ?_
    refine m_get C hM 1 (by decide) q2339 rfl rfl dX6_load_27 ?_
    refine va_callv (va_runS (As := [.ref (adr 3), .ref (adr 1)]) (rest := []) C.fix (met_X6_copies l g F adr i8 a9 q10 3 (by decide) 1 (by decide) ) (cw_X6_55 C.ts ⟨Nat.le_of_ble_eq_true rfl, Nat.le_of_ble_eq_true rfl⟩) (preS_of C (P := (MS g F adr i8 a9 q10)) hS hM _) rfl rfl hl.1 rfl (lv_room (Nat.le_of_ble_eq_true rfl)) dX6_load_30 ⟨Nat.le_of_ble_eq_true rfl, Nat.le_of_ble_eq_true rfl⟩) hS (fun _ _ h => h) (fun _ h => h) (fun z_u t H locs ht _ hw1 hB _ _ hS => ?_)
    obtain ⟨i12, a13, q14⟩ := z_u
    have hM : MS g F adr i12 a13 q14 H := by rw [← ht]; exact hB
    have hw := hw i12 a13 q14 hw1
    refine lv_aload_n hx hb dX6_load_33 rfl (lv_at hl 0 rfl) ?_
    refine m_get C hM 1 (by decide) q2339 rfl rfl dX6_load_34 ?_
    refine vp_callSi (va_runS (As := [.ref (adr 1)]) (rest := []) C.fix (met_X6_innsOf l g F adr i12 a13 q14 1 (by decide) ) (cw_X6_71 C.ts ⟨Nat.le_of_ble_eq_true rfl, Nat.le_of_ble_eq_true rfl⟩) (preS_of C (P := (MS g F adr i12 a13 q14)) hS hM _) rfl rfl hl.1 rfl (lv_room (Nat.le_of_ble_eq_true rfl)) dX6_load_37 ⟨Nat.le_of_ble_eq_true rfl, Nat.le_of_ble_eq_true rfl⟩).run (fun r15 er15 => ?_)
    have hw := hw r15 er15
    exact W.iret (v := r15) hx hb hr (fun t ht _ => ⟨⟨r15, (i12, a13, q14), rfl, hw, hM.at ht⟩, hS.F ht⟩) hS.2.2 dX6_load_40
  · have hw := hw.2 c6
    refine lv_aload_n hx hb dX6_load_12 rfl (lv_at hl 0 rfl) ?_
    refine lv_iconst (v := 1) hx hb dX6_load_13 (by decide) ?_
    refine va_calli (va_runV (As := [.int 1]) (rest := []) C.fix (met_X6_fails l g F adr i3 a4 q5 1 ) (cw_X6_136 C.ts ⟨Nat.le_of_ble_eq_true rfl, Nat.le_of_ble_eq_true rfl⟩) (preV_of C (P := (MS g F adr i3 a4 q5)) (MS.recv C hM) hS hM _) rfl rfl hl.1 rfl (lv_room (Nat.le_of_ble_eq_true rfl)) dX6_load_14 ⟨Nat.le_of_ble_eq_true rfl, Nat.le_of_ble_eq_true rfl⟩) hS (fun _ _ h => h) (fun _ h => h) (fun r16 z_u t H locs ht _ hw1 hB _ _ hS => ?_)
    obtain ⟨i17, a18, q19⟩ := z_u
    have hM : MS g F adr i17 a18 q19 H := by rw [← ht]; exact hB
    have hw := hw r16 i17 a18 q19 hw1
    exact W.iret (v := r16) hx hb hr (fun t ht _ => ⟨⟨r16, (i17, a18, q19), rfl, hw, hM.at ht⟩, hS.F ht⟩) hS.2.2 dX6_load_17
set_option maxHeartbeats 4000000 in
theorem met_X6_load (l : Launch) (g : gG) (F : nM) (adr : Nat → Nat) (i : Nat → Int32) (a : Nat → Nat → Int32) (q : Nat → Nat)  (hpre : pre_X6_load i a q ) : Met l yX6_load (ws_ yX6_load cX6_load 1 (some .int)) rm_X6_load (va_Pc [.ref (adr 0)] (Pg g (MS g F adr i a q))) (va_Qi (fun r u => post_X6_load i a q  r u) (fun u t => MS g F adr u.1 u.2.1 u.2.2 t.heap) (Ag g)) 0 0 (Ag g) :=
  wk_X6_load l g F adr i a q  _ (pr_X6_load i a q  hpre)

abbrev rm_X6_setRange : Room := ({ frames := 3, cells := 0, slots := 0, locals := 192 } : Room)
set_option maxHeartbeats 4000000 in
theorem wk_X6_setRange (l : Launch) (g : gG) (F : nM) (adr : Nat → Nat) (i : Nat → Int32) (a : Nat → Nat → Int32) (q : Nat → Nat) (x : Int32) (post : Int32 → MSt → Prop) (hw : wp_X6_setRange post i a q x) : Met l yX6_setRange (ws_ yX6_setRange cX6_setRange 3 (some .int)) rm_X6_setRange (va_Pc [.ref (adr 0), .int x] (Pg g (MS g F adr i a q))) (va_Qi post (fun u t => MS g F adr u.1 u.2.1 u.2.2 t.heap) (Ag g)) 0 0 (Ag g) := by
  refine Met.ofW (cc := cX6_setRange) (maxL := 3) (ret := (some .int)) (by decide) rfl ?_
  intro p e s m args below meth c s₁ B hml hv
  obtain ⟨rfl, hG, hM⟩ := hv
  have C : Cx p s m _ meth c cX6_setRange 3 RX6 (some .int) g := Cx.of B hml hG
  have hx := C.1
  have hb := C.2.1
  have hown := C.2.2.2.1
  have hr := C.2.2.2.2.2.1
  have hlocks := C.2.2.2.2.2.2.1
  have hS : va_S (Ag g) s.heap s.heap [] := va_S.rf
  refine lv_start ([.ref (adr 0), .int x] : List Value) (L := [(0, .ref (adr 0)), (1, .int x)]) (Nat.le_of_ble_eq_true rfl) rfl (fun ls hl => ?_)
  refine lv_aload_n hx hb dX6_setRange_0 rfl (lv_at hl 0 rfl) ?_
  refine lv_iconst (v := 0) hx hb dX6_setRange_1 (by decide) ?_
  refine m_put C hM hS 0 rfl q2338 rfl rfl rfl dX6_setRange_2 (fun i1 H locs ei1 hM hS => ?_)
  have hw := hw i1 ei1
  refine lv_iload_n hx hb dX6_setRange_5 rfl (lv_at hl 1 rfl) ?_
  refine lv_i2l hx hb dX6_setRange_6 rfl ?_
  refine lv_lconst (v := 1) hx hb dX6_setRange_7 (by decide) ?_
  refine lv_ldc2 (v := 999) hx hb hown (C.ts _ q2529) dX6_setRange_8 ?_
  refine vp_callSi (va_runS (As := [.long x.toInt64, .long 1, .long 999]) (rest := []) C.fix (met_X6_isIn l g  x.toInt64 1 999 ) (cw_X6_61 C.ts ⟨Nat.le_of_ble_eq_true rfl, Nat.le_of_ble_eq_true rfl⟩) (preS_of C (P := (fun _ => True)) hS trivial _) rfl rfl hl.1 rfl (lv_room (Nat.le_of_ble_eq_true rfl)) dX6_setRange_11 ⟨Nat.le_of_ble_eq_true rfl, Nat.le_of_ble_eq_true rfl⟩).run (fun r2 er2 => ?_)
  have hw := hw r2 er2
  refine lv_if_ne (tgt := 23) hx hb dX6_setRange_14 (by decide) (fun c3 => ?_) (fun c3 => ?_)
  · have hw := hw.1 c3
    refine lv_aload_n hx hb dX6_setRange_23 rfl (lv_at hl 0 rfl) ?_
    refine va_callv (va_runV (As := []) (rest := []) C.fix (met_X6_remembers l g F adr i1 a q  hw.1) (cw_X6_242 C.ts ⟨Nat.le_of_ble_eq_true rfl, Nat.le_of_ble_eq_true rfl⟩) (preV_of C (P := (MS g F adr i1 a q)) (MS.recv C hM) hS hM _) rfl rfl hl.1 rfl (lv_room (Nat.le_of_ble_eq_true rfl)) dX6_setRange_24 ⟨Nat.le_of_ble_eq_true rfl, Nat.le_of_ble_eq_true rfl⟩) hS (fun _ _ h => h) (fun _ h => h) (fun z_u t H locs ht _ hw1 hB _ _ hS => ?_)
    obtain ⟨i5, a6, q7⟩ := z_u
    have hM : MS g F adr i5 a6 q7 H := by rw [← ht]; exact hB
    have hw := hw.2 i5 a6 q7 hw1
    refine lv_aload_n hx hb dX6_setRange_27 rfl (lv_at hl 0 rfl) ?_
    refine m_get C hM 1 (by decide) q2339 rfl rfl dX6_setRange_28 ?_
    refine lv_iconst (v := 0) hx hb dX6_setRange_31 (by decide) ?_
    refine m_ald C hM (j := 1) rfl hw.1 dX6_setRange_32 ?_
    have hw := hw.2
    refine lv_topi (fun z8 ez8 => ?_)
    have hw := hw z8 ez8
    refine lv_istore_n (lv' := [(2, .int z8), (0, .ref (adr 0)), (1, .int x)]) hx hb dX6_setRange_33 rfl hl (by decide) rfl (fun ls hl => ?_)
    refine lv_aload_n hx hb dX6_setRange_34 rfl (lv_at hl 1 rfl) ?_
    refine m_get C hM 1 (by decide) q2339 rfl rfl dX6_setRange_35 ?_
    refine lv_iconst (v := 0) hx hb dX6_setRange_38 (by decide) ?_
    refine lv_iload_n hx hb dX6_setRange_39 rfl (lv_at hl 2 rfl) ?_
    refine m_ast C hM hS (j := 1) rfl hw.1 dX6_setRange_40 (fun a9 H locs ea9 hM hS => ?_)
    have hw := hw.2 a9 ea9
    refine lv_iload_n hx hb dX6_setRange_41 rfl (lv_at hl 0 rfl) ?_
    exact W.iret (v := z8) hx hb hr (fun t ht _ => ⟨⟨z8, (i5, a9, q7), rfl, hw, hM.at ht⟩, hS.F ht⟩) hS.2.2 dX6_setRange_42
  · have hw := hw.2 c3
    refine lv_aload_n hx hb dX6_setRange_17 rfl (lv_at hl 0 rfl) ?_
    refine lv_iconst (v := 1) hx hb dX6_setRange_18 (by decide) ?_
    refine va_calli (va_runV (As := [.int 1]) (rest := []) C.fix (met_X6_fails l g F adr i1 a q 1 ) (cw_X6_136 C.ts ⟨Nat.le_of_ble_eq_true rfl, Nat.le_of_ble_eq_true rfl⟩) (preV_of C (P := (MS g F adr i1 a q)) (MS.recv C hM) hS hM _) rfl rfl hl.1 rfl (lv_room (Nat.le_of_ble_eq_true rfl)) dX6_setRange_19 ⟨Nat.le_of_ble_eq_true rfl, Nat.le_of_ble_eq_true rfl⟩) hS (fun _ _ h => h) (fun _ h => h) (fun r10 z_u t H locs ht _ hw1 hB _ _ hS => ?_)
    obtain ⟨i11, a12, q13⟩ := z_u
    have hM : MS g F adr i11 a12 q13 H := by rw [← ht]; exact hB
    have hw := hw r10 i11 a12 q13 hw1
    exact W.iret (v := r10) hx hb hr (fun t ht _ => ⟨⟨r10, (i11, a12, q13), rfl, hw, hM.at ht⟩, hS.F ht⟩) hS.2.2 dX6_setRange_22
set_option maxHeartbeats 4000000 in
theorem met_X6_setRange (l : Launch) (g : gG) (F : nM) (adr : Nat → Nat) (i : Nat → Int32) (a : Nat → Nat → Int32) (q : Nat → Nat) (x : Int32) (hpre : pre_X6_setRange i a q x) : Met l yX6_setRange (ws_ yX6_setRange cX6_setRange 3 (some .int)) rm_X6_setRange (va_Pc [.ref (adr 0), .int x] (Pg g (MS g F adr i a q))) (va_Qi (fun r u => post_X6_setRange i a q x r u) (fun u t => MS g F adr u.1 u.2.1 u.2.2 t.heap) (Ag g)) 0 0 (Ag g) :=
  wk_X6_setRange l g F adr i a q x _ (pr_X6_setRange i a q x hpre)

abbrev rm_X6_overwrites : Room := ({ frames := 3, cells := 0, slots := 0, locals := 192 } : Room)
set_option maxHeartbeats 4000000 in
theorem wk_X6_overwrites (l : Launch) (g : gG) (F : nM) (adr : Nat → Nat) (i : Nat → Int32) (a : Nat → Nat → Int32) (q : Nat → Nat) (x : Int32) (y : Int32) (post : Int32 → MSt → Prop) (hw : wp_X6_overwrites post i a q x y) : Met l yX6_overwrites (ws_ yX6_overwrites cX6_overwrites 4 (some .int)) rm_X6_overwrites (va_Pc [.ref (adr 0), .int x, .int y] (Pg g (MS g F adr i a q))) (va_Qi post (fun u t => MS g F adr u.1 u.2.1 u.2.2 t.heap) (Ag g)) 0 0 (Ag g) := by
  refine Met.ofW (cc := cX6_overwrites) (maxL := 4) (ret := (some .int)) (by decide) rfl ?_
  intro p e s m args below meth c s₁ B hml hv
  obtain ⟨rfl, hG, hM⟩ := hv
  have C : Cx p s m _ meth c cX6_overwrites 4 RX6 (some .int) g := Cx.of B hml hG
  have hx := C.1
  have hb := C.2.1
  have hown := C.2.2.2.1
  have hr := C.2.2.2.2.2.1
  have hlocks := C.2.2.2.2.2.2.1
  have hS : va_S (Ag g) s.heap s.heap [] := va_S.rf
  refine lv_start ([.ref (adr 0), .int x, .int y] : List Value) (L := [(0, .ref (adr 0)), (1, .int x), (2, .int y)]) (Nat.le_of_ble_eq_true rfl) rfl (fun ls hl => ?_)
  refine lv_aload_n hx hb dX6_overwrites_0 rfl (lv_at hl 0 rfl) ?_
  refine va_callv (va_runV (As := []) (rest := []) C.fix (met_X6_remembers l g F adr i a q  hw.1) (cw_X6_242 C.ts ⟨Nat.le_of_ble_eq_true rfl, Nat.le_of_ble_eq_true rfl⟩) (preV_of C (P := (MS g F adr i a q)) (MS.recv C hM) hS hM _) rfl rfl hl.1 rfl (lv_room (Nat.le_of_ble_eq_true rfl)) dX6_overwrites_1 ⟨Nat.le_of_ble_eq_true rfl, Nat.le_of_ble_eq_true rfl⟩) hS (fun _ _ h => h) (fun _ h => h) (fun z_u t H locs ht _ hw1 hB _ _ hS => ?_)
  obtain ⟨i2, a3, q4⟩ := z_u
  have hM : MS g F adr i2 a3 q4 H := by rw [← ht]; exact hB
  have hw := hw.2 i2 a3 q4 hw1
  refine lv_aload_n hx hb dX6_overwrites_4 rfl (lv_at hl 0 rfl) ?_
  refine m_get C hM 1 (by decide) q2339 rfl rfl dX6_overwrites_5 ?_
  refine lv_iload_n hx hb dX6_overwrites_8 rfl (lv_at hl 1 rfl) ?_
  refine m_ald C hM (j := 1) rfl hw.1 dX6_overwrites_9 ?_
  have hw := hw.2
  refine lv_topi (fun z5 ez5 => ?_)
  have hw := hw z5 ez5
  refine lv_istore_n (lv' := [(3, .int z5), (0, .ref (adr 0)), (1, .int x), (2, .int y)]) hx hb dX6_overwrites_10 rfl hl (by decide) rfl (fun ls hl => ?_)
  refine lv_aload_n hx hb dX6_overwrites_11 rfl (lv_at hl 1 rfl) ?_
  refine m_get C hM 1 (by decide) q2339 rfl rfl dX6_overwrites_12 ?_
  refine lv_iload_n hx hb dX6_overwrites_15 rfl (lv_at hl 2 rfl) ?_
  refine lv_iload_n hx hb dX6_overwrites_16 rfl (lv_at hl 3 rfl) ?_
  refine m_ast C hM hS (j := 1) rfl hw.1 dX6_overwrites_17 (fun a6 H locs ea6 hM hS => ?_)
  have hw := hw.2 a6 ea6
  refine lv_iload_n hx hb dX6_overwrites_18 rfl (lv_at hl 0 rfl) ?_
  exact W.iret (v := z5) hx hb hr (fun t ht _ => ⟨⟨z5, (i2, a6, q4), rfl, hw, hM.at ht⟩, hS.F ht⟩) hS.2.2 dX6_overwrites_19
set_option maxHeartbeats 4000000 in
theorem met_X6_overwrites (l : Launch) (g : gG) (F : nM) (adr : Nat → Nat) (i : Nat → Int32) (a : Nat → Nat → Int32) (q : Nat → Nat) (x : Int32) (y : Int32) (hpre : pre_X6_overwrites i a q x y) : Met l yX6_overwrites (ws_ yX6_overwrites cX6_overwrites 4 (some .int)) rm_X6_overwrites (va_Pc [.ref (adr 0), .int x, .int y] (Pg g (MS g F adr i a q))) (va_Qi (fun r u => post_X6_overwrites i a q x y r u) (fun u t => MS g F adr u.1 u.2.1 u.2.2 t.heap) (Ag g)) 0 0 (Ag g) :=
  wk_X6_overwrites l g F adr i a q x y _ (pr_X6_overwrites i a q x y hpre)

abbrev rm_X6_setNext : Room := ({ frames := 4, cells := 0, slots := 0, locals := 256 } : Room)
set_option maxHeartbeats 4000000 in
theorem wk_X6_setNext (l : Launch) (g : gG) (F : nM) (adr : Nat → Nat) (i : Nat → Int32) (a : Nat → Nat → Int32) (q : Nat → Nat) (x : Int32) (y : Int32) (post : Int32 → MSt → Prop) (hw : wp_X6_setNext post i a q x y) : Met l yX6_setNext (ws_ yX6_setNext cX6_setNext 3 (some .int)) rm_X6_setNext (va_Pc [.ref (adr 0), .int x, .int y] (Pg g (MS g F adr i a q))) (va_Qi post (fun u t => MS g F adr u.1 u.2.1 u.2.2 t.heap) (Ag g)) 0 0 (Ag g) := by
  refine Met.ofW (cc := cX6_setNext) (maxL := 3) (ret := (some .int)) (by decide) rfl ?_
  intro p e s m args below meth c s₁ B hml hv
  obtain ⟨rfl, hG, hM⟩ := hv
  have C : Cx p s m _ meth c cX6_setNext 3 RX6 (some .int) g := Cx.of B hml hG
  have hx := C.1
  have hb := C.2.1
  have hown := C.2.2.2.1
  have hr := C.2.2.2.2.2.1
  have hlocks := C.2.2.2.2.2.2.1
  have hS : va_S (Ag g) s.heap s.heap [] := va_S.rf
  refine lv_start ([.ref (adr 0), .int x, .int y] : List Value) (L := [(0, .ref (adr 0)), (1, .int x), (2, .int y)]) (Nat.le_of_ble_eq_true rfl) rfl (fun ls hl => ?_)
  refine lv_aload_n hx hb dX6_setNext_0 rfl (lv_at hl 0 rfl) ?_
  refine lv_iconst (v := 0) hx hb dX6_setNext_1 (by decide) ?_
  refine m_put C hM hS 0 rfl q2338 rfl rfl rfl dX6_setNext_2 (fun i1 H locs ei1 hM hS => ?_)
  have hw := hw i1 ei1
  refine lv_aload_n hx hb dX6_setNext_5 rfl (lv_at hl 0 rfl) ?_
  refine m_get C hM 1 (by decide) q2339 rfl rfl dX6_setNext_6 ?_
  refine lv_iload_n hx hb dX6_setNext_9 rfl (lv_at hl 1 rfl) ?_
  refine vp_callSi (va_runS (As := [.ref (adr 1), .int x]) (rest := []) C.fix (met_X6_hasInnAt l g F adr i1 a q 1 (by decide) x ) (cw_X6_85 C.ts ⟨Nat.le_of_ble_eq_true rfl, Nat.le_of_ble_eq_true rfl⟩) (preS_of C (P := (MS g F adr i1 a q)) hS hM _) rfl rfl hl.1 rfl (lv_room (Nat.le_of_ble_eq_true rfl)) dX6_setNext_10 ⟨Nat.le_of_ble_eq_true rfl, Nat.le_of_ble_eq_true rfl⟩).run (fun r2 er2 => ?_)
  have hw := hw r2 er2
  refine lv_if_ne (tgt := 22) hx hb dX6_setNext_13 (by decide) (fun c3 => ?_) (fun c3 => ?_)
  · have hw := hw.1 c3
    refine lv_iload_n hx hb dX6_setNext_22 rfl (lv_at hl 2 rfl) ?_
    refine vp_callSi (va_runS (As := [.int y]) (rest := []) C.fix (met_X6_isPointer l g  y ) (cw_X6_250 C.ts ⟨Nat.le_of_ble_eq_true rfl, Nat.le_of_ble_eq_true rfl⟩) (preS_of C (P := (fun _ => True)) hS trivial _) rfl rfl hl.1 rfl (lv_room (Nat.le_of_ble_eq_true rfl)) dX6_setNext_23 ⟨Nat.le_of_ble_eq_true rfl, Nat.le_of_ble_eq_true rfl⟩).run (fun r4 er4 => ?_)
    have hw := hw r4 er4
    refine lv_if_eq (tgt := 41) hx hb dX6_setNext_26 (by decide) (fun c5 => ?_) (fun c5 => ?_)
    · have hw := hw.1 c5
      refine lv_aload_n hx hb dX6_setNext_41 rfl (lv_at hl 0 rfl) ?_
      refine lv_iconst (v := 2) hx hb dX6_setNext_42 (by decide) ?_
      refine va_calli (va_runV (As := [.int 2]) (rest := []) C.fix (met_X6_fails l g F adr i1 a q 2 ) (cw_X6_136 C.ts ⟨Nat.le_of_ble_eq_true rfl, Nat.le_of_ble_eq_true rfl⟩) (preV_of C (P := (MS g F adr i1 a q)) (MS.recv C hM) hS hM _) rfl rfl hl.1 rfl (lv_room (Nat.le_of_ble_eq_true rfl)) dX6_setNext_43 ⟨Nat.le_of_ble_eq_true rfl, Nat.le_of_ble_eq_true rfl⟩) hS (fun _ _ h => h) (fun _ h => h) (fun r6 z_u t H locs ht _ hw1 hB _ _ hS => ?_)
      obtain ⟨i7, a8, q9⟩ := z_u
      have hM : MS g F adr i7 a8 q9 H := by rw [← ht]; exact hB
      have hw := hw r6 i7 a8 q9 hw1
      exact W.iret (v := r6) hx hb hr (fun t ht _ => ⟨⟨r6, (i7, a8, q9), rfl, hw, hM.at ht⟩, hS.F ht⟩) hS.2.2 dX6_setNext_46
    · have hw := hw.2 c5
      refine lv_aload_n hx hb dX6_setNext_29 rfl (lv_at hl 0 rfl) ?_
      refine lv_bipush (v := 54) hx hb dX6_setNext_30 (by decide) ?_
      refine lv_iload_n hx hb dX6_setNext_32 rfl (lv_at hl 1 rfl) ?_
      refine lv_iadd hx hb dX6_setNext_33 ?_
      refine lv_iload_n hx hb dX6_setNext_34 rfl (lv_at hl 2 rfl) ?_
      refine va_calli (va_runV (As := [.int (54 + x), .int y]) (rest := []) C.fix (met_X6_overwrites l g F adr i1 a q (54 + x) y hw.1) (cw_X6_253 C.ts ⟨Nat.le_of_ble_eq_true rfl, Nat.le_of_ble_eq_true rfl⟩) (preV_of C (P := (MS g F adr i1 a q)) (MS.recv C hM) hS hM _) rfl rfl hl.1 rfl (lv_room (Nat.le_of_ble_eq_true rfl)) dX6_setNext_35 ⟨Nat.le_of_ble_eq_true rfl, Nat.le_of_ble_eq_true rfl⟩) hS (fun _ _ h => h) (fun _ h => h) (fun r10 z_u t H locs ht _ hw1 hB _ _ hS => ?_)
      obtain ⟨i11, a12, q13⟩ := z_u
      have hM : MS g F adr i11 a12 q13 H := by rw [← ht]; exact hB
      have hw := hw.2 r10 i11 a12 q13 hw1
      refine lv_goto (tgt := 46) hx hb dX6_setNext_38 (by decide) ?_
      exact W.iret (v := r10) hx hb hr (fun t ht _ => ⟨⟨r10, (i11, a12, q13), rfl, hw, hM.at ht⟩, hS.F ht⟩) hS.2.2 dX6_setNext_46
  · have hw := hw.2 c3
    refine lv_aload_n hx hb dX6_setNext_16 rfl (lv_at hl 0 rfl) ?_
    refine lv_iconst (v := 1) hx hb dX6_setNext_17 (by decide) ?_
    refine va_calli (va_runV (As := [.int 1]) (rest := []) C.fix (met_X6_fails l g F adr i1 a q 1 ) (cw_X6_136 C.ts ⟨Nat.le_of_ble_eq_true rfl, Nat.le_of_ble_eq_true rfl⟩) (preV_of C (P := (MS g F adr i1 a q)) (MS.recv C hM) hS hM _) rfl rfl hl.1 rfl (lv_room (Nat.le_of_ble_eq_true rfl)) dX6_setNext_18 ⟨Nat.le_of_ble_eq_true rfl, Nat.le_of_ble_eq_true rfl⟩) hS (fun _ _ h => h) (fun _ h => h) (fun r14 z_u t H locs ht _ hw1 hB _ _ hS => ?_)
    obtain ⟨i15, a16, q17⟩ := z_u
    have hM : MS g F adr i15 a16 q17 H := by rw [← ht]; exact hB
    have hw := hw r14 i15 a16 q17 hw1
    exact W.iret (v := r14) hx hb hr (fun t ht _ => ⟨⟨r14, (i15, a16, q17), rfl, hw, hM.at ht⟩, hS.F ht⟩) hS.2.2 dX6_setNext_21
set_option maxHeartbeats 4000000 in
theorem met_X6_setNext (l : Launch) (g : gG) (F : nM) (adr : Nat → Nat) (i : Nat → Int32) (a : Nat → Nat → Int32) (q : Nat → Nat) (x : Int32) (y : Int32) (hpre : pre_X6_setNext i a q x y) : Met l yX6_setNext (ws_ yX6_setNext cX6_setNext 3 (some .int)) rm_X6_setNext (va_Pc [.ref (adr 0), .int x, .int y] (Pg g (MS g F adr i a q))) (va_Qi (fun r u => post_X6_setNext i a q x y r u) (fun u t => MS g F adr u.1 u.2.1 u.2.2 t.heap) (Ag g)) 0 0 (Ag g) :=
  wk_X6_setNext l g F adr i a q x y _ (pr_X6_setNext i a q x y hpre)

abbrev rm_X6_setSkip : Room := ({ frames := 4, cells := 0, slots := 0, locals := 256 } : Room)
set_option maxHeartbeats 4000000 in
theorem wk_X6_setSkip (l : Launch) (g : gG) (F : nM) (adr : Nat → Nat) (i : Nat → Int32) (a : Nat → Nat → Int32) (q : Nat → Nat) (x : Int32) (y : Int32) (post : Int32 → MSt → Prop) (hw : wp_X6_setSkip post i a q x y) : Met l yX6_setSkip (ws_ yX6_setSkip cX6_setSkip 3 (some .int)) rm_X6_setSkip (va_Pc [.ref (adr 0), .int x, .int y] (Pg g (MS g F adr i a q))) (va_Qi post (fun u t => MS g F adr u.1 u.2.1 u.2.2 t.heap) (Ag g)) 0 0 (Ag g) := by
  refine Met.ofW (cc := cX6_setSkip) (maxL := 3) (ret := (some .int)) (by decide) rfl ?_
  intro p e s m args below meth c s₁ B hml hv
  obtain ⟨rfl, hG, hM⟩ := hv
  have C : Cx p s m _ meth c cX6_setSkip 3 RX6 (some .int) g := Cx.of B hml hG
  have hx := C.1
  have hb := C.2.1
  have hown := C.2.2.2.1
  have hr := C.2.2.2.2.2.1
  have hlocks := C.2.2.2.2.2.2.1
  have hS : va_S (Ag g) s.heap s.heap [] := va_S.rf
  refine lv_start ([.ref (adr 0), .int x, .int y] : List Value) (L := [(0, .ref (adr 0)), (1, .int x), (2, .int y)]) (Nat.le_of_ble_eq_true rfl) rfl (fun ls hl => ?_)
  refine lv_aload_n hx hb dX6_setSkip_0 rfl (lv_at hl 0 rfl) ?_
  refine lv_iconst (v := 0) hx hb dX6_setSkip_1 (by decide) ?_
  refine m_put C hM hS 0 rfl q2338 rfl rfl rfl dX6_setSkip_2 (fun i1 H locs ei1 hM hS => ?_)
  have hw := hw i1 ei1
  refine lv_aload_n hx hb dX6_setSkip_5 rfl (lv_at hl 0 rfl) ?_
  refine m_get C hM 1 (by decide) q2339 rfl rfl dX6_setSkip_6 ?_
  refine lv_iload_n hx hb dX6_setSkip_9 rfl (lv_at hl 1 rfl) ?_
  refine vp_callSi (va_runS (As := [.ref (adr 1), .int x]) (rest := []) C.fix (met_X6_hasInnAt l g F adr i1 a q 1 (by decide) x ) (cw_X6_85 C.ts ⟨Nat.le_of_ble_eq_true rfl, Nat.le_of_ble_eq_true rfl⟩) (preS_of C (P := (MS g F adr i1 a q)) hS hM _) rfl rfl hl.1 rfl (lv_room (Nat.le_of_ble_eq_true rfl)) dX6_setSkip_10 ⟨Nat.le_of_ble_eq_true rfl, Nat.le_of_ble_eq_true rfl⟩).run (fun r2 er2 => ?_)
  have hw := hw r2 er2
  refine lv_if_ne (tgt := 22) hx hb dX6_setSkip_13 (by decide) (fun c3 => ?_) (fun c3 => ?_)
  · have hw := hw.1 c3
    refine lv_iload_n hx hb dX6_setSkip_22 rfl (lv_at hl 2 rfl) ?_
    refine vp_callSi (va_runS (As := [.int y]) (rest := []) C.fix (met_X6_isPointer l g  y ) (cw_X6_250 C.ts ⟨Nat.le_of_ble_eq_true rfl, Nat.le_of_ble_eq_true rfl⟩) (preS_of C (P := (fun _ => True)) hS trivial _) rfl rfl hl.1 rfl (lv_room (Nat.le_of_ble_eq_true rfl)) dX6_setSkip_23 ⟨Nat.le_of_ble_eq_true rfl, Nat.le_of_ble_eq_true rfl⟩).run (fun r4 er4 => ?_)
    have hw := hw r4 er4
    refine lv_if_eq (tgt := 41) hx hb dX6_setSkip_26 (by decide) (fun c5 => ?_) (fun c5 => ?_)
    · have hw := hw.1 c5
      refine lv_aload_n hx hb dX6_setSkip_41 rfl (lv_at hl 0 rfl) ?_
      refine lv_iconst (v := 2) hx hb dX6_setSkip_42 (by decide) ?_
      refine va_calli (va_runV (As := [.int 2]) (rest := []) C.fix (met_X6_fails l g F adr i1 a q 2 ) (cw_X6_136 C.ts ⟨Nat.le_of_ble_eq_true rfl, Nat.le_of_ble_eq_true rfl⟩) (preV_of C (P := (MS g F adr i1 a q)) (MS.recv C hM) hS hM _) rfl rfl hl.1 rfl (lv_room (Nat.le_of_ble_eq_true rfl)) dX6_setSkip_43 ⟨Nat.le_of_ble_eq_true rfl, Nat.le_of_ble_eq_true rfl⟩) hS (fun _ _ h => h) (fun _ h => h) (fun r6 z_u t H locs ht _ hw1 hB _ _ hS => ?_)
      obtain ⟨i7, a8, q9⟩ := z_u
      have hM : MS g F adr i7 a8 q9 H := by rw [← ht]; exact hB
      have hw := hw r6 i7 a8 q9 hw1
      exact W.iret (v := r6) hx hb hr (fun t ht _ => ⟨⟨r6, (i7, a8, q9), rfl, hw, hM.at ht⟩, hS.F ht⟩) hS.2.2 dX6_setSkip_46
    · have hw := hw.2 c5
      refine lv_aload_n hx hb dX6_setSkip_29 rfl (lv_at hl 0 rfl) ?_
      refine lv_bipush (v := 66) hx hb dX6_setSkip_30 (by decide) ?_
      refine lv_iload_n hx hb dX6_setSkip_32 rfl (lv_at hl 1 rfl) ?_
      refine lv_iadd hx hb dX6_setSkip_33 ?_
      refine lv_iload_n hx hb dX6_setSkip_34 rfl (lv_at hl 2 rfl) ?_
      refine va_calli (va_runV (As := [.int (66 + x), .int y]) (rest := []) C.fix (met_X6_overwrites l g F adr i1 a q (66 + x) y hw.1) (cw_X6_253 C.ts ⟨Nat.le_of_ble_eq_true rfl, Nat.le_of_ble_eq_true rfl⟩) (preV_of C (P := (MS g F adr i1 a q)) (MS.recv C hM) hS hM _) rfl rfl hl.1 rfl (lv_room (Nat.le_of_ble_eq_true rfl)) dX6_setSkip_35 ⟨Nat.le_of_ble_eq_true rfl, Nat.le_of_ble_eq_true rfl⟩) hS (fun _ _ h => h) (fun _ h => h) (fun r10 z_u t H locs ht _ hw1 hB _ _ hS => ?_)
      obtain ⟨i11, a12, q13⟩ := z_u
      have hM : MS g F adr i11 a12 q13 H := by rw [← ht]; exact hB
      have hw := hw.2 r10 i11 a12 q13 hw1
      refine lv_goto (tgt := 46) hx hb dX6_setSkip_38 (by decide) ?_
      exact W.iret (v := r10) hx hb hr (fun t ht _ => ⟨⟨r10, (i11, a12, q13), rfl, hw, hM.at ht⟩, hS.F ht⟩) hS.2.2 dX6_setSkip_46
  · have hw := hw.2 c3
    refine lv_aload_n hx hb dX6_setSkip_16 rfl (lv_at hl 0 rfl) ?_
    refine lv_iconst (v := 1) hx hb dX6_setSkip_17 (by decide) ?_
    refine va_calli (va_runV (As := [.int 1]) (rest := []) C.fix (met_X6_fails l g F adr i1 a q 1 ) (cw_X6_136 C.ts ⟨Nat.le_of_ble_eq_true rfl, Nat.le_of_ble_eq_true rfl⟩) (preV_of C (P := (MS g F adr i1 a q)) (MS.recv C hM) hS hM _) rfl rfl hl.1 rfl (lv_room (Nat.le_of_ble_eq_true rfl)) dX6_setSkip_18 ⟨Nat.le_of_ble_eq_true rfl, Nat.le_of_ble_eq_true rfl⟩) hS (fun _ _ h => h) (fun _ h => h) (fun r14 z_u t H locs ht _ hw1 hB _ _ hS => ?_)
    obtain ⟨i15, a16, q17⟩ := z_u
    have hM : MS g F adr i15 a16 q17 H := by rw [← ht]; exact hB
    have hw := hw r14 i15 a16 q17 hw1
    exact W.iret (v := r14) hx hb hr (fun t ht _ => ⟨⟨r14, (i15, a16, q17), rfl, hw, hM.at ht⟩, hS.F ht⟩) hS.2.2 dX6_setSkip_21
set_option maxHeartbeats 4000000 in
theorem met_X6_setSkip (l : Launch) (g : gG) (F : nM) (adr : Nat → Nat) (i : Nat → Int32) (a : Nat → Nat → Int32) (q : Nat → Nat) (x : Int32) (y : Int32) (hpre : pre_X6_setSkip i a q x y) : Met l yX6_setSkip (ws_ yX6_setSkip cX6_setSkip 3 (some .int)) rm_X6_setSkip (va_Pc [.ref (adr 0), .int x, .int y] (Pg g (MS g F adr i a q))) (va_Qi (fun r u => post_X6_setSkip i a q x y r u) (fun u t => MS g F adr u.1 u.2.1 u.2.2 t.heap) (Ag g)) 0 0 (Ag g) :=
  wk_X6_setSkip l g F adr i a q x y _ (pr_X6_setSkip i a q x y hpre)

abbrev rm_X6_setFirst : Room := ({ frames := 4, cells := 0, slots := 0, locals := 256 } : Room)
set_option maxHeartbeats 4000000 in
theorem wk_X6_setFirst (l : Launch) (g : gG) (F : nM) (adr : Nat → Nat) (i : Nat → Int32) (a : Nat → Nat → Int32) (q : Nat → Nat) (x : Int32) (post : Int32 → MSt → Prop) (hw : wp_X6_setFirst post i a q x) : Met l yX6_setFirst (ws_ yX6_setFirst cX6_setFirst 2 (some .int)) rm_X6_setFirst (va_Pc [.ref (adr 0), .int x] (Pg g (MS g F adr i a q))) (va_Qi post (fun u t => MS g F adr u.1 u.2.1 u.2.2 t.heap) (Ag g)) 0 0 (Ag g) := by
  refine Met.ofW (cc := cX6_setFirst) (maxL := 2) (ret := (some .int)) (by decide) rfl ?_
  intro p e s m args below meth c s₁ B hml hv
  obtain ⟨rfl, hG, hM⟩ := hv
  have C : Cx p s m _ meth c cX6_setFirst 2 RX6 (some .int) g := Cx.of B hml hG
  have hx := C.1
  have hb := C.2.1
  have hown := C.2.2.2.1
  have hr := C.2.2.2.2.2.1
  have hlocks := C.2.2.2.2.2.2.1
  have hS : va_S (Ag g) s.heap s.heap [] := va_S.rf
  refine lv_start ([.ref (adr 0), .int x] : List Value) (L := [(0, .ref (adr 0)), (1, .int x)]) (Nat.le_of_ble_eq_true rfl) rfl (fun ls hl => ?_)
  refine lv_aload_n hx hb dX6_setFirst_0 rfl (lv_at hl 0 rfl) ?_
  refine lv_iconst (v := 0) hx hb dX6_setFirst_1 (by decide) ?_
  refine m_put C hM hS 0 rfl q2338 rfl rfl rfl dX6_setFirst_2 (fun i1 H locs ei1 hM hS => ?_)
  have hw := hw i1 ei1
  refine lv_iload_n hx hb dX6_setFirst_5 rfl (lv_at hl 1 rfl) ?_
  refine vp_callSi (va_runS (As := [.int x]) (rest := []) C.fix (met_X6_isPointer l g  x ) (cw_X6_250 C.ts ⟨Nat.le_of_ble_eq_true rfl, Nat.le_of_ble_eq_true rfl⟩) (preS_of C (P := (fun _ => True)) hS trivial _) rfl rfl hl.1 rfl (lv_room (Nat.le_of_ble_eq_true rfl)) dX6_setFirst_6 ⟨Nat.le_of_ble_eq_true rfl, Nat.le_of_ble_eq_true rfl⟩).run (fun r2 er2 => ?_)
  have hw := hw r2 er2
  refine lv_if_eq (tgt := 22) hx hb dX6_setFirst_9 (by decide) (fun c3 => ?_) (fun c3 => ?_)
  · have hw := hw.1 c3
    refine lv_aload_n hx hb dX6_setFirst_22 rfl (lv_at hl 0 rfl) ?_
    refine lv_iconst (v := 1) hx hb dX6_setFirst_23 (by decide) ?_
    refine va_calli (va_runV (As := [.int 1]) (rest := []) C.fix (met_X6_fails l g F adr i1 a q 1 ) (cw_X6_136 C.ts ⟨Nat.le_of_ble_eq_true rfl, Nat.le_of_ble_eq_true rfl⟩) (preV_of C (P := (MS g F adr i1 a q)) (MS.recv C hM) hS hM _) rfl rfl hl.1 rfl (lv_room (Nat.le_of_ble_eq_true rfl)) dX6_setFirst_24 ⟨Nat.le_of_ble_eq_true rfl, Nat.le_of_ble_eq_true rfl⟩) hS (fun _ _ h => h) (fun _ h => h) (fun r4 z_u t H locs ht _ hw1 hB _ _ hS => ?_)
    obtain ⟨i5, a6, q7⟩ := z_u
    have hM : MS g F adr i5 a6 q7 H := by rw [← ht]; exact hB
    have hw := hw r4 i5 a6 q7 hw1
    exact W.iret (v := r4) hx hb hr (fun t ht _ => ⟨⟨r4, (i5, a6, q7), rfl, hw, hM.at ht⟩, hS.F ht⟩) hS.2.2 dX6_setFirst_27
  · have hw := hw.2 c3
    refine lv_aload_n hx hb dX6_setFirst_12 rfl (lv_at hl 0 rfl) ?_
    refine lv_bipush (v := 51) hx hb dX6_setFirst_13 (by decide) ?_
    refine lv_iload_n hx hb dX6_setFirst_15 rfl (lv_at hl 1 rfl) ?_
    refine va_calli (va_runV (As := [.int 51, .int x]) (rest := []) C.fix (met_X6_overwrites l g F adr i1 a q 51 x hw.1) (cw_X6_253 C.ts ⟨Nat.le_of_ble_eq_true rfl, Nat.le_of_ble_eq_true rfl⟩) (preV_of C (P := (MS g F adr i1 a q)) (MS.recv C hM) hS hM _) rfl rfl hl.1 rfl (lv_room (Nat.le_of_ble_eq_true rfl)) dX6_setFirst_16 ⟨Nat.le_of_ble_eq_true rfl, Nat.le_of_ble_eq_true rfl⟩) hS (fun _ _ h => h) (fun _ h => h) (fun r8 z_u t H locs ht _ hw1 hB _ _ hS => ?_)
    obtain ⟨i9, a10, q11⟩ := z_u
    have hM : MS g F adr i9 a10 q11 H := by rw [← ht]; exact hB
    have hw := hw.2 r8 i9 a10 q11 hw1
    refine lv_goto (tgt := 27) hx hb dX6_setFirst_19 (by decide) ?_
    exact W.iret (v := r8) hx hb hr (fun t ht _ => ⟨⟨r8, (i9, a10, q11), rfl, hw, hM.at ht⟩, hS.F ht⟩) hS.2.2 dX6_setFirst_27
set_option maxHeartbeats 4000000 in
theorem met_X6_setFirst (l : Launch) (g : gG) (F : nM) (adr : Nat → Nat) (i : Nat → Int32) (a : Nat → Nat → Int32) (q : Nat → Nat) (x : Int32) (hpre : pre_X6_setFirst i a q x) : Met l yX6_setFirst (ws_ yX6_setFirst cX6_setFirst 2 (some .int)) rm_X6_setFirst (va_Pc [.ref (adr 0), .int x] (Pg g (MS g F adr i a q))) (va_Qi (fun r u => post_X6_setFirst i a q x r u) (fun u t => MS g F adr u.1 u.2.1 u.2.2 t.heap) (Ag g)) 0 0 (Ag g) :=
  wk_X6_setFirst l g F adr i a q x _ (pr_X6_setFirst i a q x hpre)

abbrev rm_X6_setSecond : Room := ({ frames := 4, cells := 0, slots := 0, locals := 256 } : Room)
set_option maxHeartbeats 4000000 in
theorem wk_X6_setSecond (l : Launch) (g : gG) (F : nM) (adr : Nat → Nat) (i : Nat → Int32) (a : Nat → Nat → Int32) (q : Nat → Nat) (x : Int32) (post : Int32 → MSt → Prop) (hw : wp_X6_setSecond post i a q x) : Met l yX6_setSecond (ws_ yX6_setSecond cX6_setSecond 2 (some .int)) rm_X6_setSecond (va_Pc [.ref (adr 0), .int x] (Pg g (MS g F adr i a q))) (va_Qi post (fun u t => MS g F adr u.1 u.2.1 u.2.2 t.heap) (Ag g)) 0 0 (Ag g) := by
  refine Met.ofW (cc := cX6_setSecond) (maxL := 2) (ret := (some .int)) (by decide) rfl ?_
  intro p e s m args below meth c s₁ B hml hv
  obtain ⟨rfl, hG, hM⟩ := hv
  have C : Cx p s m _ meth c cX6_setSecond 2 RX6 (some .int) g := Cx.of B hml hG
  have hx := C.1
  have hb := C.2.1
  have hown := C.2.2.2.1
  have hr := C.2.2.2.2.2.1
  have hlocks := C.2.2.2.2.2.2.1
  have hS : va_S (Ag g) s.heap s.heap [] := va_S.rf
  refine lv_start ([.ref (adr 0), .int x] : List Value) (L := [(0, .ref (adr 0)), (1, .int x)]) (Nat.le_of_ble_eq_true rfl) rfl (fun ls hl => ?_)
  refine lv_aload_n hx hb dX6_setSecond_0 rfl (lv_at hl 0 rfl) ?_
  refine lv_iconst (v := 0) hx hb dX6_setSecond_1 (by decide) ?_
  refine m_put C hM hS 0 rfl q2338 rfl rfl rfl dX6_setSecond_2 (fun i1 H locs ei1 hM hS => ?_)
  have hw := hw i1 ei1
  refine lv_iload_n hx hb dX6_setSecond_5 rfl (lv_at hl 1 rfl) ?_
  refine vp_callSi (va_runS (As := [.int x]) (rest := []) C.fix (met_X6_isPointer l g  x ) (cw_X6_250 C.ts ⟨Nat.le_of_ble_eq_true rfl, Nat.le_of_ble_eq_true rfl⟩) (preS_of C (P := (fun _ => True)) hS trivial _) rfl rfl hl.1 rfl (lv_room (Nat.le_of_ble_eq_true rfl)) dX6_setSecond_6 ⟨Nat.le_of_ble_eq_true rfl, Nat.le_of_ble_eq_true rfl⟩).run (fun r2 er2 => ?_)
  have hw := hw r2 er2
  refine lv_if_eq (tgt := 22) hx hb dX6_setSecond_9 (by decide) (fun c3 => ?_) (fun c3 => ?_)
  · have hw := hw.1 c3
    refine lv_aload_n hx hb dX6_setSecond_22 rfl (lv_at hl 0 rfl) ?_
    refine lv_iconst (v := 1) hx hb dX6_setSecond_23 (by decide) ?_
    refine va_calli (va_runV (As := [.int 1]) (rest := []) C.fix (met_X6_fails l g F adr i1 a q 1 ) (cw_X6_136 C.ts ⟨Nat.le_of_ble_eq_true rfl, Nat.le_of_ble_eq_true rfl⟩) (preV_of C (P := (MS g F adr i1 a q)) (MS.recv C hM) hS hM _) rfl rfl hl.1 rfl (lv_room (Nat.le_of_ble_eq_true rfl)) dX6_setSecond_24 ⟨Nat.le_of_ble_eq_true rfl, Nat.le_of_ble_eq_true rfl⟩) hS (fun _ _ h => h) (fun _ h => h) (fun r4 z_u t H locs ht _ hw1 hB _ _ hS => ?_)
    obtain ⟨i5, a6, q7⟩ := z_u
    have hM : MS g F adr i5 a6 q7 H := by rw [← ht]; exact hB
    have hw := hw r4 i5 a6 q7 hw1
    exact W.iret (v := r4) hx hb hr (fun t ht _ => ⟨⟨r4, (i5, a6, q7), rfl, hw, hM.at ht⟩, hS.F ht⟩) hS.2.2 dX6_setSecond_27
  · have hw := hw.2 c3
    refine lv_aload_n hx hb dX6_setSecond_12 rfl (lv_at hl 0 rfl) ?_
    refine lv_bipush (v := 52) hx hb dX6_setSecond_13 (by decide) ?_
    refine lv_iload_n hx hb dX6_setSecond_15 rfl (lv_at hl 1 rfl) ?_
    refine va_calli (va_runV (As := [.int 52, .int x]) (rest := []) C.fix (met_X6_overwrites l g F adr i1 a q 52 x hw.1) (cw_X6_253 C.ts ⟨Nat.le_of_ble_eq_true rfl, Nat.le_of_ble_eq_true rfl⟩) (preV_of C (P := (MS g F adr i1 a q)) (MS.recv C hM) hS hM _) rfl rfl hl.1 rfl (lv_room (Nat.le_of_ble_eq_true rfl)) dX6_setSecond_16 ⟨Nat.le_of_ble_eq_true rfl, Nat.le_of_ble_eq_true rfl⟩) hS (fun _ _ h => h) (fun _ h => h) (fun r8 z_u t H locs ht _ hw1 hB _ _ hS => ?_)
    obtain ⟨i9, a10, q11⟩ := z_u
    have hM : MS g F adr i9 a10 q11 H := by rw [← ht]; exact hB
    have hw := hw.2 r8 i9 a10 q11 hw1
    refine lv_goto (tgt := 27) hx hb dX6_setSecond_19 (by decide) ?_
    exact W.iret (v := r8) hx hb hr (fun t ht _ => ⟨⟨r8, (i9, a10, q11), rfl, hw, hM.at ht⟩, hS.F ht⟩) hS.2.2 dX6_setSecond_27
set_option maxHeartbeats 4000000 in
theorem met_X6_setSecond (l : Launch) (g : gG) (F : nM) (adr : Nat → Nat) (i : Nat → Int32) (a : Nat → Nat → Int32) (q : Nat → Nat) (x : Int32) (hpre : pre_X6_setSecond i a q x) : Met l yX6_setSecond (ws_ yX6_setSecond cX6_setSecond 2 (some .int)) rm_X6_setSecond (va_Pc [.ref (adr 0), .int x] (Pg g (MS g F adr i a q))) (va_Qi (fun r u => post_X6_setSecond i a q x r u) (fun u t => MS g F adr u.1 u.2.1 u.2.2 t.heap) (Ag g)) 0 0 (Ag g) :=
  wk_X6_setSecond l g F adr i a q x _ (pr_X6_setSecond i a q x hpre)

abbrev rm_X6_setStoredCount : Room := ({ frames := 4, cells := 0, slots := 0, locals := 256 } : Room)
set_option maxHeartbeats 4000000 in
theorem wk_X6_setStoredCount (l : Launch) (g : gG) (F : nM) (adr : Nat → Nat) (i : Nat → Int32) (a : Nat → Nat → Int32) (q : Nat → Nat) (x : Int32) (post : Int32 → MSt → Prop) (hw : wp_X6_setStoredCount post i a q x) : Met l yX6_setStoredCount (ws_ yX6_setStoredCount cX6_setStoredCount 2 (some .int)) rm_X6_setStoredCount (va_Pc [.ref (adr 0), .int x] (Pg g (MS g F adr i a q))) (va_Qi post (fun u t => MS g F adr u.1 u.2.1 u.2.2 t.heap) (Ag g)) 0 0 (Ag g) := by
  refine Met.ofW (cc := cX6_setStoredCount) (maxL := 2) (ret := (some .int)) (by decide) rfl ?_
  intro p e s m args below meth c s₁ B hml hv
  obtain ⟨rfl, hG, hM⟩ := hv
  have C : Cx p s m _ meth c cX6_setStoredCount 2 RX6 (some .int) g := Cx.of B hml hG
  have hx := C.1
  have hb := C.2.1
  have hown := C.2.2.2.1
  have hr := C.2.2.2.2.2.1
  have hlocks := C.2.2.2.2.2.2.1
  have hS : va_S (Ag g) s.heap s.heap [] := va_S.rf
  refine lv_start ([.ref (adr 0), .int x] : List Value) (L := [(0, .ref (adr 0)), (1, .int x)]) (Nat.le_of_ble_eq_true rfl) rfl (fun ls hl => ?_)
  refine lv_aload_n hx hb dX6_setStoredCount_0 rfl (lv_at hl 0 rfl) ?_
  refine lv_iconst (v := 0) hx hb dX6_setStoredCount_1 (by decide) ?_
  refine m_put C hM hS 0 rfl q2338 rfl rfl rfl dX6_setStoredCount_2 (fun i1 H locs ei1 hM hS => ?_)
  have hw := hw i1 ei1
  refine lv_iload_n hx hb dX6_setStoredCount_5 rfl (lv_at hl 1 rfl) ?_
  refine lv_i2l hx hb dX6_setStoredCount_6 rfl ?_
  refine lv_lconst (v := 0) hx hb dX6_setStoredCount_7 (by decide) ?_
  refine lv_ldc2 (v := 12) hx hb hown (C.ts _ q2605) dX6_setStoredCount_8 ?_
  refine vp_callSi (va_runS (As := [.long x.toInt64, .long 0, .long 12]) (rest := []) C.fix (met_X6_isIn l g  x.toInt64 0 12 ) (cw_X6_61 C.ts ⟨Nat.le_of_ble_eq_true rfl, Nat.le_of_ble_eq_true rfl⟩) (preS_of C (P := (fun _ => True)) hS trivial _) rfl rfl hl.1 rfl (lv_room (Nat.le_of_ble_eq_true rfl)) dX6_setStoredCount_11 ⟨Nat.le_of_ble_eq_true rfl, Nat.le_of_ble_eq_true rfl⟩).run (fun r2 er2 => ?_)
  have hw := hw r2 er2
  refine lv_if_eq (tgt := 27) hx hb dX6_setStoredCount_14 (by decide) (fun c3 => ?_) (fun c3 => ?_)
  · have hw := hw.1 c3
    refine lv_aload_n hx hb dX6_setStoredCount_27 rfl (lv_at hl 0 rfl) ?_
    refine lv_iconst (v := 1) hx hb dX6_setStoredCount_28 (by decide) ?_
    refine va_calli (va_runV (As := [.int 1]) (rest := []) C.fix (met_X6_fails l g F adr i1 a q 1 ) (cw_X6_136 C.ts ⟨Nat.le_of_ble_eq_true rfl, Nat.le_of_ble_eq_true rfl⟩) (preV_of C (P := (MS g F adr i1 a q)) (MS.recv C hM) hS hM _) rfl rfl hl.1 rfl (lv_room (Nat.le_of_ble_eq_true rfl)) dX6_setStoredCount_29 ⟨Nat.le_of_ble_eq_true rfl, Nat.le_of_ble_eq_true rfl⟩) hS (fun _ _ h => h) (fun _ h => h) (fun r4 z_u t H locs ht _ hw1 hB _ _ hS => ?_)
    obtain ⟨i5, a6, q7⟩ := z_u
    have hM : MS g F adr i5 a6 q7 H := by rw [← ht]; exact hB
    have hw := hw r4 i5 a6 q7 hw1
    exact W.iret (v := r4) hx hb hr (fun t ht _ => ⟨⟨r4, (i5, a6, q7), rfl, hw, hM.at ht⟩, hS.F ht⟩) hS.2.2 dX6_setStoredCount_32
  · have hw := hw.2 c3
    refine lv_aload_n hx hb dX6_setStoredCount_17 rfl (lv_at hl 0 rfl) ?_
    refine lv_bipush (v := 53) hx hb dX6_setStoredCount_18 (by decide) ?_
    refine lv_iload_n hx hb dX6_setStoredCount_20 rfl (lv_at hl 1 rfl) ?_
    refine va_calli (va_runV (As := [.int 53, .int x]) (rest := []) C.fix (met_X6_overwrites l g F adr i1 a q 53 x hw.1) (cw_X6_253 C.ts ⟨Nat.le_of_ble_eq_true rfl, Nat.le_of_ble_eq_true rfl⟩) (preV_of C (P := (MS g F adr i1 a q)) (MS.recv C hM) hS hM _) rfl rfl hl.1 rfl (lv_room (Nat.le_of_ble_eq_true rfl)) dX6_setStoredCount_21 ⟨Nat.le_of_ble_eq_true rfl, Nat.le_of_ble_eq_true rfl⟩) hS (fun _ _ h => h) (fun _ h => h) (fun r8 z_u t H locs ht _ hw1 hB _ _ hS => ?_)
    obtain ⟨i9, a10, q11⟩ := z_u
    have hM : MS g F adr i9 a10 q11 H := by rw [← ht]; exact hB
    have hw := hw.2 r8 i9 a10 q11 hw1
    refine lv_goto (tgt := 32) hx hb dX6_setStoredCount_24 (by decide) ?_
    exact W.iret (v := r8) hx hb hr (fun t ht _ => ⟨⟨r8, (i9, a10, q11), rfl, hw, hM.at ht⟩, hS.F ht⟩) hS.2.2 dX6_setStoredCount_32
set_option maxHeartbeats 4000000 in
theorem met_X6_setStoredCount (l : Launch) (g : gG) (F : nM) (adr : Nat → Nat) (i : Nat → Int32) (a : Nat → Nat → Int32) (q : Nat → Nat) (x : Int32) (hpre : pre_X6_setStoredCount i a q x) : Met l yX6_setStoredCount (ws_ yX6_setStoredCount cX6_setStoredCount 2 (some .int)) rm_X6_setStoredCount (va_Pc [.ref (adr 0), .int x] (Pg g (MS g F adr i a q))) (va_Qi (fun r u => post_X6_setStoredCount i a q x r u) (fun u t => MS g F adr u.1 u.2.1 u.2.2 t.heap) (Ag g)) 0 0 (Ag g) :=
  wk_X6_setStoredCount l g F adr i a q x _ (pr_X6_setStoredCount i a q x hpre)

abbrev rm_X6_setsOpen : Room := ({ frames := 3, cells := 0, slots := 0, locals := 192 } : Room)
set_option maxHeartbeats 4000000 in
theorem wkb_X6_setsOpen_40 (C : Cx p s m args meth c cX6_setsOpen 4 RX6 (some .boolean) g) (post : Int32 → MSt → Prop)  (x : Int32) (y : Int32) (i : Nat → Int32) (a : Nat → Nat → Int32) (q : Nat → Nat) (s0 : Int32) (hw : wpb_X6_setsOpen_40 post  x y i a q s0) {H : Heap} {locs : List Loc} (hM : MS g F adr i a q H) (hS : va_S (Ag g) s.heap H locs) {ls : Array Slot} (hl : lv_has ls 4 [(0, .ref (adr 0)), (1, .int x), (2, .int y)]) : W p l e rm_X6_setsOpen s m args below meth c H locs 0 0 (MQ below (va_Qi post (fun u t => MS g F adr u.1 u.2.1 u.2.2 t.heap) (Ag g)) args s 0 0 (Ag g)) (F0 m 40 ls [.int s0]) := by
  have hx := C.1
  have hb := C.2.1
  have hown := C.2.2.2.1
  have hr := C.2.2.2.2.2.1
  have hlocks := C.2.2.2.2.2.2.1
  refine lv_istore_n (lv' := [(3, .int s0), (0, .ref (adr 0)), (1, .int x), (2, .int y)]) hx hb dX6_setsOpen_40 rfl hl (by decide) rfl (fun ls hl => ?_)
  refine lv_aload_n hx hb dX6_setsOpen_41 rfl (lv_at hl 1 rfl) ?_
  refine m_get C hM 1 (by decide) q2339 rfl rfl dX6_setsOpen_42 ?_
  refine lv_bipush (v := 27) hx hb dX6_setsOpen_45 (by decide) ?_
  refine lv_iload_n hx hb dX6_setsOpen_47 rfl (lv_at hl 2 rfl) ?_
  refine lv_iadd hx hb dX6_setsOpen_48 ?_
  refine lv_iload_n hx hb dX6_setsOpen_49 rfl (lv_at hl 3 rfl) ?_
  refine m_ast C hM hS (j := 1) rfl hw.1 dX6_setsOpen_50 (fun a9 H locs ea9 hM hS => ?_)
  have hw := hw.2 a9 ea9
  refine lv_iload_n hx hb dX6_setsOpen_51 rfl (lv_at hl 0 rfl) ?_
  exact W.zret (v := s0) hx hb hr hw.1 (fun t ht _ => ⟨⟨s0, (i, a9, q), rfl, hw.2, hM.at ht⟩, hS.F ht⟩) hS.2.2 dX6_setsOpen_52
set_option maxHeartbeats 4000000 in
theorem wk_X6_setsOpen (l : Launch) (g : gG) (F : nM) (adr : Nat → Nat) (i : Nat → Int32) (a : Nat → Nat → Int32) (q : Nat → Nat) (x : Int32) (y : Int32) (post : Int32 → MSt → Prop) (hw : wp_X6_setsOpen post i a q x y) : Met l yX6_setsOpen (ws_ yX6_setsOpen cX6_setsOpen 4 (some .boolean)) rm_X6_setsOpen (va_Pc [.ref (adr 0), .int x, .int y] (Pg g (MS g F adr i a q))) (va_Qi post (fun u t => MS g F adr u.1 u.2.1 u.2.2 t.heap) (Ag g)) 0 0 (Ag g) := by
  refine Met.ofW (cc := cX6_setsOpen) (maxL := 4) (ret := (some .boolean)) (by decide) rfl ?_
  intro p e s m args below meth c s₁ B hml hv
  obtain ⟨rfl, hG, hM⟩ := hv
  have C : Cx p s m _ meth c cX6_setsOpen 4 RX6 (some .boolean) g := Cx.of B hml hG
  have hx := C.1
  have hb := C.2.1
  have hown := C.2.2.2.1
  have hr := C.2.2.2.2.2.1
  have hlocks := C.2.2.2.2.2.2.1
  have hS : va_S (Ag g) s.heap s.heap [] := va_S.rf
  refine lv_start ([.ref (adr 0), .int x, .int y] : List Value) (L := [(0, .ref (adr 0)), (1, .int x), (2, .int y)]) (Nat.le_of_ble_eq_true rfl) rfl (fun ls hl => ?_)
  refine lv_aload_n hx hb dX6_setsOpen_0 rfl (lv_at hl 0 rfl) ?_
  refine m_get C hM 1 (by decide) q2339 rfl rfl dX6_setsOpen_1 ?_
  refine lv_iload_n hx hb dX6_setsOpen_4 rfl (lv_at hl 1 rfl) ?_
  refine vp_callSi (va_runS (As := [.ref (adr 1), .int x]) (rest := []) C.fix (met_X6_hasInnAt l g F adr i a q 1 (by decide) x ) (cw_X6_85 C.ts ⟨Nat.le_of_ble_eq_true rfl, Nat.le_of_ble_eq_true rfl⟩) (preS_of C (P := (MS g F adr i a q)) hS hM _) rfl rfl hl.1 rfl (lv_room (Nat.le_of_ble_eq_true rfl)) dX6_setsOpen_5 ⟨Nat.le_of_ble_eq_true rfl, Nat.le_of_ble_eq_true rfl⟩).run (fun r1 er1 => ?_)
  have hw := hw r1 er1
  refine lv_if_ne (tgt := 18) hx hb dX6_setsOpen_8 (by decide) (fun c2 => ?_) (fun c2 => ?_)
  · have hw := hw.1 c2
    refine lv_aload_n hx hb dX6_setsOpen_18 rfl (lv_at hl 0 rfl) ?_
    refine va_callv (va_runV (As := []) (rest := []) C.fix (met_X6_remembers l g F adr i a q  hw.1) (cw_X6_242 C.ts ⟨Nat.le_of_ble_eq_true rfl, Nat.le_of_ble_eq_true rfl⟩) (preV_of C (P := (MS g F adr i a q)) (MS.recv C hM) hS hM _) rfl rfl hl.1 rfl (lv_room (Nat.le_of_ble_eq_true rfl)) dX6_setsOpen_19 ⟨Nat.le_of_ble_eq_true rfl, Nat.le_of_ble_eq_true rfl⟩) hS (fun _ _ h => h) (fun _ h => h) (fun z_u t H locs ht _ hw1 hB _ _ hS => ?_)
    obtain ⟨i4, a5, q6⟩ := z_u
    have hM : MS g F adr i4 a5 q6 H := by rw [← ht]; exact hB
    have hw := hw.2 i4 a5 q6 hw1
    refine lv_aload_n hx hb dX6_setsOpen_22 rfl (lv_at hl 0 rfl) ?_
    refine m_get C hM 1 (by decide) q2339 rfl rfl dX6_setsOpen_23 ?_
    refine lv_bipush (v := 27) hx hb dX6_setsOpen_26 (by decide) ?_
    refine lv_iload_n hx hb dX6_setsOpen_28 rfl (lv_at hl 1 rfl) ?_
    refine lv_iadd hx hb dX6_setsOpen_29 ?_
    refine m_ald C hM (j := 1) rfl hw.1 dX6_setsOpen_30 ?_
    have hw := hw.2
    refine lv_iconst (v := 1) hx hb dX6_setsOpen_31 (by decide) ?_
    refine lv_icmp_ne (tgt := 39) hx hb dX6_setsOpen_32 (by decide) (fun c7 => ?_) (fun c7 => ?_)
    · have hw := hw.1 c7
      refine lv_iconst (v := 0) hx hb dX6_setsOpen_39 (by decide) ?_
      exact wkb_X6_setsOpen_40 C post x y  i4 a5 q6 0 hw hM hS (lv_sub hl [0, 1, 2] rfl)
    · have hw := hw.2 c7
      refine lv_iconst (v := 1) hx hb dX6_setsOpen_35 (by decide) ?_
      refine lv_goto (tgt := 40) hx hb dX6_setsOpen_36 (by decide) ?_
      exact wkb_X6_setsOpen_40 C post x y  i4 a5 q6 1 hw hM hS (lv_sub hl [0, 1, 2] rfl)
  · have hw := hw.2 c2
    refine lv_aload_n hx hb dX6_setsOpen_11 rfl (lv_at hl 0 rfl) ?_
    refine lv_iconst (v := 1) hx hb dX6_setsOpen_12 (by decide) ?_
    refine m_put C hM hS 0 rfl q2338 rfl rfl rfl dX6_setsOpen_13 (fun i8 H locs ei8 hM hS => ?_)
    have hw := hw i8 ei8
    refine lv_iconst (v := 0) hx hb dX6_setsOpen_16 (by decide) ?_
    exact W.zret (v := 0) hx hb hr hw.1 (fun t ht _ => ⟨⟨0, (i8, a, q), rfl, hw.2, hM.at ht⟩, hS.F ht⟩) hS.2.2 dX6_setsOpen_17
set_option maxHeartbeats 4000000 in
theorem met_X6_setsOpen (l : Launch) (g : gG) (F : nM) (adr : Nat → Nat) (i : Nat → Int32) (a : Nat → Nat → Int32) (q : Nat → Nat) (x : Int32) (y : Int32) (hpre : pre_X6_setsOpen i a q x y) : Met l yX6_setsOpen (ws_ yX6_setsOpen cX6_setsOpen 4 (some .boolean)) rm_X6_setsOpen (va_Pc [.ref (adr 0), .int x, .int y] (Pg g (MS g F adr i a q))) (va_Qi (fun r u => post_X6_setsOpen i a q x y r u) (fun u t => MS g F adr u.1 u.2.1 u.2.2 t.heap) (Ag g)) 0 0 (Ag g) :=
  wk_X6_setsOpen l g F adr i a q x y _ (pr_X6_setsOpen i a q x y hpre)

abbrev rm_X6_openInn : Room := ({ frames := 4, cells := 0, slots := 0, locals := 256 } : Room)
set_option maxHeartbeats 4000000 in
theorem wk_X6_openInn (l : Launch) (g : gG) (F : nM) (adr : Nat → Nat) (i : Nat → Int32) (a : Nat → Nat → Int32) (q : Nat → Nat) (x : Int32) (post : Int32 → MSt → Prop) (hw : wp_X6_openInn post i a q x) : Met l yX6_openInn (ws_ yX6_openInn cX6_openInn 2 (some .boolean)) rm_X6_openInn (va_Pc [.ref (adr 0), .int x] (Pg g (MS g F adr i a q))) (va_Qi post (fun u t => MS g F adr u.1 u.2.1 u.2.2 t.heap) (Ag g)) 0 0 (Ag g) := by
  refine Met.ofW (cc := cX6_openInn) (maxL := 2) (ret := (some .boolean)) (by decide) rfl ?_
  intro p e s m args below meth c s₁ B hml hv
  obtain ⟨rfl, hG, hM⟩ := hv
  have C : Cx p s m _ meth c cX6_openInn 2 RX6 (some .boolean) g := Cx.of B hml hG
  have hx := C.1
  have hb := C.2.1
  have hown := C.2.2.2.1
  have hr := C.2.2.2.2.2.1
  have hlocks := C.2.2.2.2.2.2.1
  have hS : va_S (Ag g) s.heap s.heap [] := va_S.rf
  refine lv_start ([.ref (adr 0), .int x] : List Value) (L := [(0, .ref (adr 0)), (1, .int x)]) (Nat.le_of_ble_eq_true rfl) rfl (fun ls hl => ?_)
  refine lv_aload_n hx hb dX6_openInn_0 rfl (lv_at hl 0 rfl) ?_
  refine lv_iconst (v := 0) hx hb dX6_openInn_1 (by decide) ?_
  refine m_put C hM hS 0 rfl q2338 rfl rfl rfl dX6_openInn_2 (fun i1 H locs ei1 hM hS => ?_)
  have hw := hw i1 ei1
  refine lv_aload_n hx hb dX6_openInn_5 rfl (lv_at hl 0 rfl) ?_
  refine lv_iload_n hx hb dX6_openInn_6 rfl (lv_at hl 1 rfl) ?_
  refine lv_iconst (v := 1) hx hb dX6_openInn_7 (by decide) ?_
  refine va_calli (va_runV (As := [.int x, .int 1]) (rest := []) C.fix (met_X6_setsOpen l g F adr i1 a q x 1 hw.1) (cw_X6_247 C.ts ⟨Nat.le_of_ble_eq_true rfl, Nat.le_of_ble_eq_true rfl⟩) (preV_of C (P := (MS g F adr i1 a q)) (MS.recv C hM) hS hM _) rfl rfl hl.1 rfl (lv_room (Nat.le_of_ble_eq_true rfl)) dX6_openInn_8 ⟨Nat.le_of_ble_eq_true rfl, Nat.le_of_ble_eq_true rfl⟩) hS (fun _ _ h => h) (fun _ h => h) (fun r2 z_u t H locs ht _ hw1 hB _ _ hS => ?_)
  obtain ⟨i3, a4, q5⟩ := z_u
  have hM : MS g F adr i3 a4 q5 H := by rw [← ht]; exact hB
  have hw := hw.2 r2 i3 a4 q5 hw1
  exact W.zret (v := r2) hx hb hr hw.1 (fun t ht _ => ⟨⟨r2, (i3, a4, q5), rfl, hw.2, hM.at ht⟩, hS.F ht⟩) hS.2.2 dX6_openInn_11
set_option maxHeartbeats 4000000 in
theorem met_X6_openInn (l : Launch) (g : gG) (F : nM) (adr : Nat → Nat) (i : Nat → Int32) (a : Nat → Nat → Int32) (q : Nat → Nat) (x : Int32) (hpre : pre_X6_openInn i a q x) : Met l yX6_openInn (ws_ yX6_openInn cX6_openInn 2 (some .boolean)) rm_X6_openInn (va_Pc [.ref (adr 0), .int x] (Pg g (MS g F adr i a q))) (va_Qi (fun r u => post_X6_openInn i a q x r u) (fun u t => MS g F adr u.1 u.2.1 u.2.2 t.heap) (Ag g)) 0 0 (Ag g) :=
  wk_X6_openInn l g F adr i a q x _ (pr_X6_openInn i a q x hpre)

abbrev rm_X6_closeInn : Room := ({ frames := 4, cells := 0, slots := 0, locals := 256 } : Room)
set_option maxHeartbeats 4000000 in
theorem wk_X6_closeInn (l : Launch) (g : gG) (F : nM) (adr : Nat → Nat) (i : Nat → Int32) (a : Nat → Nat → Int32) (q : Nat → Nat) (x : Int32) (post : Int32 → MSt → Prop) (hw : wp_X6_closeInn post i a q x) : Met l yX6_closeInn (ws_ yX6_closeInn cX6_closeInn 2 (some .boolean)) rm_X6_closeInn (va_Pc [.ref (adr 0), .int x] (Pg g (MS g F adr i a q))) (va_Qi post (fun u t => MS g F adr u.1 u.2.1 u.2.2 t.heap) (Ag g)) 0 0 (Ag g) := by
  refine Met.ofW (cc := cX6_closeInn) (maxL := 2) (ret := (some .boolean)) (by decide) rfl ?_
  intro p e s m args below meth c s₁ B hml hv
  obtain ⟨rfl, hG, hM⟩ := hv
  have C : Cx p s m _ meth c cX6_closeInn 2 RX6 (some .boolean) g := Cx.of B hml hG
  have hx := C.1
  have hb := C.2.1
  have hown := C.2.2.2.1
  have hr := C.2.2.2.2.2.1
  have hlocks := C.2.2.2.2.2.2.1
  have hS : va_S (Ag g) s.heap s.heap [] := va_S.rf
  refine lv_start ([.ref (adr 0), .int x] : List Value) (L := [(0, .ref (adr 0)), (1, .int x)]) (Nat.le_of_ble_eq_true rfl) rfl (fun ls hl => ?_)
  refine lv_aload_n hx hb dX6_closeInn_0 rfl (lv_at hl 0 rfl) ?_
  refine lv_iconst (v := 0) hx hb dX6_closeInn_1 (by decide) ?_
  refine m_put C hM hS 0 rfl q2338 rfl rfl rfl dX6_closeInn_2 (fun i1 H locs ei1 hM hS => ?_)
  have hw := hw i1 ei1
  refine lv_aload_n hx hb dX6_closeInn_5 rfl (lv_at hl 0 rfl) ?_
  refine lv_iload_n hx hb dX6_closeInn_6 rfl (lv_at hl 1 rfl) ?_
  refine lv_iconst (v := 0) hx hb dX6_closeInn_7 (by decide) ?_
  refine va_calli (va_runV (As := [.int x, .int 0]) (rest := []) C.fix (met_X6_setsOpen l g F adr i1 a q x 0 hw.1) (cw_X6_247 C.ts ⟨Nat.le_of_ble_eq_true rfl, Nat.le_of_ble_eq_true rfl⟩) (preV_of C (P := (MS g F adr i1 a q)) (MS.recv C hM) hS hM _) rfl rfl hl.1 rfl (lv_room (Nat.le_of_ble_eq_true rfl)) dX6_closeInn_8 ⟨Nat.le_of_ble_eq_true rfl, Nat.le_of_ble_eq_true rfl⟩) hS (fun _ _ h => h) (fun _ h => h) (fun r2 z_u t H locs ht _ hw1 hB _ _ hS => ?_)
  obtain ⟨i3, a4, q5⟩ := z_u
  have hM : MS g F adr i3 a4 q5 H := by rw [← ht]; exact hB
  have hw := hw.2 r2 i3 a4 q5 hw1
  exact W.zret (v := r2) hx hb hr hw.1 (fun t ht _ => ⟨⟨r2, (i3, a4, q5), rfl, hw.2, hM.at ht⟩, hS.F ht⟩) hS.2.2 dX6_closeInn_11
set_option maxHeartbeats 4000000 in
theorem met_X6_closeInn (l : Launch) (g : gG) (F : nM) (adr : Nat → Nat) (i : Nat → Int32) (a : Nat → Nat → Int32) (q : Nat → Nat) (x : Int32) (hpre : pre_X6_closeInn i a q x) : Met l yX6_closeInn (ws_ yX6_closeInn cX6_closeInn 2 (some .boolean)) rm_X6_closeInn (va_Pc [.ref (adr 0), .int x] (Pg g (MS g F adr i a q))) (va_Qi (fun r u => post_X6_closeInn i a q x r u) (fun u t => MS g F adr u.1 u.2.1 u.2.2 t.heap) (Ag g)) 0 0 (Ag g) :=
  wk_X6_closeInn l g F adr i a q x _ (pr_X6_closeInn i a q x hpre)
end
