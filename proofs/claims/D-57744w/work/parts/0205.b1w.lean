set_option maxRecDepth 100000
theorem cw_X6_61 {R : Room} {s : State} {args : Array Value} (hts : ∀ w ∈ lw_all, w.before args s = true) {rm : Room} (hR : rm.frames + 1 ≤ R.frames ∧ 8 + (6 + 11) + rm.locals ≤ R.locals) : CallB R s args RX6 61 yX6_isIn cX6_isIn 6 (some .boolean) (ws_ yX6_isIn cX6_isIn 6 (some .boolean)) rm rm.cells rm.slots 3 ∧ (Cond.static yX6_isIn).before args s = true := va_cwS 3 hts (lw_S q2433 q2434 q98 q2435) rfl rfl rfl (by decide +kernel) hR
theorem cw_X6_67 {R : Room} {s : State} {args : Array Value} (hts : ∀ w ∈ lw_all, w.before args s = true) {rm : Room} (hR : rm.frames + 1 ≤ R.frames ∧ 8 + (5 + 11) + rm.locals ≤ R.locals) : CallB R s args RX6 67 yX6_innBehind cX6_innBehind 5 (some .int) (ws_ yX6_innBehind cX6_innBehind 5 (some .int)) rm rm.cells rm.slots 2 ∧ (Cond.static yX6_innBehind).before args s = true := va_cwS 2 hts (lw_S q2332 q2333 q98 q2334) rfl rfl rfl (by decide +kernel) hR
theorem cw_X6_71 {R : Room} {s : State} {args : Array Value} (hts : ∀ w ∈ lw_all, w.before args s = true) {rm : Room} (hR : rm.frames + 1 ≤ R.frames ∧ 8 + (3 + 11) + rm.locals ≤ R.locals) : CallB R s args RX6 71 yX6_innsOf cX6_innsOf 3 (some .int) (ws_ yX6_innsOf cX6_innsOf 3 (some .int)) rm rm.cells rm.slots 1 ∧ (Cond.static yX6_innsOf).before args s = true := va_cwS 1 hts (lw_S q2335 q2336 q98 q2337) rfl rfl rfl (by decide +kernel) hR
theorem cw_X6_55 {R : Room} {s : State} {args : Array Value} (hts : ∀ w ∈ lw_all, w.before args s = true) {rm : Room} (hR : rm.frames + 1 ≤ R.frames ∧ 8 + (3 + 11) + rm.locals ≤ R.locals) : CallB R s args RX6 55 yX6_copies cX6_copies 3 none (ws_ yX6_copies cX6_copies 3 none) rm rm.cells rm.slots 2 ∧ (Cond.static yX6_copies).before args s = true := va_cwS 2 hts (lw_S q2522 q2523 q98 q2524) rfl rfl rfl (by decide +kernel) hR
theorem cw_X6_48 {R : Room} {s : State} {args : Array Value} (hts : ∀ w ∈ lw_all, w.before args s = true) {rm : Room} (hR : rm.frames + 1 ≤ R.frames ∧ 8 + (2 + 11) + rm.locals ≤ R.locals) : CallB R s args RX6 48 yX6_rebuilds cX6_rebuilds 2 none (ws_ yX6_rebuilds cX6_rebuilds 2 none) rm rm.cells rm.slots 1 ∧ (Cond.static yX6_rebuilds).before args s = true := va_cwS 1 hts (lw_S q2329 q2330 q98 q2331) rfl rfl rfl (by decide +kernel) hR
theorem cw_X6_75 {R : Room} {s : State} {args : Array Value} (hts : ∀ w ∈ lw_all, w.before args s = true) {rm : Room} (hR : rm.frames + 1 ≤ R.frames ∧ 8 + (1 + 11) + rm.locals ≤ R.locals) : CallW R s args RX6 RX6 75 yX6_laysDue cX6_laysDue 1 none (ws_ yX6_laysDue cX6_laysDue 1 none) rm rm.cells rm.slots 0 := cwV 0 hts (lw_V q2614 q2616 qs54 q98 q2617) rfl rfl rfl (by decide +kernel) hR
theorem cw_X6_78 {R : Room} {s : State} {args : Array Value} (hts : ∀ w ∈ lw_all, w.before args s = true) {rm : Room} (hR : rm.frames + 1 ≤ R.frames ∧ 8 + (2 + 11) + rm.locals ≤ R.locals) : CallB R s args RX6 78 yX6_isStored cX6_isStored 2 (some .boolean) (ws_ yX6_isStored cX6_isStored 2 (some .boolean)) rm rm.cells rm.slots 2 ∧ (Cond.static yX6_isStored).before args s = true := va_cwS 2 hts (lw_S q2618 q2619 q98 q2620) rfl rfl rfl (by decide +kernel) hR
section
variable {p : Program} {l : Launch} {e : Env} {s : State} {m : MethodId} {args : Array Value} {below : List Frame} {meth : Method} {c : Code} {g : gG} {F : nM} {adr : Nat → Nat}
abbrev rm_X6_isIn : Room := ({ frames := 1, cells := 0, slots := 0, locals := 64 } : Room)
set_option maxHeartbeats 4000000 in
theorem wk_X6_isIn (l : Launch) (g : gG) (v : Int64) (lo : Int64) (hi : Int64) (post : Int32 → Prop) (hw : wp_X6_isIn post v lo hi) : Met l yX6_isIn (ws_ yX6_isIn cX6_isIn 6 (some .boolean)) rm_X6_isIn (va_Pc [.long v, .long lo, .long hi] (Pg g (fun _ => True))) (vp_Si post) 0 0 (fun _ => False) := by
  refine Met.ofW (cc := cX6_isIn) (maxL := 6) (ret := (some .boolean)) (by decide) rfl ?_
  intro p e s m args below meth c s₁ B hml hv
  obtain ⟨rfl, hG, -⟩ := hv
  have C : Cx p s m _ meth c cX6_isIn 6 RX6 (some .boolean) g := Cx.of B hml hG
  have hx := C.1
  have hb := C.2.1
  have hown := C.2.2.2.1
  have hr := C.2.2.2.2.2.1
  have hlocks := C.2.2.2.2.2.2.1
  refine lv_start ([.long v, .long lo, .long hi] : List Value) (L := [(0, .long v), (2, .long lo), (4, .long hi)]) (Nat.le_of_ble_eq_true rfl) rfl (fun ls hl => ?_)
  refine lv_lload_n hx hb dX6_isIn_0 rfl (lv_at hl 0 rfl) ?_
  refine lv_lload_n hx hb dX6_isIn_1 rfl (lv_at hl 1 rfl) ?_
  refine W.lcmp hx hb dX6_isIn_2 ?_
  refine lv_if_lt (tgt := 17) hx hb dX6_isIn_3 (by decide) (fun c1 => ?_) (fun c1 => ?_)
  · have hw := hw.1 c1
    refine lv_iconst (v := 0) hx hb dX6_isIn_17 (by decide) ?_
    exact W.zret (v := 0) hx hb hr hw.1 (fun t ht _ => ⟨0, rfl, hw.2, ht⟩) (fun _ h => by cases h) dX6_isIn_18
  · have hw := hw.2 c1
    refine lv_lload_n hx hb dX6_isIn_6 rfl (lv_at hl 0 rfl) ?_
    refine lv_lload hx hb dX6_isIn_7 (lv_at hl 2 rfl) ?_
    refine W.lcmp hx hb dX6_isIn_9 ?_
    refine lv_if_gt (tgt := 17) hx hb dX6_isIn_10 (by decide) (fun c2 => ?_) (fun c2 => ?_)
    · have hw := hw.1 c2
      refine lv_iconst (v := 0) hx hb dX6_isIn_17 (by decide) ?_
      exact W.zret (v := 0) hx hb hr hw.1 (fun t ht _ => ⟨0, rfl, hw.2, ht⟩) (fun _ h => by cases h) dX6_isIn_18
    · have hw := hw.2 c2
      refine lv_iconst (v := 1) hx hb dX6_isIn_13 (by decide) ?_
      refine lv_goto (tgt := 18) hx hb dX6_isIn_14 (by decide) ?_
      exact W.zret (v := 1) hx hb hr hw.1 (fun t ht _ => ⟨1, rfl, hw.2, ht⟩) (fun _ h => by cases h) dX6_isIn_18
set_option maxHeartbeats 4000000 in
theorem met_X6_isIn (l : Launch) (g : gG) (v : Int64) (lo : Int64) (hi : Int64) : Met l yX6_isIn (ws_ yX6_isIn cX6_isIn 6 (some .boolean)) rm_X6_isIn (va_Pc [.long v, .long lo, .long hi] (Pg g (fun _ => True))) (vp_Si (fun r => post_X6_isIn v lo hi r)) 0 0 (fun _ => False) :=
  wk_X6_isIn l g v lo hi _ (pr_X6_isIn v lo hi)

abbrev rm_X6_thrown : Room := ({ frames := 1, cells := 0, slots := 0, locals := 64 } : Room)
set_option maxHeartbeats 4000000 in
theorem wk_X6_thrown (l : Launch) (g : gG) (F : nM) (adr : Nat → Nat) (i : Nat → Int32) (a : Nat → Nat → Int32) (q : Nat → Nat)  (post : Int32 → Prop) (hw : wp_X6_thrown post i a q ) : Met l yX6_thrown (ws_ yX6_thrown cX6_thrown 1 (some .int)) rm_X6_thrown (va_Pc [.ref (adr 0)] (Pg g (MS g F adr i a q))) (vp_Si post) 0 0 (fun _ => False) := by
  refine Met.ofW (cc := cX6_thrown) (maxL := 1) (ret := (some .int)) (by decide) rfl ?_
  intro p e s m args below meth c s₁ B hml hv
  obtain ⟨rfl, hG, hM⟩ := hv
  have C : Cx p s m _ meth c cX6_thrown 1 RX6 (some .int) g := Cx.of B hml hG
  have hx := C.1
  have hb := C.2.1
  have hown := C.2.2.2.1
  have hr := C.2.2.2.2.2.1
  have hlocks := C.2.2.2.2.2.2.1
  refine lv_start ([.ref (adr 0)] : List Value) (L := [(0, .ref (adr 0))]) (Nat.le_of_ble_eq_true rfl) rfl (fun ls hl => ?_)
  refine lv_aload_n hx hb dX6_thrown_0 rfl (lv_at hl 0 rfl) ?_
  refine m_get C hM 0 (by decide) q2338 rfl rfl dX6_thrown_1 ?_
  exact W.iret (v := (i 0)) hx hb hr (fun t ht _ => ⟨(i 0), rfl, hw, ht⟩) (fun _ h => by cases h) dX6_thrown_4
set_option maxHeartbeats 4000000 in
theorem met_X6_thrown (l : Launch) (g : gG) (F : nM) (adr : Nat → Nat) (i : Nat → Int32) (a : Nat → Nat → Int32) (q : Nat → Nat)  : Met l yX6_thrown (ws_ yX6_thrown cX6_thrown 1 (some .int)) rm_X6_thrown (va_Pc [.ref (adr 0)] (Pg g (MS g F adr i a q))) (vp_Si (fun r => post_X6_thrown i a q  r)) 0 0 (fun _ => False) :=
  wk_X6_thrown l g F adr i a q  _ (pr_X6_thrown i a q )

abbrev rm_X6_fails : Room := ({ frames := 1, cells := 0, slots := 0, locals := 64 } : Room)
set_option maxHeartbeats 4000000 in
theorem wk_X6_fails (l : Launch) (g : gG) (F : nM) (adr : Nat → Nat) (i : Nat → Int32) (a : Nat → Nat → Int32) (q : Nat → Nat) (w : Int32) (post : Int32 → MSt → Prop) (hw : wp_X6_fails post i a q w) : Met l yX6_fails (ws_ yX6_fails cX6_fails 2 (some .int)) rm_X6_fails (va_Pc [.ref (adr 0), .int w] (Pg g (MS g F adr i a q))) (va_Qi post (fun u t => MS g F adr u.1 u.2.1 u.2.2 t.heap) (Ag g)) 0 0 (Ag g) := by
  refine Met.ofW (cc := cX6_fails) (maxL := 2) (ret := (some .int)) (by decide) rfl ?_
  intro p e s m args below meth c s₁ B hml hv
  obtain ⟨rfl, hG, hM⟩ := hv
  have C : Cx p s m _ meth c cX6_fails 2 RX6 (some .int) g := Cx.of B hml hG
  have hx := C.1
  have hb := C.2.1
  have hown := C.2.2.2.1
  have hr := C.2.2.2.2.2.1
  have hlocks := C.2.2.2.2.2.2.1
  have hS : va_S (Ag g) s.heap s.heap [] := va_S.rf
  refine lv_start ([.ref (adr 0), .int w] : List Value) (L := [(0, .ref (adr 0)), (1, .int w)]) (Nat.le_of_ble_eq_true rfl) rfl (fun ls hl => ?_)
  refine lv_aload_n hx hb dX6_fails_0 rfl (lv_at hl 0 rfl) ?_
  refine lv_iload_n hx hb dX6_fails_1 rfl (lv_at hl 1 rfl) ?_
  refine m_put C hM hS 0 rfl q2338 rfl rfl rfl dX6_fails_2 (fun i1 H locs ei1 hM hS => ?_)
  have hw := hw i1 ei1
  refine lv_iconst (v := 0) hx hb dX6_fails_5 (by decide) ?_
  exact W.iret (v := 0) hx hb hr (fun t ht _ => ⟨⟨0, (i1, a, q), rfl, hw, hM.at ht⟩, hS.F ht⟩) hS.2.2 dX6_fails_6
set_option maxHeartbeats 4000000 in
theorem met_X6_fails (l : Launch) (g : gG) (F : nM) (adr : Nat → Nat) (i : Nat → Int32) (a : Nat → Nat → Int32) (q : Nat → Nat) (w : Int32) : Met l yX6_fails (ws_ yX6_fails cX6_fails 2 (some .int)) rm_X6_fails (va_Pc [.ref (adr 0), .int w] (Pg g (MS g F adr i a q))) (va_Qi (fun r u => post_X6_fails i a q w r u) (fun u t => MS g F adr u.1 u.2.1 u.2.2 t.heap) (Ag g)) 0 0 (Ag g) :=
  wk_X6_fails l g F adr i a q w _ (pr_X6_fails i a q w)

abbrev rm_X6_hasInnAt : Room := ({ frames := 2, cells := 0, slots := 0, locals := 128 } : Room)
set_option maxHeartbeats 4000000 in
theorem wk_X6_hasInnAt (l : Launch) (g : gG) (F : nM) (adr : Nat → Nat) (i : Nat → Int32) (a : Nat → Nat → Int32) (q : Nat → Nat) (j : Nat) (hj_j : m78 j = true) (x : Int32) (post : Int32 → Prop) (hw : wp_X6_hasInnAt post i a q j x) : Met l yX6_hasInnAt (ws_ yX6_hasInnAt cX6_hasInnAt 2 (some .boolean)) rm_X6_hasInnAt (va_Pc [.ref (adr j), .int x] (Pg g (MS g F adr i a q))) (vp_Si post) 0 0 (fun _ => False) := by
  refine Met.ofW (cc := cX6_hasInnAt) (maxL := 2) (ret := (some .boolean)) (by decide) rfl ?_
  intro p e s m args below meth c s₁ B hml hv
  obtain ⟨rfl, hG, hM⟩ := hv
  have C : Cx p s m _ meth c cX6_hasInnAt 2 RX6 (some .boolean) g := Cx.of B hml hG
  have hx := C.1
  have hb := C.2.1
  have hown := C.2.2.2.1
  have hr := C.2.2.2.2.2.1
  have hlocks := C.2.2.2.2.2.2.1
  refine lv_start ([.ref (adr j), .int x] : List Value) (L := [(0, .ref (adr j)), (1, .int x)]) (Nat.le_of_ble_eq_true rfl) rfl (fun ls hl => ?_)
  refine lv_iload_n hx hb dX6_hasInnAt_0 rfl (lv_at hl 1 rfl) ?_
  refine lv_i2l hx hb dX6_hasInnAt_1 rfl ?_
  refine lv_lconst (v := 0) hx hb dX6_hasInnAt_2 (by decide) ?_
  refine lv_ldc2 (v := 11) hx hb hown (C.ts _ q2541) dX6_hasInnAt_3 ?_
  refine vp_callSi (va_runS (As := [.long x.toInt64, .long 0, .long 11]) (rest := []) C.fix (met_X6_isIn l g  x.toInt64 0 11 ) (cw_X6_61 C.ts ⟨Nat.le_of_ble_eq_true rfl, Nat.le_of_ble_eq_true rfl⟩) (preS_of C (P := (fun _ => True)) va_S.rf trivial _) rfl rfl hl.1 rfl (lv_room (Nat.le_of_ble_eq_true rfl)) dX6_hasInnAt_6 ⟨Nat.le_of_ble_eq_true rfl, Nat.le_of_ble_eq_true rfl⟩).run (fun r1 er1 => ?_)
  have hw := hw r1 er1
  refine lv_if_eq (tgt := 25) hx hb dX6_hasInnAt_9 (by decide) (fun c2 => ?_) (fun c2 => ?_)
  · have hw := hw.1 c2
    refine lv_iconst (v := 0) hx hb dX6_hasInnAt_25 (by decide) ?_
    exact W.zret (v := 0) hx hb hr hw.1 (fun t ht _ => ⟨0, rfl, hw.2, ht⟩) (fun _ h => by cases h) dX6_hasInnAt_26
  · have hw := hw.2 c2
    refine lv_aload_n hx hb dX6_hasInnAt_12 rfl (lv_at hl 0 rfl) ?_
    refine lv_iconst (v := 3) hx hb dX6_hasInnAt_13 (by decide) ?_
    refine lv_iload_n hx hb dX6_hasInnAt_14 rfl (lv_at hl 1 rfl) ?_
    refine lv_iadd hx hb dX6_hasInnAt_15 ?_
    refine m_ald C hM (j := j) (m78_int hj_j) (by rw [m78_len hj_j]; exact hw.1) dX6_hasInnAt_16 ?_
    have hw := hw.2
    refine lv_iconst (v := 1) hx hb dX6_hasInnAt_17 (by decide) ?_
    refine lv_icmp_ne (tgt := 25) hx hb dX6_hasInnAt_18 (by decide) (fun c3 => ?_) (fun c3 => ?_)
    · have hw := hw.1 c3
      refine lv_iconst (v := 0) hx hb dX6_hasInnAt_25 (by decide) ?_
      exact W.zret (v := 0) hx hb hr hw.1 (fun t ht _ => ⟨0, rfl, hw.2, ht⟩) (fun _ h => by cases h) dX6_hasInnAt_26
    · have hw := hw.2 c3
      refine lv_iconst (v := 1) hx hb dX6_hasInnAt_21 (by decide) ?_
      refine lv_goto (tgt := 26) hx hb dX6_hasInnAt_22 (by decide) ?_
      exact W.zret (v := 1) hx hb hr hw.1 (fun t ht _ => ⟨1, rfl, hw.2, ht⟩) (fun _ h => by cases h) dX6_hasInnAt_26
set_option maxHeartbeats 4000000 in
theorem met_X6_hasInnAt (l : Launch) (g : gG) (F : nM) (adr : Nat → Nat) (i : Nat → Int32) (a : Nat → Nat → Int32) (q : Nat → Nat) (j : Nat) (hj_j : m78 j = true) (x : Int32) : Met l yX6_hasInnAt (ws_ yX6_hasInnAt cX6_hasInnAt 2 (some .boolean)) rm_X6_hasInnAt (va_Pc [.ref (adr j), .int x] (Pg g (MS g F adr i a q))) (vp_Si (fun r => post_X6_hasInnAt i a q j x r)) 0 0 (fun _ => False) :=
  wk_X6_hasInnAt l g F adr i a q j hj_j x _ (pr_X6_hasInnAt i a q j hj_j x)

abbrev rm_X6_isPointer : Room := ({ frames := 2, cells := 0, slots := 0, locals := 128 } : Room)
set_option maxHeartbeats 4000000 in
theorem wk_X6_isPointer (l : Launch) (g : gG) (x : Int32) (post : Int32 → Prop) (hw : wp_X6_isPointer post x) : Met l yX6_isPointer (ws_ yX6_isPointer cX6_isPointer 1 (some .boolean)) rm_X6_isPointer (va_Pc [.int x] (Pg g (fun _ => True))) (vp_Si post) 0 0 (fun _ => False) := by
  refine Met.ofW (cc := cX6_isPointer) (maxL := 1) (ret := (some .boolean)) (by decide) rfl ?_
  intro p e s m args below meth c s₁ B hml hv
  obtain ⟨rfl, hG, -⟩ := hv
  have C : Cx p s m _ meth c cX6_isPointer 1 RX6 (some .boolean) g := Cx.of B hml hG
  have hx := C.1
  have hb := C.2.1
  have hown := C.2.2.2.1
  have hr := C.2.2.2.2.2.1
  have hlocks := C.2.2.2.2.2.2.1
  refine lv_start ([.int x] : List Value) (L := [(0, .int x)]) (Nat.le_of_ble_eq_true rfl) rfl (fun ls hl => ?_)
  refine lv_iload_n hx hb dX6_isPointer_0 rfl (lv_at hl 0 rfl) ?_
  refine lv_i2l hx hb dX6_isPointer_1 rfl ?_
  refine lv_ldc2 (v := (-1)) hx hb hown (C.ts _ q2584) dX6_isPointer_2 ?_
  refine lv_ldc2 (v := 11) hx hb hown (C.ts _ q2541) dX6_isPointer_5 ?_
  refine vp_callSi (va_runS (As := [.long x.toInt64, .long (-1), .long 11]) (rest := []) C.fix (met_X6_isIn l g  x.toInt64 (-1) 11 ) (cw_X6_61 C.ts ⟨Nat.le_of_ble_eq_true rfl, Nat.le_of_ble_eq_true rfl⟩) (preS_of C (P := (fun _ => True)) va_S.rf trivial _) rfl rfl hl.1 rfl (lv_room (Nat.le_of_ble_eq_true rfl)) dX6_isPointer_8 ⟨Nat.le_of_ble_eq_true rfl, Nat.le_of_ble_eq_true rfl⟩).run (fun r1 er1 => ?_)
  have hw := hw r1 er1
  exact W.zret (v := r1) hx hb hr hw.1 (fun t ht _ => ⟨r1, rfl, hw.2, ht⟩) (fun _ h => by cases h) dX6_isPointer_11
set_option maxHeartbeats 4000000 in
theorem met_X6_isPointer (l : Launch) (g : gG) (x : Int32) : Met l yX6_isPointer (ws_ yX6_isPointer cX6_isPointer 1 (some .boolean)) rm_X6_isPointer (va_Pc [.int x] (Pg g (fun _ => True))) (vp_Si (fun r => post_X6_isPointer x r)) 0 0 (fun _ => False) :=
  wk_X6_isPointer l g x _ (pr_X6_isPointer x)

abbrev rm_X6_innsOf : Room := ({ frames := 1, cells := 0, slots := 0, locals := 64 } : Room)
set_option maxHeartbeats 4000000 in
theorem wkb_X6_innsOf_4 (C : Cx p s m args meth c cX6_innsOf 3 RX6 (some .int) g) (post : Int32 → Prop) (i : Nat → Int32) (a : Nat → Nat → Int32) (q : Nat → Nat) (hM : MS g F adr i a q s.heap)  (j : Nat) (hj_j : m78 j = true) : ∀ (n : Nat) (x1 : Int32) (x2 : Int32), wpb_X6_innsOf_4 post  i a q j n x1 x2 → ∀ ls : Array Slot, lv_has ls 3 [(0, .ref (adr j)), (1, .int x1), (2, .int x2)] → W p l e rm_X6_innsOf s m args below meth c s.heap [] 0 0 (MQ below (vp_Si post) args s 0 0 (fun _ => False)) (F0 m 4 ls []) := by
  have hx := C.1
  have hb := C.2.1
  have hown := C.2.2.2.1
  have hr := C.2.2.2.2.2.1
  have hlocks := C.2.2.2.2.2.2.1
  intro n
  induction n with
  | zero =>
    intro x1 x2 hw
    exact hw.elim
  | succ n ih =>
    intro x1 x2 hw  ls hl
    refine lv_iload_n hx hb dX6_innsOf_4 rfl (lv_at hl 2 rfl) ?_
    refine lv_bipush (v := 12) hx hb dX6_innsOf_5 (by decide) ?_
    refine lv_icmp_ge (tgt := 24) hx hb dX6_innsOf_7 (by decide) (fun c1 => ?_) (fun c1 => ?_)
    · have hw := hw.1 c1
      refine lv_iload_n hx hb dX6_innsOf_24 rfl (lv_at hl 1 rfl) ?_
      exact W.iret (v := x1) hx hb hr (fun t ht _ => ⟨x1, rfl, hw, ht⟩) (fun _ h => by cases h) dX6_innsOf_25
    · have hw := hw.2 c1
      refine lv_iload_n hx hb dX6_innsOf_10 rfl (lv_at hl 1 rfl) ?_
      refine lv_aload_n hx hb dX6_innsOf_11 rfl (lv_at hl 0 rfl) ?_
      refine lv_iconst (v := 3) hx hb dX6_innsOf_12 (by decide) ?_
      refine lv_iload_n hx hb dX6_innsOf_13 rfl (lv_at hl 2 rfl) ?_
      refine lv_iadd hx hb dX6_innsOf_14 ?_
      refine m_ald C hM (j := j) (m78_int hj_j) (by rw [m78_len hj_j]; exact hw.1) dX6_innsOf_15 ?_
      have hw := hw.2
      refine lv_iadd hx hb dX6_innsOf_16 ?_
      refine lv_topi (fun z2 ez2 => ?_)
      have hw := hw z2 ez2
      refine lv_istore_n (lv' := [(1, .int z2), (0, .ref (adr j)), (2, .int x2)]) hx hb dX6_innsOf_17 rfl hl (by decide) rfl (fun ls hl => ?_)
      obtain ⟨z3, ez3⟩ : ∃ y : Int32, y = x2 + 1 := ⟨_, rfl⟩
      have hw := hw z3 ez3
      refine lv_iinc (v := z3) (lv' := [(2, .int z3), (1, .int z2), (0, .ref (adr j))]) hx hb dX6_innsOf_18 hl (k := 2) rfl (by rw [ez3]; rfl) (by decide) rfl (fun ls hl => ?_)
      refine lv_goto (tgt := 4) hx hb dX6_innsOf_21 (by decide) ?_
      exact ih z2 z3 hw  _ (lv_sub hl [2, 1, 0] rfl)
set_option maxHeartbeats 4000000 in
theorem wk_X6_innsOf (l : Launch) (g : gG) (F : nM) (adr : Nat → Nat) (i : Nat → Int32) (a : Nat → Nat → Int32) (q : Nat → Nat) (j : Nat) (hj_j : m78 j = true) (post : Int32 → Prop) (hw : wp_X6_innsOf post i a q j) : Met l yX6_innsOf (ws_ yX6_innsOf cX6_innsOf 3 (some .int)) rm_X6_innsOf (va_Pc [.ref (adr j)] (Pg g (MS g F adr i a q))) (vp_Si post) 0 0 (fun _ => False) := by
  refine Met.ofW (cc := cX6_innsOf) (maxL := 3) (ret := (some .int)) (by decide) rfl ?_
  intro p e s m args below meth c s₁ B hml hv
  obtain ⟨rfl, hG, hM⟩ := hv
  have C : Cx p s m _ meth c cX6_innsOf 3 RX6 (some .int) g := Cx.of B hml hG
  have hx := C.1
  have hb := C.2.1
  have hown := C.2.2.2.1
  have hr := C.2.2.2.2.2.1
  have hlocks := C.2.2.2.2.2.2.1
  refine lv_start ([.ref (adr j)] : List Value) (L := [(0, .ref (adr j))]) (Nat.le_of_ble_eq_true rfl) rfl (fun ls hl => ?_)
  refine lv_iconst (v := 0) hx hb dX6_innsOf_0 (by decide) ?_
  refine lv_istore_n (lv' := [(1, .int 0), (0, .ref (adr j))]) hx hb dX6_innsOf_1 rfl hl (by decide) rfl (fun ls hl => ?_)
  refine lv_iconst (v := 0) hx hb dX6_innsOf_2 (by decide) ?_
  refine lv_istore_n (lv' := [(2, .int 0), (1, .int 0), (0, .ref (adr j))]) hx hb dX6_innsOf_3 rfl hl (by decide) rfl (fun ls hl => ?_)
  obtain ⟨n, hw⟩ := hw
  exact wkb_X6_innsOf_4 C post i a q hM j hj_j  n 0 0 hw  _ (lv_sub hl [2, 1, 0] rfl)
set_option maxHeartbeats 4000000 in
theorem met_X6_innsOf (l : Launch) (g : gG) (F : nM) (adr : Nat → Nat) (i : Nat → Int32) (a : Nat → Nat → Int32) (q : Nat → Nat) (j : Nat) (hj_j : m78 j = true) : Met l yX6_innsOf (ws_ yX6_innsOf cX6_innsOf 3 (some .int)) rm_X6_innsOf (va_Pc [.ref (adr j)] (Pg g (MS g F adr i a q))) (vp_Si (fun r => post_X6_innsOf i a q j r)) 0 0 (fun _ => False) :=
  wk_X6_innsOf l g F adr i a q j hj_j _ (pr_X6_innsOf i a q j hj_j)

abbrev rm_X6_atMile : Room := ({ frames := 1, cells := 0, slots := 0, locals := 64 } : Room)
set_option maxHeartbeats 4000000 in
theorem wkb_X6_atMile_29 (C : Cx p s m args meth c cX6_atMile 3 RX6 (some .int) g) (post : Int32 → Prop) (i : Nat → Int32) (a : Nat → Nat → Int32) (q : Nat → Nat) (hM : MS g F adr i a q s.heap)  (j : Nat) (hj_j : m78 j = true) (x : Int32)(K2 : Int32 → Prop) (hK2 : ∀ (y2 : Int32), K2 y2 → ∀ ls : Array Slot, lv_has ls 3 [(0, .ref (adr j)), (1, .int x), (2, .int y2)] → W p l e rm_X6_atMile s m args below meth c s.heap [] 0 0 (MQ below (vp_Si post) args s 0 0 (fun _ => False)) (F0 m 2 ls [])) (x2 : Int32) (hw : wpb_X6_atMile_29 post K2 i a q j x x2) {ls : Array Slot} (hl : lv_has ls 3 [(0, .ref (adr j)), (1, .int x), (2, .int x2)]) : W p l e rm_X6_atMile s m args below meth c s.heap [] 0 0 (MQ below (vp_Si post) args s 0 0 (fun _ => False)) (F0 m 29 ls []) := by
  have hx := C.1
  have hb := C.2.1
  have hown := C.2.2.2.1
  have hr := C.2.2.2.2.2.1
  have hlocks := C.2.2.2.2.2.2.1
  obtain ⟨z4, ez4⟩ : ∃ y : Int32, y = x2 + 1 := ⟨_, rfl⟩
  have hw := hw z4 ez4
  refine lv_iinc (v := z4) (lv' := [(2, .int z4), (0, .ref (adr j)), (1, .int x)]) hx hb dX6_atMile_29 hl (k := 2) rfl (by rw [ez4]; rfl) (by decide) rfl (fun ls hl => ?_)
  refine lv_goto (tgt := 2) hx hb dX6_atMile_32 (by decide) ?_
  exact hK2 z4 hw  _ (lv_sub hl [1, 2, 0] rfl)
set_option maxHeartbeats 4000000 in
theorem wkb_X6_atMile_2 (C : Cx p s m args meth c cX6_atMile 3 RX6 (some .int) g) (post : Int32 → Prop) (i : Nat → Int32) (a : Nat → Nat → Int32) (q : Nat → Nat) (hM : MS g F adr i a q s.heap)  (j : Nat) (hj_j : m78 j = true) (x : Int32) : ∀ (n : Nat) (x2 : Int32), wpb_X6_atMile_2 post  i a q j x n x2 → ∀ ls : Array Slot, lv_has ls 3 [(0, .ref (adr j)), (1, .int x), (2, .int x2)] → W p l e rm_X6_atMile s m args below meth c s.heap [] 0 0 (MQ below (vp_Si post) args s 0 0 (fun _ => False)) (F0 m 2 ls []) := by
  have hx := C.1
  have hb := C.2.1
  have hown := C.2.2.2.1
  have hr := C.2.2.2.2.2.1
  have hlocks := C.2.2.2.2.2.2.1
  intro n
  induction n with
  | zero =>
    intro x2 hw
    exact hw.elim
  | succ n ih =>
    intro x2 hw  ls hl
    refine lv_iload_n hx hb dX6_atMile_2 rfl (lv_at hl 2 rfl) ?_
    refine lv_bipush (v := 12) hx hb dX6_atMile_3 (by decide) ?_
    refine lv_icmp_ge (tgt := 35) hx hb dX6_atMile_5 (by decide) (fun c1 => ?_) (fun c1 => ?_)
    · have hw := hw.1 c1
      refine lv_iconst (v := (-1)) hx hb dX6_atMile_35 (by decide) ?_
      exact W.iret (v := (-1)) hx hb hr (fun t ht _ => ⟨(-1), rfl, hw, ht⟩) (fun _ h => by cases h) dX6_atMile_36
    · have hw := hw.2 c1
      refine lv_aload_n hx hb dX6_atMile_8 rfl (lv_at hl 0 rfl) ?_
      refine lv_iconst (v := 3) hx hb dX6_atMile_9 (by decide) ?_
      refine lv_iload_n hx hb dX6_atMile_10 rfl (lv_at hl 2 rfl) ?_
      refine lv_iadd hx hb dX6_atMile_11 ?_
      refine m_ald C hM (j := j) (m78_int hj_j) (by rw [m78_len hj_j]; exact hw.1) dX6_atMile_12 ?_
      have hw := hw.2
      refine lv_iconst (v := 1) hx hb dX6_atMile_13 (by decide) ?_
      refine lv_icmp_ne (tgt := 29) hx hb dX6_atMile_14 (by decide) (fun c2 => ?_) (fun c2 => ?_)
      · have hw := hw.1 c2
        exact wkb_X6_atMile_29 C post i a q hM j hj_j x (wpb_X6_atMile_2 post  i a q j x n) ih x2 hw  (lv_sub hl [0, 1, 2] rfl)
      · have hw := hw.2 c2
        refine lv_aload_n hx hb dX6_atMile_17 rfl (lv_at hl 0 rfl) ?_
        refine lv_bipush (v := 15) hx hb dX6_atMile_18 (by decide) ?_
        refine lv_iload_n hx hb dX6_atMile_20 rfl (lv_at hl 2 rfl) ?_
        refine lv_iadd hx hb dX6_atMile_21 ?_
        refine m_ald C hM (j := j) (m78_int hj_j) (by rw [m78_len hj_j]; exact hw.1) dX6_atMile_22 ?_
        have hw := hw.2
        refine lv_iload_n hx hb dX6_atMile_23 rfl (lv_at hl 1 rfl) ?_
        refine lv_icmp_ne (tgt := 29) hx hb dX6_atMile_24 (by decide) (fun c3 => ?_) (fun c3 => ?_)
        · have hw := hw.1 c3
          exact wkb_X6_atMile_29 C post i a q hM j hj_j x (wpb_X6_atMile_2 post  i a q j x n) ih x2 hw  (lv_sub hl [0, 1, 2] rfl)
        · have hw := hw.2 c3
          refine lv_iload_n hx hb dX6_atMile_27 rfl (lv_at hl 2 rfl) ?_
          exact W.iret (v := x2) hx hb hr (fun t ht _ => ⟨x2, rfl, hw, ht⟩) (fun _ h => by cases h) dX6_atMile_28
set_option maxHeartbeats 4000000 in
theorem wk_X6_atMile (l : Launch) (g : gG) (F : nM) (adr : Nat → Nat) (i : Nat → Int32) (a : Nat → Nat → Int32) (q : Nat → Nat) (j : Nat) (hj_j : m78 j = true) (x : Int32) (post : Int32 → Prop) (hw : wp_X6_atMile post i a q j x) : Met l yX6_atMile (ws_ yX6_atMile cX6_atMile 3 (some .int)) rm_X6_atMile (va_Pc [.ref (adr j), .int x] (Pg g (MS g F adr i a q))) (vp_Si post) 0 0 (fun _ => False) := by
  refine Met.ofW (cc := cX6_atMile) (maxL := 3) (ret := (some .int)) (by decide) rfl ?_
  intro p e s m args below meth c s₁ B hml hv
  obtain ⟨rfl, hG, hM⟩ := hv
  have C : Cx p s m _ meth c cX6_atMile 3 RX6 (some .int) g := Cx.of B hml hG
  have hx := C.1
  have hb := C.2.1
  have hown := C.2.2.2.1
  have hr := C.2.2.2.2.2.1
  have hlocks := C.2.2.2.2.2.2.1
  refine lv_start ([.ref (adr j), .int x] : List Value) (L := [(0, .ref (adr j)), (1, .int x)]) (Nat.le_of_ble_eq_true rfl) rfl (fun ls hl => ?_)
  refine lv_iconst (v := 0) hx hb dX6_atMile_0 (by decide) ?_
  refine lv_istore_n (lv' := [(2, .int 0), (0, .ref (adr j)), (1, .int x)]) hx hb dX6_atMile_1 rfl hl (by decide) rfl (fun ls hl => ?_)
  obtain ⟨n, hw⟩ := hw
  exact wkb_X6_atMile_2 C post i a q hM j hj_j x  n 0 hw  _ (lv_sub hl [1, 2, 0] rfl)
set_option maxHeartbeats 4000000 in
theorem met_X6_atMile (l : Launch) (g : gG) (F : nM) (adr : Nat → Nat) (i : Nat → Int32) (a : Nat → Nat → Int32) (q : Nat → Nat) (j : Nat) (hj_j : m78 j = true) (x : Int32) : Met l yX6_atMile (ws_ yX6_atMile cX6_atMile 3 (some .int)) rm_X6_atMile (va_Pc [.ref (adr j), .int x] (Pg g (MS g F adr i a q))) (vp_Si (fun r => post_X6_atMile i a q j x r)) 0 0 (fun _ => False) :=
  wk_X6_atMile l g F adr i a q j hj_j x _ (pr_X6_atMile i a q j hj_j x)

abbrev rm_X6_innBehind : Room := ({ frames := 1, cells := 0, slots := 0, locals := 64 } : Room)
set_option maxHeartbeats 4000000 in
theorem wkb_X6_innBehind_66 (C : Cx p s m args meth c cX6_innBehind 5 RX6 (some .int) g) (post : Int32 → Prop) (i : Nat → Int32) (a : Nat → Nat → Int32) (q : Nat → Nat) (hM : MS g F adr i a q s.heap)  (j : Nat) (hj_j : m78 j = true) (x : Int32)(K4 : Int32 → Int32 → Prop) (hK4 : ∀ (y2 : Int32) (y3 : Int32), K4 y2 y3 → ∀ ls : Array Slot, lv_has ls 5 [(0, .ref (adr j)), (1, .int x), (2, .int y2), (3, .int y3)] → W p l e rm_X6_innBehind s m args below meth c s.heap [] 0 0 (MQ below (vp_Si post) args s 0 0 (fun _ => False)) (F0 m 4 ls [])) (x3 : Int32) (s0 : Int32) (hw : wpb_X6_innBehind_66 post K4 i a q j x x3 s0) {ls : Array Slot} (hl : lv_has ls 5 [(0, .ref (adr j)), (1, .int x), (3, .int x3)]) : W p l e rm_X6_innBehind s m args below meth c s.heap [] 0 0 (MQ below (vp_Si post) args s 0 0 (fun _ => False)) (F0 m 66 ls [.int s0]) := by
  have hx := C.1
  have hb := C.2.1
  have hown := C.2.2.2.1
  have hr := C.2.2.2.2.2.1
  have hlocks := C.2.2.2.2.2.2.1
  refine lv_istore_n (lv' := [(2, .int s0), (0, .ref (adr j)), (1, .int x), (3, .int x3)]) hx hb dX6_innBehind_66 rfl hl (by decide) rfl (fun ls hl => ?_)
  obtain ⟨z7, ez7⟩ : ∃ y : Int32, y = x3 + 1 := ⟨_, rfl⟩
  have hw := hw z7 ez7
  refine lv_iinc (v := z7) (lv' := [(3, .int z7), (2, .int s0), (0, .ref (adr j)), (1, .int x)]) hx hb dX6_innBehind_67 hl (k := 3) rfl (by rw [ez7]; rfl) (by decide) rfl (fun ls hl => ?_)
  refine lv_goto (tgt := 4) hx hb dX6_innBehind_70 (by decide) ?_
  exact hK4 s0 z7 hw  _ (lv_sub hl [2, 3, 1, 0] rfl)
set_option maxHeartbeats 4000000 in
theorem wkb_X6_innBehind_65 (C : Cx p s m args meth c cX6_innBehind 5 RX6 (some .int) g) (post : Int32 → Prop) (i : Nat → Int32) (a : Nat → Nat → Int32) (q : Nat → Nat) (hM : MS g F adr i a q s.heap)  (j : Nat) (hj_j : m78 j = true) (x : Int32)(K4 : Int32 → Int32 → Prop) (hK4 : ∀ (y2 : Int32) (y3 : Int32), K4 y2 y3 → ∀ ls : Array Slot, lv_has ls 5 [(0, .ref (adr j)), (1, .int x), (2, .int y2), (3, .int y3)] → W p l e rm_X6_innBehind s m args below meth c s.heap [] 0 0 (MQ below (vp_Si post) args s 0 0 (fun _ => False)) (F0 m 4 ls [])) (x2 : Int32) (x3 : Int32) (hw : wpb_X6_innBehind_65 post K4 i a q j x x2 x3) {ls : Array Slot} (hl : lv_has ls 5 [(0, .ref (adr j)), (1, .int x), (2, .int x2), (3, .int x3)]) : W p l e rm_X6_innBehind s m args below meth c s.heap [] 0 0 (MQ below (vp_Si post) args s 0 0 (fun _ => False)) (F0 m 65 ls []) := by
  have hx := C.1
  have hb := C.2.1
  have hown := C.2.2.2.1
  have hr := C.2.2.2.2.2.1
  have hlocks := C.2.2.2.2.2.2.1
  refine lv_iload_n hx hb dX6_innBehind_65 rfl (lv_at hl 2 rfl) ?_
  exact wkb_X6_innBehind_66 C post i a q hM j hj_j x K4 hK4 x3 x2 hw  (lv_sub hl [0, 1, 3] rfl)
set_option maxHeartbeats 4000000 in
theorem wkb_X6_innBehind_61 (C : Cx p s m args meth c cX6_innBehind 5 RX6 (some .int) g) (post : Int32 → Prop) (i : Nat → Int32) (a : Nat → Nat → Int32) (q : Nat → Nat) (hM : MS g F adr i a q s.heap)  (j : Nat) (hj_j : m78 j = true) (x : Int32)(K4 : Int32 → Int32 → Prop) (hK4 : ∀ (y2 : Int32) (y3 : Int32), K4 y2 y3 → ∀ ls : Array Slot, lv_has ls 5 [(0, .ref (adr j)), (1, .int x), (2, .int y2), (3, .int y3)] → W p l e rm_X6_innBehind s m args below meth c s.heap [] 0 0 (MQ below (vp_Si post) args s 0 0 (fun _ => False)) (F0 m 4 ls [])) (x3 : Int32) (hw : wpb_X6_innBehind_61 post K4 i a q j x x3) {ls : Array Slot} (hl : lv_has ls 5 [(0, .ref (adr j)), (1, .int x), (3, .int x3)]) : W p l e rm_X6_innBehind s m args below meth c s.heap [] 0 0 (MQ below (vp_Si post) args s 0 0 (fun _ => False)) (F0 m 61 ls []) := by
  have hx := C.1
  have hb := C.2.1
  have hown := C.2.2.2.1
  have hr := C.2.2.2.2.2.1
  have hlocks := C.2.2.2.2.2.2.1
  refine lv_iload_n hx hb dX6_innBehind_61 rfl (lv_at hl 2 rfl) ?_
  refine lv_goto (tgt := 66) hx hb dX6_innBehind_62 (by decide) ?_
  exact wkb_X6_innBehind_66 C post i a q hM j hj_j x K4 hK4 x3 x3 hw  (lv_sub hl [0, 1, 2] rfl)
set_option maxHeartbeats 4000000 in
theorem wkb_X6_innBehind_34 (C : Cx p s m args meth c cX6_innBehind 5 RX6 (some .int) g) (post : Int32 → Prop) (i : Nat → Int32) (a : Nat → Nat → Int32) (q : Nat → Nat) (hM : MS g F adr i a q s.heap)  (j : Nat) (hj_j : m78 j = true) (x : Int32)(K4 : Int32 → Int32 → Prop) (hK4 : ∀ (y2 : Int32) (y3 : Int32), K4 y2 y3 → ∀ ls : Array Slot, lv_has ls 5 [(0, .ref (adr j)), (1, .int x), (2, .int y2), (3, .int y3)] → W p l e rm_X6_innBehind s m args below meth c s.heap [] 0 0 (MQ below (vp_Si post) args s 0 0 (fun _ => False)) (F0 m 4 ls [])) (x2 : Int32) (x3 : Int32) (s0 : Int32) (hw : wpb_X6_innBehind_34 post K4 i a q j x x2 x3 s0) {ls : Array Slot} (hl : lv_has ls 5 [(0, .ref (adr j)), (1, .int x), (2, .int x2), (3, .int x3)]) : W p l e rm_X6_innBehind s m args below meth c s.heap [] 0 0 (MQ below (vp_Si post) args s 0 0 (fun _ => False)) (F0 m 34 ls [.int s0]) := by
  have hx := C.1
  have hb := C.2.1
  have hown := C.2.2.2.1
  have hr := C.2.2.2.2.2.1
  have hlocks := C.2.2.2.2.2.2.1
  refine lv_istore (lv' := [(4, .int s0), (0, .ref (adr j)), (1, .int x), (2, .int x2), (3, .int x3)]) hx hb dX6_innBehind_34 hl (by decide) rfl (fun ls hl => ?_)
  refine lv_iload hx hb dX6_innBehind_36 (lv_at hl 0 rfl) ?_
  refine lv_if_eq (tgt := 65) hx hb dX6_innBehind_38 (by decide) (fun c4 => ?_) (fun c4 => ?_)
  · have hw := hw.1 c4
    exact wkb_X6_innBehind_65 C post i a q hM j hj_j x K4 hK4 x2 x3 hw  (lv_sub hl [1, 2, 3, 4] rfl)
  · have hw := hw.2 c4
    refine lv_iload_n hx hb dX6_innBehind_41 rfl (lv_at hl 3 rfl) ?_
    refine lv_iconst (v := (-1)) hx hb dX6_innBehind_42 (by decide) ?_
    refine lv_icmp_eq (tgt := 61) hx hb dX6_innBehind_43 (by decide) (fun c5 => ?_) (fun c5 => ?_)
    · have hw := hw.1 c5
      exact wkb_X6_innBehind_61 C post i a q hM j hj_j x K4 hK4 x3 hw  (lv_sub hl [1, 2, 4] rfl)
    · have hw := hw.2 c5
      refine lv_aload_n hx hb dX6_innBehind_46 rfl (lv_at hl 1 rfl) ?_
      refine lv_bipush (v := 15) hx hb dX6_innBehind_47 (by decide) ?_
      refine lv_iload_n hx hb dX6_innBehind_49 rfl (lv_at hl 4 rfl) ?_
      refine lv_iadd hx hb dX6_innBehind_50 ?_
      refine m_ald C hM (j := j) (m78_int hj_j) (by rw [m78_len hj_j]; exact hw.1) dX6_innBehind_51 ?_
      have hw := hw.2
      refine lv_aload_n hx hb dX6_innBehind_52 rfl (lv_at hl 1 rfl) ?_
      refine lv_bipush (v := 15) hx hb dX6_innBehind_53 (by decide) ?_
      refine lv_iload_n hx hb dX6_innBehind_55 rfl (lv_at hl 3 rfl) ?_
      refine lv_iadd hx hb dX6_innBehind_56 ?_
      refine m_ald C hM (j := j) (m78_int hj_j) (by rw [m78_len hj_j]; exact hw.1) dX6_innBehind_57 ?_
      have hw := hw.2
      refine lv_icmp_ge (tgt := 65) hx hb dX6_innBehind_58 (by decide) (fun c6 => ?_) (fun c6 => ?_)
      · have hw := hw.1 c6
        exact wkb_X6_innBehind_65 C post i a q hM j hj_j x K4 hK4 x2 x3 hw  (lv_sub hl [1, 2, 3, 4] rfl)
      · have hw := hw.2 c6
        exact wkb_X6_innBehind_61 C post i a q hM j hj_j x K4 hK4 x3 hw  (lv_sub hl [1, 2, 4] rfl)
set_option maxHeartbeats 4000000 in
theorem wkb_X6_innBehind_33 (C : Cx p s m args meth c cX6_innBehind 5 RX6 (some .int) g) (post : Int32 → Prop) (i : Nat → Int32) (a : Nat → Nat → Int32) (q : Nat → Nat) (hM : MS g F adr i a q s.heap)  (j : Nat) (hj_j : m78 j = true) (x : Int32)(K4 : Int32 → Int32 → Prop) (hK4 : ∀ (y2 : Int32) (y3 : Int32), K4 y2 y3 → ∀ ls : Array Slot, lv_has ls 5 [(0, .ref (adr j)), (1, .int x), (2, .int y2), (3, .int y3)] → W p l e rm_X6_innBehind s m args below meth c s.heap [] 0 0 (MQ below (vp_Si post) args s 0 0 (fun _ => False)) (F0 m 4 ls [])) (x2 : Int32) (x3 : Int32) (hw : wpb_X6_innBehind_33 post K4 i a q j x x2 x3) {ls : Array Slot} (hl : lv_has ls 5 [(0, .ref (adr j)), (1, .int x), (2, .int x2), (3, .int x3)]) : W p l e rm_X6_innBehind s m args below meth c s.heap [] 0 0 (MQ below (vp_Si post) args s 0 0 (fun _ => False)) (F0 m 33 ls []) := by
  have hx := C.1
  have hb := C.2.1
  have hown := C.2.2.2.1
  have hr := C.2.2.2.2.2.1
  have hlocks := C.2.2.2.2.2.2.1
  refine lv_iconst (v := 0) hx hb dX6_innBehind_33 (by decide) ?_
  exact wkb_X6_innBehind_34 C post i a q hM j hj_j x K4 hK4 x2 x3 0 hw  (lv_sub hl [0, 1, 2, 3] rfl)
set_option maxHeartbeats 4000000 in
theorem wkb_X6_innBehind_4 (C : Cx p s m args meth c cX6_innBehind 5 RX6 (some .int) g) (post : Int32 → Prop) (i : Nat → Int32) (a : Nat → Nat → Int32) (q : Nat → Nat) (hM : MS g F adr i a q s.heap)  (j : Nat) (hj_j : m78 j = true) (x : Int32) : ∀ (n : Nat) (x2 : Int32) (x3 : Int32), wpb_X6_innBehind_4 post  i a q j x n x2 x3 → ∀ ls : Array Slot, lv_has ls 5 [(0, .ref (adr j)), (1, .int x), (2, .int x2), (3, .int x3)] → W p l e rm_X6_innBehind s m args below meth c s.heap [] 0 0 (MQ below (vp_Si post) args s 0 0 (fun _ => False)) (F0 m 4 ls []) := by
  have hx := C.1
  have hb := C.2.1
  have hown := C.2.2.2.1
  have hr := C.2.2.2.2.2.1
  have hlocks := C.2.2.2.2.2.2.1
  intro n
  induction n with
  | zero =>
    intro x2 x3 hw
    exact hw.elim
  | succ n ih =>
    intro x2 x3 hw  ls hl
    refine lv_iload_n hx hb dX6_innBehind_4 rfl (lv_at hl 3 rfl) ?_
    refine lv_bipush (v := 12) hx hb dX6_innBehind_5 (by decide) ?_
    refine lv_icmp_ge (tgt := 73) hx hb dX6_innBehind_7 (by decide) (fun c1 => ?_) (fun c1 => ?_)
    · have hw := hw.1 c1
      refine lv_iload_n hx hb dX6_innBehind_73 rfl (lv_at hl 2 rfl) ?_
      exact W.iret (v := x2) hx hb hr (fun t ht _ => ⟨x2, rfl, hw, ht⟩) (fun _ h => by cases h) dX6_innBehind_74
    · have hw := hw.2 c1
      refine lv_aload_n hx hb dX6_innBehind_10 rfl (lv_at hl 0 rfl) ?_
      refine lv_iconst (v := 3) hx hb dX6_innBehind_11 (by decide) ?_
      refine lv_iload_n hx hb dX6_innBehind_12 rfl (lv_at hl 3 rfl) ?_
      refine lv_iadd hx hb dX6_innBehind_13 ?_
      refine m_ald C hM (j := j) (m78_int hj_j) (by rw [m78_len hj_j]; exact hw.1) dX6_innBehind_14 ?_
      have hw := hw.2
      refine lv_iconst (v := 1) hx hb dX6_innBehind_15 (by decide) ?_
      refine lv_icmp_ne (tgt := 33) hx hb dX6_innBehind_16 (by decide) (fun c2 => ?_) (fun c2 => ?_)
      · have hw := hw.1 c2
        exact wkb_X6_innBehind_33 C post i a q hM j hj_j x (wpb_X6_innBehind_4 post  i a q j x n) ih x2 x3 hw  (lv_sub hl [0, 1, 2, 3] rfl)
      · have hw := hw.2 c2
        refine lv_aload_n hx hb dX6_innBehind_19 rfl (lv_at hl 0 rfl) ?_
        refine lv_bipush (v := 15) hx hb dX6_innBehind_20 (by decide) ?_
        refine lv_iload_n hx hb dX6_innBehind_22 rfl (lv_at hl 3 rfl) ?_
        refine lv_iadd hx hb dX6_innBehind_23 ?_
        refine m_ald C hM (j := j) (m78_int hj_j) (by rw [m78_len hj_j]; exact hw.1) dX6_innBehind_24 ?_
        have hw := hw.2
        refine lv_iload_n hx hb dX6_innBehind_25 rfl (lv_at hl 1 rfl) ?_
        refine lv_icmp_le (tgt := 33) hx hb dX6_innBehind_26 (by decide) (fun c3 => ?_) (fun c3 => ?_)
        · have hw := hw.1 c3
          exact wkb_X6_innBehind_33 C post i a q hM j hj_j x (wpb_X6_innBehind_4 post  i a q j x n) ih x2 x3 hw  (lv_sub hl [0, 1, 2, 3] rfl)
        · have hw := hw.2 c3
          refine lv_iconst (v := 1) hx hb dX6_innBehind_29 (by decide) ?_
          refine lv_goto (tgt := 34) hx hb dX6_innBehind_30 (by decide) ?_
          exact wkb_X6_innBehind_34 C post i a q hM j hj_j x (wpb_X6_innBehind_4 post  i a q j x n) ih x2 x3 1 hw  (lv_sub hl [0, 1, 2, 3] rfl)
set_option maxHeartbeats 4000000 in
theorem wk_X6_innBehind (l : Launch) (g : gG) (F : nM) (adr : Nat → Nat) (i : Nat → Int32) (a : Nat → Nat → Int32) (q : Nat → Nat) (j : Nat) (hj_j : m78 j = true) (x : Int32) (post : Int32 → Prop) (hw : wp_X6_innBehind post i a q j x) : Met l yX6_innBehind (ws_ yX6_innBehind cX6_innBehind 5 (some .int)) rm_X6_innBehind (va_Pc [.ref (adr j), .int x] (Pg g (MS g F adr i a q))) (vp_Si post) 0 0 (fun _ => False) := by
  refine Met.ofW (cc := cX6_innBehind) (maxL := 5) (ret := (some .int)) (by decide) rfl ?_
  intro p e s m args below meth c s₁ B hml hv
  obtain ⟨rfl, hG, hM⟩ := hv
  have C : Cx p s m _ meth c cX6_innBehind 5 RX6 (some .int) g := Cx.of B hml hG
  have hx := C.1
  have hb := C.2.1
  have hown := C.2.2.2.1
  have hr := C.2.2.2.2.2.1
  have hlocks := C.2.2.2.2.2.2.1
  refine lv_start ([.ref (adr j), .int x] : List Value) (L := [(0, .ref (adr j)), (1, .int x)]) (Nat.le_of_ble_eq_true rfl) rfl (fun ls hl => ?_)
  refine lv_iconst (v := (-1)) hx hb dX6_innBehind_0 (by decide) ?_
  refine lv_istore_n (lv' := [(2, .int (-1)), (0, .ref (adr j)), (1, .int x)]) hx hb dX6_innBehind_1 rfl hl (by decide) rfl (fun ls hl => ?_)
  refine lv_iconst (v := 0) hx hb dX6_innBehind_2 (by decide) ?_
  refine lv_istore_n (lv' := [(3, .int 0), (2, .int (-1)), (0, .ref (adr j)), (1, .int x)]) hx hb dX6_innBehind_3 rfl hl (by decide) rfl (fun ls hl => ?_)
  obtain ⟨n, hw⟩ := hw
  exact wkb_X6_innBehind_4 C post i a q hM j hj_j x  n (-1) 0 hw  _ (lv_sub hl [2, 3, 1, 0] rfl)
set_option maxHeartbeats 4000000 in
theorem met_X6_innBehind (l : Launch) (g : gG) (F : nM) (adr : Nat → Nat) (i : Nat → Int32) (a : Nat → Nat → Int32) (q : Nat → Nat) (j : Nat) (hj_j : m78 j = true) (x : Int32) : Met l yX6_innBehind (ws_ yX6_innBehind cX6_innBehind 5 (some .int)) rm_X6_innBehind (va_Pc [.ref (adr j), .int x] (Pg g (MS g F adr i a q))) (vp_Si (fun r => post_X6_innBehind i a q j x r)) 0 0 (fun _ => False) :=
  wk_X6_innBehind l g F adr i a q j hj_j x _ (pr_X6_innBehind i a q j hj_j x)

abbrev rm_X6_copies : Room := ({ frames := 1, cells := 0, slots := 0, locals := 64 } : Room)
set_option maxHeartbeats 4000000 in
theorem wkb_X6_copies_2 (C : Cx p s m args meth c cX6_copies 3 RX6 none g) (post : MSt → Prop)  (j : Nat) (hj_j : m78 j = true) (k : Nat) (hj_k : m78 k = true) : ∀ (n : Nat) (i : Nat → Int32) (a : Nat → Nat → Int32) (q : Nat → Nat) (x2 : Int32), wpb_X6_copies_2 post  j k n i a q x2 → ∀ (H : Heap) (locs : List Loc), MS g F adr i a q H → va_S (Ag g) s.heap H locs → ∀ ls : Array Slot, lv_has ls 3 [(0, .ref (adr j)), (1, .ref (adr k)), (2, .int x2)] → W p l e rm_X6_copies s m args below meth c H locs 0 0 (MQ below (va_Qv post (fun u t => MS g F adr u.1 u.2.1 u.2.2 t.heap) (Ag g)) args s 0 0 (Ag g)) (F0 m 2 ls []) := by
  have hx := C.1
  have hb := C.2.1
  have hown := C.2.2.2.1
  have hr := C.2.2.2.2.2.1
  have hlocks := C.2.2.2.2.2.2.1
  intro n
  induction n with
  | zero =>
    intro i a q x2 hw
    exact hw.elim
  | succ n ih =>
    intro i a q x2 hw H locs hM hS ls hl
    refine lv_iload_n hx hb dX6_copies_2 rfl (lv_at hl 2 rfl) ?_
    refine lv_bipush (v := 78) hx hb dX6_copies_3 (by decide) ?_
    refine lv_icmp_ge (tgt := 20) hx hb dX6_copies_5 (by decide) (fun c1 => ?_) (fun c1 => ?_)
    · have hw := hw.1 c1
      exact W.vret hx hb hr (fun t ht _ => ⟨⟨(i, a, q), rfl, hw, hM.at ht⟩, hS.F ht⟩) hS.2.2 dX6_copies_20
    · have hw := hw.2 c1
      refine lv_aload_n hx hb dX6_copies_8 rfl (lv_at hl 1 rfl) ?_
      refine lv_iload_n hx hb dX6_copies_9 rfl (lv_at hl 2 rfl) ?_
      refine lv_aload_n hx hb dX6_copies_10 rfl (lv_at hl 0 rfl) ?_
      refine lv_iload_n hx hb dX6_copies_11 rfl (lv_at hl 2 rfl) ?_
      refine m_ald C hM (j := j) (m78_int hj_j) (by rw [m78_len hj_j]; exact hw.1) dX6_copies_12 ?_
      have hw := hw.2
      refine m_ast C hM hS (j := k) (m78_int hj_k) (by rw [m78_len hj_k]; exact hw.1) dX6_copies_13 (fun a2 H locs ea2 hM hS => ?_)
      have hw := hw.2 a2 ea2
      obtain ⟨z3, ez3⟩ : ∃ y : Int32, y = x2 + 1 := ⟨_, rfl⟩
      have hw := hw z3 ez3
      refine lv_iinc (v := z3) (lv' := [(2, .int z3), (0, .ref (adr j)), (1, .ref (adr k))]) hx hb dX6_copies_14 hl (k := 2) rfl (by rw [ez3]; rfl) (by decide) rfl (fun ls hl => ?_)
      refine lv_goto (tgt := 2) hx hb dX6_copies_17 (by decide) ?_
      exact ih i a2 q z3 hw _ _ hM hS _ (lv_sub hl [1, 2, 0] rfl)
set_option maxHeartbeats 4000000 in
theorem wk_X6_copies (l : Launch) (g : gG) (F : nM) (adr : Nat → Nat) (i : Nat → Int32) (a : Nat → Nat → Int32) (q : Nat → Nat) (j : Nat) (hj_j : m78 j = true) (k : Nat) (hj_k : m78 k = true) (post : MSt → Prop) (hw : wp_X6_copies post i a q j k) : Met l yX6_copies (ws_ yX6_copies cX6_copies 3 none) rm_X6_copies (va_Pc [.ref (adr j), .ref (adr k)] (Pg g (MS g F adr i a q))) (va_Qv post (fun u t => MS g F adr u.1 u.2.1 u.2.2 t.heap) (Ag g)) 0 0 (Ag g) := by
  refine Met.ofW (cc := cX6_copies) (maxL := 3) (ret := none) (by decide) rfl ?_
  intro p e s m args below meth c s₁ B hml hv
  obtain ⟨rfl, hG, hM⟩ := hv
  have C : Cx p s m _ meth c cX6_copies 3 RX6 none g := Cx.of B hml hG
  have hx := C.1
  have hb := C.2.1
  have hown := C.2.2.2.1
  have hr := C.2.2.2.2.2.1
  have hlocks := C.2.2.2.2.2.2.1
  have hS : va_S (Ag g) s.heap s.heap [] := va_S.rf
  refine lv_start ([.ref (adr j), .ref (adr k)] : List Value) (L := [(0, .ref (adr j)), (1, .ref (adr k))]) (Nat.le_of_ble_eq_true rfl) rfl (fun ls hl => ?_)
  refine lv_iconst (v := 0) hx hb dX6_copies_0 (by decide) ?_
  refine lv_istore_n (lv' := [(2, .int 0), (0, .ref (adr j)), (1, .ref (adr k))]) hx hb dX6_copies_1 rfl hl (by decide) rfl (fun ls hl => ?_)
  obtain ⟨n, hw⟩ := hw
  exact wkb_X6_copies_2 C post j hj_j k hj_k  n i a q 0 hw _ _ hM hS _ (lv_sub hl [1, 2, 0] rfl)
theorem arrV_congr {cI : ClassId} {N : Nat} {f h : Nat → Value} (e : ∀ j, j < N → f j = h j) : arrV cI N f = arrV cI N h := by
  have : (Array.ofFn (n := N) fun j => f j.val) = Array.ofFn (n := N) fun j => h j.val := by
    congr 1
    funext j
    exact e j.val j.isLt
  show ({ cls := cI, slots := Array.ofFn (n := N) fun j => f j.val, vm := .none } : Cell) = _
  rw [this]
  rfl
/-- a row's picture beyond its length is free -/
theorem MS.row {g : gG} {F : nM} {adr : Nat → Nat} {i : Nat → Int32} {a : Nat → Nat → Int32} {q : Nat → Nat} {H : Heap} {k : Nat} {f : Nat → Int32} (hM : MS g F adr i a q H) (hk : mint k = true) (h : ∀ x, x < mlen k → f x = a k x) : MS g F adr i (setR a k f) q H := by
  obtain ⟨M, hM, hA, hF, hO⟩ := hM
  have h1 := hM _ _ _ (hA k (mint_lt hk))
  rw [mcell_i hk] at h1
  refine MS.wr (M := M) (k := k) (mint_lt hk) hA hF hO (hM.up ?_ h1.2 (fun _ _ => rfl)) (fun j _ hj => mcell_o (setR_ne hj))
  rw [mcell_i hk, setR_self]
  show H[adr k]? = some (vp_cell _ _)
  have h2 : H[adr k]? = some (vp_cell _ _) := h1.1
  rw [h2, vp_cell_i, vp_cell_i]
  congr 1
  exact arrV_congr (fun j hj => by rw [h j hj])
theorem met_X6_copies (l : Launch) (g : gG) (F : nM) (adr : Nat → Nat) (i : Nat → Int32) (a : Nat → Nat → Int32) (q : Nat → Nat) (j : Nat) (hj_j : m78 j = true) (k : Nat) (hj_k : m78 k = true) : Met l yX6_copies (ws_ yX6_copies cX6_copies 3 none) rm_X6_copies (va_Pc [.ref (adr j), .ref (adr k)] (Pg g (MS g F adr i a q))) (va_Qv (fun u => post_X6_copies i a q j k u) (fun u t => MS g F adr u.1 u.2.1 u.2.2 t.heap) (Ag g)) 0 0 (Ag g) := by
  have h := wk_X6_copies l g F adr i a q j hj_j k hj_k _ (wp_copies_N i a q j k)
  refine MetFree.mono h (fun _ _ h => h) (fun _ _ _ _ _ h => h) ?_
  rintro args s o t - ⟨⟨⟨u, h1, h2, h3⟩, h4⟩, h5⟩
  subst h2
  refine ⟨⟨⟨(i, setR a k (a j), q), h1, rfl, ?_⟩, h4⟩, h5⟩
  have h6 := MS.row (k := k) (f := a j) h3 (m78_int hj_k) (fun x hx => by
    rw [m78_len hj_k] at hx
    show a j x = (if k = k ∧ x < 78 then a j x else a k x)
    rw [if_pos ⟨rfl, hx⟩])
  have h7 : setR (cpyN a j k 78) k (a j) = setR a k (a j) := by
    funext r
    unfold setR cpyN
    by_cases hr : r = k <;> simp [hr]
  rw [h7] at h6
  exact h6


abbrev rm_X6_builds : Room := ({ frames := 1, cells := 0, slots := 0, locals := 64 } : Room)
set_option maxHeartbeats 4000000 in
theorem wk_X6_builds (l : Launch) (g : gG) (F : nM) (adr : Nat → Nat) (i : Nat → Int32) (a : Nat → Nat → Int32) (q : Nat → Nat) (j : Nat) (hj_j : m78 j = true) (x : Int32) (y : Int32) (post : MSt → Prop) (hw : wp_X6_builds post i a q j x y) : Met l yX6_builds (ws_ yX6_builds cX6_builds 3 none) rm_X6_builds (va_Pc [.ref (adr j), .int x, .int y] (Pg g (MS g F adr i a q))) (va_Qv post (fun u t => MS g F adr u.1 u.2.1 u.2.2 t.heap) (Ag g)) 0 0 (Ag g) := by
  refine Met.ofW (cc := cX6_builds) (maxL := 3) (ret := none) (by decide) rfl ?_
  intro p e s m args below meth c s₁ B hml hv
  obtain ⟨rfl, hG, hM⟩ := hv
  have C : Cx p s m _ meth c cX6_builds 3 RX6 none g := Cx.of B hml hG
  have hx := C.1
  have hb := C.2.1
  have hown := C.2.2.2.1
  have hr := C.2.2.2.2.2.1
  have hlocks := C.2.2.2.2.2.2.1
  have hS : va_S (Ag g) s.heap s.heap [] := va_S.rf
  refine lv_start ([.ref (adr j), .int x, .int y] : List Value) (L := [(0, .ref (adr j)), (1, .int x), (2, .int y)]) (Nat.le_of_ble_eq_true rfl) rfl (fun ls hl => ?_)
  refine lv_aload_n hx hb dX6_builds_0 rfl (lv_at hl 0 rfl) ?_
  refine lv_iconst (v := 3) hx hb dX6_builds_1 (by decide) ?_
  refine lv_iload_n hx hb dX6_builds_2 rfl (lv_at hl 1 rfl) ?_
  refine lv_iadd hx hb dX6_builds_3 ?_
  refine lv_iconst (v := 1) hx hb dX6_builds_4 (by decide) ?_
  refine m_ast C hM hS (j := j) (m78_int hj_j) (by rw [m78_len hj_j]; exact hw.1) dX6_builds_5 (fun a1 H locs ea1 hM hS => ?_)
  have hw := hw.2 a1 ea1
  refine lv_aload_n hx hb dX6_builds_6 rfl (lv_at hl 0 rfl) ?_
  refine lv_bipush (v := 15) hx hb dX6_builds_7 (by decide) ?_
  refine lv_iload_n hx hb dX6_builds_9 rfl (lv_at hl 1 rfl) ?_
  refine lv_iadd hx hb dX6_builds_10 ?_
  refine lv_iload_n hx hb dX6_builds_11 rfl (lv_at hl 2 rfl) ?_
  refine m_ast C hM hS (j := j) (m78_int hj_j) (by rw [m78_len hj_j]; exact hw.1) dX6_builds_12 (fun a2 H locs ea2 hM hS => ?_)
  have hw := hw.2 a2 ea2
  refine lv_aload_n hx hb dX6_builds_13 rfl (lv_at hl 0 rfl) ?_
  refine lv_bipush (v := 27) hx hb dX6_builds_14 (by decide) ?_
  refine lv_iload_n hx hb dX6_builds_16 rfl (lv_at hl 1 rfl) ?_
  refine lv_iadd hx hb dX6_builds_17 ?_
  refine lv_iconst (v := 1) hx hb dX6_builds_18 (by decide) ?_
  refine m_ast C hM hS (j := j) (m78_int hj_j) (by rw [m78_len hj_j]; exact hw.1) dX6_builds_19 (fun a3 H locs ea3 hM hS => ?_)
  have hw := hw.2 a3 ea3
  refine lv_aload_n hx hb dX6_builds_20 rfl (lv_at hl 0 rfl) ?_
  refine lv_bipush (v := 39) hx hb dX6_builds_21 (by decide) ?_
  refine lv_iload_n hx hb dX6_builds_23 rfl (lv_at hl 1 rfl) ?_
  refine lv_iadd hx hb dX6_builds_24 ?_
  refine lv_iconst (v := 0) hx hb dX6_builds_25 (by decide) ?_
  refine m_ast C hM hS (j := j) (m78_int hj_j) (by rw [m78_len hj_j]; exact hw.1) dX6_builds_26 (fun a4 H locs ea4 hM hS => ?_)
  have hw := hw.2 a4 ea4
  exact W.vret hx hb hr (fun t ht _ => ⟨⟨(i, a4, q), rfl, hw, hM.at ht⟩, hS.F ht⟩) hS.2.2 dX6_builds_27
set_option maxHeartbeats 4000000 in
theorem met_X6_builds (l : Launch) (g : gG) (F : nM) (adr : Nat → Nat) (i : Nat → Int32) (a : Nat → Nat → Int32) (q : Nat → Nat) (j : Nat) (hj_j : m78 j = true) (x : Int32) (y : Int32) (hpre : pre_X6_builds i a q j x y) : Met l yX6_builds (ws_ yX6_builds cX6_builds 3 none) rm_X6_builds (va_Pc [.ref (adr j), .int x, .int y] (Pg g (MS g F adr i a q))) (va_Qv (fun u => post_X6_builds i a q j x y u) (fun u t => MS g F adr u.1 u.2.1 u.2.2 t.heap) (Ag g)) 0 0 (Ag g) :=
  wk_X6_builds l g F adr i a q j hj_j x y _ (pr_X6_builds i a q j hj_j x y hpre)

abbrev rm_X6_rebuilds : Room := ({ frames := 2, cells := 0, slots := 0, locals := 128 } : Room)
set_option maxHeartbeats 4000000 in
theorem wkb_X6_rebuilds_123 (C : Cx p s m args meth c cX6_rebuilds 2 RX6 none g) (post : MSt → Prop)  (j : Nat) (hj_j : m78 j = true)(K87 : (Nat → Int32) → (Nat → Nat → Int32) → (Nat → Nat) → Int32 → Prop) (hK87 : ∀ (i : Nat → Int32) (a : Nat → Nat → Int32) (q : Nat → Nat) (y1 : Int32), K87 i a q y1 → ∀ (H : Heap) (locs : List Loc), MS g F adr i a q H → va_S (Ag g) s.heap H locs → ∀ ls : Array Slot, lv_has ls 2 [(0, .ref (adr j)), (1, .int y1)] → W p l e rm_X6_rebuilds s m args below meth c H locs 0 0 (MQ below (va_Qv post (fun u t => MS g F adr u.1 u.2.1 u.2.2 t.heap) (Ag g)) args s 0 0 (Ag g)) (F0 m 87 ls [])) (i : Nat → Int32) (a : Nat → Nat → Int32) (q : Nat → Nat) (x1 : Int32) (s0 : Int32) (s1 : Int32) (hw : wpb_X6_rebuilds_123 post K87 j i a q x1 s0 s1) {H : Heap} {locs : List Loc} (hM : MS g F adr i a q H) (hS : va_S (Ag g) s.heap H locs) {ls : Array Slot} (hl : lv_has ls 2 [(0, .ref (adr j)), (1, .int x1)]) : W p l e rm_X6_rebuilds s m args below meth c H locs 0 0 (MQ below (va_Qv post (fun u t => MS g F adr u.1 u.2.1 u.2.2 t.heap) (Ag g)) args s 0 0 (Ag g)) (F0 m 123 ls [.int s0, .int s1, .ref (adr j)]) := by
  have hx := C.1
  have hb := C.2.1
  have hown := C.2.2.2.1
  have hr := C.2.2.2.2.2.1
  have hlocks := C.2.2.2.2.2.2.1
  refine m_ast C hM hS (j := j) (m78_int hj_j) (by rw [m78_len hj_j]; exact hw.1) dX6_rebuilds_123 (fun a12 H locs ea12 hM hS => ?_)
  have hw := hw.2 a12 ea12
  obtain ⟨z13, ez13⟩ : ∃ y : Int32, y = x1 + 1 := ⟨_, rfl⟩
  have hw := hw z13 ez13
  refine lv_iinc (v := z13) (lv' := [(1, .int z13), (0, .ref (adr j))]) hx hb dX6_rebuilds_124 hl (k := 1) rfl (by rw [ez13]; rfl) (by decide) rfl (fun ls hl => ?_)
  refine lv_goto (tgt := 87) hx hb dX6_rebuilds_127 (by decide) ?_
  exact hK87 i a12 q z13 hw _ _ hM hS _ (lv_sub hl [1, 0] rfl)
set_option maxHeartbeats 4000000 in
theorem wkb_X6_rebuilds_87 (C : Cx p s m args meth c cX6_rebuilds 2 RX6 none g) (post : MSt → Prop)  (j : Nat) (hj_j : m78 j = true) : ∀ (n : Nat) (i : Nat → Int32) (a : Nat → Nat → Int32) (q : Nat → Nat) (x1 : Int32), wpb_X6_rebuilds_87 post  j n i a q x1 → ∀ (H : Heap) (locs : List Loc), MS g F adr i a q H → va_S (Ag g) s.heap H locs → ∀ ls : Array Slot, lv_has ls 2 [(0, .ref (adr j)), (1, .int x1)] → W p l e rm_X6_rebuilds s m args below meth c H locs 0 0 (MQ below (va_Qv post (fun u t => MS g F adr u.1 u.2.1 u.2.2 t.heap) (Ag g)) args s 0 0 (Ag g)) (F0 m 87 ls []) := by
  have hx := C.1
  have hb := C.2.1
  have hown := C.2.2.2.1
  have hr := C.2.2.2.2.2.1
  have hlocks := C.2.2.2.2.2.2.1
  intro n
  induction n with
  | zero =>
    intro i a q x1 hw
    exact hw.elim
  | succ n ih =>
    intro i a q x1 hw H locs hM hS ls hl
    refine lv_iload_n hx hb dX6_rebuilds_87 rfl (lv_at hl 1 rfl) ?_
    refine lv_bipush (v := 12) hx hb dX6_rebuilds_88 (by decide) ?_
    refine lv_icmp_ge (tgt := 130) hx hb dX6_rebuilds_90 (by decide) (fun c10 => ?_) (fun c10 => ?_)
    · have hw := hw.1 c10
      exact W.vret hx hb hr (fun t ht _ => ⟨⟨(i, a, q), rfl, hw, hM.at ht⟩, hS.F ht⟩) hS.2.2 dX6_rebuilds_130
    · have hw := hw.2 c10
      refine lv_aload_n hx hb dX6_rebuilds_93 rfl (lv_at hl 0 rfl) ?_
      refine lv_bipush (v := 66) hx hb dX6_rebuilds_94 (by decide) ?_
      refine lv_iload_n hx hb dX6_rebuilds_96 rfl (lv_at hl 1 rfl) ?_
      refine lv_iadd hx hb dX6_rebuilds_97 ?_
      refine lv_aload_n hx hb dX6_rebuilds_98 rfl (lv_at hl 0 rfl) ?_
      refine lv_bipush (v := 54) hx hb dX6_rebuilds_99 (by decide) ?_
      refine lv_iload_n hx hb dX6_rebuilds_101 rfl (lv_at hl 1 rfl) ?_
      refine lv_iadd hx hb dX6_rebuilds_102 ?_
      refine m_ald C hM (j := j) (m78_int hj_j) (by rw [m78_len hj_j]; exact hw.1) dX6_rebuilds_103 ?_
      have hw := hw.2
      refine lv_iconst (v := (-1)) hx hb dX6_rebuilds_104 (by decide) ?_
      refine lv_icmp_ne (tgt := 112) hx hb dX6_rebuilds_105 (by decide) (fun c11 => ?_) (fun c11 => ?_)
      · have hw := hw.1 c11
        refine lv_aload_n hx hb dX6_rebuilds_112 rfl (lv_at hl 0 rfl) ?_
        refine lv_bipush (v := 54) hx hb dX6_rebuilds_113 (by decide) ?_
        refine lv_aload_n hx hb dX6_rebuilds_115 rfl (lv_at hl 0 rfl) ?_
        refine lv_bipush (v := 54) hx hb dX6_rebuilds_116 (by decide) ?_
        refine lv_iload_n hx hb dX6_rebuilds_118 rfl (lv_at hl 1 rfl) ?_
        refine lv_iadd hx hb dX6_rebuilds_119 ?_
        refine m_ald C hM (j := j) (m78_int hj_j) (by rw [m78_len hj_j]; exact hw.1) dX6_rebuilds_120 ?_
        have hw := hw.2
        refine lv_iadd hx hb dX6_rebuilds_121 ?_
        refine m_ald C hM (j := j) (m78_int hj_j) (by rw [m78_len hj_j]; exact hw.1) dX6_rebuilds_122 ?_
        have hw := hw.2
        exact wkb_X6_rebuilds_123 C post j hj_j (wpb_X6_rebuilds_87 post  j n) ih i a q x1 (a j (54 + (a j (54 + x1).toNatClampNeg)).toNatClampNeg) (66 + x1) hw hM hS (lv_sub hl [0, 1] rfl)
      · have hw := hw.2 c11
        refine lv_iconst (v := (-1)) hx hb dX6_rebuilds_108 (by decide) ?_
        refine lv_goto (tgt := 123) hx hb dX6_rebuilds_109 (by decide) ?_
        exact wkb_X6_rebuilds_123 C post j hj_j (wpb_X6_rebuilds_87 post  j n) ih i a q x1 (-1) (66 + x1) hw hM hS (lv_sub hl [0, 1] rfl)
set_option maxHeartbeats 4000000 in
theorem wkb_X6_rebuilds_84 (C : Cx p s m args meth c cX6_rebuilds 2 RX6 none g) (post : MSt → Prop)  (j : Nat) (hj_j : m78 j = true) (i : Nat → Int32) (a : Nat → Nat → Int32) (q : Nat → Nat) (s0 : Int32) (s1 : Int32) (hw : wpb_X6_rebuilds_84 post  j i a q s0 s1) {H : Heap} {locs : List Loc} (hM : MS g F adr i a q H) (hS : va_S (Ag g) s.heap H locs) {ls : Array Slot} (hl : lv_has ls 2 [(0, .ref (adr j))]) : W p l e rm_X6_rebuilds s m args below meth c H locs 0 0 (MQ below (va_Qv post (fun u t => MS g F adr u.1 u.2.1 u.2.2 t.heap) (Ag g)) args s 0 0 (Ag g)) (F0 m 84 ls [.int s0, .int s1, .ref (adr j)]) := by
  have hx := C.1
  have hb := C.2.1
  have hown := C.2.2.2.1
  have hr := C.2.2.2.2.2.1
  have hlocks := C.2.2.2.2.2.2.1
  refine m_ast C hM hS (j := j) (m78_int hj_j) (by rw [m78_len hj_j]; exact hw.1) dX6_rebuilds_84 (fun a9 H locs ea9 hM hS => ?_)
  have hw := hw.2 a9 ea9
  refine lv_iconst (v := 0) hx hb dX6_rebuilds_85 (by decide) ?_
  refine lv_istore_n (lv' := [(1, .int 0), (0, .ref (adr j))]) hx hb dX6_rebuilds_86 rfl hl (by decide) rfl (fun ls hl => ?_)
  obtain ⟨n, hw⟩ := hw
  exact wkb_X6_rebuilds_87 C post j hj_j  n i a9 q 0 hw _ _ hM hS _ (lv_sub hl [1, 0] rfl)
set_option maxHeartbeats 4000000 in
theorem wkb_X6_rebuilds_53 (C : Cx p s m args meth c cX6_rebuilds 2 RX6 none g) (post : MSt → Prop)  (j : Nat) (hj_j : m78 j = true)(K19 : (Nat → Int32) → (Nat → Nat → Int32) → (Nat → Nat) → Int32 → Prop) (hK19 : ∀ (i : Nat → Int32) (a : Nat → Nat → Int32) (q : Nat → Nat) (y1 : Int32), K19 i a q y1 → ∀ (H : Heap) (locs : List Loc), MS g F adr i a q H → va_S (Ag g) s.heap H locs → ∀ ls : Array Slot, lv_has ls 2 [(0, .ref (adr j)), (1, .int y1)] → W p l e rm_X6_rebuilds s m args below meth c H locs 0 0 (MQ below (va_Qv post (fun u t => MS g F adr u.1 u.2.1 u.2.2 t.heap) (Ag g)) args s 0 0 (Ag g)) (F0 m 19 ls [])) (i : Nat → Int32) (a : Nat → Nat → Int32) (q : Nat → Nat) (x1 : Int32) (s0 : Int32) (s1 : Int32) (hw : wpb_X6_rebuilds_53 post K19 j i a q x1 s0 s1) {H : Heap} {locs : List Loc} (hM : MS g F adr i a q H) (hS : va_S (Ag g) s.heap H locs) {ls : Array Slot} (hl : lv_has ls 2 [(0, .ref (adr j)), (1, .int x1)]) : W p l e rm_X6_rebuilds s m args below meth c H locs 0 0 (MQ below (va_Qv post (fun u t => MS g F adr u.1 u.2.1 u.2.2 t.heap) (Ag g)) args s 0 0 (Ag g)) (F0 m 53 ls [.int s0, .int s1, .ref (adr j)]) := by
  have hx := C.1
  have hb := C.2.1
  have hown := C.2.2.2.1
  have hr := C.2.2.2.2.2.1
  have hlocks := C.2.2.2.2.2.2.1
  refine m_ast C hM hS (j := j) (m78_int hj_j) (by rw [m78_len hj_j]; exact hw.1) dX6_rebuilds_53 (fun a14 H locs ea14 hM hS => ?_)
  have hw := hw.2 a14 ea14
  obtain ⟨z15, ez15⟩ : ∃ y : Int32, y = x1 + 1 := ⟨_, rfl⟩
  have hw := hw z15 ez15
  refine lv_iinc (v := z15) (lv' := [(1, .int z15), (0, .ref (adr j))]) hx hb dX6_rebuilds_54 hl (k := 1) rfl (by rw [ez15]; rfl) (by decide) rfl (fun ls hl => ?_)
  refine lv_goto (tgt := 19) hx hb dX6_rebuilds_57 (by decide) ?_
  exact hK19 i a14 q z15 hw _ _ hM hS _ (lv_sub hl [1, 0] rfl)
set_option maxHeartbeats 4000000 in
theorem wkb_X6_rebuilds_19 (C : Cx p s m args meth c cX6_rebuilds 2 RX6 none g) (post : MSt → Prop)  (j : Nat) (hj_j : m78 j = true) : ∀ (n : Nat) (i : Nat → Int32) (a : Nat → Nat → Int32) (q : Nat → Nat) (x1 : Int32), wpb_X6_rebuilds_19 post  j n i a q x1 → ∀ (H : Heap) (locs : List Loc), MS g F adr i a q H → va_S (Ag g) s.heap H locs → ∀ ls : Array Slot, lv_has ls 2 [(0, .ref (adr j)), (1, .int x1)] → W p l e rm_X6_rebuilds s m args below meth c H locs 0 0 (MQ below (va_Qv post (fun u t => MS g F adr u.1 u.2.1 u.2.2 t.heap) (Ag g)) args s 0 0 (Ag g)) (F0 m 19 ls []) := by
  have hx := C.1
  have hb := C.2.1
  have hown := C.2.2.2.1
  have hr := C.2.2.2.2.2.1
  have hlocks := C.2.2.2.2.2.2.1
  intro n
  induction n with
  | zero =>
    intro i a q x1 hw
    exact hw.elim
  | succ n ih =>
    intro i a q x1 hw H locs hM hS ls hl
    refine lv_iload_n hx hb dX6_rebuilds_19 rfl (lv_at hl 1 rfl) ?_
    refine lv_bipush (v := 12) hx hb dX6_rebuilds_20 (by decide) ?_
    refine lv_icmp_ge (tgt := 60) hx hb dX6_rebuilds_22 (by decide) (fun c5 => ?_) (fun c5 => ?_)
    · have hw := hw.1 c5
      refine lv_aload_n hx hb dX6_rebuilds_60 rfl (lv_at hl 0 rfl) ?_
      refine lv_bipush (v := 52) hx hb dX6_rebuilds_61 (by decide) ?_
      refine lv_aload_n hx hb dX6_rebuilds_63 rfl (lv_at hl 0 rfl) ?_
      refine lv_bipush (v := 51) hx hb dX6_rebuilds_64 (by decide) ?_
      refine m_ald C hM (j := j) (m78_int hj_j) (by rw [m78_len hj_j]; exact hw.1) dX6_rebuilds_66 ?_
      have hw := hw.2
      refine lv_iconst (v := (-1)) hx hb dX6_rebuilds_67 (by decide) ?_
      refine lv_icmp_ne (tgt := 75) hx hb dX6_rebuilds_68 (by decide) (fun c6 => ?_) (fun c6 => ?_)
      · have hw := hw.1 c6
        refine lv_aload_n hx hb dX6_rebuilds_75 rfl (lv_at hl 0 rfl) ?_
        refine lv_bipush (v := 54) hx hb dX6_rebuilds_76 (by decide) ?_
        refine lv_aload_n hx hb dX6_rebuilds_78 rfl (lv_at hl 0 rfl) ?_
        refine lv_bipush (v := 51) hx hb dX6_rebuilds_79 (by decide) ?_
        refine m_ald C hM (j := j) (m78_int hj_j) (by rw [m78_len hj_j]; exact hw.1) dX6_rebuilds_81 ?_
        have hw := hw.2
        refine lv_iadd hx hb dX6_rebuilds_82 ?_
        refine m_ald C hM (j := j) (m78_int hj_j) (by rw [m78_len hj_j]; exact hw.1) dX6_rebuilds_83 ?_
        have hw := hw.2
        exact wkb_X6_rebuilds_84 C post j hj_j  i a q (a j (54 + (a j (51 : Int32).toNatClampNeg)).toNatClampNeg) 52 hw hM hS (lv_sub hl [0] rfl)
      · have hw := hw.2 c6
        refine lv_iconst (v := (-1)) hx hb dX6_rebuilds_71 (by decide) ?_
        refine lv_goto (tgt := 84) hx hb dX6_rebuilds_72 (by decide) ?_
        exact wkb_X6_rebuilds_84 C post j hj_j  i a q (-1) 52 hw hM hS (lv_sub hl [0] rfl)
    · have hw := hw.2 c5
      refine lv_aload_n hx hb dX6_rebuilds_25 rfl (lv_at hl 0 rfl) ?_
      refine lv_bipush (v := 54) hx hb dX6_rebuilds_26 (by decide) ?_
      refine lv_iload_n hx hb dX6_rebuilds_28 rfl (lv_at hl 1 rfl) ?_
      refine lv_iadd hx hb dX6_rebuilds_29 ?_
      refine lv_aload_n hx hb dX6_rebuilds_30 rfl (lv_at hl 0 rfl) ?_
      refine lv_iconst (v := 3) hx hb dX6_rebuilds_31 (by decide) ?_
      refine lv_iload_n hx hb dX6_rebuilds_32 rfl (lv_at hl 1 rfl) ?_
      refine lv_iadd hx hb dX6_rebuilds_33 ?_
      refine m_ald C hM (j := j) (m78_int hj_j) (by rw [m78_len hj_j]; exact hw.1) dX6_rebuilds_34 ?_
      have hw := hw.2
      refine lv_iconst (v := 1) hx hb dX6_rebuilds_35 (by decide) ?_
      refine lv_icmp_ne (tgt := 52) hx hb dX6_rebuilds_36 (by decide) (fun c7 => ?_) (fun c7 => ?_)
      · have hw := hw.1 c7
        refine lv_iconst (v := (-1)) hx hb dX6_rebuilds_52 (by decide) ?_
        exact wkb_X6_rebuilds_53 C post j hj_j (wpb_X6_rebuilds_19 post  j n) ih i a q x1 (-1) (54 + x1) hw hM hS (lv_sub hl [0, 1] rfl)
      · have hw := hw.2 c7
        refine lv_aload_n hx hb dX6_rebuilds_39 rfl (lv_at hl 0 rfl) ?_
        refine lv_aload_n hx hb dX6_rebuilds_40 rfl (lv_at hl 0 rfl) ?_
        refine lv_bipush (v := 15) hx hb dX6_rebuilds_41 (by decide) ?_
        refine lv_iload_n hx hb dX6_rebuilds_43 rfl (lv_at hl 1 rfl) ?_
        refine lv_iadd hx hb dX6_rebuilds_44 ?_
        refine m_ald C hM (j := j) (m78_int hj_j) (by rw [m78_len hj_j]; exact hw.1) dX6_rebuilds_45 ?_
        have hw := hw.2
        refine vp_callSi (va_runS (As := [.ref (adr j), .int (a j (15 + x1).toNatClampNeg)]) (rest := [.int (54 + x1), .ref (adr j)]) C.fix (met_X6_innBehind l g F adr i a q j hj_j (a j (15 + x1).toNatClampNeg) ) (cw_X6_67 C.ts ⟨Nat.le_of_ble_eq_true rfl, Nat.le_of_ble_eq_true rfl⟩) (preS_of C (P := (MS g F adr i a q)) hS hM _) rfl rfl hl.1 rfl (lv_room (Nat.le_of_ble_eq_true rfl)) dX6_rebuilds_46 ⟨Nat.le_of_ble_eq_true rfl, Nat.le_of_ble_eq_true rfl⟩).run (fun r8 er8 => ?_)
        have hw := hw r8 er8
        refine lv_goto (tgt := 53) hx hb dX6_rebuilds_49 (by decide) ?_
        exact wkb_X6_rebuilds_53 C post j hj_j (wpb_X6_rebuilds_19 post  j n) ih i a q x1 r8 (54 + x1) hw hM hS (lv_sub hl [0, 1] rfl)
set_option maxHeartbeats 4000000 in
theorem wk_X6_rebuilds (l : Launch) (g : gG) (F : nM) (adr : Nat → Nat) (i : Nat → Int32) (a : Nat → Nat → Int32) (q : Nat → Nat) (j : Nat) (hj_j : m78 j = true) (post : MSt → Prop) (hw : wp_X6_rebuilds post i a q j) : Met l yX6_rebuilds (ws_ yX6_rebuilds cX6_rebuilds 2 none) rm_X6_rebuilds (va_Pc [.ref (adr j)] (Pg g (MS g F adr i a q))) (va_Qv post (fun u t => MS g F adr u.1 u.2.1 u.2.2 t.heap) (Ag g)) 0 0 (Ag g) := by
  refine Met.ofW (cc := cX6_rebuilds) (maxL := 2) (ret := none) (by decide) rfl ?_
  intro p e s m args below meth c s₁ B hml hv
  obtain ⟨rfl, hG, hM⟩ := hv
  have C : Cx p s m _ meth c cX6_rebuilds 2 RX6 none g := Cx.of B hml hG
  have hx := C.1
  have hb := C.2.1
  have hown := C.2.2.2.1
  have hr := C.2.2.2.2.2.1
  have hlocks := C.2.2.2.2.2.2.1
  have hS : va_S (Ag g) s.heap s.heap [] := va_S.rf
  refine lv_start ([.ref (adr j)] : List Value) (L := [(0, .ref (adr j))]) (Nat.le_of_ble_eq_true rfl) rfl (fun ls hl => ?_)
  refine lv_aload_n hx hb dX6_rebuilds_0 rfl (lv_at hl 0 rfl) ?_
  refine lv_bipush (v := 51) hx hb dX6_rebuilds_1 (by decide) ?_
  refine lv_aload_n hx hb dX6_rebuilds_3 rfl (lv_at hl 0 rfl) ?_
  refine lv_iconst (v := (-1)) hx hb dX6_rebuilds_4 (by decide) ?_
  refine vp_callSi (va_runS (As := [.ref (adr j), .int (-1)]) (rest := [.int 51, .ref (adr j)]) C.fix (met_X6_innBehind l g F adr i a q j hj_j (-1) ) (cw_X6_67 C.ts ⟨Nat.le_of_ble_eq_true rfl, Nat.le_of_ble_eq_true rfl⟩) (preS_of C (P := (MS g F adr i a q)) hS hM _) rfl rfl hl.1 rfl (lv_room (Nat.le_of_ble_eq_true rfl)) dX6_rebuilds_5 ⟨Nat.le_of_ble_eq_true rfl, Nat.le_of_ble_eq_true rfl⟩).run (fun r1 er1 => ?_)
  have hw := hw r1 er1
  refine m_ast C hM hS (j := j) (m78_int hj_j) (by rw [m78_len hj_j]; exact hw.1) dX6_rebuilds_8 (fun a2 H locs ea2 hM hS => ?_)
  have hw := hw.2 a2 ea2
  refine lv_aload_n hx hb dX6_rebuilds_9 rfl (lv_at hl 0 rfl) ?_
  refine lv_bipush (v := 53) hx hb dX6_rebuilds_10 (by decide) ?_
  refine lv_aload_n hx hb dX6_rebuilds_12 rfl (lv_at hl 0 rfl) ?_
  refine vp_callSi (va_runS (As := [.ref (adr j)]) (rest := [.int 53, .ref (adr j)]) C.fix (met_X6_innsOf l g F adr i a2 q j hj_j ) (cw_X6_71 C.ts ⟨Nat.le_of_ble_eq_true rfl, Nat.le_of_ble_eq_true rfl⟩) (preS_of C (P := (MS g F adr i a2 q)) hS hM _) rfl rfl hl.1 rfl (lv_room (Nat.le_of_ble_eq_true rfl)) dX6_rebuilds_13 ⟨Nat.le_of_ble_eq_true rfl, Nat.le_of_ble_eq_true rfl⟩).run (fun r3 er3 => ?_)
  have hw := hw r3 er3
  refine m_ast C hM hS (j := j) (m78_int hj_j) (by rw [m78_len hj_j]; exact hw.1) dX6_rebuilds_16 (fun a4 H locs ea4 hM hS => ?_)
  have hw := hw.2 a4 ea4
  refine lv_iconst (v := 0) hx hb dX6_rebuilds_17 (by decide) ?_
  refine lv_istore_n (lv' := [(1, .int 0), (0, .ref (adr j))]) hx hb dX6_rebuilds_18 rfl hl (by decide) rfl (fun ls hl => ?_)
  obtain ⟨n, hw⟩ := hw
  exact wkb_X6_rebuilds_19 C post j hj_j  n i a4 q 0 hw _ _ hM hS _ (lv_sub hl [1, 0] rfl)
set_option maxHeartbeats 4000000 in
theorem met_X6_rebuilds (l : Launch) (g : gG) (F : nM) (adr : Nat → Nat) (i : Nat → Int32) (a : Nat → Nat → Int32) (q : Nat → Nat) (j : Nat) (hj_j : m78 j = true) : Met l yX6_rebuilds (ws_ yX6_rebuilds cX6_rebuilds 2 none) rm_X6_rebuilds (va_Pc [.ref (adr j)] (Pg g (MS g F adr i a q))) (va_Qv (fun u => post_X6_rebuilds i a q j u) (fun u t => MS g F adr u.1 u.2.1 u.2.2 t.heap) (Ag g)) 0 0 (Ag g) :=
  wk_X6_rebuilds l g F adr i a q j hj_j _ (pr_X6_rebuilds i a q j hj_j)

abbrev rm_X6_laysDue : Room := ({ frames := 3, cells := 0, slots := 0, locals := 192 } : Room)
set_option maxHeartbeats 4000000 in
theorem wk_X6_laysDue (l : Launch) (g : gG) (F : nM) (adr : Nat → Nat) (i : Nat → Int32) (a : Nat → Nat → Int32) (q : Nat → Nat)  (post : MSt → Prop) (hw : wp_X6_laysDue post i a q ) : Met l yX6_laysDue (ws_ yX6_laysDue cX6_laysDue 1 none) rm_X6_laysDue (va_Pc [.ref (adr 0)] (Pg g (MS g F adr i a q))) (va_Qv post (fun u t => MS g F adr u.1 u.2.1 u.2.2 t.heap) (Ag g)) 0 0 (Ag g) := by
  refine Met.ofW (cc := cX6_laysDue) (maxL := 1) (ret := none) (by decide) rfl ?_
  intro p e s m args below meth c s₁ B hml hv
  obtain ⟨rfl, hG, hM⟩ := hv
  have C : Cx p s m _ meth c cX6_laysDue 1 RX6 none g := Cx.of B hml hG
  have hx := C.1
  have hb := C.2.1
  have hown := C.2.2.2.1
  have hr := C.2.2.2.2.2.1
  have hlocks := C.2.2.2.2.2.2.1
  have hS : va_S (Ag g) s.heap s.heap [] := va_S.rf
  refine lv_start ([.ref (adr 0)] : List Value) (L := [(0, .ref (adr 0))]) (Nat.le_of_ble_eq_true rfl) rfl (fun ls hl => ?_)
  refine lv_aload_n hx hb dX6_laysDue_0 rfl (lv_at hl 0 rfl) ?_
  refine m_get C hM 1 (by decide) q2339 rfl rfl dX6_laysDue_1 ?_
  refine lv_aload_n hx hb dX6_laysDue_4 rfl (lv_at hl 0 rfl) ?_
  refine m_get C hM 4 (by decide) q2342 rfl rfl dX6_laysDue_5 ?_
  refine va_callv (va_runS (As := [.ref (adr 1), .ref (adr 4)]) (rest := []) C.fix (met_X6_copies l g F adr i a q 1 (by decide) 4 (by decide) ) (cw_X6_55 C.ts ⟨Nat.le_of_ble_eq_true rfl, Nat.le_of_ble_eq_true rfl⟩) (preS_of C (P := (MS g F adr i a q)) hS hM _) rfl rfl hl.1 rfl (lv_room (Nat.le_of_ble_eq_true rfl)) dX6_laysDue_8 ⟨Nat.le_of_ble_eq_true rfl, Nat.le_of_ble_eq_true rfl⟩) hS (fun _ _ h => h) (fun _ h => h) (fun z_u t H locs ht _ hw1 hB _ _ hS => ?_)
  obtain ⟨i2, a3, q4⟩ := z_u
  have hM : MS g F adr i2 a3 q4 H := by rw [← ht]; exact hB
  have hw := hw i2 a3 q4 hw1
  refine lv_aload_n hx hb dX6_laysDue_11 rfl (lv_at hl 0 rfl) ?_
  refine m_get C hM 4 (by decide) q2342 rfl rfl dX6_laysDue_12 ?_
  refine va_callv (va_runS (As := [.ref (adr 4)]) (rest := []) C.fix (met_X6_rebuilds l g F adr i2 a3 q4 4 (by decide) ) (cw_X6_48 C.ts ⟨Nat.le_of_ble_eq_true rfl, Nat.le_of_ble_eq_true rfl⟩) (preS_of C (P := (MS g F adr i2 a3 q4)) hS hM _) rfl rfl hl.1 rfl (lv_room (Nat.le_of_ble_eq_true rfl)) dX6_laysDue_15 ⟨Nat.le_of_ble_eq_true rfl, Nat.le_of_ble_eq_true rfl⟩) hS (fun _ _ h => h) (fun _ h => h) (fun z_u t H locs ht _ hw1 hB _ _ hS => ?_)
  obtain ⟨i6, a7, q8⟩ := z_u
  have hM : MS g F adr i6 a7 q8 H := by rw [← ht]; exact hB
  have hw := hw i6 a7 q8 hw1
  exact W.vret hx hb hr (fun t ht _ => ⟨⟨(i6, a7, q8), rfl, hw, hM.at ht⟩, hS.F ht⟩) hS.2.2 dX6_laysDue_18
set_option maxHeartbeats 4000000 in
theorem met_X6_laysDue (l : Launch) (g : gG) (F : nM) (adr : Nat → Nat) (i : Nat → Int32) (a : Nat → Nat → Int32) (q : Nat → Nat)  : Met l yX6_laysDue (ws_ yX6_laysDue cX6_laysDue 1 none) rm_X6_laysDue (va_Pc [.ref (adr 0)] (Pg g (MS g F adr i a q))) (va_Qv (fun u => post_X6_laysDue i a q  u) (fun u t => MS g F adr u.1 u.2.1 u.2.2 t.heap) (Ag g)) 0 0 (Ag g) :=
  wk_X6_laysDue l g F adr i a q  _ (pr_X6_laysDue i a q )

abbrev rm_X6_isStored : Room := ({ frames := 1, cells := 0, slots := 0, locals := 64 } : Room)
set_option maxHeartbeats 4000000 in
theorem wk_X6_isStored (l : Launch) (g : gG) (F : nM) (adr : Nat → Nat) (i : Nat → Int32) (a : Nat → Nat → Int32) (q : Nat → Nat) (j : Nat) (hj_j : m78 j = true) (x : Int32) (post : Int32 → Prop) (hw : wp_X6_isStored post i a q j x) : Met l yX6_isStored (ws_ yX6_isStored cX6_isStored 2 (some .boolean)) rm_X6_isStored (va_Pc [.ref (adr j), .int x] (Pg g (MS g F adr i a q))) (vp_Si post) 0 0 (fun _ => False) := by
  refine Met.ofW (cc := cX6_isStored) (maxL := 2) (ret := (some .boolean)) (by decide) rfl ?_
  intro p e s m args below meth c s₁ B hml hv
  obtain ⟨rfl, hG, hM⟩ := hv
  have C : Cx p s m _ meth c cX6_isStored 2 RX6 (some .boolean) g := Cx.of B hml hG
  have hx := C.1
  have hb := C.2.1
  have hown := C.2.2.2.1
  have hr := C.2.2.2.2.2.1
  have hlocks := C.2.2.2.2.2.2.1
  refine lv_start ([.ref (adr j), .int x] : List Value) (L := [(0, .ref (adr j)), (1, .int x)]) (Nat.le_of_ble_eq_true rfl) rfl (fun ls hl => ?_)
  refine lv_iload_n hx hb dX6_isStored_0 rfl (lv_at hl 1 rfl) ?_
  refine lv_bipush (v := 51) hx hb dX6_isStored_1 (by decide) ?_
  refine lv_icmp_lt (tgt := 31) hx hb dX6_isStored_3 (by decide) (fun c1 => ?_) (fun c1 => ?_)
  · have hw := hw.1 c1
    refine lv_iconst (v := 0) hx hb dX6_isStored_31 (by decide) ?_
    exact W.zret (v := 0) hx hb hr hw.1 (fun t ht _ => ⟨0, rfl, hw.2, ht⟩) (fun _ h => by cases h) dX6_isStored_32
  · have hw := hw.2 c1
    refine lv_iload_n hx hb dX6_isStored_6 rfl (lv_at hl 1 rfl) ?_
    refine lv_bipush (v := 54) hx hb dX6_isStored_7 (by decide) ?_
    refine lv_icmp_lt (tgt := 27) hx hb dX6_isStored_9 (by decide) (fun c2 => ?_) (fun c2 => ?_)
    · have hw := hw.1 c2
      refine lv_iconst (v := 1) hx hb dX6_isStored_27 (by decide) ?_
      refine lv_goto (tgt := 32) hx hb dX6_isStored_28 (by decide) ?_
      exact W.zret (v := 1) hx hb hr hw.1 (fun t ht _ => ⟨1, rfl, hw.2, ht⟩) (fun _ h => by cases h) dX6_isStored_32
    · have hw := hw.2 c2
      refine lv_aload_n hx hb dX6_isStored_12 rfl (lv_at hl 0 rfl) ?_
      refine lv_iconst (v := 3) hx hb dX6_isStored_13 (by decide) ?_
      refine lv_iload_n hx hb dX6_isStored_14 rfl (lv_at hl 1 rfl) ?_
      refine lv_bipush (v := 54) hx hb dX6_isStored_15 (by decide) ?_
      refine lv_isub hx hb dX6_isStored_17 ?_
      refine lv_bipush (v := 12) hx hb dX6_isStored_18 (by decide) ?_
      refine lv_irem hx hb dX6_isStored_20 (by decide) ?_
      refine lv_iadd hx hb dX6_isStored_21 ?_
      refine m_ald C hM (j := j) (m78_int hj_j) (by rw [m78_len hj_j]; exact hw.1) dX6_isStored_22 ?_
      have hw := hw.2
      refine lv_iconst (v := 1) hx hb dX6_isStored_23 (by decide) ?_
      refine lv_icmp_ne (tgt := 31) hx hb dX6_isStored_24 (by decide) (fun c3 => ?_) (fun c3 => ?_)
      · have hw := hw.1 c3
        refine lv_iconst (v := 0) hx hb dX6_isStored_31 (by decide) ?_
        exact W.zret (v := 0) hx hb hr hw.1 (fun t ht _ => ⟨0, rfl, hw.2, ht⟩) (fun _ h => by cases h) dX6_isStored_32
      · have hw := hw.2 c3
        refine lv_iconst (v := 1) hx hb dX6_isStored_27 (by decide) ?_
        refine lv_goto (tgt := 32) hx hb dX6_isStored_28 (by decide) ?_
        exact W.zret (v := 1) hx hb hr hw.1 (fun t ht _ => ⟨1, rfl, hw.2, ht⟩) (fun _ h => by cases h) dX6_isStored_32
set_option maxHeartbeats 4000000 in
theorem met_X6_isStored (l : Launch) (g : gG) (F : nM) (adr : Nat → Nat) (i : Nat → Int32) (a : Nat → Nat → Int32) (q : Nat → Nat) (j : Nat) (hj_j : m78 j = true) (x : Int32) (hpre : pre_X6_isStored i a q j x) : Met l yX6_isStored (ws_ yX6_isStored cX6_isStored 2 (some .boolean)) rm_X6_isStored (va_Pc [.ref (adr j), .int x] (Pg g (MS g F adr i a q))) (vp_Si (fun r => post_X6_isStored i a q j x r)) 0 0 (fun _ => False) :=
  wk_X6_isStored l g F adr i a q j hj_j x _ (pr_X6_isStored i a q j hj_j x hpre)

abbrev rm_X6_wrongOnes : Room := ({ frames := 4, cells := 0, slots := 0, locals := 256 } : Room)
set_option maxHeartbeats 4000000 in
theorem wkb_X6_wrongOnes_47 (C : Cx p s m args meth c cX6_wrongOnes 3 RX6 (some .int) g) (post : Int32 → MSt → Prop)  (K9 : (Nat → Int32) → (Nat → Nat → Int32) → (Nat → Nat) → Int32 → Int32 → Prop) (hK9 : ∀ (i : Nat → Int32) (a : Nat → Nat → Int32) (q : Nat → Nat) (y1 : Int32) (y2 : Int32), K9 i a q y1 y2 → ∀ (H : Heap) (locs : List Loc), MS g F adr i a q H → va_S (Ag g) s.heap H locs → ∀ ls : Array Slot, lv_has ls 3 [(0, .ref (adr 0)), (1, .int y1), (2, .int y2)] → W p l e rm_X6_wrongOnes s m args below meth c H locs 0 0 (MQ below (va_Qi post (fun u t => MS g F adr u.1 u.2.1 u.2.2 t.heap) (Ag g)) args s 0 0 (Ag g)) (F0 m 9 ls [])) (i : Nat → Int32) (a : Nat → Nat → Int32) (q : Nat → Nat) (x2 : Int32) (s0 : Int32) (s1 : Int32) (hw : wpb_X6_wrongOnes_47 post K9  i a q x2 s0 s1) {H : Heap} {locs : List Loc} (hM : MS g F adr i a q H) (hS : va_S (Ag g) s.heap H locs) {ls : Array Slot} (hl : lv_has ls 3 [(0, .ref (adr 0)), (2, .int x2)]) : W p l e rm_X6_wrongOnes s m args below meth c H locs 0 0 (MQ below (va_Qi post (fun u t => MS g F adr u.1 u.2.1 u.2.2 t.heap) (Ag g)) args s 0 0 (Ag g)) (F0 m 47 ls [.int s0, .int s1]) := by
  have hx := C.1
  have hb := C.2.1
  have hown := C.2.2.2.1
  have hr := C.2.2.2.2.2.1
  have hlocks := C.2.2.2.2.2.2.1
  refine lv_iadd hx hb dX6_wrongOnes_47 ?_
  refine lv_topi (fun z9 ez9 => ?_)
  have hw := hw z9 ez9
  refine lv_istore_n (lv' := [(1, .int z9), (0, .ref (adr 0)), (2, .int x2)]) hx hb dX6_wrongOnes_48 rfl hl (by decide) rfl (fun ls hl => ?_)
  obtain ⟨z10, ez10⟩ : ∃ y : Int32, y = x2 + 1 := ⟨_, rfl⟩
  have hw := hw z10 ez10
  refine lv_iinc (v := z10) (lv' := [(2, .int z10), (1, .int z9), (0, .ref (adr 0))]) hx hb dX6_wrongOnes_49 hl (k := 2) rfl (by rw [ez10]; rfl) (by decide) rfl (fun ls hl => ?_)
  refine lv_goto (tgt := 9) hx hb dX6_wrongOnes_52 (by decide) ?_
  exact hK9 i a q z9 z10 hw _ _ hM hS _ (lv_sub hl [2, 1, 0] rfl)
set_option maxHeartbeats 4000000 in
theorem wkb_X6_wrongOnes_46 (C : Cx p s m args meth c cX6_wrongOnes 3 RX6 (some .int) g) (post : Int32 → MSt → Prop)  (K9 : (Nat → Int32) → (Nat → Nat → Int32) → (Nat → Nat) → Int32 → Int32 → Prop) (hK9 : ∀ (i : Nat → Int32) (a : Nat → Nat → Int32) (q : Nat → Nat) (y1 : Int32) (y2 : Int32), K9 i a q y1 y2 → ∀ (H : Heap) (locs : List Loc), MS g F adr i a q H → va_S (Ag g) s.heap H locs → ∀ ls : Array Slot, lv_has ls 3 [(0, .ref (adr 0)), (1, .int y1), (2, .int y2)] → W p l e rm_X6_wrongOnes s m args below meth c H locs 0 0 (MQ below (va_Qi post (fun u t => MS g F adr u.1 u.2.1 u.2.2 t.heap) (Ag g)) args s 0 0 (Ag g)) (F0 m 9 ls [])) (i : Nat → Int32) (a : Nat → Nat → Int32) (q : Nat → Nat) (x2 : Int32) (s0 : Int32) (hw : wpb_X6_wrongOnes_46 post K9  i a q x2 s0) {H : Heap} {locs : List Loc} (hM : MS g F adr i a q H) (hS : va_S (Ag g) s.heap H locs) {ls : Array Slot} (hl : lv_has ls 3 [(0, .ref (adr 0)), (2, .int x2)]) : W p l e rm_X6_wrongOnes s m args below meth c H locs 0 0 (MQ below (va_Qi post (fun u t => MS g F adr u.1 u.2.1 u.2.2 t.heap) (Ag g)) args s 0 0 (Ag g)) (F0 m 46 ls [.int s0]) := by
  have hx := C.1
  have hb := C.2.1
  have hown := C.2.2.2.1
  have hr := C.2.2.2.2.2.1
  have hlocks := C.2.2.2.2.2.2.1
  refine lv_iconst (v := 0) hx hb dX6_wrongOnes_46 (by decide) ?_
  exact wkb_X6_wrongOnes_47 C post  K9 hK9 i a q x2 0 s0 hw hM hS (lv_sub hl [0, 1] rfl)
set_option maxHeartbeats 4000000 in
theorem wkb_X6_wrongOnes_9 (C : Cx p s m args meth c cX6_wrongOnes 3 RX6 (some .int) g) (post : Int32 → MSt → Prop)   : ∀ (n : Nat) (i : Nat → Int32) (a : Nat → Nat → Int32) (q : Nat → Nat) (x1 : Int32) (x2 : Int32), wpb_X6_wrongOnes_9 post   n i a q x1 x2 → ∀ (H : Heap) (locs : List Loc), MS g F adr i a q H → va_S (Ag g) s.heap H locs → ∀ ls : Array Slot, lv_has ls 3 [(0, .ref (adr 0)), (1, .int x1), (2, .int x2)] → W p l e rm_X6_wrongOnes s m args below meth c H locs 0 0 (MQ below (va_Qi post (fun u t => MS g F adr u.1 u.2.1 u.2.2 t.heap) (Ag g)) args s 0 0 (Ag g)) (F0 m 9 ls []) := by
  have hx := C.1
  have hb := C.2.1
  have hown := C.2.2.2.1
  have hr := C.2.2.2.2.2.1
  have hlocks := C.2.2.2.2.2.2.1
  intro n
  induction n with
  | zero =>
    intro i a q x1 x2 hw
    exact hw.elim
  | succ n ih =>
    intro i a q x1 x2 hw H locs hM hS ls hl
    refine lv_iload_n hx hb dX6_wrongOnes_9 rfl (lv_at hl 2 rfl) ?_
    refine lv_bipush (v := 78) hx hb dX6_wrongOnes_10 (by decide) ?_
    refine lv_icmp_ge (tgt := 55) hx hb dX6_wrongOnes_12 (by decide) (fun c5 => ?_) (fun c5 => ?_)
    · have hw := hw.1 c5
      refine lv_iload_n hx hb dX6_wrongOnes_55 rfl (lv_at hl 1 rfl) ?_
      exact W.iret (v := x1) hx hb hr (fun t ht _ => ⟨⟨x1, (i, a, q), rfl, hw, hM.at ht⟩, hS.F ht⟩) hS.2.2 dX6_wrongOnes_56
    · have hw := hw.2 c5
      refine lv_iload_n hx hb dX6_wrongOnes_15 rfl (lv_at hl 1 rfl) ?_
      refine lv_aload_n hx hb dX6_wrongOnes_16 rfl (lv_at hl 0 rfl) ?_
      refine m_get C hM 1 (by decide) q2339 rfl rfl dX6_wrongOnes_17 ?_
      refine lv_iload_n hx hb dX6_wrongOnes_20 rfl (lv_at hl 2 rfl) ?_
      refine vp_callSi (va_runS (As := [.ref (adr 1), .int x2]) (rest := [.int x1]) C.fix (met_X6_isStored l g F adr i a q 1 (by decide) x2 hw.1) (cw_X6_78 C.ts ⟨Nat.le_of_ble_eq_true rfl, Nat.le_of_ble_eq_true rfl⟩) (preS_of C (P := (MS g F adr i a q)) hS hM _) rfl rfl hl.1 rfl (lv_room (Nat.le_of_ble_eq_true rfl)) dX6_wrongOnes_21 ⟨Nat.le_of_ble_eq_true rfl, Nat.le_of_ble_eq_true rfl⟩).run (fun r6 er6 => ?_)
      have hw := hw.2 r6 er6
      refine lv_if_eq (tgt := 46) hx hb dX6_wrongOnes_24 (by decide) (fun c7 => ?_) (fun c7 => ?_)
      · have hw := hw.1 c7
        exact wkb_X6_wrongOnes_46 C post  (wpb_X6_wrongOnes_9 post   n) ih i a q x2 x1 hw hM hS (lv_sub hl [0, 2] rfl)
      · have hw := hw.2 c7
        refine lv_aload_n hx hb dX6_wrongOnes_27 rfl (lv_at hl 0 rfl) ?_
        refine m_get C hM 1 (by decide) q2339 rfl rfl dX6_wrongOnes_28 ?_
        refine lv_iload_n hx hb dX6_wrongOnes_31 rfl (lv_at hl 2 rfl) ?_
        refine m_ald C hM (j := 1) rfl hw.1 dX6_wrongOnes_32 ?_
        have hw := hw.2
        refine lv_aload_n hx hb dX6_wrongOnes_33 rfl (lv_at hl 0 rfl) ?_
        refine m_get C hM 4 (by decide) q2342 rfl rfl dX6_wrongOnes_34 ?_
        refine lv_iload_n hx hb dX6_wrongOnes_37 rfl (lv_at hl 2 rfl) ?_
        refine m_ald C hM (j := 4) rfl hw.1 dX6_wrongOnes_38 ?_
        have hw := hw.2
        refine lv_icmp_eq (tgt := 46) hx hb dX6_wrongOnes_39 (by decide) (fun c8 => ?_) (fun c8 => ?_)
        · have hw := hw.1 c8
          exact wkb_X6_wrongOnes_46 C post  (wpb_X6_wrongOnes_9 post   n) ih i a q x2 x1 hw hM hS (lv_sub hl [0, 2] rfl)
        · have hw := hw.2 c8
          refine lv_iconst (v := 1) hx hb dX6_wrongOnes_42 (by decide) ?_
          refine lv_goto (tgt := 47) hx hb dX6_wrongOnes_43 (by decide) ?_
          exact wkb_X6_wrongOnes_47 C post  (wpb_X6_wrongOnes_9 post   n) ih i a q x2 1 x1 hw hM hS (lv_sub hl [0, 2] rfl)
set_option maxHeartbeats 4000000 in
theorem wk_X6_wrongOnes (l : Launch) (g : gG) (F : nM) (adr : Nat → Nat) (i : Nat → Int32) (a : Nat → Nat → Int32) (q : Nat → Nat)  (post : Int32 → MSt → Prop) (hw : wp_X6_wrongOnes post i a q ) : Met l yX6_wrongOnes (ws_ yX6_wrongOnes cX6_wrongOnes 3 (some .int)) rm_X6_wrongOnes (va_Pc [.ref (adr 0)] (Pg g (MS g F adr i a q))) (va_Qi post (fun u t => MS g F adr u.1 u.2.1 u.2.2 t.heap) (Ag g)) 0 0 (Ag g) := by
  refine Met.ofW (cc := cX6_wrongOnes) (maxL := 3) (ret := (some .int)) (by decide) rfl ?_
  intro p e s m args below meth c s₁ B hml hv
  obtain ⟨rfl, hG, hM⟩ := hv
  have C : Cx p s m _ meth c cX6_wrongOnes 3 RX6 (some .int) g := Cx.of B hml hG
  have hx := C.1
  have hb := C.2.1
  have hown := C.2.2.2.1
  have hr := C.2.2.2.2.2.1
  have hlocks := C.2.2.2.2.2.2.1
  have hS : va_S (Ag g) s.heap s.heap [] := va_S.rf
  refine lv_start ([.ref (adr 0)] : List Value) (L := [(0, .ref (adr 0))]) (Nat.le_of_ble_eq_true rfl) rfl (fun ls hl => ?_)
  refine lv_aload_n hx hb dX6_wrongOnes_0 rfl (lv_at hl 0 rfl) ?_
  refine va_callv (va_runV (As := []) (rest := []) C.fix (met_X6_laysDue l g F adr i a q  ) (cw_X6_75 C.ts ⟨Nat.le_of_ble_eq_true rfl, Nat.le_of_ble_eq_true rfl⟩) (preV_of C (P := (MS g F adr i a q)) (MS.recv C hM) hS hM _) rfl rfl hl.1 rfl (lv_room (Nat.le_of_ble_eq_true rfl)) dX6_wrongOnes_1 ⟨Nat.le_of_ble_eq_true rfl, Nat.le_of_ble_eq_true rfl⟩) hS (fun _ _ h => h) (fun _ h => h) (fun z_u t H locs ht _ hw1 hB _ _ hS => ?_)
  obtain ⟨i2, a3, q4⟩ := z_u
  have hM : MS g F adr i2 a3 q4 H := by rw [← ht]; exact hB
  have hw := hw i2 a3 q4 hw1
  refine lv_iconst (v := 0) hx hb dX6_wrongOnes_4 (by decide) ?_
  refine lv_istore_n (lv' := [(1, .int 0), (0, .ref (adr 0))]) hx hb dX6_wrongOnes_5 rfl hl (by decide) rfl (fun ls hl => ?_)
  refine lv_bipush (v := 51) hx hb dX6_wrongOnes_6 (by decide) ?_
  refine lv_istore_n (lv' := [(2, .int 51), (1, .int 0), (0, .ref (adr 0))]) hx hb dX6_wrongOnes_8 rfl hl (by decide) rfl (fun ls hl => ?_)
  obtain ⟨n, hw⟩ := hw
  exact wkb_X6_wrongOnes_9 C post   n i2 a3 q4 0 51 hw _ _ hM hS _ (lv_sub hl [2, 1, 0] rfl)
set_option maxHeartbeats 4000000 in
theorem met_X6_wrongOnes (l : Launch) (g : gG) (F : nM) (adr : Nat → Nat) (i : Nat → Int32) (a : Nat → Nat → Int32) (q : Nat → Nat)  : Met l yX6_wrongOnes (ws_ yX6_wrongOnes cX6_wrongOnes 3 (some .int)) rm_X6_wrongOnes (va_Pc [.ref (adr 0)] (Pg g (MS g F adr i a q))) (va_Qi (fun r u => post_X6_wrongOnes i a q  r u) (fun u t => MS g F adr u.1 u.2.1 u.2.2 t.heap) (Ag g)) 0 0 (Ag g) :=
  wk_X6_wrongOnes l g F adr i a q  _ (pr_X6_wrongOnes i a q )

abbrev rm_X6_positionOf : Room := ({ frames := 1, cells := 0, slots := 0, locals := 64 } : Room)
set_option maxHeartbeats 4000000 in
theorem wkb_X6_positionOf_2 (C : Cx p s m args meth c cX6_positionOf 3 RX6 (some .int) g) (post : Int32 → Prop) (i : Nat → Int32) (a : Nat → Nat → Int32) (q : Nat → Nat) (hM : MS g F adr i a q s.heap)  (x : Int32) : ∀ (n : Nat) (x2 : Int32), wpb_X6_positionOf_2 post  i a q x n x2 → ∀ ls : Array Slot, lv_has ls 3 [(0, .ref (adr 0)), (1, .int x), (2, .int x2)] → W p l e rm_X6_positionOf s m args below meth c s.heap [] 0 0 (MQ below (vp_Si post) args s 0 0 (fun _ => False)) (F0 m 2 ls []) := by
  have hx := C.1
  have hb := C.2.1
  have hown := C.2.2.2.1
  have hr := C.2.2.2.2.2.1
  have hlocks := C.2.2.2.2.2.2.1
  intro n
  induction n with
  | zero =>
    intro x2 hw
    exact hw.elim
  | succ n ih =>
    intro x2 hw  ls hl
    refine lv_iload_n hx hb dX6_positionOf_2 rfl (lv_at hl 2 rfl) ?_
    refine lv_aload_n hx hb dX6_positionOf_3 rfl (lv_at hl 0 rfl) ?_
    refine m_get C hM 10 (by decide) q2348 rfl rfl dX6_positionOf_4 ?_
    refine lv_icmp_ge (tgt := 28) hx hb dX6_positionOf_7 (by decide) (fun c1 => ?_) (fun c1 => ?_)
    · have hw := hw.1 c1
      refine lv_iconst (v := (-1)) hx hb dX6_positionOf_28 (by decide) ?_
      exact W.iret (v := (-1)) hx hb hr (fun t ht _ => ⟨(-1), rfl, hw, ht⟩) (fun _ h => by cases h) dX6_positionOf_29
    · have hw := hw.2 c1
      refine lv_aload_n hx hb dX6_positionOf_10 rfl (lv_at hl 0 rfl) ?_
      refine m_get C hM 9 (by decide) q2347 rfl rfl dX6_positionOf_11 ?_
      refine lv_iload_n hx hb dX6_positionOf_14 rfl (lv_at hl 2 rfl) ?_
      refine m_ald C hM (j := 7) rfl hw.1 dX6_positionOf_15 ?_
      have hw := hw.2
      refine lv_iload_n hx hb dX6_positionOf_16 rfl (lv_at hl 1 rfl) ?_
      refine lv_icmp_ne (tgt := 22) hx hb dX6_positionOf_17 (by decide) (fun c2 => ?_) (fun c2 => ?_)
      · have hw := hw.1 c2
        obtain ⟨z3, ez3⟩ : ∃ y : Int32, y = x2 + 1 := ⟨_, rfl⟩
        have hw := hw z3 ez3
        refine lv_iinc (v := z3) (lv' := [(2, .int z3), (0, .ref (adr 0)), (1, .int x)]) hx hb dX6_positionOf_22 hl (k := 2) rfl (by rw [ez3]; rfl) (by decide) rfl (fun ls hl => ?_)
        refine lv_goto (tgt := 2) hx hb dX6_positionOf_25 (by decide) ?_
        exact ih z3 hw  _ (lv_sub hl [1, 2, 0] rfl)
      · have hw := hw.2 c2
        refine lv_iload_n hx hb dX6_positionOf_20 rfl (lv_at hl 2 rfl) ?_
        exact W.iret (v := x2) hx hb hr (fun t ht _ => ⟨x2, rfl, hw, ht⟩) (fun _ h => by cases h) dX6_positionOf_21
set_option maxHeartbeats 4000000 in
theorem wk_X6_positionOf (l : Launch) (g : gG) (F : nM) (adr : Nat → Nat) (i : Nat → Int32) (a : Nat → Nat → Int32) (q : Nat → Nat) (x : Int32) (post : Int32 → Prop) (hw : wp_X6_positionOf post i a q x) : Met l yX6_positionOf (ws_ yX6_positionOf cX6_positionOf 3 (some .int)) rm_X6_positionOf (va_Pc [.ref (adr 0), .int x] (Pg g (MS g F adr i a q))) (vp_Si post) 0 0 (fun _ => False) := by
  refine Met.ofW (cc := cX6_positionOf) (maxL := 3) (ret := (some .int)) (by decide) rfl ?_
  intro p e s m args below meth c s₁ B hml hv
  obtain ⟨rfl, hG, hM⟩ := hv
  have C : Cx p s m _ meth c cX6_positionOf 3 RX6 (some .int) g := Cx.of B hml hG
  have hx := C.1
  have hb := C.2.1
  have hown := C.2.2.2.1
  have hr := C.2.2.2.2.2.1
  have hlocks := C.2.2.2.2.2.2.1
  refine lv_start ([.ref (adr 0), .int x] : List Value) (L := [(0, .ref (adr 0)), (1, .int x)]) (Nat.le_of_ble_eq_true rfl) rfl (fun ls hl => ?_)
  refine lv_iconst (v := 0) hx hb dX6_positionOf_0 (by decide) ?_
  refine lv_istore_n (lv' := [(2, .int 0), (0, .ref (adr 0)), (1, .int x)]) hx hb dX6_positionOf_1 rfl hl (by decide) rfl (fun ls hl => ?_)
  obtain ⟨n, hw⟩ := hw
  exact wkb_X6_positionOf_2 C post i a q hM x  n 0 hw  _ (lv_sub hl [1, 2, 0] rfl)
set_option maxHeartbeats 4000000 in
theorem met_X6_positionOf (l : Launch) (g : gG) (F : nM) (adr : Nat → Nat) (i : Nat → Int32) (a : Nat → Nat → Int32) (q : Nat → Nat) (x : Int32) (hpre : pre_X6_positionOf i a q x) : Met l yX6_positionOf (ws_ yX6_positionOf cX6_positionOf 3 (some .int)) rm_X6_positionOf (va_Pc [.ref (adr 0), .int x] (Pg g (MS g F adr i a q))) (vp_Si (fun r => post_X6_positionOf i a q x r)) 0 0 (fun _ => False) :=
  wk_X6_positionOf l g F adr i a q x _ (pr_X6_positionOf i a q x hpre)
end
