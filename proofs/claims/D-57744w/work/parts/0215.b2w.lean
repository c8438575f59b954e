set_option maxRecDepth 100000
theorem cw_X6_85 {R : Room} {s : State} {args : Array Value} (hts : ∀ w ∈ lw_all, w.before args s = true) {rm : Room} (hR : rm.frames + 1 ≤ R.frames ∧ 8 + (2 + 11) + rm.locals ≤ R.locals) : CallB R s args RX6 85 yX6_hasInnAt cX6_hasInnAt 2 (some .boolean) (ws_ yX6_hasInnAt cX6_hasInnAt 2 (some .boolean)) rm rm.cells rm.slots 2 ∧ (Cond.static yX6_hasInnAt).before args s = true := va_cwS 2 hts (lw_S q2538 q2539 q98 q2540) rfl rfl rfl (by decide +kernel) hR
theorem cw_X6_88 {R : Room} {s : State} {args : Array Value} (hts : ∀ w ∈ lw_all, w.before args s = true) {rm : Room} (hR : rm.frames + 1 ≤ R.frames ∧ 8 + (3 + 11) + rm.locals ≤ R.locals) : CallW R s args RX6 RX6 88 yX6_positionOf cX6_positionOf 3 (some .int) (ws_ yX6_positionOf cX6_positionOf 3 (some .int)) rm rm.cells rm.slots 1 := cwV 1 hts (lw_V q2542 q2544 qs50 q98 q2545) rfl rfl rfl (by decide +kernel) hR
theorem cw_X6_110 {R : Room} {s : State} {args : Array Value} (hts : ∀ w ∈ lw_all, w.before args s = true) {rm : Room} (hR : rm.frames + 1 ≤ R.frames ∧ 8 + (3 + 11) + rm.locals ≤ R.locals) : CallB R s args RX6 110 yX6_stage cX6_stage 3 (some .int) (ws_ yX6_stage cX6_stage 3 (some .int)) rm rm.cells rm.slots 3 ∧ (Cond.static yX6_stage).before args s = true := va_cwS 3 hts (lw_S q2645 q2646 q98 q2647) rfl rfl rfl (by decide +kernel) hR
theorem cw_X6_126 {R : Room} {s : State} {args : Array Value} (hts : ∀ w ∈ lw_all, w.before args s = true) {rm : Room} (hR : rm.frames + 1 ≤ R.frames ∧ 8 + (3 + 11) + rm.locals ≤ R.locals) : CallB R s args RX6 126 yX6_canRide cX6_canRide 3 (some .boolean) (ws_ yX6_canRide cX6_canRide 3 (some .boolean)) rm rm.cells rm.slots 3 ∧ (Cond.static yX6_canRide).before args s = true := va_cwS 3 hts (lw_S q2642 q2643 q98 q2644) rfl rfl rfl (by decide +kernel) hR
section
variable {p : Program} {l : Launch} {e : Env} {s : State} {m : MethodId} {args : Array Value} {below : List Frame} {meth : Method} {c : Code} {g : gG} {F : nM} {adr : Nat → Nat}
abbrev rm_X6_laysChain : Room := ({ frames := 3, cells := 0, slots := 0, locals := 192 } : Room)
set_option maxHeartbeats 4000000 in
theorem wkb_X6_laysChain_57 (C : Cx p s m args meth c cX6_laysChain 3 RX6 none g) (post : MSt → Prop)  (j : Nat) (hj_j : m78 j = true) (i : Nat → Int32) (a : Nat → Nat → Int32) (q : Nat → Nat) (x2 : Int32) (hw : wpb_X6_laysChain_57 post  j i a q x2) {H : Heap} {locs : List Loc} (hM : MS g F adr i a q H) (hS : va_S (Ag g) s.heap H locs) {ls : Array Slot} (hl : lv_has ls 3 [(0, .ref (adr 0)), (2, .int x2)]) : W p l e rm_X6_laysChain s m args below meth c H locs 0 0 (MQ below (va_Qv post (fun u t => MS g F adr u.1 u.2.1 u.2.2 t.heap) (Ag g)) args s 0 0 (Ag g)) (F0 m 57 ls []) := by
  have hx := C.1
  have hb := C.2.1
  have hown := C.2.2.2.1
  have hr := C.2.2.2.2.2.1
  have hlocks := C.2.2.2.2.2.2.1
  refine lv_aload_n hx hb dX6_laysChain_57 rfl (lv_at hl 0 rfl) ?_
  refine lv_iload_n hx hb dX6_laysChain_58 rfl (lv_at hl 1 rfl) ?_
  refine m_put C hM hS 11 rfl q2349 rfl rfl rfl dX6_laysChain_59 (fun i10 H locs ei10 hM hS => ?_)
  have hw := hw i10 ei10
  exact W.vret hx hb hr (fun t ht _ => ⟨⟨(i10, a, q), rfl, hw, hM.at ht⟩, hS.F ht⟩) hS.2.2 dX6_laysChain_62
set_option maxHeartbeats 4000000 in
theorem wkb_X6_laysChain_10 (C : Cx p s m args meth c cX6_laysChain 3 RX6 none g) (post : MSt → Prop)  (j : Nat) (hj_j : m78 j = true) : ∀ (n : Nat) (i : Nat → Int32) (a : Nat → Nat → Int32) (q : Nat → Nat) (x2 : Int32), wpb_X6_laysChain_10 post  j n i a q x2 → ∀ (H : Heap) (locs : List Loc), MS g F adr i a q H → va_S (Ag g) s.heap H locs → ∀ ls : Array Slot, lv_has ls 3 [(0, .ref (adr 0)), (1, .ref (adr j)), (2, .int x2)] → W p l e rm_X6_laysChain s m args below meth c H locs 0 0 (MQ below (va_Qv post (fun u t => MS g F adr u.1 u.2.1 u.2.2 t.heap) (Ag g)) args s 0 0 (Ag g)) (F0 m 10 ls []) := by
  have hx := C.1
  have hb := C.2.1
  have hown := C.2.2.2.1
  have hr := C.2.2.2.2.2.1
  have hlocks := C.2.2.2.2.2.2.1
  intro n
  induction n with
  | zero =>
    intro i a q x2 hw
    exact hw.elim
  | succ n ih =>
    intro i a q x2 hw H locs hM hS ls hl
    refine lv_aload_n hx hb dX6_laysChain_10 rfl (lv_at hl 1 rfl) ?_
    refine lv_iload_n hx hb dX6_laysChain_11 rfl (lv_at hl 2 rfl) ?_
    refine vp_callSi (va_runS (As := [.ref (adr j), .int x2]) (rest := []) C.fix (met_X6_hasInnAt l g F adr i a q j hj_j x2 ) (cw_X6_85 C.ts ⟨Nat.le_of_ble_eq_true rfl, Nat.le_of_ble_eq_true rfl⟩) (preS_of C (P := (MS g F adr i a q)) hS hM _) rfl rfl hl.1 rfl (lv_room (Nat.le_of_ble_eq_true rfl)) dX6_laysChain_12 ⟨Nat.le_of_ble_eq_true rfl, Nat.le_of_ble_eq_true rfl⟩).run (fun r3 er3 => ?_)
    have hw := hw r3 er3
    refine lv_if_eq (tgt := 57) hx hb dX6_laysChain_15 (by decide) (fun c4 => ?_) (fun c4 => ?_)
    · have hw := hw.1 c4
      exact wkb_X6_laysChain_57 C post j hj_j  i a q x2 hw hM hS (lv_sub hl [0, 2] rfl)
    · have hw := hw.2 c4
      refine lv_aload_n hx hb dX6_laysChain_18 rfl (lv_at hl 0 rfl) ?_
      refine lv_iload_n hx hb dX6_laysChain_19 rfl (lv_at hl 2 rfl) ?_
      refine vp_callSi (va_runV (As := [.int x2]) (rest := []) C.fix (met_X6_positionOf l g F adr i a q x2 hw.1) (cw_X6_88 C.ts ⟨Nat.le_of_ble_eq_true rfl, Nat.le_of_ble_eq_true rfl⟩) (preV_of C (P := (MS g F adr i a q)) (MS.recv C hM) hS hM _) rfl rfl hl.1 rfl (lv_room (Nat.le_of_ble_eq_true rfl)) dX6_laysChain_20 ⟨Nat.le_of_ble_eq_true rfl, Nat.le_of_ble_eq_true rfl⟩).run (fun r5 er5 => ?_)
      have hw := hw.2 r5 er5
      refine lv_iconst (v := (-1)) hx hb dX6_laysChain_23 (by decide) ?_
      refine lv_icmp_ne (tgt := 57) hx hb dX6_laysChain_24 (by decide) (fun c6 => ?_) (fun c6 => ?_)
      · have hw := hw.1 c6
        exact wkb_X6_laysChain_57 C post j hj_j  i a q x2 hw hM hS (lv_sub hl [0, 2] rfl)
      · have hw := hw.2 c6
        refine lv_aload_n hx hb dX6_laysChain_27 rfl (lv_at hl 0 rfl) ?_
        refine m_get C hM 9 (by decide) q2347 rfl rfl dX6_laysChain_28 ?_
        refine lv_aload_n hx hb dX6_laysChain_31 rfl (lv_at hl 0 rfl) ?_
        refine m_get C hM 10 (by decide) q2348 rfl rfl dX6_laysChain_32 ?_
        refine lv_iload_n hx hb dX6_laysChain_35 rfl (lv_at hl 2 rfl) ?_
        refine m_ast C hM hS (j := 7) rfl hw.1 dX6_laysChain_36 (fun a7 H locs ea7 hM hS => ?_)
        have hw := hw.2 a7 ea7
        refine lv_aload_n hx hb dX6_laysChain_37 rfl (lv_at hl 0 rfl) ?_
        refine lv_dup hx hb dX6_laysChain_38 rfl ?_
        refine m_get C hM 10 (by decide) q2348 rfl rfl dX6_laysChain_39 ?_
        refine lv_iconst (v := 1) hx hb dX6_laysChain_42 (by decide) ?_
        refine lv_iadd hx hb dX6_laysChain_43 ?_
        refine m_put C hM hS 10 rfl q2348 rfl rfl rfl dX6_laysChain_44 (fun i8 H locs ei8 hM hS => ?_)
        have hw := hw i8 ei8
        refine lv_aload_n hx hb dX6_laysChain_47 rfl (lv_at hl 1 rfl) ?_
        refine lv_bipush (v := 54) hx hb dX6_laysChain_48 (by decide) ?_
        refine lv_iload_n hx hb dX6_laysChain_50 rfl (lv_at hl 2 rfl) ?_
        refine lv_iadd hx hb dX6_laysChain_51 ?_
        refine m_ald C hM (j := j) (m78_int hj_j) (by rw [m78_len hj_j]; exact hw.1) dX6_laysChain_52 ?_
        have hw := hw.2
        refine lv_topi (fun z9 ez9 => ?_)
        have hw := hw z9 ez9
        refine lv_istore_n (lv' := [(2, .int z9), (0, .ref (adr 0)), (1, .ref (adr j))]) hx hb dX6_laysChain_53 rfl hl (by decide) rfl (fun ls hl => ?_)
        refine lv_goto (tgt := 10) hx hb dX6_laysChain_54 (by decide) ?_
        exact ih i8 a7 q z9 hw _ _ hM hS _ (lv_sub hl [1, 2, 0] rfl)
set_option maxHeartbeats 4000000 in
theorem wk_X6_laysChain (l : Launch) (g : gG) (F : nM) (adr : Nat → Nat) (i : Nat → Int32) (a : Nat → Nat → Int32) (q : Nat → Nat) (j : Nat) (hj_j : m78 j = true) (post : MSt → Prop) (hw : wp_X6_laysChain post i a q j) : Met l yX6_laysChain (ws_ yX6_laysChain cX6_laysChain 3 none) rm_X6_laysChain (va_Pc [.ref (adr 0), .ref (adr j)] (Pg g (MS g F adr i a q))) (va_Qv post (fun u t => MS g F adr u.1 u.2.1 u.2.2 t.heap) (Ag g)) 0 0 (Ag g) := by
  refine Met.ofW (cc := cX6_laysChain) (maxL := 3) (ret := none) (by decide) rfl ?_
  intro p e s m args below meth c s₁ B hml hv
  obtain ⟨rfl, hG, hM⟩ := hv
  have C : Cx p s m _ meth c cX6_laysChain 3 RX6 none g := Cx.of B hml hG
  have hx := C.1
  have hb := C.2.1
  have hown := C.2.2.2.1
  have hr := C.2.2.2.2.2.1
  have hlocks := C.2.2.2.2.2.2.1
  have hS : va_S (Ag g) s.heap s.heap [] := va_S.rf
  refine lv_start ([.ref (adr 0), .ref (adr j)] : List Value) (L := [(0, .ref (adr 0)), (1, .ref (adr j))]) (Nat.le_of_ble_eq_true rfl) rfl (fun ls hl => ?_)
  refine lv_aload_n hx hb dX6_laysChain_0 rfl (lv_at hl 0 rfl) ?_
  refine lv_iconst (v := 0) hx hb dX6_laysChain_1 (by decide) ?_
  refine m_put C hM hS 10 rfl q2348 rfl rfl rfl dX6_laysChain_2 (fun i1 H locs ei1 hM hS => ?_)
  have hw := hw i1 ei1
  refine lv_aload_n hx hb dX6_laysChain_5 rfl (lv_at hl 1 rfl) ?_
  refine lv_bipush (v := 51) hx hb dX6_laysChain_6 (by decide) ?_
  refine m_ald C hM (j := j) (m78_int hj_j) (by rw [m78_len hj_j]; exact hw.1) dX6_laysChain_8 ?_
  have hw := hw.2
  refine lv_topi (fun z2 ez2 => ?_)
  have hw := hw z2 ez2
  refine lv_istore_n (lv' := [(2, .int z2), (0, .ref (adr 0)), (1, .ref (adr j))]) hx hb dX6_laysChain_9 rfl hl (by decide) rfl (fun ls hl => ?_)
  obtain ⟨n, hw⟩ := hw
  exact wkb_X6_laysChain_10 C post j hj_j  n i1 a q z2 hw _ _ hM hS _ (lv_sub hl [1, 2, 0] rfl)
set_option maxHeartbeats 4000000 in
theorem met_X6_laysChain (l : Launch) (g : gG) (F : nM) (adr : Nat → Nat) (i : Nat → Int32) (a : Nat → Nat → Int32) (q : Nat → Nat) (j : Nat) (hj_j : m78 j = true) : Met l yX6_laysChain (ws_ yX6_laysChain cX6_laysChain 3 none) rm_X6_laysChain (va_Pc [.ref (adr 0), .ref (adr j)] (Pg g (MS g F adr i a q))) (va_Qv (fun u => post_X6_laysChain i a q j u) (fun u t => MS g F adr u.1 u.2.1 u.2.2 t.heap) (Ag g)) 0 0 (Ag g) :=
  wk_X6_laysChain l g F adr i a q j hj_j _ (pr_X6_laysChain i a q j hj_j)

abbrev rm_X6_nextOf : Room := ({ frames := 3, cells := 0, slots := 0, locals := 192 } : Room)
set_option maxHeartbeats 4000000 in
theorem wk_X6_nextOf (l : Launch) (g : gG) (F : nM) (adr : Nat → Nat) (i : Nat → Int32) (a : Nat → Nat → Int32) (q : Nat → Nat) (j : Nat) (hj_j : m78 j = true) (x : Int32) (post : Int32 → Prop) (hw : wp_X6_nextOf post i a q j x) : Met l yX6_nextOf (ws_ yX6_nextOf cX6_nextOf 2 (some .int)) rm_X6_nextOf (va_Pc [.ref (adr j), .int x] (Pg g (MS g F adr i a q))) (vp_Si post) 0 0 (fun _ => False) := by
  refine Met.ofW (cc := cX6_nextOf) (maxL := 2) (ret := (some .int)) (by decide) rfl ?_
  intro p e s m args below meth c s₁ B hml hv
  obtain ⟨rfl, hG, hM⟩ := hv
  have C : Cx p s m _ meth c cX6_nextOf 2 RX6 (some .int) g := Cx.of B hml hG
  have hx := C.1
  have hb := C.2.1
  have hown := C.2.2.2.1
  have hr := C.2.2.2.2.2.1
  have hlocks := C.2.2.2.2.2.2.1
  refine lv_start ([.ref (adr j), .int x] : List Value) (L := [(0, .ref (adr j)), (1, .int x)]) (Nat.le_of_ble_eq_true rfl) rfl (fun ls hl => ?_)
  refine lv_aload_n hx hb dX6_nextOf_0 rfl (lv_at hl 0 rfl) ?_
  refine lv_iload_n hx hb dX6_nextOf_1 rfl (lv_at hl 1 rfl) ?_
  refine vp_callSi (va_runS (As := [.ref (adr j), .int x]) (rest := []) C.fix (met_X6_hasInnAt l g F adr i a q j hj_j x ) (cw_X6_85 C.ts ⟨Nat.le_of_ble_eq_true rfl, Nat.le_of_ble_eq_true rfl⟩) (preS_of C (P := (MS g F adr i a q)) va_S.rf hM _) rfl rfl hl.1 rfl (lv_room (Nat.le_of_ble_eq_true rfl)) dX6_nextOf_2 ⟨Nat.le_of_ble_eq_true rfl, Nat.le_of_ble_eq_true rfl⟩).run (fun r1 er1 => ?_)
  have hw := hw r1 er1
  refine lv_if_eq (tgt := 17) hx hb dX6_nextOf_5 (by decide) (fun c2 => ?_) (fun c2 => ?_)
  · have hw := hw.1 c2
    refine lv_iconst (v := (-1)) hx hb dX6_nextOf_17 (by decide) ?_
    exact W.iret (v := (-1)) hx hb hr (fun t ht _ => ⟨(-1), rfl, hw, ht⟩) (fun _ h => by cases h) dX6_nextOf_18
  · have hw := hw.2 c2
    refine lv_aload_n hx hb dX6_nextOf_8 rfl (lv_at hl 0 rfl) ?_
    refine lv_bipush (v := 54) hx hb dX6_nextOf_9 (by decide) ?_
    refine lv_iload_n hx hb dX6_nextOf_11 rfl (lv_at hl 1 rfl) ?_
    refine lv_iadd hx hb dX6_nextOf_12 ?_
    refine m_ald C hM (j := j) (m78_int hj_j) (by rw [m78_len hj_j]; exact hw.1) dX6_nextOf_13 ?_
    have hw := hw.2
    refine lv_goto (tgt := 18) hx hb dX6_nextOf_14 (by decide) ?_
    exact W.iret (v := (a j (54 + x).toNatClampNeg)) hx hb hr (fun t ht _ => ⟨(a j (54 + x).toNatClampNeg), rfl, hw, ht⟩) (fun _ h => by cases h) dX6_nextOf_18
set_option maxHeartbeats 4000000 in
theorem met_X6_nextOf (l : Launch) (g : gG) (F : nM) (adr : Nat → Nat) (i : Nat → Int32) (a : Nat → Nat → Int32) (q : Nat → Nat) (j : Nat) (hj_j : m78 j = true) (x : Int32) : Met l yX6_nextOf (ws_ yX6_nextOf cX6_nextOf 2 (some .int)) rm_X6_nextOf (va_Pc [.ref (adr j), .int x] (Pg g (MS g F adr i a q))) (vp_Si (fun r => post_X6_nextOf i a q j x r)) 0 0 (fun _ => False) :=
  wk_X6_nextOf l g F adr i a q j hj_j x _ (pr_X6_nextOf i a q j hj_j x)

abbrev rm_X6_stage : Room := ({ frames := 2, cells := 0, slots := 0, locals := 128 } : Room)
set_option maxHeartbeats 4000000 in
theorem wk_X6_stage (l : Launch) (g : gG) (F : nM) (adr : Nat → Nat) (i : Nat → Int32) (a : Nat → Nat → Int32) (q : Nat → Nat) (j : Nat) (hj_j : m78 j = true) (x : Int32) (y : Int32) (post : Int32 → Prop) (hw : wp_X6_stage post i a q j x y) : Met l yX6_stage (ws_ yX6_stage cX6_stage 3 (some .int)) rm_X6_stage (va_Pc [.ref (adr j), .int x, .int y] (Pg g (MS g F adr i a q))) (vp_Si post) 0 0 (fun _ => False) := by
  refine Met.ofW (cc := cX6_stage) (maxL := 3) (ret := (some .int)) (by decide) rfl ?_
  intro p e s m args below meth c s₁ B hml hv
  obtain ⟨rfl, hG, hM⟩ := hv
  have C : Cx p s m _ meth c cX6_stage 3 RX6 (some .int) g := Cx.of B hml hG
  have hx := C.1
  have hb := C.2.1
  have hown := C.2.2.2.1
  have hr := C.2.2.2.2.2.1
  have hlocks := C.2.2.2.2.2.2.1
  refine lv_start ([.ref (adr j), .int x, .int y] : List Value) (L := [(0, .ref (adr j)), (1, .int x), (2, .int y)]) (Nat.le_of_ble_eq_true rfl) rfl (fun ls hl => ?_)
  refine lv_aload_n hx hb dX6_stage_0 rfl (lv_at hl 0 rfl) ?_
  refine lv_bipush (v := 15) hx hb dX6_stage_1 (by decide) ?_
  refine lv_iload_n hx hb dX6_stage_3 rfl (lv_at hl 1 rfl) ?_
  refine lv_iadd hx hb dX6_stage_4 ?_
  refine m_ald C hM (j := j) (m78_int hj_j) (by rw [m78_len hj_j]; exact hw.1) dX6_stage_5 ?_
  have hw := hw.2
  refine lv_aload_n hx hb dX6_stage_6 rfl (lv_at hl 0 rfl) ?_
  refine lv_bipush (v := 15) hx hb dX6_stage_7 (by decide) ?_
  refine lv_iload_n hx hb dX6_stage_9 rfl (lv_at hl 2 rfl) ?_
  refine lv_iadd hx hb dX6_stage_10 ?_
  refine m_ald C hM (j := j) (m78_int hj_j) (by rw [m78_len hj_j]; exact hw.1) dX6_stage_11 ?_
  have hw := hw.2
  refine lv_isub hx hb dX6_stage_12 ?_
  refine va_mabs hx hb (C.2.2.1.trans hl.1.symm) hown (C.ts _ q2648) (C.ts _ q1684) (C.ts _ q93) (C.ts _ q1685) (Nat.le_of_ble_eq_true rfl) (Nat.le_of_ble_eq_true rfl) (Nat.zero_le _) (Nat.zero_le _) dX6_stage_13 ?_
  exact W.iret (v := (if 0 ≤ ((a j (15 + x).toNatClampNeg) - (a j (15 + y).toNatClampNeg)) then ((a j (15 + x).toNatClampNeg) - (a j (15 + y).toNatClampNeg)) else 0 - ((a j (15 + x).toNatClampNeg) - (a j (15 + y).toNatClampNeg)))) hx hb hr (fun t ht _ => ⟨(if 0 ≤ ((a j (15 + x).toNatClampNeg) - (a j (15 + y).toNatClampNeg)) then ((a j (15 + x).toNatClampNeg) - (a j (15 + y).toNatClampNeg)) else 0 - ((a j (15 + x).toNatClampNeg) - (a j (15 + y).toNatClampNeg))), rfl, hw, ht⟩) (fun _ h => by cases h) dX6_stage_16
set_option maxHeartbeats 4000000 in
theorem met_X6_stage (l : Launch) (g : gG) (F : nM) (adr : Nat → Nat) (i : Nat → Int32) (a : Nat → Nat → Int32) (q : Nat → Nat) (j : Nat) (hj_j : m78 j = true) (x : Int32) (y : Int32) (hpre : pre_X6_stage i a q j x y) : Met l yX6_stage (ws_ yX6_stage cX6_stage 3 (some .int)) rm_X6_stage (va_Pc [.ref (adr j), .int x, .int y] (Pg g (MS g F adr i a q))) (vp_Si (fun r => post_X6_stage i a q j x y r)) 0 0 (fun _ => False) :=
  wk_X6_stage l g F adr i a q j hj_j x y _ (pr_X6_stage i a q j hj_j x y hpre)

abbrev rm_X6_canRide : Room := ({ frames := 3, cells := 0, slots := 0, locals := 192 } : Room)
set_option maxHeartbeats 4000000 in
theorem wk_X6_canRide (l : Launch) (g : gG) (F : nM) (adr : Nat → Nat) (i : Nat → Int32) (a : Nat → Nat → Int32) (q : Nat → Nat) (j : Nat) (hj_j : m78 j = true) (x : Int32) (y : Int32) (post : Int32 → Prop) (hw : wp_X6_canRide post i a q j x y) : Met l yX6_canRide (ws_ yX6_canRide cX6_canRide 3 (some .boolean)) rm_X6_canRide (va_Pc [.ref (adr j), .int x, .int y] (Pg g (MS g F adr i a q))) (vp_Si post) 0 0 (fun _ => False) := by
  refine Met.ofW (cc := cX6_canRide) (maxL := 3) (ret := (some .boolean)) (by decide) rfl ?_
  intro p e s m args below meth c s₁ B hml hv
  obtain ⟨rfl, hG, hM⟩ := hv
  have C : Cx p s m _ meth c cX6_canRide 3 RX6 (some .boolean) g := Cx.of B hml hG
  have hx := C.1
  have hb := C.2.1
  have hown := C.2.2.2.1
  have hr := C.2.2.2.2.2.1
  have hlocks := C.2.2.2.2.2.2.1
  refine lv_start ([.ref (adr j), .int x, .int y] : List Value) (L := [(0, .ref (adr j)), (1, .int x), (2, .int y)]) (Nat.le_of_ble_eq_true rfl) rfl (fun ls hl => ?_)
  refine lv_aload_n hx hb dX6_canRide_0 rfl (lv_at hl 0 rfl) ?_
  refine lv_iload_n hx hb dX6_canRide_1 rfl (lv_at hl 2 rfl) ?_
  refine vp_callSi (va_runS (As := [.ref (adr j), .int y]) (rest := []) C.fix (met_X6_hasInnAt l g F adr i a q j hj_j y ) (cw_X6_85 C.ts ⟨Nat.le_of_ble_eq_true rfl, Nat.le_of_ble_eq_true rfl⟩) (preS_of C (P := (MS g F adr i a q)) va_S.rf hM _) rfl rfl hl.1 rfl (lv_room (Nat.le_of_ble_eq_true rfl)) dX6_canRide_2 ⟨Nat.le_of_ble_eq_true rfl, Nat.le_of_ble_eq_true rfl⟩).run (fun r1 er1 => ?_)
  have hw := hw r1 er1
  refine lv_if_eq (tgt := 34) hx hb dX6_canRide_5 (by decide) (fun c2 => ?_) (fun c2 => ?_)
  · have hw := hw.1 c2
    refine lv_iconst (v := 0) hx hb dX6_canRide_34 (by decide) ?_
    exact W.zret (v := 0) hx hb hr hw.1 (fun t ht _ => ⟨0, rfl, hw.2, ht⟩) (fun _ h => by cases h) dX6_canRide_35
  · have hw := hw.2 c2
    refine lv_aload_n hx hb dX6_canRide_8 rfl (lv_at hl 0 rfl) ?_
    refine lv_bipush (v := 27) hx hb dX6_canRide_9 (by decide) ?_
    refine lv_iload_n hx hb dX6_canRide_11 rfl (lv_at hl 2 rfl) ?_
    refine lv_iadd hx hb dX6_canRide_12 ?_
    refine m_ald C hM (j := j) (m78_int hj_j) (by rw [m78_len hj_j]; exact hw.1) dX6_canRide_13 ?_
    have hw := hw.2
    refine lv_iconst (v := 1) hx hb dX6_canRide_14 (by decide) ?_
    refine lv_icmp_ne (tgt := 34) hx hb dX6_canRide_15 (by decide) (fun c3 => ?_) (fun c3 => ?_)
    · have hw := hw.1 c3
      refine lv_iconst (v := 0) hx hb dX6_canRide_34 (by decide) ?_
      exact W.zret (v := 0) hx hb hr hw.1 (fun t ht _ => ⟨0, rfl, hw.2, ht⟩) (fun _ h => by cases h) dX6_canRide_35
    · have hw := hw.2 c3
      refine lv_aload_n hx hb dX6_canRide_18 rfl (lv_at hl 0 rfl) ?_
      refine lv_iload_n hx hb dX6_canRide_19 rfl (lv_at hl 1 rfl) ?_
      refine lv_iload_n hx hb dX6_canRide_20 rfl (lv_at hl 2 rfl) ?_
      refine vp_callSi (va_runS (As := [.ref (adr j), .int x, .int y]) (rest := []) C.fix (met_X6_stage l g F adr i a q j hj_j x y hw.1) (cw_X6_110 C.ts ⟨Nat.le_of_ble_eq_true rfl, Nat.le_of_ble_eq_true rfl⟩) (preS_of C (P := (MS g F adr i a q)) va_S.rf hM _) rfl rfl hl.1 rfl (lv_room (Nat.le_of_ble_eq_true rfl)) dX6_canRide_21 ⟨Nat.le_of_ble_eq_true rfl, Nat.le_of_ble_eq_true rfl⟩).run (fun r4 er4 => ?_)
      have hw := hw.2 r4 er4
      refine lv_aload_n hx hb dX6_canRide_24 rfl (lv_at hl 0 rfl) ?_
      refine lv_iconst (v := 0) hx hb dX6_canRide_25 (by decide) ?_
      refine m_ald C hM (j := j) (m78_int hj_j) (by rw [m78_len hj_j]; exact hw.1) dX6_canRide_26 ?_
      have hw := hw.2
      refine lv_icmp_gt (tgt := 34) hx hb dX6_canRide_27 (by decide) (fun c5 => ?_) (fun c5 => ?_)
      · have hw := hw.1 c5
        refine lv_iconst (v := 0) hx hb dX6_canRide_34 (by decide) ?_
        exact W.zret (v := 0) hx hb hr hw.1 (fun t ht _ => ⟨0, rfl, hw.2, ht⟩) (fun _ h => by cases h) dX6_canRide_35
      · have hw := hw.2 c5
        refine lv_iconst (v := 1) hx hb dX6_canRide_30 (by decide) ?_
        refine lv_goto (tgt := 35) hx hb dX6_canRide_31 (by decide) ?_
        exact W.zret (v := 1) hx hb hr hw.1 (fun t ht _ => ⟨1, rfl, hw.2, ht⟩) (fun _ h => by cases h) dX6_canRide_35
set_option maxHeartbeats 4000000 in
theorem met_X6_canRide (l : Launch) (g : gG) (F : nM) (adr : Nat → Nat) (i : Nat → Int32) (a : Nat → Nat → Int32) (q : Nat → Nat) (j : Nat) (hj_j : m78 j = true) (x : Int32) (y : Int32) (hpre : pre_X6_canRide i a q j x y) : Met l yX6_canRide (ws_ yX6_canRide cX6_canRide 3 (some .boolean)) rm_X6_canRide (va_Pc [.ref (adr j), .int x, .int y] (Pg g (MS g F adr i a q))) (vp_Si (fun r => post_X6_canRide i a q j x y r)) 0 0 (fun _ => False) :=
  wk_X6_canRide l g F adr i a q j hj_j x y _ (pr_X6_canRide i a q j hj_j x y hpre)

abbrev rm_X6_rides : Room := ({ frames := 4, cells := 0, slots := 0, locals := 256 } : Room)
set_option maxHeartbeats 4000000 in
theorem wkb_X6_rides_156 (C : Cx p s m args meth c cX6_rides 6 RX6 (some .boolean) g) (post : Int32 → MSt → Prop)  (j : Nat) (hj_j : m78 j = true) (x : Int32) (y : Int32) (i : Nat → Int32) (a : Nat → Nat → Int32) (q : Nat → Nat)  (hw : wpb_X6_rides_156 post  j x y i a q ) {H : Heap} {locs : List Loc} (hM : MS g F adr i a q H) (hS : va_S (Ag g) s.heap H locs) {ls : Array Slot} (hl : lv_has ls 6 [(0, .ref (adr 0)), (3, .int y)]) : W p l e rm_X6_rides s m args below meth c H locs 0 0 (MQ below (va_Qi post (fun u t => MS g F adr u.1 u.2.1 u.2.2 t.heap) (Ag g)) args s 0 0 (Ag g)) (F0 m 156 ls []) := by
  have hx := C.1
  have hb := C.2.1
  have hown := C.2.2.2.1
  have hr := C.2.2.2.2.2.1
  have hlocks := C.2.2.2.2.2.2.1
  refine lv_aload_n hx hb dX6_rides_156 rfl (lv_at hl 0 rfl) ?_
  refine m_get C hM 15 (by decide) q2353 rfl rfl dX6_rides_157 ?_
  refine lv_iload_n hx hb dX6_rides_160 rfl (lv_at hl 1 rfl) ?_
  refine lv_icmp_ne (tgt := 168) hx hb dX6_rides_161 (by decide) (fun c9 => ?_) (fun c9 => ?_)
  · have hw := hw.1 c9
    refine lv_iconst (v := 0) hx hb dX6_rides_168 (by decide) ?_
    exact W.zret (v := 0) hx hb hr hw.1 (fun t ht _ => ⟨⟨0, (i, a, q), rfl, hw.2, hM.at ht⟩, hS.F ht⟩) hS.2.2 dX6_rides_169
  · have hw := hw.2 c9
    refine lv_iconst (v := 1) hx hb dX6_rides_164 (by decide) ?_
    refine lv_goto (tgt := 169) hx hb dX6_rides_165 (by decide) ?_
    exact W.zret (v := 1) hx hb hr hw.1 (fun t ht _ => ⟨⟨1, (i, a, q), rfl, hw.2, hM.at ht⟩, hS.F ht⟩) hS.2.2 dX6_rides_169
set_option maxHeartbeats 4000000 in
theorem wkb_X6_rides_114 (C : Cx p s m args meth c cX6_rides 6 RX6 (some .boolean) g) (post : Int32 → MSt → Prop)  (j : Nat) (hj_j : m78 j = true) (x : Int32) (y : Int32)(K20 : (Nat → Int32) → (Nat → Nat → Int32) → (Nat → Nat) → Prop) (hK20 : ∀ (i : Nat → Int32) (a : Nat → Nat → Int32) (q : Nat → Nat) , K20 i a q  → ∀ (H : Heap) (locs : List Loc), MS g F adr i a q H → va_S (Ag g) s.heap H locs → ∀ ls : Array Slot, lv_has ls 6 [(0, .ref (adr 0)), (1, .ref (adr j)), (3, .int y)] → W p l e rm_X6_rides s m args below meth c H locs 0 0 (MQ below (va_Qi post (fun u t => MS g F adr u.1 u.2.1 u.2.2 t.heap) (Ag g)) args s 0 0 (Ag g)) (F0 m 20 ls [])) (i : Nat → Int32) (a : Nat → Nat → Int32) (q : Nat → Nat) (x5 : Int32) (s0 : Int32) (s1 : Int32) (hw : wpb_X6_rides_114 post K20 j x y i a q x5 s0 s1) {H : Heap} {locs : List Loc} (hM : MS g F adr i a q H) (hS : va_S (Ag g) s.heap H locs) {ls : Array Slot} (hl : lv_has ls 6 [(0, .ref (adr 0)), (1, .ref (adr j)), (3, .int y), (5, .int x5)]) : W p l e rm_X6_rides s m args below meth c H locs 0 0 (MQ below (va_Qi post (fun u t => MS g F adr u.1 u.2.1 u.2.2 t.heap) (Ag g)) args s 0 0 (Ag g)) (F0 m 114 ls [.int s0, .int s1, .ref (adr 0)]) := by
  have hx := C.1
  have hb := C.2.1
  have hown := C.2.2.2.1
  have hr := C.2.2.2.2.2.1
  have hlocks := C.2.2.2.2.2.2.1
  refine lv_iadd hx hb dX6_rides_114 ?_
  refine m_put C hM hS 14 rfl q2352 rfl rfl rfl dX6_rides_115 (fun i13 H locs ei13 hM hS => ?_)
  have hw := hw i13 ei13
  refine lv_aload_n hx hb dX6_rides_118 rfl (lv_at hl 0 rfl) ?_
  refine lv_dup hx hb dX6_rides_119 rfl ?_
  refine m_get C hM 13 (by decide) q2351 rfl rfl dX6_rides_120 ?_
  refine lv_aload_n hx hb dX6_rides_123 rfl (lv_at hl 1 rfl) ?_
  refine lv_aload_n hx hb dX6_rides_124 rfl (lv_at hl 0 rfl) ?_
  refine m_get C hM 15 (by decide) q2353 rfl rfl dX6_rides_125 ?_
  refine lv_iload hx hb dX6_rides_128 (lv_at hl 3 rfl) ?_
  refine vp_callSi (va_runS (As := [.ref (adr j), .int (i13 15), .int x5]) (rest := [.int (i13 13), .ref (adr 0)]) C.fix (met_X6_stage l g F adr i13 a q j hj_j (i13 15) x5 hw.1) (cw_X6_110 C.ts ⟨Nat.le_of_ble_eq_true rfl, Nat.le_of_ble_eq_true rfl⟩) (preS_of C (P := (MS g F adr i13 a q)) hS hM _) rfl rfl hl.1 rfl (lv_room (Nat.le_of_ble_eq_true rfl)) dX6_rides_130 ⟨Nat.le_of_ble_eq_true rfl, Nat.le_of_ble_eq_true rfl⟩).run (fun r14 er14 => ?_)
  have hw := hw.2 r14 er14
  refine lv_iadd hx hb dX6_rides_133 ?_
  refine m_put C hM hS 13 rfl q2351 rfl rfl rfl dX6_rides_134 (fun i15 H locs ei15 hM hS => ?_)
  have hw := hw i15 ei15
  refine lv_aload_n hx hb dX6_rides_137 rfl (lv_at hl 0 rfl) ?_
  refine lv_iload hx hb dX6_rides_138 (lv_at hl 3 rfl) ?_
  refine m_put C hM hS 15 rfl q2353 rfl rfl rfl dX6_rides_140 (fun i16 H locs ei16 hM hS => ?_)
  have hw := hw i16 ei16
  refine lv_aload_n hx hb dX6_rides_143 rfl (lv_at hl 0 rfl) ?_
  refine lv_dup hx hb dX6_rides_144 rfl ?_
  refine m_get C hM 12 (by decide) q2350 rfl rfl dX6_rides_145 ?_
  refine lv_iconst (v := 1) hx hb dX6_rides_148 (by decide) ?_
  refine lv_iadd hx hb dX6_rides_149 ?_
  refine m_put C hM hS 12 rfl q2350 rfl rfl rfl dX6_rides_150 (fun i17 H locs ei17 hM hS => ?_)
  have hw := hw i17 ei17
  refine lv_goto (tgt := 20) hx hb dX6_rides_153 (by decide) ?_
  exact hK20 i17 a q hw _ _ hM hS _ (lv_sub hl [0, 1, 2] rfl)
set_option maxHeartbeats 4000000 in
theorem wkb_X6_rides_82 (C : Cx p s m args meth c cX6_rides 6 RX6 (some .boolean) g) (post : Int32 → MSt → Prop)  (j : Nat) (hj_j : m78 j = true) (x : Int32) (y : Int32)(K20 : (Nat → Int32) → (Nat → Nat → Int32) → (Nat → Nat) → Prop) (hK20 : ∀ (i : Nat → Int32) (a : Nat → Nat → Int32) (q : Nat → Nat) , K20 i a q  → ∀ (H : Heap) (locs : List Loc), MS g F adr i a q H → va_S (Ag g) s.heap H locs → ∀ ls : Array Slot, lv_has ls 6 [(0, .ref (adr 0)), (1, .ref (adr j)), (3, .int y)] → W p l e rm_X6_rides s m args below meth c H locs 0 0 (MQ below (va_Qi post (fun u t => MS g F adr u.1 u.2.1 u.2.2 t.heap) (Ag g)) args s 0 0 (Ag g)) (F0 m 20 ls [])) (i : Nat → Int32) (a : Nat → Nat → Int32) (q : Nat → Nat) (x4 : Int32) (s0 : Int32) (hw : wpb_X6_rides_82 post K20 j x y i a q x4 s0) {H : Heap} {locs : List Loc} (hM : MS g F adr i a q H) (hS : va_S (Ag g) s.heap H locs) {ls : Array Slot} (hl : lv_has ls 6 [(0, .ref (adr 0)), (1, .ref (adr j)), (3, .int y), (4, .int x4)]) : W p l e rm_X6_rides s m args below meth c H locs 0 0 (MQ below (va_Qi post (fun u t => MS g F adr u.1 u.2.1 u.2.2 t.heap) (Ag g)) args s 0 0 (Ag g)) (F0 m 82 ls [.int s0]) := by
  have hx := C.1
  have hb := C.2.1
  have hown := C.2.2.2.1
  have hr := C.2.2.2.2.2.1
  have hlocks := C.2.2.2.2.2.2.1
  refine lv_istore (lv' := [(5, .int s0), (0, .ref (adr 0)), (1, .ref (adr j)), (3, .int y), (4, .int x4)]) hx hb dX6_rides_82 hl (by decide) rfl (fun ls hl => ?_)
  refine lv_aload_n hx hb dX6_rides_84 rfl (lv_at hl 2 rfl) ?_
  refine lv_aload_n hx hb dX6_rides_85 rfl (lv_at hl 1 rfl) ?_
  refine m_get C hM 15 (by decide) q2353 rfl rfl dX6_rides_86 ?_
  refine lv_iload hx hb dX6_rides_89 (lv_at hl 0 rfl) ?_
  refine vp_callSi (va_runS (As := [.ref (adr j), .int (i 15), .int s0]) (rest := []) C.fix (met_X6_canRide l g F adr i a q j hj_j (i 15) s0 hw.1) (cw_X6_126 C.ts ⟨Nat.le_of_ble_eq_true rfl, Nat.le_of_ble_eq_true rfl⟩) (preS_of C (P := (MS g F adr i a q)) hS hM _) rfl rfl hl.1 rfl (lv_room (Nat.le_of_ble_eq_true rfl)) dX6_rides_91 ⟨Nat.le_of_ble_eq_true rfl, Nat.le_of_ble_eq_true rfl⟩).run (fun r10 er10 => ?_)
  have hw := hw.2 r10 er10
  refine lv_if_ne (tgt := 99) hx hb dX6_rides_94 (by decide) (fun c11 => ?_) (fun c11 => ?_)
  · have hw := hw.1 c11
    refine lv_aload_n hx hb dX6_rides_99 rfl (lv_at hl 1 rfl) ?_
    refine lv_dup hx hb dX6_rides_100 rfl ?_
    refine m_get C hM 14 (by decide) q2352 rfl rfl dX6_rides_101 ?_
    refine lv_iload hx hb dX6_rides_104 (lv_at hl 4 rfl) ?_
    refine lv_if_eq (tgt := 113) hx hb dX6_rides_106 (by decide) (fun c12 => ?_) (fun c12 => ?_)
    · have hw := hw.1 c12
      refine lv_iconst (v := 1) hx hb dX6_rides_113 (by decide) ?_
      exact wkb_X6_rides_114 C post j hj_j x y K20 hK20 i a q s0 1 (i 14) hw hM hS (lv_sub hl [1, 2, 3, 0] rfl)
    · have hw := hw.2 c12
      refine lv_iconst (v := 0) hx hb dX6_rides_109 (by decide) ?_
      refine lv_goto (tgt := 114) hx hb dX6_rides_110 (by decide) ?_
      exact wkb_X6_rides_114 C post j hj_j x y K20 hK20 i a q s0 0 (i 14) hw hM hS (lv_sub hl [1, 2, 3, 0] rfl)
  · have hw := hw.2 c11
    refine lv_iconst (v := 0) hx hb dX6_rides_97 (by decide) ?_
    exact W.zret (v := 0) hx hb hr hw.1 (fun t ht _ => ⟨⟨0, (i, a, q), rfl, hw.2, hM.at ht⟩, hS.F ht⟩) hS.2.2 dX6_rides_98
set_option maxHeartbeats 4000000 in
theorem wkb_X6_rides_20 (C : Cx p s m args meth c cX6_rides 6 RX6 (some .boolean) g) (post : Int32 → MSt → Prop)  (j : Nat) (hj_j : m78 j = true) (x : Int32) (y : Int32) : ∀ (n : Nat) (i : Nat → Int32) (a : Nat → Nat → Int32) (q : Nat → Nat) , wpb_X6_rides_20 post  j x y n i a q  → ∀ (H : Heap) (locs : List Loc), MS g F adr i a q H → va_S (Ag g) s.heap H locs → ∀ ls : Array Slot, lv_has ls 6 [(0, .ref (adr 0)), (1, .ref (adr j)), (3, .int y)] → W p l e rm_X6_rides s m args below meth c H locs 0 0 (MQ below (va_Qi post (fun u t => MS g F adr u.1 u.2.1 u.2.2 t.heap) (Ag g)) args s 0 0 (Ag g)) (F0 m 20 ls []) := by
  have hx := C.1
  have hb := C.2.1
  have hown := C.2.2.2.1
  have hr := C.2.2.2.2.2.1
  have hlocks := C.2.2.2.2.2.2.1
  intro n
  induction n with
  | zero =>
    intro i a q  hw
    exact hw.elim
  | succ n ih =>
    intro i a q  hw H locs hM hS ls hl
    refine lv_aload_n hx hb dX6_rides_20 rfl (lv_at hl 0 rfl) ?_
    refine m_get C hM 15 (by decide) q2353 rfl rfl dX6_rides_21 ?_
    refine lv_iload_n hx hb dX6_rides_24 rfl (lv_at hl 2 rfl) ?_
    refine lv_icmp_eq (tgt := 156) hx hb dX6_rides_25 (by decide) (fun c5 => ?_) (fun c5 => ?_)
    · have hw := hw.1 c5
      exact wkb_X6_rides_156 C post j hj_j x y  i a q hw hM hS (lv_sub hl [0, 2] rfl)
    · have hw := hw.2 c5
      refine lv_aload_n hx hb dX6_rides_28 rfl (lv_at hl 0 rfl) ?_
      refine m_get C hM 12 (by decide) q2350 rfl rfl dX6_rides_29 ?_
      refine lv_bipush (v := 24) hx hb dX6_rides_32 (by decide) ?_
      refine lv_icmp_ge (tgt := 156) hx hb dX6_rides_34 (by decide) (fun c6 => ?_) (fun c6 => ?_)
      · have hw := hw.1 c6
        exact wkb_X6_rides_156 C post j hj_j x y  i a q hw hM hS (lv_sub hl [0, 2] rfl)
      · have hw := hw.2 c6
        refine lv_aload_n hx hb dX6_rides_37 rfl (lv_at hl 1 rfl) ?_
        refine lv_aload_n hx hb dX6_rides_38 rfl (lv_at hl 0 rfl) ?_
        refine m_get C hM 15 (by decide) q2353 rfl rfl dX6_rides_39 ?_
        refine lv_aload_n hx hb dX6_rides_42 rfl (lv_at hl 1 rfl) ?_
        refine lv_bipush (v := 54) hx hb dX6_rides_43 (by decide) ?_
        refine lv_aload_n hx hb dX6_rides_45 rfl (lv_at hl 0 rfl) ?_
        refine m_get C hM 15 (by decide) q2353 rfl rfl dX6_rides_46 ?_
        refine lv_iadd hx hb dX6_rides_49 ?_
        refine m_ald C hM (j := j) (m78_int hj_j) (by rw [m78_len hj_j]; exact hw.1) dX6_rides_50 ?_
        have hw := hw.2
        refine vp_callSi (va_runS (As := [.ref (adr j), .int (i 15), .int (a j (54 + (i 15)).toNatClampNeg)]) (rest := []) C.fix (met_X6_canRide l g F adr i a q j hj_j (i 15) (a j (54 + (i 15)).toNatClampNeg) hw.1) (cw_X6_126 C.ts ⟨Nat.le_of_ble_eq_true rfl, Nat.le_of_ble_eq_true rfl⟩) (preS_of C (P := (MS g F adr i a q)) hS hM _) rfl rfl hl.1 rfl (lv_room (Nat.le_of_ble_eq_true rfl)) dX6_rides_51 ⟨Nat.le_of_ble_eq_true rfl, Nat.le_of_ble_eq_true rfl⟩).run (fun r7 er7 => ?_)
        have hw := hw.2 r7 er7
        refine lv_istore (lv' := [(4, .int r7), (0, .ref (adr 0)), (1, .ref (adr j)), (3, .int y)]) hx hb dX6_rides_54 hl (by decide) rfl (fun ls hl => ?_)
        refine lv_iload hx hb dX6_rides_56 (lv_at hl 0 rfl) ?_
        refine lv_if_eq (tgt := 73) hx hb dX6_rides_58 (by decide) (fun c8 => ?_) (fun c8 => ?_)
        · have hw := hw.1 c8
          refine lv_aload_n hx hb dX6_rides_73 rfl (lv_at hl 2 rfl) ?_
          refine lv_bipush (v := 66) hx hb dX6_rides_74 (by decide) ?_
          refine lv_aload_n hx hb dX6_rides_76 rfl (lv_at hl 1 rfl) ?_
          refine m_get C hM 15 (by decide) q2353 rfl rfl dX6_rides_77 ?_
          refine lv_iadd hx hb dX6_rides_80 ?_
          refine m_ald C hM (j := j) (m78_int hj_j) (by rw [m78_len hj_j]; exact hw.1) dX6_rides_81 ?_
          have hw := hw.2
          exact wkb_X6_rides_82 C post j hj_j x y (wpb_X6_rides_20 post  j x y n) ih i a q r7 (a j (66 + (i 15)).toNatClampNeg) hw hM hS (lv_sub hl [1, 2, 3, 0] rfl)
        · have hw := hw.2 c8
          refine lv_aload_n hx hb dX6_rides_61 rfl (lv_at hl 2 rfl) ?_
          refine lv_bipush (v := 54) hx hb dX6_rides_62 (by decide) ?_
          refine lv_aload_n hx hb dX6_rides_64 rfl (lv_at hl 1 rfl) ?_
          refine m_get C hM 15 (by decide) q2353 rfl rfl dX6_rides_65 ?_
          refine lv_iadd hx hb dX6_rides_68 ?_
          refine m_ald C hM (j := j) (m78_int hj_j) (by rw [m78_len hj_j]; exact hw.1) dX6_rides_69 ?_
          have hw := hw.2
          refine lv_goto (tgt := 82) hx hb dX6_rides_70 (by decide) ?_
          exact wkb_X6_rides_82 C post j hj_j x y (wpb_X6_rides_20 post  j x y n) ih i a q r7 (a j (54 + (i 15)).toNatClampNeg) hw hM hS (lv_sub hl [1, 2, 3, 0] rfl)
set_option maxHeartbeats 4000000 in
theorem wk_X6_rides (l : Launch) (g : gG) (F : nM) (adr : Nat → Nat) (i : Nat → Int32) (a : Nat → Nat → Int32) (q : Nat → Nat) (j : Nat) (hj_j : m78 j = true) (x : Int32) (y : Int32) (post : Int32 → MSt → Prop) (hw : wp_X6_rides post i a q j x y) : Met l yX6_rides (ws_ yX6_rides cX6_rides 6 (some .boolean)) rm_X6_rides (va_Pc [.ref (adr 0), .ref (adr j), .int x, .int y] (Pg g (MS g F adr i a q))) (va_Qi post (fun u t => MS g F adr u.1 u.2.1 u.2.2 t.heap) (Ag g)) 0 0 (Ag g) := by
  refine Met.ofW (cc := cX6_rides) (maxL := 6) (ret := (some .boolean)) (by decide) rfl ?_
  intro p e s m args below meth c s₁ B hml hv
  obtain ⟨rfl, hG, hM⟩ := hv
  have C : Cx p s m _ meth c cX6_rides 6 RX6 (some .boolean) g := Cx.of B hml hG
  have hx := C.1
  have hb := C.2.1
  have hown := C.2.2.2.1
  have hr := C.2.2.2.2.2.1
  have hlocks := C.2.2.2.2.2.2.1
  have hS : va_S (Ag g) s.heap s.heap [] := va_S.rf
  refine lv_start ([.ref (adr 0), .ref (adr j), .int x, .int y] : List Value) (L := [(0, .ref (adr 0)), (1, .ref (adr j)), (2, .int x), (3, .int y)]) (Nat.le_of_ble_eq_true rfl) rfl (fun ls hl => ?_)
  refine lv_aload_n hx hb dX6_rides_0 rfl (lv_at hl 0 rfl) ?_
  refine lv_iconst (v := 0) hx hb dX6_rides_1 (by decide) ?_
  refine m_put C hM hS 12 rfl q2350 rfl rfl rfl dX6_rides_2 (fun i1 H locs ei1 hM hS => ?_)
  have hw := hw i1 ei1
  refine lv_aload_n hx hb dX6_rides_5 rfl (lv_at hl 0 rfl) ?_
  refine lv_iconst (v := 0) hx hb dX6_rides_6 (by decide) ?_
  refine m_put C hM hS 13 rfl q2351 rfl rfl rfl dX6_rides_7 (fun i2 H locs ei2 hM hS => ?_)
  have hw := hw i2 ei2
  refine lv_aload_n hx hb dX6_rides_10 rfl (lv_at hl 0 rfl) ?_
  refine lv_iconst (v := 0) hx hb dX6_rides_11 (by decide) ?_
  refine m_put C hM hS 14 rfl q2352 rfl rfl rfl dX6_rides_12 (fun i3 H locs ei3 hM hS => ?_)
  have hw := hw i3 ei3
  refine lv_aload_n hx hb dX6_rides_15 rfl (lv_at hl 0 rfl) ?_
  refine lv_iload_n hx hb dX6_rides_16 rfl (lv_at hl 2 rfl) ?_
  refine m_put C hM hS 15 rfl q2353 rfl rfl rfl dX6_rides_17 (fun i4 H locs ei4 hM hS => ?_)
  have hw := hw i4 ei4
  obtain ⟨n, hw⟩ := hw
  exact wkb_X6_rides_20 C post j hj_j x y  n i4 a q hw _ _ hM hS _ (lv_sub hl [0, 1, 3] rfl)
set_option maxHeartbeats 4000000 in
theorem met_X6_rides (l : Launch) (g : gG) (F : nM) (adr : Nat → Nat) (i : Nat → Int32) (a : Nat → Nat → Int32) (q : Nat → Nat) (j : Nat) (hj_j : m78 j = true) (x : Int32) (y : Int32) (hpre : pre_X6_rides i a q j x y) : Met l yX6_rides (ws_ yX6_rides cX6_rides 6 (some .boolean)) rm_X6_rides (va_Pc [.ref (adr 0), .ref (adr j), .int x, .int y] (Pg g (MS g F adr i a q))) (va_Qi (fun r u => post_X6_rides i a q j x y r u) (fun u t => MS g F adr u.1 u.2.1 u.2.2 t.heap) (Ag g)) 0 0 (Ag g) :=
  wk_X6_rides l g F adr i a q j hj_j x y _ (pr_X6_rides i a q j hj_j x y hpre)
end
