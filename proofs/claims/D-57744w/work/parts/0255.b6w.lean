set_option maxRecDepth 100000
theorem cw_X6_133 {R : Room} {s : State} {args : Array Value} (hts : ∀ w ∈ lw_all, w.before args s = true) {rm : Room} (hR : rm.frames + 1 ≤ R.frames ∧ 8 + (3 + 11) + rm.locals ≤ R.locals) : CallB R s args RX6 133 yX6_bytesOf cX6_bytesOf 3 (some .int) (ws_ yX6_bytesOf cX6_bytesOf 3 (some .int)) rm rm.cells rm.slots 1 ∧ (Cond.static yX6_bytesOf).before args s = true := va_cwS 1 hts (lw_S q2418 q2419 q98 q2420) rfl rfl rfl (by decide +kernel) hR
theorem cw_X6_136 {R : Room} {s : State} {args : Array Value} (hts : ∀ w ∈ lw_all, w.before args s = true) {rm : Room} (hR : rm.frames + 1 ≤ R.frames ∧ 8 + (2 + 11) + rm.locals ≤ R.locals) : CallW R s args RX6 RX6 136 yX6_fails cX6_fails 2 (some .int) (ws_ yX6_fails cX6_fails 2 (some .int)) rm rm.cells rm.slots 1 := cwV 1 hts (lw_V q2421 q2423 qs31 q98 q2424) rfl rfl rfl (by decide +kernel) hR
theorem cw_X6_139 {R : Room} {s : State} {args : Array Value} (hts : ∀ w ∈ lw_all, w.before args s = true) {rm : Room} (hR : rm.frames + 1 ≤ R.frames ∧ 8 + (4 + 11) + rm.locals ≤ R.locals) : CallW R s args RX6 RX6 139 yX6_brings cX6_brings 4 none (ws_ yX6_brings cX6_brings 4 none) rm rm.cells rm.slots 1 := cwV 1 hts (lw_V q2425 q2427 qs32 q98 q2428) rfl rfl rfl (by decide +kernel) hR
section
variable {p : Program} {l : Launch} {e : Env} {s : State} {m : MethodId} {args : Array Value} {below : List Frame} {meth : Method} {c : Code} {g : gG} {F : nM} {adr : Nat → Nat}
abbrev rm_X6_bytesOf : Room := ({ frames := 1, cells := 0, slots := 0, locals := 64 } : Room)
set_option maxHeartbeats 4000000 in
theorem wkb_X6_bytesOf_28 (C : Cx p s m args meth c cX6_bytesOf 3 RX6 (some .int) g) (post : Int32 → Prop)  (v : Int32)(K4 : Int32 → Int32 → Prop) (hK4 : ∀ (y1 : Int32) (y2 : Int32), K4 y1 y2 → ∀ ls : Array Slot, lv_has ls 3 [(0, .int v), (1, .int y1), (2, .int y2)] → W p l e rm_X6_bytesOf s m args below meth c s.heap [] 0 0 (MQ below (vp_Si post) args s 0 0 (fun _ => False)) (F0 m 4 ls [])) (x2 : Int32) (s0 : Int32) (s1 : Int32) (hw : wpb_X6_bytesOf_28 post K4 v x2 s0 s1) {ls : Array Slot} (hl : lv_has ls 3 [(0, .int v), (2, .int x2)]) : W p l e rm_X6_bytesOf s m args below meth c s.heap [] 0 0 (MQ below (vp_Si post) args s 0 0 (fun _ => False)) (F0 m 28 ls [.int s0, .int s1]) := by
  have hx := C.1
  have hb := C.2.1
  have hown := C.2.2.2.1
  have hr := C.2.2.2.2.2.1
  have hlocks := C.2.2.2.2.2.2.1
  refine lv_iadd hx hb dX6_bytesOf_28 ?_
  refine lv_topi (fun z3 ez3 => ?_)
  have hw := hw z3 ez3
  refine lv_istore_n (lv' := [(1, .int z3), (0, .int v), (2, .int x2)]) hx hb dX6_bytesOf_29 rfl hl (by decide) rfl (fun ls hl => ?_)
  obtain ⟨z4, ez4⟩ : ∃ y : Int32, y = x2 + 1 := ⟨_, rfl⟩
  have hw := hw z4 ez4
  refine lv_iinc (v := z4) (lv' := [(2, .int z4), (1, .int z3), (0, .int v)]) hx hb dX6_bytesOf_30 hl (k := 2) rfl (by rw [ez4]; rfl) (by decide) rfl (fun ls hl => ?_)
  refine lv_goto (tgt := 4) hx hb dX6_bytesOf_33 (by decide) ?_
  exact hK4 z3 z4 hw  _ (lv_sub hl [2, 1, 0] rfl)
set_option maxHeartbeats 4000000 in
theorem wkb_X6_bytesOf_4 (C : Cx p s m args meth c cX6_bytesOf 3 RX6 (some .int) g) (post : Int32 → Prop)  (v : Int32) : ∀ (n : Nat) (x1 : Int32) (x2 : Int32), wpb_X6_bytesOf_4 post  v n x1 x2 → ∀ ls : Array Slot, lv_has ls 3 [(0, .int v), (1, .int x1), (2, .int x2)] → W p l e rm_X6_bytesOf s m args below meth c s.heap [] 0 0 (MQ below (vp_Si post) args s 0 0 (fun _ => False)) (F0 m 4 ls []) := by
  have hx := C.1
  have hb := C.2.1
  have hown := C.2.2.2.1
  have hr := C.2.2.2.2.2.1
  have hlocks := C.2.2.2.2.2.2.1
  intro n
  induction n with
  | zero =>
    intro x1 x2 hw
    exact hw.elim
  | succ n ih =>
    intro x1 x2 hw  ls hl
    refine lv_iload_n hx hb dX6_bytesOf_4 rfl (lv_at hl 2 rfl) ?_
    refine lv_iconst (v := 4) hx hb dX6_bytesOf_5 (by decide) ?_
    refine lv_icmp_ge (tgt := 36) hx hb dX6_bytesOf_6 (by decide) (fun c1 => ?_) (fun c1 => ?_)
    · have hw := hw.1 c1
      refine lv_iload_n hx hb dX6_bytesOf_36 rfl (lv_at hl 1 rfl) ?_
      exact W.iret (v := x1) hx hb hr (fun t ht _ => ⟨x1, rfl, hw, ht⟩) (fun _ h => by cases h) dX6_bytesOf_37
    · have hw := hw.2 c1
      refine lv_iload_n hx hb dX6_bytesOf_9 rfl (lv_at hl 1 rfl) ?_
      refine lv_iload_n hx hb dX6_bytesOf_10 rfl (lv_at hl 0 rfl) ?_
      refine lv_bipush (v := 8) hx hb dX6_bytesOf_11 (by decide) ?_
      refine lv_iload_n hx hb dX6_bytesOf_13 rfl (lv_at hl 2 rfl) ?_
      refine lv_imul hx hb dX6_bytesOf_14 ?_
      refine lv_ishr hx hb dX6_bytesOf_15 ?_
      refine lv_sipush (v := 255) hx hb dX6_bytesOf_16 (by decide) ?_
      refine lv_iand hx hb dX6_bytesOf_19 ?_
      refine lv_if_ne (tgt := 27) hx hb dX6_bytesOf_20 (by decide) (fun c2 => ?_) (fun c2 => ?_)
      · have hw := hw.1 c2
        refine lv_iconst (v := 1) hx hb dX6_bytesOf_27 (by decide) ?_
        exact wkb_X6_bytesOf_28 C post v (wpb_X6_bytesOf_4 post  v n) ih x2 1 x1 hw  (lv_sub hl [0, 2] rfl)
      · have hw := hw.2 c2
        refine lv_iconst (v := 0) hx hb dX6_bytesOf_23 (by decide) ?_
        refine lv_goto (tgt := 28) hx hb dX6_bytesOf_24 (by decide) ?_
        exact wkb_X6_bytesOf_28 C post v (wpb_X6_bytesOf_4 post  v n) ih x2 0 x1 hw  (lv_sub hl [0, 2] rfl)
set_option maxHeartbeats 4000000 in
theorem wk_X6_bytesOf (l : Launch) (g : gG) (v : Int32) (post : Int32 → Prop) (hw : wp_X6_bytesOf post v) : Met l yX6_bytesOf (ws_ yX6_bytesOf cX6_bytesOf 3 (some .int)) rm_X6_bytesOf (va_Pc [.int v] (Pg g (fun _ => True))) (vp_Si post) 0 0 (fun _ => False) := by
  refine Met.ofW (cc := cX6_bytesOf) (maxL := 3) (ret := (some .int)) (by decide) rfl ?_
  intro p e s m args below meth c s₁ B hml hv
  obtain ⟨rfl, hG, -⟩ := hv
  have C : Cx p s m _ meth c cX6_bytesOf 3 RX6 (some .int) g := Cx.of B hml hG
  have hx := C.1
  have hb := C.2.1
  have hown := C.2.2.2.1
  have hr := C.2.2.2.2.2.1
  have hlocks := C.2.2.2.2.2.2.1
  refine lv_start ([.int v] : List Value) (L := [(0, .int v)]) (Nat.le_of_ble_eq_true rfl) rfl (fun ls hl => ?_)
  refine lv_iconst (v := 0) hx hb dX6_bytesOf_0 (by decide) ?_
  refine lv_istore_n (lv' := [(1, .int 0), (0, .int v)]) hx hb dX6_bytesOf_1 rfl hl (by decide) rfl (fun ls hl => ?_)
  refine lv_iconst (v := 0) hx hb dX6_bytesOf_2 (by decide) ?_
  refine lv_istore_n (lv' := [(2, .int 0), (1, .int 0), (0, .int v)]) hx hb dX6_bytesOf_3 rfl hl (by decide) rfl (fun ls hl => ?_)
  obtain ⟨n, hw⟩ := hw
  exact wkb_X6_bytesOf_4 C post v  n 0 0 hw  _ (lv_sub hl [2, 1, 0] rfl)
set_option maxHeartbeats 4000000 in
theorem met_X6_bytesOf (l : Launch) (g : gG) (v : Int32) : Met l yX6_bytesOf (ws_ yX6_bytesOf cX6_bytesOf 3 (some .int)) rm_X6_bytesOf (va_Pc [.int v] (Pg g (fun _ => True))) (vp_Si (fun r => post_X6_bytesOf v r)) 0 0 (fun _ => False) :=
  wk_X6_bytesOf l g v _ (pr_X6_bytesOf v)

abbrev rm_X6_brings : Room := ({ frames := 1, cells := 0, slots := 0, locals := 64 } : Room)
set_option maxHeartbeats 4000000 in
theorem wkb_X6_brings_40 (C : Cx p s m args meth c cX6_brings 4 RX6 none g) (post : MSt → Prop)  (v : Int32)(K3 : (Nat → Int32) → (Nat → Nat → Int32) → (Nat → Nat) → Int32 → Prop) (hK3 : ∀ (i : Nat → Int32) (a : Nat → Nat → Int32) (q : Nat → Nat) (y2 : Int32), K3 i a q y2 → ∀ (H : Heap) (locs : List Loc), MS g F adr i a q H → va_S (Ag g) s.heap H locs → ∀ ls : Array Slot, lv_has ls 4 [(0, .ref (adr 0)), (1, .int v), (2, .int y2)] → W p l e rm_X6_brings s m args below meth c H locs 0 0 (MQ below (va_Qv post (fun u t => MS g F adr u.1 u.2.1 u.2.2 t.heap) (Ag g)) args s 0 0 (Ag g)) (F0 m 3 ls [])) (i : Nat → Int32) (a : Nat → Nat → Int32) (q : Nat → Nat) (x2 : Int32) (hw : wpb_X6_brings_40 post K3 v i a q x2) {H : Heap} {locs : List Loc} (hM : MS g F adr i a q H) (hS : va_S (Ag g) s.heap H locs) {ls : Array Slot} (hl : lv_has ls 4 [(0, .ref (adr 0)), (1, .int v), (2, .int x2)]) : W p l e rm_X6_brings s m args below meth c H locs 0 0 (MQ below (va_Qv post (fun u t => MS g F adr u.1 u.2.1 u.2.2 t.heap) (Ag g)) args s 0 0 (Ag g)) (F0 m 40 ls []) := by
  have hx := C.1
  have hb := C.2.1
  have hown := C.2.2.2.1
  have hr := C.2.2.2.2.2.1
  have hlocks := C.2.2.2.2.2.2.1
  obtain ⟨z6, ez6⟩ : ∃ y : Int32, y = x2 + (-8) := ⟨_, rfl⟩
  have hw := hw z6 ez6
  refine lv_iinc (v := z6) (lv' := [(2, .int z6), (0, .ref (adr 0)), (1, .int v)]) hx hb dX6_brings_40 hl (k := 2) rfl (by rw [ez6]; rfl) (by decide) rfl (fun ls hl => ?_)
  refine lv_goto (tgt := 3) hx hb dX6_brings_43 (by decide) ?_
  exact hK3 i a q z6 hw _ _ hM hS _ (lv_sub hl [1, 2, 0] rfl)
set_option maxHeartbeats 4000000 in
theorem wkb_X6_brings_3 (C : Cx p s m args meth c cX6_brings 4 RX6 none g) (post : MSt → Prop)  (v : Int32) : ∀ (n : Nat) (i : Nat → Int32) (a : Nat → Nat → Int32) (q : Nat → Nat) (x2 : Int32), wpb_X6_brings_3 post  v n i a q x2 → ∀ (H : Heap) (locs : List Loc), MS g F adr i a q H → va_S (Ag g) s.heap H locs → ∀ ls : Array Slot, lv_has ls 4 [(0, .ref (adr 0)), (1, .int v), (2, .int x2)] → W p l e rm_X6_brings s m args below meth c H locs 0 0 (MQ below (va_Qv post (fun u t => MS g F adr u.1 u.2.1 u.2.2 t.heap) (Ag g)) args s 0 0 (Ag g)) (F0 m 3 ls []) := by
  have hx := C.1
  have hb := C.2.1
  have hown := C.2.2.2.1
  have hr := C.2.2.2.2.2.1
  have hlocks := C.2.2.2.2.2.2.1
  intro n
  induction n with
  | zero =>
    intro i a q x2 hw
    exact hw.elim
  | succ n ih =>
    intro i a q x2 hw H locs hM hS ls hl
    refine lv_iload_n hx hb dX6_brings_3 rfl (lv_at hl 2 rfl) ?_
    refine lv_if_lt (tgt := 46) hx hb dX6_brings_4 (by decide) (fun c1 => ?_) (fun c1 => ?_)
    · have hw := hw.1 c1
      exact W.vret hx hb hr (fun t ht _ => ⟨⟨(i, a, q), rfl, hw, hM.at ht⟩, hS.F ht⟩) hS.2.2 dX6_brings_46
    · have hw := hw.2 c1
      refine lv_iload_n hx hb dX6_brings_7 rfl (lv_at hl 1 rfl) ?_
      refine lv_iload_n hx hb dX6_brings_8 rfl (lv_at hl 2 rfl) ?_
      refine lv_ishr hx hb dX6_brings_9 ?_
      refine lv_sipush (v := 255) hx hb dX6_brings_10 (by decide) ?_
      refine lv_iand hx hb dX6_brings_13 ?_
      refine lv_topi (fun z2 ez2 => ?_)
      have hw := hw z2 ez2
      refine lv_istore_n (lv' := [(3, .int z2), (0, .ref (adr 0)), (1, .int v), (2, .int x2)]) hx hb dX6_brings_14 rfl hl (by decide) rfl (fun ls hl => ?_)
      refine lv_iload_n hx hb dX6_brings_15 rfl (lv_at hl 0 rfl) ?_
      refine lv_if_eq (tgt := 40) hx hb dX6_brings_16 (by decide) (fun c3 => ?_) (fun c3 => ?_)
      · have hw := hw.1 c3
        exact wkb_X6_brings_40 C post v (wpb_X6_brings_3 post  v n) ih i a q x2 hw hM hS (lv_sub hl [1, 2, 3] rfl)
      · have hw := hw.2 c3
        refine lv_aload_n hx hb dX6_brings_19 rfl (lv_at hl 1 rfl) ?_
        refine m_get C hM 16 (by decide) q2354 rfl rfl dX6_brings_20 ?_
        refine lv_aload_n hx hb dX6_brings_23 rfl (lv_at hl 1 rfl) ?_
        refine m_get C hM 18 (by decide) q2356 rfl rfl dX6_brings_24 ?_
        refine lv_iload_n hx hb dX6_brings_27 rfl (lv_at hl 0 rfl) ?_
        refine lv_i2b hx hb dX6_brings_28 rfl ?_
        refine m_bst C hM hS (j := 8) rfl hw.1 dX6_brings_29 (fun a4 H locs ea4 hM hS => ?_)
        have hw := hw.2 a4 ea4
        refine lv_aload_n hx hb dX6_brings_30 rfl (lv_at hl 1 rfl) ?_
        refine lv_dup hx hb dX6_brings_31 rfl ?_
        refine m_get C hM 18 (by decide) q2356 rfl rfl dX6_brings_32 ?_
        refine lv_iconst (v := 1) hx hb dX6_brings_35 (by decide) ?_
        refine lv_iadd hx hb dX6_brings_36 ?_
        refine m_put C hM hS 18 rfl q2356 rfl rfl rfl dX6_brings_37 (fun i5 H locs ei5 hM hS => ?_)
        have hw := hw i5 ei5
        exact wkb_X6_brings_40 C post v (wpb_X6_brings_3 post  v n) ih i5 a4 q x2 hw hM hS (lv_sub hl [1, 2, 3] rfl)
set_option maxHeartbeats 4000000 in
theorem wk_X6_brings (l : Launch) (g : gG) (F : nM) (adr : Nat → Nat) (i : Nat → Int32) (a : Nat → Nat → Int32) (q : Nat → Nat) (v : Int32) (post : MSt → Prop) (hw : wp_X6_brings post i a q v) : Met l yX6_brings (ws_ yX6_brings cX6_brings 4 none) rm_X6_brings (va_Pc [.ref (adr 0), .int v] (Pg g (MS g F adr i a q))) (va_Qv post (fun u t => MS g F adr u.1 u.2.1 u.2.2 t.heap) (Ag g)) 0 0 (Ag g) := by
  refine Met.ofW (cc := cX6_brings) (maxL := 4) (ret := none) (by decide) rfl ?_
  intro p e s m args below meth c s₁ B hml hv
  obtain ⟨rfl, hG, hM⟩ := hv
  have C : Cx p s m _ meth c cX6_brings 4 RX6 none g := Cx.of B hml hG
  have hx := C.1
  have hb := C.2.1
  have hown := C.2.2.2.1
  have hr := C.2.2.2.2.2.1
  have hlocks := C.2.2.2.2.2.2.1
  have hS : va_S (Ag g) s.heap s.heap [] := va_S.rf
  refine lv_start ([.ref (adr 0), .int v] : List Value) (L := [(0, .ref (adr 0)), (1, .int v)]) (Nat.le_of_ble_eq_true rfl) rfl (fun ls hl => ?_)
  refine lv_bipush (v := 24) hx hb dX6_brings_0 (by decide) ?_
  refine lv_istore_n (lv' := [(2, .int 24), (0, .ref (adr 0)), (1, .int v)]) hx hb dX6_brings_2 rfl hl (by decide) rfl (fun ls hl => ?_)
  obtain ⟨n, hw⟩ := hw
  exact wkb_X6_brings_3 C post v  n i a q 24 hw _ _ hM hS _ (lv_sub hl [1, 2, 0] rfl)
set_option maxHeartbeats 4000000 in
theorem met_X6_brings (l : Launch) (g : gG) (F : nM) (adr : Nat → Nat) (i : Nat → Int32) (a : Nat → Nat → Int32) (q : Nat → Nat) (v : Int32) (hpre : pre_X6_brings i a q v) : Met l yX6_brings (ws_ yX6_brings cX6_brings 4 none) rm_X6_brings (va_Pc [.ref (adr 0), .int v] (Pg g (MS g F adr i a q))) (va_Qv (fun u => post_X6_brings i a q v u) (fun u t => MS g F adr u.1 u.2.1 u.2.2 t.heap) (Ag g)) 0 0 (Ag g) :=
  wk_X6_brings l g F adr i a q v _ (pr_X6_brings i a q v hpre)

abbrev rm_X6_append : Room := ({ frames := 2, cells := 0, slots := 0, locals := 128 } : Room)
set_option maxHeartbeats 4000000 in
theorem wk_X6_append (l : Launch) (g : gG) (F : nM) (adr : Nat → Nat) (i : Nat → Int32) (a : Nat → Nat → Int32) (q : Nat → Nat) (v0 : Int32) (v1 : Int32) (v2 : Int32) (v3 : Int32) (v4 : Int32) (post : Int32 → MSt → Prop) (hw : wp_X6_append post i a q v0 v1 v2 v3 v4) : Met l yX6_append (ws_ yX6_append cX6_append 6 (some .int)) rm_X6_append (va_Pc [.ref (adr 0), .int v0, .int v1, .int v2, .int v3, .int v4] (Pg g (MS g F adr i a q))) (va_Qi post (fun u t => MS g F adr u.1 u.2.1 u.2.2 t.heap) (Ag g)) 0 0 (Ag g) := by
  refine Met.ofW (cc := cX6_append) (maxL := 6) (ret := (some .int)) (by decide) rfl ?_
  intro p e s m args below meth c s₁ B hml hv
  obtain ⟨rfl, hG, hM⟩ := hv
  have C : Cx p s m _ meth c cX6_append 6 RX6 (some .int) g := Cx.of B hml hG
  have hx := C.1
  have hb := C.2.1
  have hown := C.2.2.2.1
  have hr := C.2.2.2.2.2.1
  have hlocks := C.2.2.2.2.2.2.1
  have hS : va_S (Ag g) s.heap s.heap [] := va_S.rf
  refine lv_start ([.ref (adr 0), .int v0, .int v1, .int v2, .int v3, .int v4] : List Value) (L := [(0, .ref (adr 0)), (1, .int v0), (2, .int v1), (3, .int v2), (4, .int v3), (5, .int v4)]) (Nat.le_of_ble_eq_true rfl) rfl (fun ls hl => ?_)
  refine lv_aload_n hx hb dX6_append_0 rfl (lv_at hl 0 rfl) ?_
  refine lv_iconst (v := 0) hx hb dX6_append_1 (by decide) ?_
  refine m_put C hM hS 0 rfl q2338 rfl rfl rfl dX6_append_2 (fun i1 H locs ei1 hM hS => ?_)
  have hw := hw i1 ei1
  refine lv_aload_n hx hb dX6_append_5 rfl (lv_at hl 0 rfl) ?_
  refine m_get C hM 18 (by decide) q2356 rfl rfl dX6_append_6 ?_
  refine lv_iload_n hx hb dX6_append_9 rfl (lv_at hl 1 rfl) ?_
  refine vp_callSi (va_runS (As := [.int v0]) (rest := [.int (i1 18)]) C.fix (met_X6_bytesOf l g  v0 ) (cw_X6_133 C.ts ⟨Nat.le_of_ble_eq_true rfl, Nat.le_of_ble_eq_true rfl⟩) (preS_of C (P := (fun _ => True)) hS trivial _) rfl rfl hl.1 rfl (lv_room (Nat.le_of_ble_eq_true rfl)) dX6_append_10 ⟨Nat.le_of_ble_eq_true rfl, Nat.le_of_ble_eq_true rfl⟩).run (fun r2 er2 => ?_)
  have hw := hw r2 er2
  refine lv_iadd hx hb dX6_append_13 ?_
  refine lv_iload_n hx hb dX6_append_14 rfl (lv_at hl 2 rfl) ?_
  refine vp_callSi (va_runS (As := [.int v1]) (rest := [.int ((i1 18) + r2)]) C.fix (met_X6_bytesOf l g  v1 ) (cw_X6_133 C.ts ⟨Nat.le_of_ble_eq_true rfl, Nat.le_of_ble_eq_true rfl⟩) (preS_of C (P := (fun _ => True)) hS trivial _) rfl rfl hl.1 rfl (lv_room (Nat.le_of_ble_eq_true rfl)) dX6_append_15 ⟨Nat.le_of_ble_eq_true rfl, Nat.le_of_ble_eq_true rfl⟩).run (fun r3 er3 => ?_)
  have hw := hw r3 er3
  refine lv_iadd hx hb dX6_append_18 ?_
  refine lv_iload_n hx hb dX6_append_19 rfl (lv_at hl 3 rfl) ?_
  refine vp_callSi (va_runS (As := [.int v2]) (rest := [.int (((i1 18) + r2) + r3)]) C.fix (met_X6_bytesOf l g  v2 ) (cw_X6_133 C.ts ⟨Nat.le_of_ble_eq_true rfl, Nat.le_of_ble_eq_true rfl⟩) (preS_of C (P := (fun _ => True)) hS trivial _) rfl rfl hl.1 rfl (lv_room (Nat.le_of_ble_eq_true rfl)) dX6_append_20 ⟨Nat.le_of_ble_eq_true rfl, Nat.le_of_ble_eq_true rfl⟩).run (fun r4 er4 => ?_)
  have hw := hw r4 er4
  refine lv_iadd hx hb dX6_append_23 ?_
  refine lv_iload hx hb dX6_append_24 (lv_at hl 4 rfl) ?_
  refine vp_callSi (va_runS (As := [.int v3]) (rest := [.int ((((i1 18) + r2) + r3) + r4)]) C.fix (met_X6_bytesOf l g  v3 ) (cw_X6_133 C.ts ⟨Nat.le_of_ble_eq_true rfl, Nat.le_of_ble_eq_true rfl⟩) (preS_of C (P := (fun _ => True)) hS trivial _) rfl rfl hl.1 rfl (lv_room (Nat.le_of_ble_eq_true rfl)) dX6_append_26 ⟨Nat.le_of_ble_eq_true rfl, Nat.le_of_ble_eq_true rfl⟩).run (fun r5 er5 => ?_)
  have hw := hw r5 er5
  refine lv_iadd hx hb dX6_append_29 ?_
  refine lv_iload hx hb dX6_append_30 (lv_at hl 5 rfl) ?_
  refine vp_callSi (va_runS (As := [.int v4]) (rest := [.int (((((i1 18) + r2) + r3) + r4) + r5)]) C.fix (met_X6_bytesOf l g  v4 ) (cw_X6_133 C.ts ⟨Nat.le_of_ble_eq_true rfl, Nat.le_of_ble_eq_true rfl⟩) (preS_of C (P := (fun _ => True)) hS trivial _) rfl rfl hl.1 rfl (lv_room (Nat.le_of_ble_eq_true rfl)) dX6_append_32 ⟨Nat.le_of_ble_eq_true rfl, Nat.le_of_ble_eq_true rfl⟩).run (fun r6 er6 => ?_)
  have hw := hw r6 er6
  refine lv_iadd hx hb dX6_append_35 ?_
  refine lv_sipush (v := 500) hx hb dX6_append_36 (by decide) ?_
  refine lv_icmp_le (tgt := 48) hx hb dX6_append_39 (by decide) (fun c7 => ?_) (fun c7 => ?_)
  · have hw := hw.1 c7
    refine lv_aload_n hx hb dX6_append_48 rfl (lv_at hl 0 rfl) ?_
    refine lv_iload_n hx hb dX6_append_49 rfl (lv_at hl 1 rfl) ?_
    refine va_callv (va_runV (As := [.int v0]) (rest := []) C.fix (met_X6_brings l g F adr i1 a q v0 hw.1) (cw_X6_139 C.ts ⟨Nat.le_of_ble_eq_true rfl, Nat.le_of_ble_eq_true rfl⟩) (preV_of C (P := (MS g F adr i1 a q)) (MS.recv C hM) hS hM _) rfl rfl hl.1 rfl (lv_room (Nat.le_of_ble_eq_true rfl)) dX6_append_50 ⟨Nat.le_of_ble_eq_true rfl, Nat.le_of_ble_eq_true rfl⟩) hS (fun _ _ h => h) (fun _ h => h) (fun z_u t H locs ht _ hw1 hB _ _ hS => ?_)
    obtain ⟨i9, a10, q11⟩ := z_u
    have hM : MS g F adr i9 a10 q11 H := by rw [← ht]; exact hB
    have hw := hw.2 i9 a10 q11 hw1
    refine lv_aload_n hx hb dX6_append_53 rfl (lv_at hl 0 rfl) ?_
    refine lv_iload_n hx hb dX6_append_54 rfl (lv_at hl 2 rfl) ?_
    refine va_callv (va_runV (As := [.int v1]) (rest := []) C.fix (met_X6_brings l g F adr i9 a10 q11 v1 hw.1) (cw_X6_139 C.ts ⟨Nat.le_of_ble_eq_true rfl, Nat.le_of_ble_eq_true rfl⟩) (preV_of C (P := (MS g F adr i9 a10 q11)) (MS.recv C hM) hS hM _) rfl rfl hl.1 rfl (lv_room (Nat.le_of_ble_eq_true rfl)) dX6_append_55 ⟨Nat.le_of_ble_eq_true rfl, Nat.le_of_ble_eq_true rfl⟩) hS (fun _ _ h => h) (fun _ h => h) (fun z_u t H locs ht _ hw1 hB _ _ hS => ?_)
    obtain ⟨i13, a14, q15⟩ := z_u
    have hM : MS g F adr i13 a14 q15 H := by rw [← ht]; exact hB
    have hw := hw.2 i13 a14 q15 hw1
    refine lv_aload_n hx hb dX6_append_58 rfl (lv_at hl 0 rfl) ?_
    refine lv_iload_n hx hb dX6_append_59 rfl (lv_at hl 3 rfl) ?_
    refine va_callv (va_runV (As := [.int v2]) (rest := []) C.fix (met_X6_brings l g F adr i13 a14 q15 v2 hw.1) (cw_X6_139 C.ts ⟨Nat.le_of_ble_eq_true rfl, Nat.le_of_ble_eq_true rfl⟩) (preV_of C (P := (MS g F adr i13 a14 q15)) (MS.recv C hM) hS hM _) rfl rfl hl.1 rfl (lv_room (Nat.le_of_ble_eq_true rfl)) dX6_append_60 ⟨Nat.le_of_ble_eq_true rfl, Nat.le_of_ble_eq_true rfl⟩) hS (fun _ _ h => h) (fun _ h => h) (fun z_u t H locs ht _ hw1 hB _ _ hS => ?_)
    obtain ⟨i17, a18, q19⟩ := z_u
    have hM : MS g F adr i17 a18 q19 H := by rw [← ht]; exact hB
    have hw := hw.2 i17 a18 q19 hw1
    refine lv_aload_n hx hb dX6_append_63 rfl (lv_at hl 0 rfl) ?_
    refine lv_iload hx hb dX6_append_64 (lv_at hl 4 rfl) ?_
    refine va_callv (va_runV (As := [.int v3]) (rest := []) C.fix (met_X6_brings l g F adr i17 a18 q19 v3 hw.1) (cw_X6_139 C.ts ⟨Nat.le_of_ble_eq_true rfl, Nat.le_of_ble_eq_true rfl⟩) (preV_of C (P := (MS g F adr i17 a18 q19)) (MS.recv C hM) hS hM _) rfl rfl hl.1 rfl (lv_room (Nat.le_of_ble_eq_true rfl)) dX6_append_66 ⟨Nat.le_of_ble_eq_true rfl, Nat.le_of_ble_eq_true rfl⟩) hS (fun _ _ h => h) (fun _ h => h) (fun z_u t H locs ht _ hw1 hB _ _ hS => ?_)
    obtain ⟨i21, a22, q23⟩ := z_u
    have hM : MS g F adr i21 a22 q23 H := by rw [← ht]; exact hB
    have hw := hw.2 i21 a22 q23 hw1
    refine lv_aload_n hx hb dX6_append_69 rfl (lv_at hl 0 rfl) ?_
    refine lv_iload hx hb dX6_append_70 (lv_at hl 5 rfl) ?_
    refine va_callv (va_runV (As := [.int v4]) (rest := []) C.fix (met_X6_brings l g F adr i21 a22 q23 v4 hw.1) (cw_X6_139 C.ts ⟨Nat.le_of_ble_eq_true rfl, Nat.le_of_ble_eq_true rfl⟩) (preV_of C (P := (MS g F adr i21 a22 q23)) (MS.recv C hM) hS hM _) rfl rfl hl.1 rfl (lv_room (Nat.le_of_ble_eq_true rfl)) dX6_append_72 ⟨Nat.le_of_ble_eq_true rfl, Nat.le_of_ble_eq_true rfl⟩) hS (fun _ _ h => h) (fun _ h => h) (fun z_u t H locs ht _ hw1 hB _ _ hS => ?_)
    obtain ⟨i25, a26, q27⟩ := z_u
    have hM : MS g F adr i25 a26 q27 H := by rw [← ht]; exact hB
    have hw := hw.2 i25 a26 q27 hw1
    refine lv_aload_n hx hb dX6_append_75 rfl (lv_at hl 0 rfl) ?_
    refine m_get C hM 18 (by decide) q2356 rfl rfl dX6_append_76 ?_
    exact W.iret (v := (i25 18)) hx hb hr (fun t ht _ => ⟨⟨(i25 18), (i25, a26, q27), rfl, hw, hM.at ht⟩, hS.F ht⟩) hS.2.2 dX6_append_79
  · have hw := hw.2 c7
    refine lv_aload_n hx hb dX6_append_42 rfl (lv_at hl 0 rfl) ?_
    refine lv_iconst (v := 1) hx hb dX6_append_43 (by decide) ?_
    refine va_calli (va_runV (As := [.int 1]) (rest := []) C.fix (met_X6_fails l g F adr i1 a q 1 ) (cw_X6_136 C.ts ⟨Nat.le_of_ble_eq_true rfl, Nat.le_of_ble_eq_true rfl⟩) (preV_of C (P := (MS g F adr i1 a q)) (MS.recv C hM) hS hM _) rfl rfl hl.1 rfl (lv_room (Nat.le_of_ble_eq_true rfl)) dX6_append_44 ⟨Nat.le_of_ble_eq_true rfl, Nat.le_of_ble_eq_true rfl⟩) hS (fun _ _ h => h) (fun _ h => h) (fun r28 z_u t H locs ht _ hw1 hB _ _ hS => ?_)
    obtain ⟨i29, a30, q31⟩ := z_u
    have hM : MS g F adr i29 a30 q31 H := by rw [← ht]; exact hB
    have hw := hw r28 i29 a30 q31 hw1
    exact W.iret (v := r28) hx hb hr (fun t ht _ => ⟨⟨r28, (i29, a30, q31), rfl, hw, hM.at ht⟩, hS.F ht⟩) hS.2.2 dX6_append_47
set_option maxHeartbeats 4000000 in
theorem met_X6_append (l : Launch) (g : gG) (F : nM) (adr : Nat → Nat) (i : Nat → Int32) (a : Nat → Nat → Int32) (q : Nat → Nat) (v0 : Int32) (v1 : Int32) (v2 : Int32) (v3 : Int32) (v4 : Int32) (hpre : pre_X6_append i a q v0 v1 v2 v3 v4) : Met l yX6_append (ws_ yX6_append cX6_append 6 (some .int)) rm_X6_append (va_Pc [.ref (adr 0), .int v0, .int v1, .int v2, .int v3, .int v4] (Pg g (MS g F adr i a q))) (va_Qi (fun r u => post_X6_append i a q v0 v1 v2 v3 v4 r u) (fun u t => MS g F adr u.1 u.2.1 u.2.2 t.heap) (Ag g)) 0 0 (Ag g) :=
  wk_X6_append l g F adr i a q v0 v1 v2 v3 v4 _ (pr_X6_append i a q v0 v1 v2 v3 v4 hpre)

abbrev rm_X6_truncate : Room := ({ frames := 2, cells := 0, slots := 0, locals := 128 } : Room)
set_option maxHeartbeats 4000000 in
theorem wk_X6_truncate (l : Launch) (g : gG) (F : nM) (adr : Nat → Nat) (i : Nat → Int32) (a : Nat → Nat → Int32) (q : Nat → Nat) (v : Int32) (post : Int32 → MSt → Prop) (hw : wp_X6_truncate post i a q v) : Met l yX6_truncate (ws_ yX6_truncate cX6_truncate 2 (some .int)) rm_X6_truncate (va_Pc [.ref (adr 0), .int v] (Pg g (MS g F adr i a q))) (va_Qi post (fun u t => MS g F adr u.1 u.2.1 u.2.2 t.heap) (Ag g)) 0 0 (Ag g) := by
  refine Met.ofW (cc := cX6_truncate) (maxL := 2) (ret := (some .int)) (by decide) rfl ?_
  intro p e s m args below meth c s₁ B hml hv
  obtain ⟨rfl, hG, hM⟩ := hv
  have C : Cx p s m _ meth c cX6_truncate 2 RX6 (some .int) g := Cx.of B hml hG
  have hx := C.1
  have hb := C.2.1
  have hown := C.2.2.2.1
  have hr := C.2.2.2.2.2.1
  have hlocks := C.2.2.2.2.2.2.1
  have hS : va_S (Ag g) s.heap s.heap [] := va_S.rf
  refine lv_start ([.ref (adr 0), .int v] : List Value) (L := [(0, .ref (adr 0)), (1, .int v)]) (Nat.le_of_ble_eq_true rfl) rfl (fun ls hl => ?_)
  refine lv_aload_n hx hb dX6_truncate_0 rfl (lv_at hl 0 rfl) ?_
  refine lv_iconst (v := 0) hx hb dX6_truncate_1 (by decide) ?_
  refine m_put C hM hS 0 rfl q2338 rfl rfl rfl dX6_truncate_2 (fun i1 H locs ei1 hM hS => ?_)
  have hw := hw i1 ei1
  refine lv_iload_n hx hb dX6_truncate_5 rfl (lv_at hl 1 rfl) ?_
  refine lv_i2l hx hb dX6_truncate_6 rfl ?_
  refine lv_lconst (v := 0) hx hb dX6_truncate_7 (by decide) ?_
  refine lv_aload_n hx hb dX6_truncate_8 rfl (lv_at hl 0 rfl) ?_
  refine m_get C hM 18 (by decide) q2356 rfl rfl dX6_truncate_9 ?_
  refine lv_i2l hx hb dX6_truncate_12 rfl ?_
  refine vp_callSi (va_runS (As := [.long v.toInt64, .long 0, .long ((i1 18).toInt64)]) (rest := []) C.fix (met_X6_isIn l g  v.toInt64 0 ((i1 18).toInt64) ) (cw_X6_61 C.ts ⟨Nat.le_of_ble_eq_true rfl, Nat.le_of_ble_eq_true rfl⟩) (preS_of C (P := (fun _ => True)) hS trivial _) rfl rfl hl.1 rfl (lv_room (Nat.le_of_ble_eq_true rfl)) dX6_truncate_13 ⟨Nat.le_of_ble_eq_true rfl, Nat.le_of_ble_eq_true rfl⟩).run (fun r2 er2 => ?_)
  have hw := hw r2 er2
  refine lv_if_ne (tgt := 25) hx hb dX6_truncate_16 (by decide) (fun c3 => ?_) (fun c3 => ?_)
  · have hw := hw.1 c3
    refine lv_aload_n hx hb dX6_truncate_25 rfl (lv_at hl 0 rfl) ?_
    refine lv_iload_n hx hb dX6_truncate_26 rfl (lv_at hl 1 rfl) ?_
    refine m_put C hM hS 18 rfl q2356 rfl rfl rfl dX6_truncate_27 (fun i4 H locs ei4 hM hS => ?_)
    have hw := hw i4 ei4
    refine lv_aload_n hx hb dX6_truncate_30 rfl (lv_at hl 0 rfl) ?_
    refine m_get C hM 18 (by decide) q2356 rfl rfl dX6_truncate_31 ?_
    exact W.iret (v := (i4 18)) hx hb hr (fun t ht _ => ⟨⟨(i4 18), (i4, a, q), rfl, hw, hM.at ht⟩, hS.F ht⟩) hS.2.2 dX6_truncate_34
  · have hw := hw.2 c3
    refine lv_aload_n hx hb dX6_truncate_19 rfl (lv_at hl 0 rfl) ?_
    refine lv_iconst (v := 1) hx hb dX6_truncate_20 (by decide) ?_
    refine va_calli (va_runV (As := [.int 1]) (rest := []) C.fix (met_X6_fails l g F adr i1 a q 1 ) (cw_X6_136 C.ts ⟨Nat.le_of_ble_eq_true rfl, Nat.le_of_ble_eq_true rfl⟩) (preV_of C (P := (MS g F adr i1 a q)) (MS.recv C hM) hS hM _) rfl rfl hl.1 rfl (lv_room (Nat.le_of_ble_eq_true rfl)) dX6_truncate_21 ⟨Nat.le_of_ble_eq_true rfl, Nat.le_of_ble_eq_true rfl⟩) hS (fun _ _ h => h) (fun _ h => h) (fun r5 z_u t H locs ht _ hw1 hB _ _ hS => ?_)
    obtain ⟨i6, a7, q8⟩ := z_u
    have hM : MS g F adr i6 a7 q8 H := by rw [← ht]; exact hB
    have hw := hw r5 i6 a7 q8 hw1
    exact W.iret (v := r5) hx hb hr (fun t ht _ => ⟨⟨r5, (i6, a7, q8), rfl, hw, hM.at ht⟩, hS.F ht⟩) hS.2.2 dX6_truncate_24
set_option maxHeartbeats 4000000 in
theorem met_X6_truncate (l : Launch) (g : gG) (F : nM) (adr : Nat → Nat) (i : Nat → Int32) (a : Nat → Nat → Int32) (q : Nat → Nat) (v : Int32) (hpre : pre_X6_truncate i a q v) : Met l yX6_truncate (ws_ yX6_truncate cX6_truncate 2 (some .int)) rm_X6_truncate (va_Pc [.ref (adr 0), .int v] (Pg g (MS g F adr i a q))) (va_Qi (fun r u => post_X6_truncate i a q v r u) (fun u t => MS g F adr u.1 u.2.1 u.2.2 t.heap) (Ag g)) 0 0 (Ag g) :=
  wk_X6_truncate l g F adr i a q v _ (pr_X6_truncate i a q v hpre)
end
