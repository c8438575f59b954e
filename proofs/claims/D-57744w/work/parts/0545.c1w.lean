set_option maxRecDepth 100000
theorem cw_X2_45 {R : Room} {s : State} {args : Array Value} (hts : ∀ w ∈ lw_all, w.before args s = true) {rm : Room} (hR : rm.frames + 1 ≤ R.frames ∧ 8 + (2 + 11) + rm.locals ≤ R.locals) : CallW R s args RX2 RX2 45 yX2_hasInn cX2_hasInn 2 (some .boolean) (ws_ yX2_hasInn cX2_hasInn 2 (some .boolean)) rm rm.cells rm.slots 1 := cwV 1 hts (lw_V q290 q291 q292 q71 q293) rfl rfl rfl (by decide +kernel) hR
theorem cw_X2_138 {R : Room} {s : State} {args : Array Value} (hts : ∀ w ∈ lw_all, w.before args s = true) {rm : Room} (hR : rm.frames + 1 ≤ R.frames ∧ 8 + (2 + 11) + rm.locals ≤ R.locals) : CallW R s args RX2 RX2 138 yX2_danglingAt cX2_danglingAt 2 (some .int) (ws_ yX2_danglingAt cX2_danglingAt 2 (some .int)) rm rm.cells rm.slots 1 := cwV 1 hts (lw_V q1763 q1765 qs24 q71 q1766) rfl rfl rfl (by decide +kernel) hR
theorem cw_X2_147 {R : Room} {s : State} {args : Array Value} (hts : ∀ w ∈ lw_all, w.before args s = true) {rm : Room} (hR : rm.frames + 1 ≤ R.frames ∧ 8 + (3 + 11) + rm.locals ≤ R.locals) : CallW R s args RX2 RX2 147 yX2_distance cX2_distance 3 (some .int) (ws_ yX2_distance cX2_distance 3 (some .int)) rm rm.cells rm.slots 2 := cwV 2 hts (lw_V q2043 q1680 q1681 q71 q1682) rfl rfl rfl (by decide +kernel) hR
theorem cw_X2_150 {R : Room} {s : State} {args : Array Value} (hts : ∀ w ∈ lw_all, w.before args s = true) {rm : Room} (hR : rm.frames + 1 ≤ R.frames ∧ 8 + (4 + 11) + rm.locals ≤ R.locals) : CallW R s args RX2 RX2 150 yX2_canRide cX2_canRide 4 (some .boolean) (ws_ yX2_canRide cX2_canRide 4 (some .boolean)) rm rm.cells rm.slots 3 := cwV 3 hts (lw_V q2039 q2040 q2041 q71 q2042) rfl rfl rfl (by decide +kernel) hR
theorem cw_X2_106 {R : Room} {s : State} {args : Array Value} (hts : ∀ w ∈ lw_all, w.before args s = true) {rm : Room} (hR : rm.frames + 1 ≤ R.frames ∧ 8 + (2 + 11) + rm.locals ≤ R.locals) : CallB R s args RX2 106 yX2_difference cX2_difference 2 (some .int) (ws_ yX2_difference cX2_difference 2 (some .int)) rm rm.cells rm.slots 2 ∧ (Cond.static yX2_difference).before args s = true := va_cwS 2 hts (lw_S q750 q751 q71 q752) rfl rfl rfl (by decide +kernel) hR
theorem cw_X2_110 {R : Room} {s : State} {args : Array Value} (hts : ∀ w ∈ lw_all, w.before args s = true) {rm : Room} (hR : rm.frames + 1 ≤ R.frames ∧ 8 + (3 + 11) + rm.locals ≤ R.locals) : CallW R s args RX2 RX2 110 yX2_wrongAt cX2_wrongAt 3 (some .int) (ws_ yX2_wrongAt cX2_wrongAt 3 (some .int)) rm rm.cells rm.slots 2 := cwV 2 hts (lw_V q753 q755 qs6 q71 q756) rfl rfl rfl (by decide +kernel) hR
section
variable {p : Program} {l : Launch} {e : Env} {s : State} {m : MethodId} {args : Array Value} {below : List Frame} {meth : Method} {c : Code} {g : gG}
set_option maxHeartbeats 4000000 in
theorem wk_X2_hasInn (l : Launch) (g : gG) (A : RA) (f : Row) (M : nM) (o : Nat) (x : Int32) (post : Int32 → Prop) (hw : wp_X2_hasInn g A f post M o x) : Met l yX2_hasInn (ws_ yX2_hasInn cX2_hasInn 2 (some .boolean)) ({ frames := 1, cells := 0, slots := 0, locals := 64 } : Room) (va_Pc [.ref o, .int x] (Pg g (nh g M))) (vp_Si post) 0 0 (fun _ => False) := by
  refine Met.ofW (cc := cX2_hasInn) (maxL := 2) (ret := (some .boolean)) (by decide) rfl ?_
  intro p e s m args below meth c s₁ B hml hv
  obtain ⟨rfl, hG, hM⟩ := hv
  have C : Cx p s m _ meth c cX2_hasInn 2 RX2 (some .boolean) g := Cx.of B hml hG
  have hx := C.1
  have hb := C.2.1
  have hown := C.2.2.2.1
  have hr := C.2.2.2.2.2.1
  have hlocks := C.2.2.2.2.2.2.1
  refine lv_start ([.ref o, .int x] : List Value) (L := [(0, .ref o), (1, .int x)]) (Nat.le_of_ble_eq_true rfl) rfl (fun ls hl => ?_)
  refine lv_iload_n hx hb dX2_hasInn_0 rfl (lv_at hl 1 rfl) ?_
  refine lv_iconst (v := (-1)) hx hb dX2_hasInn_1 (by decide) ?_
  refine lv_icmp_eq (tgt := 18) hx hb dX2_hasInn_2 (by decide) (fun c1 => ?_) (fun c1 => ?_)
  · have hw := hw.1 c1
    refine lv_iconst (v := 0) hx hb dX2_hasInn_18 (by decide) ?_
    exact W.zret (v := 0) hx hb hr hw.1 (fun t ht _ => ⟨0, rfl, hw.2, ht⟩) (fun _ h => by cases h) dX2_hasInn_19
  · have hw := hw.2 c1
    refine lv_aload_n hx hb dX2_hasInn_5 rfl (lv_at hl 0 rfl) ?_
    obtain ⟨v2, ⟨tv2, fsv2, hev2, hvv2⟩, hw⟩ := hw
    refine g_get C in_X2 hM hev2 rfl 0 (by decide) q171 (fun _ h => h) (v := .ref v2) hvv2 dX2_hasInn_6 ?_
    refine lv_iload_n hx hb dX2_hasInn_9 rfl (lv_at hl 1 rfl) ?_
    obtain ⟨nf3, f3, ⟨tf3, hef3⟩, hif3, hw⟩ := hw
    refine g_aald C hM 3 hef3 rfl rfl hif3 dX2_hasInn_10 ?_
    obtain ⟨z4, ez4⟩ : ∃ y_, y_ = f3 x.toNatClampNeg := ⟨_, rfl⟩
    rw [← ez4]
    replace hw := hw z4 ez4
    rcases va_rfc z4 with eb5 | ⟨b5, eb5⟩
    · replace hw := hw.1 eb5
      rw [eb5]
      refine lv_ifnullN (tgt := 18) hx hb dX2_hasInn_11 (by decide) ?_
      refine lv_iconst (v := 0) hx hb dX2_hasInn_18 (by decide) ?_
      exact W.zret (v := 0) hx hb hr hw.1 (fun t ht _ => ⟨0, rfl, hw.2, ht⟩) (fun _ h => by cases h) dX2_hasInn_19
    · replace hw := hw.2 b5 eb5
      subst eb5
      refine lv_ifnull hx hb dX2_hasInn_11 ?_
      refine lv_iconst (v := 1) hx hb dX2_hasInn_14 (by decide) ?_
      refine lv_goto (tgt := 19) hx hb dX2_hasInn_15 (by decide) ?_
      exact W.zret (v := 1) hx hb hr hw.1 (fun t ht _ => ⟨1, rfl, hw.2, ht⟩) (fun _ h => by cases h) dX2_hasInn_19
set_option maxHeartbeats 4000000 in
theorem met_X2_hasInn (l : Launch) (g : gG) (A : RA) (f : Row) (M : nM) (o : Nat) (x : Int32) (hpre : pre_X2_hasInn g A f M o x) : Met l yX2_hasInn (ws_ yX2_hasInn cX2_hasInn 2 (some .boolean)) ({ frames := 1, cells := 0, slots := 0, locals := 64 } : Room) (va_Pc [.ref o, .int x] (Pg g (nh g M))) (vp_Si (fun r => post_X2_hasInn g A f M o x r)) 0 0 (fun _ => False) :=
  wk_X2_hasInn l g A f M o x _ (pr_X2_hasInn g A f M o x hpre)

set_option maxHeartbeats 4000000 in
theorem wkb_X2_size_24 (C : Cx p s m args meth c cX2_size 3 RX2 (some .int) g) (post : Int32 → Prop) (A : RA) (f : Row) (M : nM) (hM : nh g M s.heap) (o : Nat) (K4 : Int32 → Int32 → Prop) (hK4 : ∀ (y1 : Int32) (y2 : Int32), K4 y1 y2 → ∀ ls : Array Slot, lv_has ls 3 [(0, .ref o), (1, .int y1), (2, .int y2)] → W p l e ({ frames := 2, cells := 0, slots := 0, locals := 128 } : Room) s m args below meth c s.heap [] 0 0 (MQ below (vp_Si post) args s 0 0 (fun _ => False)) (F0 m 4 ls [])) (x2 : Int32) (s0 : Int32) (s1 : Int32) (hw : wpb_X2_size_24 post K4 g A f M o x2 s0 s1) {ls : Array Slot} (hl : lv_has ls 3 [(0, .ref o), (2, .int x2)]) : W p l e ({ frames := 2, cells := 0, slots := 0, locals := 128 } : Room) s m args below meth c s.heap [] 0 0 (MQ below (vp_Si post) args s 0 0 (fun _ => False)) (F0 m 24 ls [.int s0, .int s1]) := by
  have hx := C.1
  have hb := C.2.1
  have hown := C.2.2.2.1
  have hr := C.2.2.2.2.2.1
  have hlocks := C.2.2.2.2.2.2.1
  refine lv_iadd hx hb dX2_size_24 ?_
  refine lv_topi (fun z6 ez6 => ?_)
  have hw := hw z6 ez6
  refine lv_istore_n (lv' := [(1, .int z6), (0, .ref o), (2, .int x2)]) hx hb dX2_size_25 rfl hl (by decide) rfl (fun ls hl => ?_)
  obtain ⟨z7, ez7⟩ : ∃ y : Int32, y = x2 + 1 := ⟨_, rfl⟩
  have hw := hw z7 ez7
  refine lv_iinc (v := z7) (lv' := [(2, .int z7), (1, .int z6), (0, .ref o)]) hx hb dX2_size_26 hl (k := 2) rfl (by rw [ez7]; rfl) (by decide) rfl (fun ls hl => ?_)
  refine lv_goto (tgt := 4) hx hb dX2_size_29 (by decide) ?_
  exact hK4 z6 z7 hw  _ (lv_sub hl [2, 1, 0] rfl)
set_option maxHeartbeats 4000000 in
theorem wkb_X2_size_4 (C : Cx p s m args meth c cX2_size 3 RX2 (some .int) g) (post : Int32 → Prop) (A : RA) (f : Row) (M : nM) (hM : nh g M s.heap) (o : Nat)  : ∀ (n : Nat) (x1 : Int32) (x2 : Int32), wpb_X2_size_4 post  g A f M o n x1 x2 → ∀ ls : Array Slot, lv_has ls 3 [(0, .ref o), (1, .int x1), (2, .int x2)] → W p l e ({ frames := 2, cells := 0, slots := 0, locals := 128 } : Room) s m args below meth c s.heap [] 0 0 (MQ below (vp_Si post) args s 0 0 (fun _ => False)) (F0 m 4 ls []) := by
  have hx := C.1
  have hb := C.2.1
  have hown := C.2.2.2.1
  have hr := C.2.2.2.2.2.1
  have hlocks := C.2.2.2.2.2.2.1
  intro n
  induction n with
  | zero =>
    intro x1 x2 hw
    exact hw.elim
  | succ n ih =>
    intro x1 x2 hw  ls hl
    refine lv_iload_n hx hb dX2_size_4 rfl (lv_at hl 2 rfl) ?_
    refine lv_bipush (v := 12) hx hb dX2_size_5 (by decide) ?_
    refine lv_icmp_ge (tgt := 32) hx hb dX2_size_7 (by decide) (fun c1 => ?_) (fun c1 => ?_)
    · have hw := hw.1 c1
      refine lv_iload_n hx hb dX2_size_32 rfl (lv_at hl 1 rfl) ?_
      exact W.iret (v := x1) hx hb hr (fun t ht _ => ⟨x1, rfl, hw, ht⟩) (fun _ h => by cases h) dX2_size_33
    · have hw := hw.2 c1
      refine lv_iload_n hx hb dX2_size_10 rfl (lv_at hl 1 rfl) ?_
      refine lv_aload_n hx hb dX2_size_11 rfl (lv_at hl 0 rfl) ?_
      refine lv_iload_n hx hb dX2_size_12 rfl (lv_at hl 2 rfl) ?_
      obtain ⟨g_2, g_3, hw⟩ := hw
      obtain ⟨hpr4, hw⟩ := hw
      obtain ⟨⟨wr4, ur4, hrr4⟩, hw⟩ := hw
      refine vp_callSi (va_runV (As := [.int x2]) (rest := [.int x1]) C.fix (met_X2_hasInn l g g_2 g_3 M o x2 hpr4) (cw_X2_45 C.ts ⟨Nat.le_of_ble_eq_true rfl, Nat.le_of_ble_eq_true rfl⟩) (preV_of C (P := (nh g M)) (nh.recv C hM hrr4 (q := (RX2, TX2, 5)) rfl) va_S.rf hM _) rfl rfl hl.1 rfl (lv_room (Nat.le_of_ble_eq_true rfl)) dX2_size_13 ⟨Nat.le_of_ble_eq_true rfl, Nat.le_of_ble_eq_true rfl⟩).run (fun r4 er4 => ?_)
      replace hw := hw r4 er4
      refine lv_if_eq (tgt := 23) hx hb dX2_size_16 (by decide) (fun c5 => ?_) (fun c5 => ?_)
      · have hw := hw.1 c5
        refine lv_iconst (v := 0) hx hb dX2_size_23 (by decide) ?_
        exact wkb_X2_size_24 C post  A f M hM o (wpb_X2_size_4 post  g A f M o n) ih x2 0 x1 hw  (lv_sub hl [0, 2] rfl)
      · have hw := hw.2 c5
        refine lv_iconst (v := 1) hx hb dX2_size_19 (by decide) ?_
        refine lv_goto (tgt := 24) hx hb dX2_size_20 (by decide) ?_
        exact wkb_X2_size_24 C post  A f M hM o (wpb_X2_size_4 post  g A f M o n) ih x2 1 x1 hw  (lv_sub hl [0, 2] rfl)
set_option maxHeartbeats 4000000 in
theorem wk_X2_size (l : Launch) (g : gG) (A : RA) (f : Row) (M : nM) (o : Nat) (post : Int32 → Prop) (hw : wp_X2_size g A f post M o) : Met l yX2_size (ws_ yX2_size cX2_size 3 (some .int)) ({ frames := 2, cells := 0, slots := 0, locals := 128 } : Room) (va_Pc [.ref o] (Pg g (nh g M))) (vp_Si post) 0 0 (fun _ => False) := by
  refine Met.ofW (cc := cX2_size) (maxL := 3) (ret := (some .int)) (by decide) rfl ?_
  intro p e s m args below meth c s₁ B hml hv
  obtain ⟨rfl, hG, hM⟩ := hv
  have C : Cx p s m _ meth c cX2_size 3 RX2 (some .int) g := Cx.of B hml hG
  have hx := C.1
  have hb := C.2.1
  have hown := C.2.2.2.1
  have hr := C.2.2.2.2.2.1
  have hlocks := C.2.2.2.2.2.2.1
  refine lv_start ([.ref o] : List Value) (L := [(0, .ref o)]) (Nat.le_of_ble_eq_true rfl) rfl (fun ls hl => ?_)
  refine lv_iconst (v := 0) hx hb dX2_size_0 (by decide) ?_
  refine lv_istore_n (lv' := [(1, .int 0), (0, .ref o)]) hx hb dX2_size_1 rfl hl (by decide) rfl (fun ls hl => ?_)
  refine lv_iconst (v := 0) hx hb dX2_size_2 (by decide) ?_
  refine lv_istore_n (lv' := [(2, .int 0), (1, .int 0), (0, .ref o)]) hx hb dX2_size_3 rfl hl (by decide) rfl (fun ls hl => ?_)
  obtain ⟨n_, hw⟩ := hw
  exact wkb_X2_size_4 C post  A f M hM o  n_ 0 0 hw  _ (lv_sub hl [2, 1, 0] rfl)
set_option maxHeartbeats 4000000 in
theorem met_X2_size (l : Launch) (g : gG) (A : RA) (f : Row) (M : nM) (o : Nat) (hpre : pre_X2_size g A f M o) : Met l yX2_size (ws_ yX2_size cX2_size 3 (some .int)) ({ frames := 2, cells := 0, slots := 0, locals := 128 } : Room) (va_Pc [.ref o] (Pg g (nh g M))) (vp_Si (fun r => post_X2_size g A f M o r)) 0 0 (fun _ => False) :=
  wk_X2_size l g A f M o _ (pr_X2_size g A f M o hpre)

set_option maxHeartbeats 4000000 in
theorem wkb_X2_openInns_36 (C : Cx p s m args meth c cX2_openInns 3 RX2 (some .int) g) (post : Int32 → Prop) (A : RA) (f : Row) (M : nM) (hM : nh g M s.heap) (o : Nat) (K4 : Int32 → Int32 → Prop) (hK4 : ∀ (y1 : Int32) (y2 : Int32), K4 y1 y2 → ∀ ls : Array Slot, lv_has ls 3 [(0, .ref o), (1, .int y1), (2, .int y2)] → W p l e ({ frames := 2, cells := 0, slots := 0, locals := 128 } : Room) s m args below meth c s.heap [] 0 0 (MQ below (vp_Si post) args s 0 0 (fun _ => False)) (F0 m 4 ls [])) (x2 : Int32) (s0 : Int32) (s1 : Int32) (hw : wpb_X2_openInns_36 post K4 g A f M o x2 s0 s1) {ls : Array Slot} (hl : lv_has ls 3 [(0, .ref o), (2, .int x2)]) : W p l e ({ frames := 2, cells := 0, slots := 0, locals := 128 } : Room) s m args below meth c s.heap [] 0 0 (MQ below (vp_Si post) args s 0 0 (fun _ => False)) (F0 m 36 ls [.int s0, .int s1]) := by
  have hx := C.1
  have hb := C.2.1
  have hown := C.2.2.2.1
  have hr := C.2.2.2.2.2.1
  have hlocks := C.2.2.2.2.2.2.1
  refine lv_iadd hx hb dX2_openInns_36 ?_
  refine lv_topi (fun z12 ez12 => ?_)
  have hw := hw z12 ez12
  refine lv_istore_n (lv' := [(1, .int z12), (0, .ref o), (2, .int x2)]) hx hb dX2_openInns_37 rfl hl (by decide) rfl (fun ls hl => ?_)
  obtain ⟨z13, ez13⟩ : ∃ y : Int32, y = x2 + 1 := ⟨_, rfl⟩
  have hw := hw z13 ez13
  refine lv_iinc (v := z13) (lv' := [(2, .int z13), (1, .int z12), (0, .ref o)]) hx hb dX2_openInns_38 hl (k := 2) rfl (by rw [ez13]; rfl) (by decide) rfl (fun ls hl => ?_)
  refine lv_goto (tgt := 4) hx hb dX2_openInns_41 (by decide) ?_
  exact hK4 z12 z13 hw  _ (lv_sub hl [2, 1, 0] rfl)
set_option maxHeartbeats 4000000 in
theorem wkb_X2_openInns_35 (C : Cx p s m args meth c cX2_openInns 3 RX2 (some .int) g) (post : Int32 → Prop) (A : RA) (f : Row) (M : nM) (hM : nh g M s.heap) (o : Nat) (K4 : Int32 → Int32 → Prop) (hK4 : ∀ (y1 : Int32) (y2 : Int32), K4 y1 y2 → ∀ ls : Array Slot, lv_has ls 3 [(0, .ref o), (1, .int y1), (2, .int y2)] → W p l e ({ frames := 2, cells := 0, slots := 0, locals := 128 } : Room) s m args below meth c s.heap [] 0 0 (MQ below (vp_Si post) args s 0 0 (fun _ => False)) (F0 m 4 ls [])) (x2 : Int32) (s0 : Int32) (hw : wpb_X2_openInns_35 post K4 g A f M o x2 s0) {ls : Array Slot} (hl : lv_has ls 3 [(0, .ref o), (2, .int x2)]) : W p l e ({ frames := 2, cells := 0, slots := 0, locals := 128 } : Room) s m args below meth c s.heap [] 0 0 (MQ below (vp_Si post) args s 0 0 (fun _ => False)) (F0 m 35 ls [.int s0]) := by
  have hx := C.1
  have hb := C.2.1
  have hown := C.2.2.2.1
  have hr := C.2.2.2.2.2.1
  have hlocks := C.2.2.2.2.2.2.1
  refine lv_iconst (v := 0) hx hb dX2_openInns_35 (by decide) ?_
  exact wkb_X2_openInns_36 C post  A f M hM o K4 hK4 x2 0 s0 hw  (lv_sub hl [0, 1] rfl)
set_option maxHeartbeats 4000000 in
theorem wkb_X2_openInns_4 (C : Cx p s m args meth c cX2_openInns 3 RX2 (some .int) g) (post : Int32 → Prop) (A : RA) (f : Row) (M : nM) (hM : nh g M s.heap) (o : Nat)  : ∀ (n : Nat) (x1 : Int32) (x2 : Int32), wpb_X2_openInns_4 post  g A f M o n x1 x2 → ∀ ls : Array Slot, lv_has ls 3 [(0, .ref o), (1, .int x1), (2, .int x2)] → W p l e ({ frames := 2, cells := 0, slots := 0, locals := 128 } : Room) s m args below meth c s.heap [] 0 0 (MQ below (vp_Si post) args s 0 0 (fun _ => False)) (F0 m 4 ls []) := by
  have hx := C.1
  have hb := C.2.1
  have hown := C.2.2.2.1
  have hr := C.2.2.2.2.2.1
  have hlocks := C.2.2.2.2.2.2.1
  intro n
  induction n with
  | zero =>
    intro x1 x2 hw
    exact hw.elim
  | succ n ih =>
    intro x1 x2 hw  ls hl
    refine lv_iload_n hx hb dX2_openInns_4 rfl (lv_at hl 2 rfl) ?_
    refine lv_bipush (v := 12) hx hb dX2_openInns_5 (by decide) ?_
    refine lv_icmp_ge (tgt := 44) hx hb dX2_openInns_7 (by decide) (fun c1 => ?_) (fun c1 => ?_)
    · have hw := hw.1 c1
      refine lv_iload_n hx hb dX2_openInns_44 rfl (lv_at hl 1 rfl) ?_
      exact W.iret (v := x1) hx hb hr (fun t ht _ => ⟨x1, rfl, hw, ht⟩) (fun _ h => by cases h) dX2_openInns_45
    · have hw := hw.2 c1
      refine lv_iload_n hx hb dX2_openInns_10 rfl (lv_at hl 1 rfl) ?_
      refine lv_aload_n hx hb dX2_openInns_11 rfl (lv_at hl 0 rfl) ?_
      refine lv_iload_n hx hb dX2_openInns_12 rfl (lv_at hl 2 rfl) ?_
      obtain ⟨g_2, g_3, hw⟩ := hw
      obtain ⟨hpr4, hw⟩ := hw
      obtain ⟨⟨wr4, ur4, hrr4⟩, hw⟩ := hw
      refine vp_callSi (va_runV (As := [.int x2]) (rest := [.int x1]) C.fix (met_X2_hasInn l g g_2 g_3 M o x2 hpr4) (cw_X2_45 C.ts ⟨Nat.le_of_ble_eq_true rfl, Nat.le_of_ble_eq_true rfl⟩) (preV_of C (P := (nh g M)) (nh.recv C hM hrr4 (q := (RX2, TX2, 5)) rfl) va_S.rf hM _) rfl rfl hl.1 rfl (lv_room (Nat.le_of_ble_eq_true rfl)) dX2_openInns_13 ⟨Nat.le_of_ble_eq_true rfl, Nat.le_of_ble_eq_true rfl⟩).run (fun r4 er4 => ?_)
      replace hw := hw r4 er4
      refine lv_if_eq (tgt := 35) hx hb dX2_openInns_16 (by decide) (fun c5 => ?_) (fun c5 => ?_)
      · have hw := hw.1 c5
        exact wkb_X2_openInns_35 C post  A f M hM o (wpb_X2_openInns_4 post  g A f M o n) ih x2 x1 hw  (lv_sub hl [0, 2] rfl)
      · have hw := hw.2 c5
        refine lv_aload_n hx hb dX2_openInns_19 rfl (lv_at hl 0 rfl) ?_
        obtain ⟨v6, ⟨tv6, fsv6, hev6, hvv6⟩, hw⟩ := hw
        refine g_get C in_X2 hM hev6 rfl 0 (by decide) q171 (fun _ h => h) (v := .ref v6) hvv6 dX2_openInns_20 ?_
        refine lv_iload_n hx hb dX2_openInns_23 rfl (lv_at hl 2 rfl) ?_
        obtain ⟨nf7, f7, ⟨tf7, hef7⟩, hif7, hw⟩ := hw
        refine g_aald C hM 3 hef7 rfl rfl hif7 dX2_openInns_24 ?_
        obtain ⟨z8, ez8⟩ : ∃ y_, y_ = f7 x2.toNatClampNeg := ⟨_, rfl⟩
        rw [← ez8]
        replace hw := hw z8 ez8
        obtain ⟨b9, eb9, hw⟩ := hw
        subst eb9
        obtain ⟨v10, ⟨tv10, fsv10, hev10, hvv10⟩, hw⟩ := hw
        refine g_getN C in_X5 hM hev10 rfl 1 (by decide) q241 (fun _ h => h) (v := .int v10) hvv10 dX2_openInns_25 ?_
        refine lv_if_eq (tgt := 35) hx hb dX2_openInns_28 (by decide) (fun c11 => ?_) (fun c11 => ?_)
        · have hw := hw.1 c11
          exact wkb_X2_openInns_35 C post  A f M hM o (wpb_X2_openInns_4 post  g A f M o n) ih x2 x1 hw  (lv_sub hl [0, 2] rfl)
        · have hw := hw.2 c11
          refine lv_iconst (v := 1) hx hb dX2_openInns_31 (by decide) ?_
          refine lv_goto (tgt := 36) hx hb dX2_openInns_32 (by decide) ?_
          exact wkb_X2_openInns_36 C post  A f M hM o (wpb_X2_openInns_4 post  g A f M o n) ih x2 1 x1 hw  (lv_sub hl [0, 2] rfl)
set_option maxHeartbeats 4000000 in
theorem wk_X2_openInns (l : Launch) (g : gG) (A : RA) (f : Row) (M : nM) (o : Nat) (post : Int32 → Prop) (hw : wp_X2_openInns g A f post M o) : Met l yX2_openInns (ws_ yX2_openInns cX2_openInns 3 (some .int)) ({ frames := 2, cells := 0, slots := 0, locals := 128 } : Room) (va_Pc [.ref o] (Pg g (nh g M))) (vp_Si post) 0 0 (fun _ => False) := by
  refine Met.ofW (cc := cX2_openInns) (maxL := 3) (ret := (some .int)) (by decide) rfl ?_
  intro p e s m args below meth c s₁ B hml hv
  obtain ⟨rfl, hG, hM⟩ := hv
  have C : Cx p s m _ meth c cX2_openInns 3 RX2 (some .int) g := Cx.of B hml hG
  have hx := C.1
  have hb := C.2.1
  have hown := C.2.2.2.1
  have hr := C.2.2.2.2.2.1
  have hlocks := C.2.2.2.2.2.2.1
  refine lv_start ([.ref o] : List Value) (L := [(0, .ref o)]) (Nat.le_of_ble_eq_true rfl) rfl (fun ls hl => ?_)
  refine lv_iconst (v := 0) hx hb dX2_openInns_0 (by decide) ?_
  refine lv_istore_n (lv' := [(1, .int 0), (0, .ref o)]) hx hb dX2_openInns_1 rfl hl (by decide) rfl (fun ls hl => ?_)
  refine lv_iconst (v := 0) hx hb dX2_openInns_2 (by decide) ?_
  refine lv_istore_n (lv' := [(2, .int 0), (1, .int 0), (0, .ref o)]) hx hb dX2_openInns_3 rfl hl (by decide) rfl (fun ls hl => ?_)
  obtain ⟨n_, hw⟩ := hw
  exact wkb_X2_openInns_4 C post  A f M hM o  n_ 0 0 hw  _ (lv_sub hl [2, 1, 0] rfl)
set_option maxHeartbeats 4000000 in
theorem met_X2_openInns (l : Launch) (g : gG) (A : RA) (f : Row) (M : nM) (o : Nat) (hpre : pre_X2_openInns g A f M o) : Met l yX2_openInns (ws_ yX2_openInns cX2_openInns 3 (some .int)) ({ frames := 2, cells := 0, slots := 0, locals := 128 } : Room) (va_Pc [.ref o] (Pg g (nh g M))) (vp_Si (fun r => post_X2_openInns g A f M o r)) 0 0 (fun _ => False) :=
  wk_X2_openInns l g A f M o _ (pr_X2_openInns g A f M o hpre)

set_option maxHeartbeats 4000000 in
theorem wkb_X2_innAtMile_31 (C : Cx p s m args meth c cX2_innAtMile 3 RX2 (some .int) g) (post : Int32 → Prop) (A : RA) (f : Row) (M : nM) (hM : nh g M s.heap) (o : Nat) (x : Int32) (K2 : Int32 → Prop) (hK2 : ∀ (y2 : Int32), K2 y2 → ∀ ls : Array Slot, lv_has ls 3 [(0, .ref o), (1, .int x), (2, .int y2)] → W p l e ({ frames := 2, cells := 0, slots := 0, locals := 128 } : Room) s m args below meth c s.heap [] 0 0 (MQ below (vp_Si post) args s 0 0 (fun _ => False)) (F0 m 2 ls [])) (x2 : Int32) (hw : wpb_X2_innAtMile_31 post K2 g A f M o x x2) {ls : Array Slot} (hl : lv_has ls 3 [(0, .ref o), (1, .int x), (2, .int x2)]) : W p l e ({ frames := 2, cells := 0, slots := 0, locals := 128 } : Room) s m args below meth c s.heap [] 0 0 (MQ below (vp_Si post) args s 0 0 (fun _ => False)) (F0 m 31 ls []) := by
  have hx := C.1
  have hb := C.2.1
  have hown := C.2.2.2.1
  have hr := C.2.2.2.2.2.1
  have hlocks := C.2.2.2.2.2.2.1
  obtain ⟨z12, ez12⟩ : ∃ y : Int32, y = x2 + 1 := ⟨_, rfl⟩
  have hw := hw z12 ez12
  refine lv_iinc (v := z12) (lv' := [(2, .int z12), (0, .ref o), (1, .int x)]) hx hb dX2_innAtMile_31 hl (k := 2) rfl (by rw [ez12]; rfl) (by decide) rfl (fun ls hl => ?_)
  refine lv_goto (tgt := 2) hx hb dX2_innAtMile_34 (by decide) ?_
  exact hK2 z12 hw  _ (lv_sub hl [1, 2, 0] rfl)
set_option maxHeartbeats 4000000 in
theorem wkb_X2_innAtMile_2 (C : Cx p s m args meth c cX2_innAtMile 3 RX2 (some .int) g) (post : Int32 → Prop) (A : RA) (f : Row) (M : nM) (hM : nh g M s.heap) (o : Nat) (x : Int32)  : ∀ (n : Nat) (x2 : Int32), wpb_X2_innAtMile_2 post  g A f M o x n x2 → ∀ ls : Array Slot, lv_has ls 3 [(0, .ref o), (1, .int x), (2, .int x2)] → W p l e ({ frames := 2, cells := 0, slots := 0, locals := 128 } : Room) s m args below meth c s.heap [] 0 0 (MQ below (vp_Si post) args s 0 0 (fun _ => False)) (F0 m 2 ls []) := by
  have hx := C.1
  have hb := C.2.1
  have hown := C.2.2.2.1
  have hr := C.2.2.2.2.2.1
  have hlocks := C.2.2.2.2.2.2.1
  intro n
  induction n with
  | zero =>
    intro x2 hw
    exact hw.elim
  | succ n ih =>
    intro x2 hw  ls hl
    refine lv_iload_n hx hb dX2_innAtMile_2 rfl (lv_at hl 2 rfl) ?_
    refine lv_bipush (v := 12) hx hb dX2_innAtMile_3 (by decide) ?_
    refine lv_icmp_ge (tgt := 37) hx hb dX2_innAtMile_5 (by decide) (fun c1 => ?_) (fun c1 => ?_)
    · have hw := hw.1 c1
      refine lv_iconst (v := (-1)) hx hb dX2_innAtMile_37 (by decide) ?_
      exact W.iret (v := (-1)) hx hb hr (fun t ht _ => ⟨(-1), rfl, hw, ht⟩) (fun _ h => by cases h) dX2_innAtMile_38
    · have hw := hw.2 c1
      refine lv_aload_n hx hb dX2_innAtMile_8 rfl (lv_at hl 0 rfl) ?_
      refine lv_iload_n hx hb dX2_innAtMile_9 rfl (lv_at hl 2 rfl) ?_
      obtain ⟨g_2, g_3, hw⟩ := hw
      obtain ⟨hpr4, hw⟩ := hw
      obtain ⟨⟨wr4, ur4, hrr4⟩, hw⟩ := hw
      refine vp_callSi (va_runV (As := [.int x2]) (rest := []) C.fix (met_X2_hasInn l g g_2 g_3 M o x2 hpr4) (cw_X2_45 C.ts ⟨Nat.le_of_ble_eq_true rfl, Nat.le_of_ble_eq_true rfl⟩) (preV_of C (P := (nh g M)) (nh.recv C hM hrr4 (q := (RX2, TX2, 5)) rfl) va_S.rf hM _) rfl rfl hl.1 rfl (lv_room (Nat.le_of_ble_eq_true rfl)) dX2_innAtMile_10 ⟨Nat.le_of_ble_eq_true rfl, Nat.le_of_ble_eq_true rfl⟩).run (fun r4 er4 => ?_)
      replace hw := hw r4 er4
      refine lv_if_eq (tgt := 31) hx hb dX2_innAtMile_13 (by decide) (fun c5 => ?_) (fun c5 => ?_)
      · have hw := hw.1 c5
        exact wkb_X2_innAtMile_31 C post  A f M hM o x (wpb_X2_innAtMile_2 post  g A f M o x n) ih x2 hw  (lv_sub hl [0, 1, 2] rfl)
      · have hw := hw.2 c5
        refine lv_aload_n hx hb dX2_innAtMile_16 rfl (lv_at hl 0 rfl) ?_
        obtain ⟨v6, ⟨tv6, fsv6, hev6, hvv6⟩, hw⟩ := hw
        refine g_get C in_X2 hM hev6 rfl 0 (by decide) q171 (fun _ h => h) (v := .ref v6) hvv6 dX2_innAtMile_17 ?_
        refine lv_iload_n hx hb dX2_innAtMile_20 rfl (lv_at hl 2 rfl) ?_
        obtain ⟨nf7, f7, ⟨tf7, hef7⟩, hif7, hw⟩ := hw
        refine g_aald C hM 3 hef7 rfl rfl hif7 dX2_innAtMile_21 ?_
        obtain ⟨z8, ez8⟩ : ∃ y_, y_ = f7 x2.toNatClampNeg := ⟨_, rfl⟩
        rw [← ez8]
        replace hw := hw z8 ez8
        obtain ⟨b9, eb9, hw⟩ := hw
        subst eb9
        obtain ⟨v10, ⟨tv10, fsv10, hev10, hvv10⟩, hw⟩ := hw
        refine g_getN C in_X5 hM hev10 rfl 0 (by decide) q238 (fun _ h => h) (v := .int v10) hvv10 dX2_innAtMile_22 ?_
        refine lv_iload_n hx hb dX2_innAtMile_25 rfl (lv_at hl 1 rfl) ?_
        refine lv_icmp_ne (tgt := 31) hx hb dX2_innAtMile_26 (by decide) (fun c11 => ?_) (fun c11 => ?_)
        · have hw := hw.1 c11
          exact wkb_X2_innAtMile_31 C post  A f M hM o x (wpb_X2_innAtMile_2 post  g A f M o x n) ih x2 hw  (lv_sub hl [0, 1, 2] rfl)
        · have hw := hw.2 c11
          refine lv_iload_n hx hb dX2_innAtMile_29 rfl (lv_at hl 2 rfl) ?_
          exact W.iret (v := x2) hx hb hr (fun t ht _ => ⟨x2, rfl, hw, ht⟩) (fun _ h => by cases h) dX2_innAtMile_30
set_option maxHeartbeats 4000000 in
theorem wk_X2_innAtMile (l : Launch) (g : gG) (A : RA) (f : Row) (M : nM) (o : Nat) (x : Int32) (post : Int32 → Prop) (hw : wp_X2_innAtMile g A f post M o x) : Met l yX2_innAtMile (ws_ yX2_innAtMile cX2_innAtMile 3 (some .int)) ({ frames := 2, cells := 0, slots := 0, locals := 128 } : Room) (va_Pc [.ref o, .int x] (Pg g (nh g M))) (vp_Si post) 0 0 (fun _ => False) := by
  refine Met.ofW (cc := cX2_innAtMile) (maxL := 3) (ret := (some .int)) (by decide) rfl ?_
  intro p e s m args below meth c s₁ B hml hv
  obtain ⟨rfl, hG, hM⟩ := hv
  have C : Cx p s m _ meth c cX2_innAtMile 3 RX2 (some .int) g := Cx.of B hml hG
  have hx := C.1
  have hb := C.2.1
  have hown := C.2.2.2.1
  have hr := C.2.2.2.2.2.1
  have hlocks := C.2.2.2.2.2.2.1
  refine lv_start ([.ref o, .int x] : List Value) (L := [(0, .ref o), (1, .int x)]) (Nat.le_of_ble_eq_true rfl) rfl (fun ls hl => ?_)
  refine lv_iconst (v := 0) hx hb dX2_innAtMile_0 (by decide) ?_
  refine lv_istore_n (lv' := [(2, .int 0), (0, .ref o), (1, .int x)]) hx hb dX2_innAtMile_1 rfl hl (by decide) rfl (fun ls hl => ?_)
  obtain ⟨n_, hw⟩ := hw
  exact wkb_X2_innAtMile_2 C post  A f M hM o x  n_ 0 hw  _ (lv_sub hl [1, 2, 0] rfl)
set_option maxHeartbeats 4000000 in
theorem met_X2_innAtMile (l : Launch) (g : gG) (A : RA) (f : Row) (M : nM) (o : Nat) (x : Int32) (hpre : pre_X2_innAtMile g A f M o x) : Met l yX2_innAtMile (ws_ yX2_innAtMile cX2_innAtMile 3 (some .int)) ({ frames := 2, cells := 0, slots := 0, locals := 128 } : Room) (va_Pc [.ref o, .int x] (Pg g (nh g M))) (vp_Si (fun r => post_X2_innAtMile g A f M o x r)) 0 0 (fun _ => False) :=
  wk_X2_innAtMile l g A f M o x _ (pr_X2_innAtMile g A f M o x hpre)

set_option maxHeartbeats 4000000 in
theorem wkb_X2_emptyPlace_22 (C : Cx p s m args meth c cX2_emptyPlace 2 RX2 (some .int) g) (post : Int32 → Prop) (A : RA) (f : Row) (M : nM) (hM : nh g M s.heap) (o : Nat)  (x1 : Int32) (hw : wpb_X2_emptyPlace_22 post  g A f M o x1) {ls : Array Slot} (hl : lv_has ls 2 [(1, .int x1)]) : W p l e ({ frames := 2, cells := 0, slots := 0, locals := 128 } : Room) s m args below meth c s.heap [] 0 0 (MQ below (vp_Si post) args s 0 0 (fun _ => False)) (F0 m 22 ls []) := by
  have hx := C.1
  have hb := C.2.1
  have hown := C.2.2.2.1
  have hr := C.2.2.2.2.2.1
  have hlocks := C.2.2.2.2.2.2.1
  refine lv_iload_n hx hb dX2_emptyPlace_22 rfl (lv_at hl 0 rfl) ?_
  refine lv_bipush (v := 12) hx hb dX2_emptyPlace_23 (by decide) ?_
  refine lv_icmp_ge (tgt := 32) hx hb dX2_emptyPlace_25 (by decide) (fun c7 => ?_) (fun c7 => ?_)
  · have hw := hw.1 c7
    refine lv_iconst (v := (-1)) hx hb dX2_emptyPlace_32 (by decide) ?_
    exact W.iret (v := (-1)) hx hb hr (fun t ht _ => ⟨(-1), rfl, hw, ht⟩) (fun _ h => by cases h) dX2_emptyPlace_33
  · have hw := hw.2 c7
    refine lv_iload_n hx hb dX2_emptyPlace_28 rfl (lv_at hl 0 rfl) ?_
    refine lv_goto (tgt := 33) hx hb dX2_emptyPlace_29 (by decide) ?_
    exact W.iret (v := x1) hx hb hr (fun t ht _ => ⟨x1, rfl, hw, ht⟩) (fun _ h => by cases h) dX2_emptyPlace_33
set_option maxHeartbeats 4000000 in
theorem wkb_X2_emptyPlace_2 (C : Cx p s m args meth c cX2_emptyPlace 2 RX2 (some .int) g) (post : Int32 → Prop) (A : RA) (f : Row) (M : nM) (hM : nh g M s.heap) (o : Nat)  : ∀ (n : Nat) (x1 : Int32), wpb_X2_emptyPlace_2 post  g A f M o n x1 → ∀ ls : Array Slot, lv_has ls 2 [(0, .ref o), (1, .int x1)] → W p l e ({ frames := 2, cells := 0, slots := 0, locals := 128 } : Room) s m args below meth c s.heap [] 0 0 (MQ below (vp_Si post) args s 0 0 (fun _ => False)) (F0 m 2 ls []) := by
  have hx := C.1
  have hb := C.2.1
  have hown := C.2.2.2.1
  have hr := C.2.2.2.2.2.1
  have hlocks := C.2.2.2.2.2.2.1
  intro n
  induction n with
  | zero =>
    intro x1 hw
    exact hw.elim
  | succ n ih =>
    intro x1 hw  ls hl
    refine lv_iload_n hx hb dX2_emptyPlace_2 rfl (lv_at hl 1 rfl) ?_
    refine lv_bipush (v := 12) hx hb dX2_emptyPlace_3 (by decide) ?_
    refine lv_icmp_ge (tgt := 22) hx hb dX2_emptyPlace_5 (by decide) (fun c1 => ?_) (fun c1 => ?_)
    · have hw := hw.1 c1
      exact wkb_X2_emptyPlace_22 C post  A f M hM o  x1 hw  (lv_sub hl [1] rfl)
    · have hw := hw.2 c1
      refine lv_aload_n hx hb dX2_emptyPlace_8 rfl (lv_at hl 0 rfl) ?_
      refine lv_iload_n hx hb dX2_emptyPlace_9 rfl (lv_at hl 1 rfl) ?_
      obtain ⟨g_2, g_3, hw⟩ := hw
      obtain ⟨hpr4, hw⟩ := hw
      obtain ⟨⟨wr4, ur4, hrr4⟩, hw⟩ := hw
      refine vp_callSi (va_runV (As := [.int x1]) (rest := []) C.fix (met_X2_hasInn l g g_2 g_3 M o x1 hpr4) (cw_X2_45 C.ts ⟨Nat.le_of_ble_eq_true rfl, Nat.le_of_ble_eq_true rfl⟩) (preV_of C (P := (nh g M)) (nh.recv C hM hrr4 (q := (RX2, TX2, 5)) rfl) va_S.rf hM _) rfl rfl hl.1 rfl (lv_room (Nat.le_of_ble_eq_true rfl)) dX2_emptyPlace_10 ⟨Nat.le_of_ble_eq_true rfl, Nat.le_of_ble_eq_true rfl⟩).run (fun r4 er4 => ?_)
      replace hw := hw r4 er4
      refine lv_if_eq (tgt := 22) hx hb dX2_emptyPlace_13 (by decide) (fun c5 => ?_) (fun c5 => ?_)
      · have hw := hw.1 c5
        exact wkb_X2_emptyPlace_22 C post  A f M hM o  x1 hw  (lv_sub hl [1] rfl)
      · have hw := hw.2 c5
        obtain ⟨z6, ez6⟩ : ∃ y : Int32, y = x1 + 1 := ⟨_, rfl⟩
        have hw := hw z6 ez6
        refine lv_iinc (v := z6) (lv' := [(1, .int z6), (0, .ref o)]) hx hb dX2_emptyPlace_16 hl (k := 1) rfl (by rw [ez6]; rfl) (by decide) rfl (fun ls hl => ?_)
        refine lv_goto (tgt := 2) hx hb dX2_emptyPlace_19 (by decide) ?_
        exact ih z6 hw  _ (lv_sub hl [1, 0] rfl)
set_option maxHeartbeats 4000000 in
theorem wk_X2_emptyPlace (l : Launch) (g : gG) (A : RA) (f : Row) (M : nM) (o : Nat) (post : Int32 → Prop) (hw : wp_X2_emptyPlace g A f post M o) : Met l yX2_emptyPlace (ws_ yX2_emptyPlace cX2_emptyPlace 2 (some .int)) ({ frames := 2, cells := 0, slots := 0, locals := 128 } : Room) (va_Pc [.ref o] (Pg g (nh g M))) (vp_Si post) 0 0 (fun _ => False) := by
  refine Met.ofW (cc := cX2_emptyPlace) (maxL := 2) (ret := (some .int)) (by decide) rfl ?_
  intro p e s m args below meth c s₁ B hml hv
  obtain ⟨rfl, hG, hM⟩ := hv
  have C : Cx p s m _ meth c cX2_emptyPlace 2 RX2 (some .int) g := Cx.of B hml hG
  have hx := C.1
  have hb := C.2.1
  have hown := C.2.2.2.1
  have hr := C.2.2.2.2.2.1
  have hlocks := C.2.2.2.2.2.2.1
  refine lv_start ([.ref o] : List Value) (L := [(0, .ref o)]) (Nat.le_of_ble_eq_true rfl) rfl (fun ls hl => ?_)
  refine lv_iconst (v := 0) hx hb dX2_emptyPlace_0 (by decide) ?_
  refine lv_istore_n (lv' := [(1, .int 0), (0, .ref o)]) hx hb dX2_emptyPlace_1 rfl hl (by decide) rfl (fun ls hl => ?_)
  obtain ⟨n_, hw⟩ := hw
  exact wkb_X2_emptyPlace_2 C post  A f M hM o  n_ 0 hw  _ (lv_sub hl [1, 0] rfl)
set_option maxHeartbeats 4000000 in
theorem met_X2_emptyPlace (l : Launch) (g : gG) (A : RA) (f : Row) (M : nM) (o : Nat) (hpre : pre_X2_emptyPlace g A f M o) : Met l yX2_emptyPlace (ws_ yX2_emptyPlace cX2_emptyPlace 2 (some .int)) ({ frames := 2, cells := 0, slots := 0, locals := 128 } : Room) (va_Pc [.ref o] (Pg g (nh g M))) (vp_Si (fun r => post_X2_emptyPlace g A f M o r)) 0 0 (fun _ => False) :=
  wk_X2_emptyPlace l g A f M o _ (pr_X2_emptyPlace g A f M o hpre)

set_option maxHeartbeats 4000000 in
theorem wk_X2_danglingAt (l : Launch) (g : gG) (A : RA) (f : Row) (M : nM) (o : Nat) (x : Int32) (post : Int32 → Prop) (hw : wp_X2_danglingAt g A f post M o x) : Met l yX2_danglingAt (ws_ yX2_danglingAt cX2_danglingAt 2 (some .int)) ({ frames := 1, cells := 0, slots := 0, locals := 64 } : Room) (va_Pc [.ref o, .int x] (Pg g (nh g M))) (vp_Si post) 0 0 (fun _ => False) := by
  refine Met.ofW (cc := cX2_danglingAt) (maxL := 2) (ret := (some .int)) (by decide) rfl ?_
  intro p e s m args below meth c s₁ B hml hv
  obtain ⟨rfl, hG, hM⟩ := hv
  have C : Cx p s m _ meth c cX2_danglingAt 2 RX2 (some .int) g := Cx.of B hml hG
  have hx := C.1
  have hb := C.2.1
  have hown := C.2.2.2.1
  have hr := C.2.2.2.2.2.1
  have hlocks := C.2.2.2.2.2.2.1
  refine lv_start ([.ref o, .int x] : List Value) (L := [(0, .ref o), (1, .int x)]) (Nat.le_of_ble_eq_true rfl) rfl (fun ls hl => ?_)
  refine lv_iload_n hx hb dX2_danglingAt_0 rfl (lv_at hl 1 rfl) ?_
  refine lv_iconst (v := (-1)) hx hb dX2_danglingAt_1 (by decide) ?_
  refine lv_icmp_eq (tgt := 18) hx hb dX2_danglingAt_2 (by decide) (fun c1 => ?_) (fun c1 => ?_)
  · have hw := hw.1 c1
    refine lv_iconst (v := 0) hx hb dX2_danglingAt_18 (by decide) ?_
    exact W.iret (v := 0) hx hb hr (fun t ht _ => ⟨0, rfl, hw, ht⟩) (fun _ h => by cases h) dX2_danglingAt_19
  · have hw := hw.2 c1
    refine lv_aload_n hx hb dX2_danglingAt_5 rfl (lv_at hl 0 rfl) ?_
    obtain ⟨v2, ⟨tv2, fsv2, hev2, hvv2⟩, hw⟩ := hw
    refine g_get C in_X2 hM hev2 rfl 0 (by decide) q171 (fun _ h => h) (v := .ref v2) hvv2 dX2_danglingAt_6 ?_
    refine lv_iload_n hx hb dX2_danglingAt_9 rfl (lv_at hl 1 rfl) ?_
    obtain ⟨nf3, f3, ⟨tf3, hef3⟩, hif3, hw⟩ := hw
    refine g_aald C hM 3 hef3 rfl rfl hif3 dX2_danglingAt_10 ?_
    obtain ⟨z4, ez4⟩ : ∃ y_, y_ = f3 x.toNatClampNeg := ⟨_, rfl⟩
    rw [← ez4]
    replace hw := hw z4 ez4
    rcases va_rfc z4 with eb5 | ⟨b5, eb5⟩
    · replace hw := hw.1 eb5
      rw [eb5]
      refine lv_ifnonnullN hx hb dX2_danglingAt_11 ?_
      refine lv_iconst (v := 1) hx hb dX2_danglingAt_14 (by decide) ?_
      refine lv_goto (tgt := 19) hx hb dX2_danglingAt_15 (by decide) ?_
      exact W.iret (v := 1) hx hb hr (fun t ht _ => ⟨1, rfl, hw, ht⟩) (fun _ h => by cases h) dX2_danglingAt_19
    · replace hw := hw.2 b5 eb5
      subst eb5
      refine lv_ifnonnull (tgt := 18) hx hb dX2_danglingAt_11 (by decide) ?_
      refine lv_iconst (v := 0) hx hb dX2_danglingAt_18 (by decide) ?_
      exact W.iret (v := 0) hx hb hr (fun t ht _ => ⟨0, rfl, hw, ht⟩) (fun _ h => by cases h) dX2_danglingAt_19
set_option maxHeartbeats 4000000 in
theorem met_X2_danglingAt (l : Launch) (g : gG) (A : RA) (f : Row) (M : nM) (o : Nat) (x : Int32) (hpre : pre_X2_danglingAt g A f M o x) : Met l yX2_danglingAt (ws_ yX2_danglingAt cX2_danglingAt 2 (some .int)) ({ frames := 1, cells := 0, slots := 0, locals := 64 } : Room) (va_Pc [.ref o, .int x] (Pg g (nh g M))) (vp_Si (fun r => post_X2_danglingAt g A f M o x r)) 0 0 (fun _ => False) :=
  wk_X2_danglingAt l g A f M o x _ (pr_X2_danglingAt g A f M o x hpre)

set_option maxHeartbeats 4000000 in
theorem wkb_X2_danglingPointers_70 (C : Cx p s m args meth c cX2_danglingPointers 3 RX2 (some .int) g) (post : Int32 → Prop) (A : RA) (f : Row) (M : nM) (hM : nh g M s.heap) (o : Nat) (K26 : Int32 → Int32 → Prop) (hK26 : ∀ (y1 : Int32) (y2 : Int32), K26 y1 y2 → ∀ ls : Array Slot, lv_has ls 3 [(0, .ref o), (1, .int y1), (2, .int y2)] → W p l e ({ frames := 2, cells := 0, slots := 0, locals := 128 } : Room) s m args below meth c s.heap [] 0 0 (MQ below (vp_Si post) args s 0 0 (fun _ => False)) (F0 m 26 ls [])) (x1 : Int32) (x2 : Int32) (hw : wpb_X2_danglingPointers_70 post K26 g A f M o x1 x2) {ls : Array Slot} (hl : lv_has ls 3 [(0, .ref o), (1, .int x1), (2, .int x2)]) : W p l e ({ frames := 2, cells := 0, slots := 0, locals := 128 } : Room) s m args below meth c s.heap [] 0 0 (MQ below (vp_Si post) args s 0 0 (fun _ => False)) (F0 m 70 ls []) := by
  have hx := C.1
  have hb := C.2.1
  have hown := C.2.2.2.1
  have hr := C.2.2.2.2.2.1
  have hlocks := C.2.2.2.2.2.2.1
  obtain ⟨z32, ez32⟩ : ∃ y : Int32, y = x2 + 1 := ⟨_, rfl⟩
  have hw := hw z32 ez32
  refine lv_iinc (v := z32) (lv' := [(2, .int z32), (0, .ref o), (1, .int x1)]) hx hb dX2_danglingPointers_70 hl (k := 2) rfl (by rw [ez32]; rfl) (by decide) rfl (fun ls hl => ?_)
  refine lv_goto (tgt := 26) hx hb dX2_danglingPointers_73 (by decide) ?_
  exact hK26 x1 z32 hw  _ (lv_sub hl [1, 2, 0] rfl)
set_option maxHeartbeats 4000000 in
theorem wkb_X2_danglingPointers_26 (C : Cx p s m args meth c cX2_danglingPointers 3 RX2 (some .int) g) (post : Int32 → Prop) (A : RA) (f : Row) (M : nM) (hM : nh g M s.heap) (o : Nat)  : ∀ (n : Nat) (x1 : Int32) (x2 : Int32), wpb_X2_danglingPointers_26 post  g A f M o n x1 x2 → ∀ ls : Array Slot, lv_has ls 3 [(0, .ref o), (1, .int x1), (2, .int x2)] → W p l e ({ frames := 2, cells := 0, slots := 0, locals := 128 } : Room) s m args below meth c s.heap [] 0 0 (MQ below (vp_Si post) args s 0 0 (fun _ => False)) (F0 m 26 ls []) := by
  have hx := C.1
  have hb := C.2.1
  have hown := C.2.2.2.1
  have hr := C.2.2.2.2.2.1
  have hlocks := C.2.2.2.2.2.2.1
  intro n
  induction n with
  | zero =>
    intro x1 x2 hw
    exact hw.elim
  | succ n ih =>
    intro x1 x2 hw  ls hl
    refine lv_iload_n hx hb dX2_danglingPointers_26 rfl (lv_at hl 2 rfl) ?_
    refine lv_bipush (v := 12) hx hb dX2_danglingPointers_27 (by decide) ?_
    refine lv_icmp_ge (tgt := 76) hx hb dX2_danglingPointers_29 (by decide) (fun c12 => ?_) (fun c12 => ?_)
    · have hw := hw.1 c12
      refine lv_iload_n hx hb dX2_danglingPointers_76 rfl (lv_at hl 1 rfl) ?_
      exact W.iret (v := x1) hx hb hr (fun t ht _ => ⟨x1, rfl, hw, ht⟩) (fun _ h => by cases h) dX2_danglingPointers_77
    · have hw := hw.2 c12
      refine lv_aload_n hx hb dX2_danglingPointers_32 rfl (lv_at hl 0 rfl) ?_
      refine lv_iload_n hx hb dX2_danglingPointers_33 rfl (lv_at hl 2 rfl) ?_
      obtain ⟨g_13, g_14, hw⟩ := hw
      obtain ⟨hpr15, hw⟩ := hw
      obtain ⟨⟨wr15, ur15, hrr15⟩, hw⟩ := hw
      refine vp_callSi (va_runV (As := [.int x2]) (rest := []) C.fix (met_X2_hasInn l g g_13 g_14 M o x2 hpr15) (cw_X2_45 C.ts ⟨Nat.le_of_ble_eq_true rfl, Nat.le_of_ble_eq_true rfl⟩) (preV_of C (P := (nh g M)) (nh.recv C hM hrr15 (q := (RX2, TX2, 5)) rfl) va_S.rf hM _) rfl rfl hl.1 rfl (lv_room (Nat.le_of_ble_eq_true rfl)) dX2_danglingPointers_34 ⟨Nat.le_of_ble_eq_true rfl, Nat.le_of_ble_eq_true rfl⟩).run (fun r15 er15 => ?_)
      replace hw := hw r15 er15
      refine lv_if_eq (tgt := 70) hx hb dX2_danglingPointers_37 (by decide) (fun c16 => ?_) (fun c16 => ?_)
      · have hw := hw.1 c16
        exact wkb_X2_danglingPointers_70 C post  A f M hM o (wpb_X2_danglingPointers_26 post  g A f M o n) ih x1 x2 hw  (lv_sub hl [0, 1, 2] rfl)
      · have hw := hw.2 c16
        refine lv_iload_n hx hb dX2_danglingPointers_40 rfl (lv_at hl 1 rfl) ?_
        refine lv_aload_n hx hb dX2_danglingPointers_41 rfl (lv_at hl 0 rfl) ?_
        refine lv_aload_n hx hb dX2_danglingPointers_42 rfl (lv_at hl 0 rfl) ?_
        obtain ⟨v17, ⟨tv17, fsv17, hev17, hvv17⟩, hw⟩ := hw
        refine g_get C in_X2 hM hev17 rfl 1 (by decide) q174 (fun _ h => h) (v := .ref v17) hvv17 dX2_danglingPointers_43 ?_
        obtain ⟨v18, ⟨tv18, fsv18, hev18, hvv18⟩, hw⟩ := hw
        refine g_getN C in_X3 hM hev18 rfl 0 (by decide) q139 (fun _ h => h) (v := .ref v18) hvv18 dX2_danglingPointers_46 ?_
        refine lv_iload_n hx hb dX2_danglingPointers_49 rfl (lv_at hl 2 rfl) ?_
        obtain ⟨nf19, f19, ⟨tf19, hef19⟩, hif19, hw⟩ := hw
        refine g_iald C hM hef19 hif19 dX2_danglingPointers_50 ?_
        obtain ⟨z20, ez20⟩ : ∃ y_, y_ = f19 x2.toNatClampNeg := ⟨_, rfl⟩
        rw [← ez20]
        replace hw := hw z20 ez20
        obtain ⟨g_21, g_22, hw⟩ := hw
        obtain ⟨hpr23, hw⟩ := hw
        obtain ⟨⟨wr23, ur23, hrr23⟩, hw⟩ := hw
        refine vp_callSi (va_runV (As := [.int z20]) (rest := [.int x1]) C.fix (met_X2_danglingAt l g g_21 g_22 M o z20 hpr23) (cw_X2_138 C.ts ⟨Nat.le_of_ble_eq_true rfl, Nat.le_of_ble_eq_true rfl⟩) (preV_of C (P := (nh g M)) (nh.recv C hM hrr23 (q := (RX2, TX2, 5)) rfl) va_S.rf hM _) rfl rfl hl.1 rfl (lv_room (Nat.le_of_ble_eq_true rfl)) dX2_danglingPointers_51 ⟨Nat.le_of_ble_eq_true rfl, Nat.le_of_ble_eq_true rfl⟩).run (fun r23 er23 => ?_)
        replace hw := hw r23 er23
        refine lv_aload_n hx hb dX2_danglingPointers_54 rfl (lv_at hl 0 rfl) ?_
        refine lv_aload_n hx hb dX2_danglingPointers_55 rfl (lv_at hl 0 rfl) ?_
        obtain ⟨v24, ⟨tv24, fsv24, hev24, hvv24⟩, hw⟩ := hw
        refine g_get C in_X2 hM hev24 rfl 1 (by decide) q174 (fun _ h => h) (v := .ref v24) hvv24 dX2_danglingPointers_56 ?_
        obtain ⟨v25, ⟨tv25, fsv25, hev25, hvv25⟩, hw⟩ := hw
        refine g_getN C in_X3 hM hev25 rfl 1 (by decide) q143 (fun _ h => h) (v := .ref v25) hvv25 dX2_danglingPointers_59 ?_
        refine lv_iload_n hx hb dX2_danglingPointers_62 rfl (lv_at hl 2 rfl) ?_
        obtain ⟨nf26, f26, ⟨tf26, hef26⟩, hif26, hw⟩ := hw
        refine g_iald C hM hef26 hif26 dX2_danglingPointers_63 ?_
        obtain ⟨z27, ez27⟩ : ∃ y_, y_ = f26 x2.toNatClampNeg := ⟨_, rfl⟩
        rw [← ez27]
        replace hw := hw z27 ez27
        obtain ⟨g_28, g_29, hw⟩ := hw
        obtain ⟨hpr30, hw⟩ := hw
        obtain ⟨⟨wr30, ur30, hrr30⟩, hw⟩ := hw
        refine vp_callSi (va_runV (As := [.int z27]) (rest := [.int r23, .int x1]) C.fix (met_X2_danglingAt l g g_28 g_29 M o z27 hpr30) (cw_X2_138 C.ts ⟨Nat.le_of_ble_eq_true rfl, Nat.le_of_ble_eq_true rfl⟩) (preV_of C (P := (nh g M)) (nh.recv C hM hrr30 (q := (RX2, TX2, 5)) rfl) va_S.rf hM _) rfl rfl hl.1 rfl (lv_room (Nat.le_of_ble_eq_true rfl)) dX2_danglingPointers_64 ⟨Nat.le_of_ble_eq_true rfl, Nat.le_of_ble_eq_true rfl⟩).run (fun r30 er30 => ?_)
        replace hw := hw r30 er30
        refine lv_iadd hx hb dX2_danglingPointers_67 ?_
        refine lv_iadd hx hb dX2_danglingPointers_68 ?_
        refine lv_topi (fun z31 ez31 => ?_)
        have hw := hw z31 ez31
        refine lv_istore_n (lv' := [(1, .int z31), (0, .ref o), (2, .int x2)]) hx hb dX2_danglingPointers_69 rfl hl (by decide) rfl (fun ls hl => ?_)
        exact wkb_X2_danglingPointers_70 C post  A f M hM o (wpb_X2_danglingPointers_26 post  g A f M o n) ih z31 x2 hw  (lv_sub hl [1, 0, 2] rfl)
set_option maxHeartbeats 4000000 in
theorem wk_X2_danglingPointers (l : Launch) (g : gG) (A : RA) (f : Row) (M : nM) (o : Nat) (post : Int32 → Prop) (hw : wp_X2_danglingPointers g A f post M o) : Met l yX2_danglingPointers (ws_ yX2_danglingPointers cX2_danglingPointers 3 (some .int)) ({ frames := 2, cells := 0, slots := 0, locals := 128 } : Room) (va_Pc [.ref o] (Pg g (nh g M))) (vp_Si post) 0 0 (fun _ => False) := by
  refine Met.ofW (cc := cX2_danglingPointers) (maxL := 3) (ret := (some .int)) (by decide) rfl ?_
  intro p e s m args below meth c s₁ B hml hv
  obtain ⟨rfl, hG, hM⟩ := hv
  have C : Cx p s m _ meth c cX2_danglingPointers 3 RX2 (some .int) g := Cx.of B hml hG
  have hx := C.1
  have hb := C.2.1
  have hown := C.2.2.2.1
  have hr := C.2.2.2.2.2.1
  have hlocks := C.2.2.2.2.2.2.1
  refine lv_start ([.ref o] : List Value) (L := [(0, .ref o)]) (Nat.le_of_ble_eq_true rfl) rfl (fun ls hl => ?_)
  refine lv_aload_n hx hb dX2_danglingPointers_0 rfl (lv_at hl 0 rfl) ?_
  refine lv_aload_n hx hb dX2_danglingPointers_1 rfl (lv_at hl 0 rfl) ?_
  obtain ⟨v1, ⟨tv1, fsv1, hev1, hvv1⟩, hw⟩ := hw
  refine g_get C in_X2 hM hev1 rfl 1 (by decide) q174 (fun _ h => h) (v := .ref v1) hvv1 dX2_danglingPointers_2 ?_
  obtain ⟨v2, ⟨tv2, fsv2, hev2, hvv2⟩, hw⟩ := hw
  refine g_getN C in_X3 hM hev2 rfl 2 (by decide) q147 (fun _ h => h) (v := .int v2) hvv2 dX2_danglingPointers_5 ?_
  obtain ⟨g_3, g_4, hw⟩ := hw
  obtain ⟨hpr5, hw⟩ := hw
  obtain ⟨⟨wr5, ur5, hrr5⟩, hw⟩ := hw
  refine vp_callSi (va_runV (As := [.int v2]) (rest := []) C.fix (met_X2_danglingAt l g g_3 g_4 M o v2 hpr5) (cw_X2_138 C.ts ⟨Nat.le_of_ble_eq_true rfl, Nat.le_of_ble_eq_true rfl⟩) (preV_of C (P := (nh g M)) (nh.recv C hM hrr5 (q := (RX2, TX2, 5)) rfl) va_S.rf hM _) rfl rfl hl.1 rfl (lv_room (Nat.le_of_ble_eq_true rfl)) dX2_danglingPointers_8 ⟨Nat.le_of_ble_eq_true rfl, Nat.le_of_ble_eq_true rfl⟩).run (fun r5 er5 => ?_)
  replace hw := hw r5 er5
  refine lv_aload_n hx hb dX2_danglingPointers_11 rfl (lv_at hl 0 rfl) ?_
  refine lv_aload_n hx hb dX2_danglingPointers_12 rfl (lv_at hl 0 rfl) ?_
  obtain ⟨v6, ⟨tv6, fsv6, hev6, hvv6⟩, hw⟩ := hw
  refine g_get C in_X2 hM hev6 rfl 1 (by decide) q174 (fun _ h => h) (v := .ref v6) hvv6 dX2_danglingPointers_13 ?_
  obtain ⟨v7, ⟨tv7, fsv7, hev7, hvv7⟩, hw⟩ := hw
  refine g_getN C in_X3 hM hev7 rfl 3 (by decide) q151 (fun _ h => h) (v := .int v7) hvv7 dX2_danglingPointers_16 ?_
  obtain ⟨g_8, g_9, hw⟩ := hw
  obtain ⟨hpr10, hw⟩ := hw
  obtain ⟨⟨wr10, ur10, hrr10⟩, hw⟩ := hw
  refine vp_callSi (va_runV (As := [.int v7]) (rest := [.int r5]) C.fix (met_X2_danglingAt l g g_8 g_9 M o v7 hpr10) (cw_X2_138 C.ts ⟨Nat.le_of_ble_eq_true rfl, Nat.le_of_ble_eq_true rfl⟩) (preV_of C (P := (nh g M)) (nh.recv C hM hrr10 (q := (RX2, TX2, 5)) rfl) va_S.rf hM _) rfl rfl hl.1 rfl (lv_room (Nat.le_of_ble_eq_true rfl)) dX2_danglingPointers_19 ⟨Nat.le_of_ble_eq_true rfl, Nat.le_of_ble_eq_true rfl⟩).run (fun r10 er10 => ?_)
  replace hw := hw r10 er10
  refine lv_iadd hx hb dX2_danglingPointers_22 ?_
  refine lv_topi (fun z11 ez11 => ?_)
  have hw := hw z11 ez11
  refine lv_istore_n (lv' := [(1, .int z11), (0, .ref o)]) hx hb dX2_danglingPointers_23 rfl hl (by decide) rfl (fun ls hl => ?_)
  refine lv_iconst (v := 0) hx hb dX2_danglingPointers_24 (by decide) ?_
  refine lv_istore_n (lv' := [(2, .int 0), (1, .int z11), (0, .ref o)]) hx hb dX2_danglingPointers_25 rfl hl (by decide) rfl (fun ls hl => ?_)
  obtain ⟨n_, hw⟩ := hw
  exact wkb_X2_danglingPointers_26 C post  A f M hM o  n_ z11 0 hw  _ (lv_sub hl [2, 1, 0] rfl)
set_option maxHeartbeats 4000000 in
theorem met_X2_danglingPointers (l : Launch) (g : gG) (A : RA) (f : Row) (M : nM) (o : Nat) (hpre : pre_X2_danglingPointers g A f M o) : Met l yX2_danglingPointers (ws_ yX2_danglingPointers cX2_danglingPointers 3 (some .int)) ({ frames := 2, cells := 0, slots := 0, locals := 128 } : Room) (va_Pc [.ref o] (Pg g (nh g M))) (vp_Si (fun r => post_X2_danglingPointers g A f M o r)) 0 0 (fun _ => False) :=
  wk_X2_danglingPointers l g A f M o _ (pr_X2_danglingPointers g A f M o hpre)

set_option maxHeartbeats 4000000 in
theorem wk_X2_distance (l : Launch) (g : gG) (A : RA) (f : Row) (M : nM) (o : Nat) (x : Int32) (y : Int32) (post : Int32 → Prop) (hw : wp_X2_distance g A f post M o x y) : Met l yX2_distance (ws_ yX2_distance cX2_distance 3 (some .int)) ({ frames := 2, cells := 0, slots := 0, locals := 128 } : Room) (va_Pc [.ref o, .int x, .int y] (Pg g (nh g M))) (vp_Si post) 0 0 (fun _ => False) := by
  refine Met.ofW (cc := cX2_distance) (maxL := 3) (ret := (some .int)) (by decide) rfl ?_
  intro p e s m args below meth c s₁ B hml hv
  obtain ⟨rfl, hG, hM⟩ := hv
  have C : Cx p s m _ meth c cX2_distance 3 RX2 (some .int) g := Cx.of B hml hG
  have hx := C.1
  have hb := C.2.1
  have hown := C.2.2.2.1
  have hr := C.2.2.2.2.2.1
  have hlocks := C.2.2.2.2.2.2.1
  refine lv_start ([.ref o, .int x, .int y] : List Value) (L := [(0, .ref o), (1, .int x), (2, .int y)]) (Nat.le_of_ble_eq_true rfl) rfl (fun ls hl => ?_)
  refine lv_aload_n hx hb dX2_distance_0 rfl (lv_at hl 0 rfl) ?_
  obtain ⟨v1, ⟨tv1, fsv1, hev1, hvv1⟩, hw⟩ := hw
  refine g_get C in_X2 hM hev1 rfl 0 (by decide) q171 (fun _ h => h) (v := .ref v1) hvv1 dX2_distance_1 ?_
  refine lv_iload_n hx hb dX2_distance_4 rfl (lv_at hl 1 rfl) ?_
  obtain ⟨nf2, f2, ⟨tf2, hef2⟩, hif2, hw⟩ := hw
  refine g_aald C hM 3 hef2 rfl rfl hif2 dX2_distance_5 ?_
  obtain ⟨z3, ez3⟩ : ∃ y_, y_ = f2 x.toNatClampNeg := ⟨_, rfl⟩
  rw [← ez3]
  replace hw := hw z3 ez3
  obtain ⟨b4, eb4, hw⟩ := hw
  subst eb4
  obtain ⟨v5, ⟨tv5, fsv5, hev5, hvv5⟩, hw⟩ := hw
  refine g_getN C in_X5 hM hev5 rfl 0 (by decide) q238 (fun _ h => h) (v := .int v5) hvv5 dX2_distance_6 ?_
  refine lv_aload_n hx hb dX2_distance_9 rfl (lv_at hl 0 rfl) ?_
  obtain ⟨v6, ⟨tv6, fsv6, hev6, hvv6⟩, hw⟩ := hw
  refine g_get C in_X2 hM hev6 rfl 0 (by decide) q171 (fun _ h => h) (v := .ref v6) hvv6 dX2_distance_10 ?_
  refine lv_iload_n hx hb dX2_distance_13 rfl (lv_at hl 2 rfl) ?_
  obtain ⟨nf7, f7, ⟨tf7, hef7⟩, hif7, hw⟩ := hw
  refine g_aald C hM 3 hef7 rfl rfl hif7 dX2_distance_14 ?_
  obtain ⟨z8, ez8⟩ : ∃ y_, y_ = f7 y.toNatClampNeg := ⟨_, rfl⟩
  rw [← ez8]
  replace hw := hw z8 ez8
  obtain ⟨b9, eb9, hw⟩ := hw
  subst eb9
  obtain ⟨v10, ⟨tv10, fsv10, hev10, hvv10⟩, hw⟩ := hw
  refine g_getN C in_X5 hM hev10 rfl 0 (by decide) q238 (fun _ h => h) (v := .int v10) hvv10 dX2_distance_15 ?_
  refine lv_isub hx hb dX2_distance_18 ?_
  refine va_mabs hx hb (C.2.2.1.trans hl.1.symm) hown (C.ts _ q1683) (C.ts _ q1684) (C.ts _ q93) (C.ts _ q1685) (Nat.le_of_ble_eq_true rfl) (Nat.le_of_ble_eq_true rfl) (Nat.zero_le _) (Nat.zero_le _) dX2_distance_19 ?_
  exact W.iret (v := (if 0 ≤ (v5 - v10) then (v5 - v10) else 0 - (v5 - v10))) hx hb hr (fun t ht _ => ⟨(if 0 ≤ (v5 - v10) then (v5 - v10) else 0 - (v5 - v10)), rfl, hw, ht⟩) (fun _ h => by cases h) dX2_distance_22
set_option maxHeartbeats 4000000 in
theorem met_X2_distance (l : Launch) (g : gG) (A : RA) (f : Row) (M : nM) (o : Nat) (x : Int32) (y : Int32) (hpre : pre_X2_distance g A f M o x y) : Met l yX2_distance (ws_ yX2_distance cX2_distance 3 (some .int)) ({ frames := 2, cells := 0, slots := 0, locals := 128 } : Room) (va_Pc [.ref o, .int x, .int y] (Pg g (nh g M))) (vp_Si (fun r => post_X2_distance g A f M o x y r)) 0 0 (fun _ => False) :=
  wk_X2_distance l g A f M o x y _ (pr_X2_distance g A f M o x y hpre)

set_option maxHeartbeats 4000000 in
theorem wk_X2_canRide (l : Launch) (g : gG) (A : RA) (f : Row) (M : nM) (o : Nat) (x : Int32) (y : Int32) (w : Int32) (post : Int32 → Prop) (hw : wp_X2_canRide g A f post M o x y w) : Met l yX2_canRide (ws_ yX2_canRide cX2_canRide 4 (some .boolean)) ({ frames := 3, cells := 0, slots := 0, locals := 192 } : Room) (va_Pc [.ref o, .int x, .int y, .int w] (Pg g (nh g M))) (vp_Si post) 0 0 (fun _ => False) := by
  refine Met.ofW (cc := cX2_canRide) (maxL := 4) (ret := (some .boolean)) (by decide) rfl ?_
  intro p e s m args below meth c s₁ B hml hv
  obtain ⟨rfl, hG, hM⟩ := hv
  have C : Cx p s m _ meth c cX2_canRide 4 RX2 (some .boolean) g := Cx.of B hml hG
  have hx := C.1
  have hb := C.2.1
  have hown := C.2.2.2.1
  have hr := C.2.2.2.2.2.1
  have hlocks := C.2.2.2.2.2.2.1
  refine lv_start ([.ref o, .int x, .int y, .int w] : List Value) (L := [(0, .ref o), (1, .int x), (2, .int y), (3, .int w)]) (Nat.le_of_ble_eq_true rfl) rfl (fun ls hl => ?_)
  refine lv_aload_n hx hb dX2_canRide_0 rfl (lv_at hl 0 rfl) ?_
  refine lv_iload_n hx hb dX2_canRide_1 rfl (lv_at hl 2 rfl) ?_
  obtain ⟨g_1, g_2, hw⟩ := hw
  obtain ⟨hpr3, hw⟩ := hw
  obtain ⟨⟨wr3, ur3, hrr3⟩, hw⟩ := hw
  refine vp_callSi (va_runV (As := [.int y]) (rest := []) C.fix (met_X2_hasInn l g g_1 g_2 M o y hpr3) (cw_X2_45 C.ts ⟨Nat.le_of_ble_eq_true rfl, Nat.le_of_ble_eq_true rfl⟩) (preV_of C (P := (nh g M)) (nh.recv C hM hrr3 (q := (RX2, TX2, 5)) rfl) va_S.rf hM _) rfl rfl hl.1 rfl (lv_room (Nat.le_of_ble_eq_true rfl)) dX2_canRide_2 ⟨Nat.le_of_ble_eq_true rfl, Nat.le_of_ble_eq_true rfl⟩).run (fun r3 er3 => ?_)
  replace hw := hw r3 er3
  refine lv_if_eq (tgt := 34) hx hb dX2_canRide_5 (by decide) (fun c4 => ?_) (fun c4 => ?_)
  · have hw := hw.1 c4
    refine lv_iconst (v := 0) hx hb dX2_canRide_34 (by decide) ?_
    exact W.zret (v := 0) hx hb hr hw.1 (fun t ht _ => ⟨0, rfl, hw.2, ht⟩) (fun _ h => by cases h) dX2_canRide_35
  · have hw := hw.2 c4
    refine lv_aload_n hx hb dX2_canRide_8 rfl (lv_at hl 0 rfl) ?_
    obtain ⟨v5, ⟨tv5, fsv5, hev5, hvv5⟩, hw⟩ := hw
    refine g_get C in_X2 hM hev5 rfl 0 (by decide) q171 (fun _ h => h) (v := .ref v5) hvv5 dX2_canRide_9 ?_
    refine lv_iload_n hx hb dX2_canRide_12 rfl (lv_at hl 2 rfl) ?_
    obtain ⟨nf6, f6, ⟨tf6, hef6⟩, hif6, hw⟩ := hw
    refine g_aald C hM 3 hef6 rfl rfl hif6 dX2_canRide_13 ?_
    obtain ⟨z7, ez7⟩ : ∃ y_, y_ = f6 y.toNatClampNeg := ⟨_, rfl⟩
    rw [← ez7]
    replace hw := hw z7 ez7
    obtain ⟨b8, eb8, hw⟩ := hw
    subst eb8
    obtain ⟨v9, ⟨tv9, fsv9, hev9, hvv9⟩, hw⟩ := hw
    refine g_getN C in_X5 hM hev9 rfl 1 (by decide) q241 (fun _ h => h) (v := .int v9) hvv9 dX2_canRide_14 ?_
    refine lv_if_eq (tgt := 34) hx hb dX2_canRide_17 (by decide) (fun c10 => ?_) (fun c10 => ?_)
    · have hw := hw.1 c10
      refine lv_iconst (v := 0) hx hb dX2_canRide_34 (by decide) ?_
      exact W.zret (v := 0) hx hb hr hw.1 (fun t ht _ => ⟨0, rfl, hw.2, ht⟩) (fun _ h => by cases h) dX2_canRide_35
    · have hw := hw.2 c10
      refine lv_aload_n hx hb dX2_canRide_20 rfl (lv_at hl 0 rfl) ?_
      refine lv_iload_n hx hb dX2_canRide_21 rfl (lv_at hl 1 rfl) ?_
      refine lv_iload_n hx hb dX2_canRide_22 rfl (lv_at hl 2 rfl) ?_
      obtain ⟨g_11, g_12, hw⟩ := hw
      obtain ⟨hpr13, hw⟩ := hw
      obtain ⟨⟨wr13, ur13, hrr13⟩, hw⟩ := hw
      refine vp_callSi (va_runV (As := [.int x, .int y]) (rest := []) C.fix (met_X2_distance l g g_11 g_12 M o x y hpr13) (cw_X2_147 C.ts ⟨Nat.le_of_ble_eq_true rfl, Nat.le_of_ble_eq_true rfl⟩) (preV_of C (P := (nh g M)) (nh.recv C hM hrr13 (q := (RX2, TX2, 5)) rfl) va_S.rf hM _) rfl rfl hl.1 rfl (lv_room (Nat.le_of_ble_eq_true rfl)) dX2_canRide_23 ⟨Nat.le_of_ble_eq_true rfl, Nat.le_of_ble_eq_true rfl⟩).run (fun r13 er13 => ?_)
      replace hw := hw r13 er13
      refine lv_iload_n hx hb dX2_canRide_26 rfl (lv_at hl 3 rfl) ?_
      refine lv_icmp_gt (tgt := 34) hx hb dX2_canRide_27 (by decide) (fun c14 => ?_) (fun c14 => ?_)
      · have hw := hw.1 c14
        refine lv_iconst (v := 0) hx hb dX2_canRide_34 (by decide) ?_
        exact W.zret (v := 0) hx hb hr hw.1 (fun t ht _ => ⟨0, rfl, hw.2, ht⟩) (fun _ h => by cases h) dX2_canRide_35
      · have hw := hw.2 c14
        refine lv_iconst (v := 1) hx hb dX2_canRide_30 (by decide) ?_
        refine lv_goto (tgt := 35) hx hb dX2_canRide_31 (by decide) ?_
        exact W.zret (v := 1) hx hb hr hw.1 (fun t ht _ => ⟨1, rfl, hw.2, ht⟩) (fun _ h => by cases h) dX2_canRide_35
set_option maxHeartbeats 4000000 in
theorem met_X2_canRide (l : Launch) (g : gG) (A : RA) (f : Row) (M : nM) (o : Nat) (x : Int32) (y : Int32) (w : Int32) (hpre : pre_X2_canRide g A f M o x y w) : Met l yX2_canRide (ws_ yX2_canRide cX2_canRide 4 (some .boolean)) ({ frames := 3, cells := 0, slots := 0, locals := 192 } : Room) (va_Pc [.ref o, .int x, .int y, .int w] (Pg g (nh g M))) (vp_Si (fun r => post_X2_canRide g A f M o x y w r)) 0 0 (fun _ => False) :=
  wk_X2_canRide l g A f M o x y w _ (pr_X2_canRide g A f M o x y w hpre)

set_option maxHeartbeats 4000000 in
theorem wk_X2_stageEnd (l : Launch) (g : gG) (A : RA) (f : Row) (M : nM) (o : Nat) (x : Int32) (w : Int32) (post : Int32 → Prop) (hw : wp_X2_stageEnd g A f post M o x w) : Met l yX2_stageEnd (ws_ yX2_stageEnd cX2_stageEnd 3 (some .int)) ({ frames := 4, cells := 0, slots := 0, locals := 256 } : Room) (va_Pc [.ref o, .int x, .int w] (Pg g (nh g M))) (vp_Si post) 0 0 (fun _ => False) := by
  refine Met.ofW (cc := cX2_stageEnd) (maxL := 3) (ret := (some .int)) (by decide) rfl ?_
  intro p e s m args below meth c s₁ B hml hv
  obtain ⟨rfl, hG, hM⟩ := hv
  have C : Cx p s m _ meth c cX2_stageEnd 3 RX2 (some .int) g := Cx.of B hml hG
  have hx := C.1
  have hb := C.2.1
  have hown := C.2.2.2.1
  have hr := C.2.2.2.2.2.1
  have hlocks := C.2.2.2.2.2.2.1
  refine lv_start ([.ref o, .int x, .int w] : List Value) (L := [(0, .ref o), (1, .int x), (2, .int w)]) (Nat.le_of_ble_eq_true rfl) rfl (fun ls hl => ?_)
  refine lv_aload_n hx hb dX2_stageEnd_0 rfl (lv_at hl 0 rfl) ?_
  refine lv_iload_n hx hb dX2_stageEnd_1 rfl (lv_at hl 1 rfl) ?_
  refine lv_aload_n hx hb dX2_stageEnd_2 rfl (lv_at hl 0 rfl) ?_
  obtain ⟨v1, ⟨tv1, fsv1, hev1, hvv1⟩, hw⟩ := hw
  refine g_get C in_X2 hM hev1 rfl 1 (by decide) q174 (fun _ h => h) (v := .ref v1) hvv1 dX2_stageEnd_3 ?_
  obtain ⟨v2, ⟨tv2, fsv2, hev2, hvv2⟩, hw⟩ := hw
  refine g_getN C in_X3 hM hev2 rfl 0 (by decide) q139 (fun _ h => h) (v := .ref v2) hvv2 dX2_stageEnd_6 ?_
  refine lv_iload_n hx hb dX2_stageEnd_9 rfl (lv_at hl 1 rfl) ?_
  obtain ⟨nf3, f3, ⟨tf3, hef3⟩, hif3, hw⟩ := hw
  refine g_iald C hM hef3 hif3 dX2_stageEnd_10 ?_
  obtain ⟨z4, ez4⟩ : ∃ y_, y_ = f3 x.toNatClampNeg := ⟨_, rfl⟩
  rw [← ez4]
  replace hw := hw z4 ez4
  refine lv_iload_n hx hb dX2_stageEnd_11 rfl (lv_at hl 2 rfl) ?_
  obtain ⟨g_5, g_6, hw⟩ := hw
  obtain ⟨hpr7, hw⟩ := hw
  obtain ⟨⟨wr7, ur7, hrr7⟩, hw⟩ := hw
  refine vp_callSi (va_runV (As := [.int x, .int z4, .int w]) (rest := []) C.fix (met_X2_canRide l g g_5 g_6 M o x z4 w hpr7) (cw_X2_150 C.ts ⟨Nat.le_of_ble_eq_true rfl, Nat.le_of_ble_eq_true rfl⟩) (preV_of C (P := (nh g M)) (nh.recv C hM hrr7 (q := (RX2, TX2, 5)) rfl) va_S.rf hM _) rfl rfl hl.1 rfl (lv_room (Nat.le_of_ble_eq_true rfl)) dX2_stageEnd_12 ⟨Nat.le_of_ble_eq_true rfl, Nat.le_of_ble_eq_true rfl⟩).run (fun r7 er7 => ?_)
  replace hw := hw r7 er7
  refine lv_if_eq (tgt := 28) hx hb dX2_stageEnd_15 (by decide) (fun c8 => ?_) (fun c8 => ?_)
  · have hw := hw.1 c8
    refine lv_aload_n hx hb dX2_stageEnd_28 rfl (lv_at hl 0 rfl) ?_
    refine lv_iload_n hx hb dX2_stageEnd_29 rfl (lv_at hl 1 rfl) ?_
    refine lv_aload_n hx hb dX2_stageEnd_30 rfl (lv_at hl 0 rfl) ?_
    obtain ⟨v9, ⟨tv9, fsv9, hev9, hvv9⟩, hw⟩ := hw
    refine g_get C in_X2 hM hev9 rfl 1 (by decide) q174 (fun _ h => h) (v := .ref v9) hvv9 dX2_stageEnd_31 ?_
    obtain ⟨v10, ⟨tv10, fsv10, hev10, hvv10⟩, hw⟩ := hw
    refine g_getN C in_X3 hM hev10 rfl 1 (by decide) q143 (fun _ h => h) (v := .ref v10) hvv10 dX2_stageEnd_34 ?_
    refine lv_iload_n hx hb dX2_stageEnd_37 rfl (lv_at hl 1 rfl) ?_
    obtain ⟨nf11, f11, ⟨tf11, hef11⟩, hif11, hw⟩ := hw
    refine g_iald C hM hef11 hif11 dX2_stageEnd_38 ?_
    obtain ⟨z12, ez12⟩ : ∃ y_, y_ = f11 x.toNatClampNeg := ⟨_, rfl⟩
    rw [← ez12]
    replace hw := hw z12 ez12
    refine lv_iload_n hx hb dX2_stageEnd_39 rfl (lv_at hl 2 rfl) ?_
    obtain ⟨g_13, g_14, hw⟩ := hw
    obtain ⟨hpr15, hw⟩ := hw
    obtain ⟨⟨wr15, ur15, hrr15⟩, hw⟩ := hw
    refine vp_callSi (va_runV (As := [.int x, .int z12, .int w]) (rest := []) C.fix (met_X2_canRide l g g_13 g_14 M o x z12 w hpr15) (cw_X2_150 C.ts ⟨Nat.le_of_ble_eq_true rfl, Nat.le_of_ble_eq_true rfl⟩) (preV_of C (P := (nh g M)) (nh.recv C hM hrr15 (q := (RX2, TX2, 5)) rfl) va_S.rf hM _) rfl rfl hl.1 rfl (lv_room (Nat.le_of_ble_eq_true rfl)) dX2_stageEnd_40 ⟨Nat.le_of_ble_eq_true rfl, Nat.le_of_ble_eq_true rfl⟩).run (fun r15 er15 => ?_)
    replace hw := hw r15 er15
    refine lv_if_eq (tgt := 58) hx hb dX2_stageEnd_43 (by decide) (fun c16 => ?_) (fun c16 => ?_)
    · have hw := hw.1 c16
      refine lv_iconst (v := (-1)) hx hb dX2_stageEnd_58 (by decide) ?_
      exact W.iret (v := (-1)) hx hb hr (fun t ht _ => ⟨(-1), rfl, hw, ht⟩) (fun _ h => by cases h) dX2_stageEnd_59
    · have hw := hw.2 c16
      refine lv_aload_n hx hb dX2_stageEnd_46 rfl (lv_at hl 0 rfl) ?_
      obtain ⟨v17, ⟨tv17, fsv17, hev17, hvv17⟩, hw⟩ := hw
      refine g_get C in_X2 hM hev17 rfl 1 (by decide) q174 (fun _ h => h) (v := .ref v17) hvv17 dX2_stageEnd_47 ?_
      obtain ⟨v18, ⟨tv18, fsv18, hev18, hvv18⟩, hw⟩ := hw
      refine g_getN C in_X3 hM hev18 rfl 1 (by decide) q143 (fun _ h => h) (v := .ref v18) hvv18 dX2_stageEnd_50 ?_
      refine lv_iload_n hx hb dX2_stageEnd_53 rfl (lv_at hl 1 rfl) ?_
      obtain ⟨nf19, f19, ⟨tf19, hef19⟩, hif19, hw⟩ := hw
      refine g_iald C hM hef19 hif19 dX2_stageEnd_54 ?_
      obtain ⟨z20, ez20⟩ : ∃ y_, y_ = f19 x.toNatClampNeg := ⟨_, rfl⟩
      rw [← ez20]
      replace hw := hw z20 ez20
      refine lv_goto (tgt := 59) hx hb dX2_stageEnd_55 (by decide) ?_
      exact W.iret (v := z20) hx hb hr (fun t ht _ => ⟨z20, rfl, hw, ht⟩) (fun _ h => by cases h) dX2_stageEnd_59
  · have hw := hw.2 c8
    refine lv_aload_n hx hb dX2_stageEnd_18 rfl (lv_at hl 0 rfl) ?_
    obtain ⟨v21, ⟨tv21, fsv21, hev21, hvv21⟩, hw⟩ := hw
    refine g_get C in_X2 hM hev21 rfl 1 (by decide) q174 (fun _ h => h) (v := .ref v21) hvv21 dX2_stageEnd_19 ?_
    obtain ⟨v22, ⟨tv22, fsv22, hev22, hvv22⟩, hw⟩ := hw
    refine g_getN C in_X3 hM hev22 rfl 0 (by decide) q139 (fun _ h => h) (v := .ref v22) hvv22 dX2_stageEnd_22 ?_
    refine lv_iload_n hx hb dX2_stageEnd_25 rfl (lv_at hl 1 rfl) ?_
    obtain ⟨nf23, f23, ⟨tf23, hef23⟩, hif23, hw⟩ := hw
    refine g_iald C hM hef23 hif23 dX2_stageEnd_26 ?_
    obtain ⟨z24, ez24⟩ : ∃ y_, y_ = f23 x.toNatClampNeg := ⟨_, rfl⟩
    rw [← ez24]
    replace hw := hw z24 ez24
    exact W.iret (v := z24) hx hb hr (fun t ht _ => ⟨z24, rfl, hw, ht⟩) (fun _ h => by cases h) dX2_stageEnd_27
set_option maxHeartbeats 4000000 in
theorem met_X2_stageEnd (l : Launch) (g : gG) (A : RA) (f : Row) (M : nM) (o : Nat) (x : Int32) (w : Int32) (hpre : pre_X2_stageEnd g A f M o x w) : Met l yX2_stageEnd (ws_ yX2_stageEnd cX2_stageEnd 3 (some .int)) ({ frames := 4, cells := 0, slots := 0, locals := 256 } : Room) (va_Pc [.ref o, .int x, .int w] (Pg g (nh g M))) (vp_Si (fun r => post_X2_stageEnd g A f M o x w r)) 0 0 (fun _ => False) :=
  wk_X2_stageEnd l g A f M o x w _ (pr_X2_stageEnd g A f M o x w hpre)

set_option maxHeartbeats 4000000 in
theorem wk_X2_difference (l : Launch) (g : gG) (M : nM) (x : Int32) (y : Int32) (post : Int32 → Prop) (hw : wp_X2_difference g post M x y) : Met l yX2_difference (ws_ yX2_difference cX2_difference 2 (some .int)) ({ frames := 1, cells := 0, slots := 0, locals := 64 } : Room) (va_Pc [.int x, .int y] (Pg g (nh g M))) (vp_Si post) 0 0 (fun _ => False) := by
  refine Met.ofW (cc := cX2_difference) (maxL := 2) (ret := (some .int)) (by decide) rfl ?_
  intro p e s m args below meth c s₁ B hml hv
  obtain ⟨rfl, hG, hM⟩ := hv
  have C : Cx p s m _ meth c cX2_difference 2 RX2 (some .int) g := Cx.of B hml hG
  have hx := C.1
  have hb := C.2.1
  have hown := C.2.2.2.1
  have hr := C.2.2.2.2.2.1
  have hlocks := C.2.2.2.2.2.2.1
  refine lv_start ([.int x, .int y] : List Value) (L := [(0, .int x), (1, .int y)]) (Nat.le_of_ble_eq_true rfl) rfl (fun ls hl => ?_)
  refine lv_iload_n hx hb dX2_difference_0 rfl (lv_at hl 0 rfl) ?_
  refine lv_iload_n hx hb dX2_difference_1 rfl (lv_at hl 1 rfl) ?_
  refine lv_icmp_ne (tgt := 9) hx hb dX2_difference_2 (by decide) (fun c1 => ?_) (fun c1 => ?_)
  · have hw := hw.1 c1
    refine lv_iconst (v := 1) hx hb dX2_difference_9 (by decide) ?_
    exact W.iret (v := 1) hx hb hr (fun t ht _ => ⟨1, rfl, hw, ht⟩) (fun _ h => by cases h) dX2_difference_10
  · have hw := hw.2 c1
    refine lv_iconst (v := 0) hx hb dX2_difference_5 (by decide) ?_
    refine lv_goto (tgt := 10) hx hb dX2_difference_6 (by decide) ?_
    exact W.iret (v := 0) hx hb hr (fun t ht _ => ⟨0, rfl, hw, ht⟩) (fun _ h => by cases h) dX2_difference_10
set_option maxHeartbeats 4000000 in
theorem met_X2_difference (l : Launch) (g : gG) (M : nM) (x : Int32) (y : Int32) : Met l yX2_difference (ws_ yX2_difference cX2_difference 2 (some .int)) ({ frames := 1, cells := 0, slots := 0, locals := 64 } : Room) (va_Pc [.int x, .int y] (Pg g (nh g M))) (vp_Si (fun r => post_X2_difference g M x y r)) 0 0 (fun _ => False) :=
  wk_X2_difference l g M x y _ (pr_X2_difference g M x y)

set_option maxHeartbeats 4000000 in
theorem wk_X2_wrongAt (l : Launch) (g : gG) (A : RA) (f : Row) (nA : Nat) (sA : Nat) (cr : Row) (M : nM) (o : Nat) (x : Int32) (lk : Nat) (post : Int32 → Prop) (hw : wp_X2_wrongAt g A f nA sA cr post M o x lk) : Met l yX2_wrongAt (ws_ yX2_wrongAt cX2_wrongAt 3 (some .int)) ({ frames := 2, cells := 0, slots := 0, locals := 128 } : Room) (va_Pc [.ref o, .int x, .ref lk] (Pg g (nh g M))) (vp_Si post) 0 0 (fun _ => False) := by
  refine Met.ofW (cc := cX2_wrongAt) (maxL := 3) (ret := (some .int)) (by decide) rfl ?_
  intro p e s m args below meth c s₁ B hml hv
  obtain ⟨rfl, hG, hM⟩ := hv
  have C : Cx p s m _ meth c cX2_wrongAt 3 RX2 (some .int) g := Cx.of B hml hG
  have hx := C.1
  have hb := C.2.1
  have hown := C.2.2.2.1
  have hr := C.2.2.2.2.2.1
  have hlocks := C.2.2.2.2.2.2.1
  refine lv_start ([.ref o, .int x, .ref lk] : List Value) (L := [(0, .ref o), (1, .int x), (2, .ref lk)]) (Nat.le_of_ble_eq_true rfl) rfl (fun ls hl => ?_)
  refine lv_aload_n hx hb dX2_wrongAt_0 rfl (lv_at hl 0 rfl) ?_
  obtain ⟨v1, ⟨tv1, fsv1, hev1, hvv1⟩, hw⟩ := hw
  refine g_get C in_X2 hM hev1 rfl 1 (by decide) q174 (fun _ h => h) (v := .ref v1) hvv1 dX2_wrongAt_1 ?_
  obtain ⟨v2, ⟨tv2, fsv2, hev2, hvv2⟩, hw⟩ := hw
  refine g_getN C in_X3 hM hev2 rfl 0 (by decide) q139 (fun _ h => h) (v := .ref v2) hvv2 dX2_wrongAt_4 ?_
  refine lv_iload_n hx hb dX2_wrongAt_7 rfl (lv_at hl 1 rfl) ?_
  obtain ⟨nf3, f3, ⟨tf3, hef3⟩, hif3, hw⟩ := hw
  refine g_iald C hM hef3 hif3 dX2_wrongAt_8 ?_
  obtain ⟨z4, ez4⟩ : ∃ y_, y_ = f3 x.toNatClampNeg := ⟨_, rfl⟩
  rw [← ez4]
  replace hw := hw z4 ez4
  refine lv_aload_n hx hb dX2_wrongAt_9 rfl (lv_at hl 2 rfl) ?_
  obtain ⟨v5, ⟨tv5, fsv5, hev5, hvv5⟩, hw⟩ := hw
  refine g_getN C in_X3 hM hev5 rfl 0 (by decide) q139 (fun _ h => h) (v := .ref v5) hvv5 dX2_wrongAt_10 ?_
  refine lv_iload_n hx hb dX2_wrongAt_13 rfl (lv_at hl 1 rfl) ?_
  obtain ⟨nf6, f6, ⟨tf6, hef6⟩, hif6, hw⟩ := hw
  refine g_iald C hM hef6 hif6 dX2_wrongAt_14 ?_
  obtain ⟨z7, ez7⟩ : ∃ y_, y_ = f6 x.toNatClampNeg := ⟨_, rfl⟩
  rw [← ez7]
  replace hw := hw z7 ez7
  refine vp_callSi (va_runS (As := [.int z4, .int z7]) (rest := []) C.fix (met_X2_difference l g  M z4 z7) (cw_X2_106 C.ts ⟨Nat.le_of_ble_eq_true rfl, Nat.le_of_ble_eq_true rfl⟩) (preS_of C (P := (nh g M)) va_S.rf hM _) rfl rfl hl.1 rfl (lv_room (Nat.le_of_ble_eq_true rfl)) dX2_wrongAt_15 ⟨Nat.le_of_ble_eq_true rfl, Nat.le_of_ble_eq_true rfl⟩).run (fun r8 er8 => ?_)
  replace hw := hw r8 er8
  refine lv_aload_n hx hb dX2_wrongAt_18 rfl (lv_at hl 0 rfl) ?_
  obtain ⟨v9, ⟨tv9, fsv9, hev9, hvv9⟩, hw⟩ := hw
  refine g_get C in_X2 hM hev9 rfl 1 (by decide) q174 (fun _ h => h) (v := .ref v9) hvv9 dX2_wrongAt_19 ?_
  obtain ⟨v10, ⟨tv10, fsv10, hev10, hvv10⟩, hw⟩ := hw
  refine g_getN C in_X3 hM hev10 rfl 1 (by decide) q143 (fun _ h => h) (v := .ref v10) hvv10 dX2_wrongAt_22 ?_
  refine lv_iload_n hx hb dX2_wrongAt_25 rfl (lv_at hl 1 rfl) ?_
  obtain ⟨nf11, f11, ⟨tf11, hef11⟩, hif11, hw⟩ := hw
  refine g_iald C hM hef11 hif11 dX2_wrongAt_26 ?_
  obtain ⟨z12, ez12⟩ : ∃ y_, y_ = f11 x.toNatClampNeg := ⟨_, rfl⟩
  rw [← ez12]
  replace hw := hw z12 ez12
  refine lv_aload_n hx hb dX2_wrongAt_27 rfl (lv_at hl 2 rfl) ?_
  obtain ⟨v13, ⟨tv13, fsv13, hev13, hvv13⟩, hw⟩ := hw
  refine g_getN C in_X3 hM hev13 rfl 1 (by decide) q143 (fun _ h => h) (v := .ref v13) hvv13 dX2_wrongAt_28 ?_
  refine lv_iload_n hx hb dX2_wrongAt_31 rfl (lv_at hl 1 rfl) ?_
  obtain ⟨nf14, f14, ⟨tf14, hef14⟩, hif14, hw⟩ := hw
  refine g_iald C hM hef14 hif14 dX2_wrongAt_32 ?_
  obtain ⟨z15, ez15⟩ : ∃ y_, y_ = f14 x.toNatClampNeg := ⟨_, rfl⟩
  rw [← ez15]
  replace hw := hw z15 ez15
  refine vp_callSi (va_runS (As := [.int z12, .int z15]) (rest := [.int r8]) C.fix (met_X2_difference l g  M z12 z15) (cw_X2_106 C.ts ⟨Nat.le_of_ble_eq_true rfl, Nat.le_of_ble_eq_true rfl⟩) (preS_of C (P := (nh g M)) va_S.rf hM _) rfl rfl hl.1 rfl (lv_room (Nat.le_of_ble_eq_true rfl)) dX2_wrongAt_33 ⟨Nat.le_of_ble_eq_true rfl, Nat.le_of_ble_eq_true rfl⟩).run (fun r16 er16 => ?_)
  replace hw := hw r16 er16
  refine lv_iadd hx hb dX2_wrongAt_36 ?_
  exact W.iret (v := (r8 + r16)) hx hb hr (fun t ht _ => ⟨(r8 + r16), rfl, hw, ht⟩) (fun _ h => by cases h) dX2_wrongAt_37
set_option maxHeartbeats 4000000 in
theorem met_X2_wrongAt (l : Launch) (g : gG) (A : RA) (f : Row) (nA : Nat) (sA : Nat) (cr : Row) (M : nM) (o : Nat) (x : Int32) (lk : Nat) (hpre : pre_X2_wrongAt g A f nA sA cr M o x lk) : Met l yX2_wrongAt (ws_ yX2_wrongAt cX2_wrongAt 3 (some .int)) ({ frames := 2, cells := 0, slots := 0, locals := 128 } : Room) (va_Pc [.ref o, .int x, .ref lk] (Pg g (nh g M))) (vp_Si (fun r => post_X2_wrongAt g A f nA sA cr M o x lk r)) 0 0 (fun _ => False) :=
  wk_X2_wrongAt l g A f nA sA cr M o x lk _ (pr_X2_wrongAt g A f nA sA cr M o x lk hpre)

set_option maxHeartbeats 4000000 in
theorem wkb_X2_wrongValues_72 (C : Cx p s m args meth c cX2_wrongValues 4 RX2 (some .int) g) (post : Int32 → Prop) (A : RA) (f : Row) (nA : Nat) (sA : Nat) (cr : Row) (M : nM) (hM : nh g M s.heap) (o : Nat) (lk : Nat) (K47 : Int32 → Int32 → Prop) (hK47 : ∀ (y2 : Int32) (y3 : Int32), K47 y2 y3 → ∀ ls : Array Slot, lv_has ls 4 [(0, .ref o), (1, .ref lk), (2, .int y2), (3, .int y3)] → W p l e ({ frames := 3, cells := 0, slots := 0, locals := 192 } : Room) s m args below meth c s.heap [] 0 0 (MQ below (vp_Si post) args s 0 0 (fun _ => False)) (F0 m 47 ls [])) (x3 : Int32) (s0 : Int32) (s1 : Int32) (hw : wpb_X2_wrongValues_72 post K47 g A f nA sA cr M o lk x3 s0 s1) {ls : Array Slot} (hl : lv_has ls 4 [(0, .ref o), (1, .ref lk), (3, .int x3)]) : W p l e ({ frames := 3, cells := 0, slots := 0, locals := 192 } : Room) s m args below meth c s.heap [] 0 0 (MQ below (vp_Si post) args s 0 0 (fun _ => False)) (F0 m 72 ls [.int s0, .int s1]) := by
  have hx := C.1
  have hb := C.2.1
  have hown := C.2.2.2.1
  have hr := C.2.2.2.2.2.1
  have hlocks := C.2.2.2.2.2.2.1
  refine lv_iadd hx hb dX2_wrongValues_72 ?_
  refine lv_topi (fun z25 ez25 => ?_)
  have hw := hw z25 ez25
  refine lv_istore_n (lv' := [(2, .int z25), (0, .ref o), (1, .ref lk), (3, .int x3)]) hx hb dX2_wrongValues_73 rfl hl (by decide) rfl (fun ls hl => ?_)
  obtain ⟨z26, ez26⟩ : ∃ y : Int32, y = x3 + 1 := ⟨_, rfl⟩
  have hw := hw z26 ez26
  refine lv_iinc (v := z26) (lv' := [(3, .int z26), (2, .int z25), (0, .ref o), (1, .ref lk)]) hx hb dX2_wrongValues_74 hl (k := 3) rfl (by rw [ez26]; rfl) (by decide) rfl (fun ls hl => ?_)
  refine lv_goto (tgt := 47) hx hb dX2_wrongValues_77 (by decide) ?_
  exact hK47 z25 z26 hw  _ (lv_sub hl [2, 3, 1, 0] rfl)
set_option maxHeartbeats 4000000 in
theorem wkb_X2_wrongValues_47 (C : Cx p s m args meth c cX2_wrongValues 4 RX2 (some .int) g) (post : Int32 → Prop) (A : RA) (f : Row) (nA : Nat) (sA : Nat) (cr : Row) (M : nM) (hM : nh g M s.heap) (o : Nat) (lk : Nat)  : ∀ (n : Nat) (x2 : Int32) (x3 : Int32), wpb_X2_wrongValues_47 post  g A f nA sA cr M o lk n x2 x3 → ∀ ls : Array Slot, lv_has ls 4 [(0, .ref o), (1, .ref lk), (2, .int x2), (3, .int x3)] → W p l e ({ frames := 3, cells := 0, slots := 0, locals := 192 } : Room) s m args below meth c s.heap [] 0 0 (MQ below (vp_Si post) args s 0 0 (fun _ => False)) (F0 m 47 ls []) := by
  have hx := C.1
  have hb := C.2.1
  have hown := C.2.2.2.1
  have hr := C.2.2.2.2.2.1
  have hlocks := C.2.2.2.2.2.2.1
  intro n
  induction n with
  | zero =>
    intro x2 x3 hw
    exact hw.elim
  | succ n ih =>
    intro x2 x3 hw  ls hl
    refine lv_iload_n hx hb dX2_wrongValues_47 rfl (lv_at hl 3 rfl) ?_
    refine lv_bipush (v := 12) hx hb dX2_wrongValues_48 (by decide) ?_
    refine lv_icmp_ge (tgt := 80) hx hb dX2_wrongValues_50 (by decide) (fun c14 => ?_) (fun c14 => ?_)
    · have hw := hw.1 c14
      refine lv_iload_n hx hb dX2_wrongValues_80 rfl (lv_at hl 2 rfl) ?_
      exact W.iret (v := x2) hx hb hr (fun t ht _ => ⟨x2, rfl, hw, ht⟩) (fun _ h => by cases h) dX2_wrongValues_81
    · have hw := hw.2 c14
      refine lv_iload_n hx hb dX2_wrongValues_53 rfl (lv_at hl 2 rfl) ?_
      refine lv_aload_n hx hb dX2_wrongValues_54 rfl (lv_at hl 0 rfl) ?_
      refine lv_iload_n hx hb dX2_wrongValues_55 rfl (lv_at hl 3 rfl) ?_
      obtain ⟨g_15, g_16, hw⟩ := hw
      obtain ⟨hpr17, hw⟩ := hw
      obtain ⟨⟨wr17, ur17, hrr17⟩, hw⟩ := hw
      refine vp_callSi (va_runV (As := [.int x3]) (rest := [.int x2]) C.fix (met_X2_hasInn l g g_15 g_16 M o x3 hpr17) (cw_X2_45 C.ts ⟨Nat.le_of_ble_eq_true rfl, Nat.le_of_ble_eq_true rfl⟩) (preV_of C (P := (nh g M)) (nh.recv C hM hrr17 (q := (RX2, TX2, 5)) rfl) va_S.rf hM _) rfl rfl hl.1 rfl (lv_room (Nat.le_of_ble_eq_true rfl)) dX2_wrongValues_56 ⟨Nat.le_of_ble_eq_true rfl, Nat.le_of_ble_eq_true rfl⟩).run (fun r17 er17 => ?_)
      replace hw := hw r17 er17
      refine lv_if_eq (tgt := 71) hx hb dX2_wrongValues_59 (by decide) (fun c18 => ?_) (fun c18 => ?_)
      · have hw := hw.1 c18
        refine lv_iconst (v := 0) hx hb dX2_wrongValues_71 (by decide) ?_
        exact wkb_X2_wrongValues_72 C post  A f nA sA cr M hM o lk (wpb_X2_wrongValues_47 post  g A f nA sA cr M o lk n) ih x3 0 x2 hw  (lv_sub hl [0, 1, 3] rfl)
      · have hw := hw.2 c18
        refine lv_aload_n hx hb dX2_wrongValues_62 rfl (lv_at hl 0 rfl) ?_
        refine lv_iload_n hx hb dX2_wrongValues_63 rfl (lv_at hl 3 rfl) ?_
        refine lv_aload_n hx hb dX2_wrongValues_64 rfl (lv_at hl 1 rfl) ?_
        obtain ⟨g_19, g_20, g_21, g_22, g_23, hw⟩ := hw
        obtain ⟨hpr24, hw⟩ := hw
        obtain ⟨⟨wr24, ur24, hrr24⟩, hw⟩ := hw
        refine vp_callSi (va_runV (As := [.int x3, .ref lk]) (rest := [.int x2]) C.fix (met_X2_wrongAt l g g_19 g_20 g_21 g_22 g_23 M o x3 lk hpr24) (cw_X2_110 C.ts ⟨Nat.le_of_ble_eq_true rfl, Nat.le_of_ble_eq_true rfl⟩) (preV_of C (P := (nh g M)) (nh.recv C hM hrr24 (q := (RX2, TX2, 5)) rfl) va_S.rf hM _) rfl rfl hl.1 rfl (lv_room (Nat.le_of_ble_eq_true rfl)) dX2_wrongValues_65 ⟨Nat.le_of_ble_eq_true rfl, Nat.le_of_ble_eq_true rfl⟩).run (fun r24 er24 => ?_)
        replace hw := hw r24 er24
        refine lv_goto (tgt := 72) hx hb dX2_wrongValues_68 (by decide) ?_
        exact wkb_X2_wrongValues_72 C post  A f nA sA cr M hM o lk (wpb_X2_wrongValues_47 post  g A f nA sA cr M o lk n) ih x3 r24 x2 hw  (lv_sub hl [0, 1, 3] rfl)
set_option maxHeartbeats 4000000 in
theorem wk_X2_wrongValues (l : Launch) (g : gG) (A : RA) (f : Row) (nA : Nat) (sA : Nat) (cr : Row) (M : nM) (o : Nat) (lk : Nat) (post : Int32 → Prop) (hw : wp_X2_wrongValues g A f nA sA cr post M o lk) : Met l yX2_wrongValues (ws_ yX2_wrongValues cX2_wrongValues 4 (some .int)) ({ frames := 3, cells := 0, slots := 0, locals := 192 } : Room) (va_Pc [.ref o, .ref lk] (Pg g (nh g M))) (vp_Si post) 0 0 (fun _ => False) := by
  refine Met.ofW (cc := cX2_wrongValues) (maxL := 4) (ret := (some .int)) (by decide) rfl ?_
  intro p e s m args below meth c s₁ B hml hv
  obtain ⟨rfl, hG, hM⟩ := hv
  have C : Cx p s m _ meth c cX2_wrongValues 4 RX2 (some .int) g := Cx.of B hml hG
  have hx := C.1
  have hb := C.2.1
  have hown := C.2.2.2.1
  have hr := C.2.2.2.2.2.1
  have hlocks := C.2.2.2.2.2.2.1
  refine lv_start ([.ref o, .ref lk] : List Value) (L := [(0, .ref o), (1, .ref lk)]) (Nat.le_of_ble_eq_true rfl) rfl (fun ls hl => ?_)
  refine lv_aload_n hx hb dX2_wrongValues_0 rfl (lv_at hl 0 rfl) ?_
  obtain ⟨v1, ⟨tv1, fsv1, hev1, hvv1⟩, hw⟩ := hw
  refine g_get C in_X2 hM hev1 rfl 1 (by decide) q174 (fun _ h => h) (v := .ref v1) hvv1 dX2_wrongValues_1 ?_
  obtain ⟨v2, ⟨tv2, fsv2, hev2, hvv2⟩, hw⟩ := hw
  refine g_getN C in_X3 hM hev2 rfl 2 (by decide) q147 (fun _ h => h) (v := .int v2) hvv2 dX2_wrongValues_4 ?_
  refine lv_aload_n hx hb dX2_wrongValues_7 rfl (lv_at hl 1 rfl) ?_
  obtain ⟨v3, ⟨tv3, fsv3, hev3, hvv3⟩, hw⟩ := hw
  refine g_getN C in_X3 hM hev3 rfl 2 (by decide) q147 (fun _ h => h) (v := .int v3) hvv3 dX2_wrongValues_8 ?_
  refine vp_callSi (va_runS (As := [.int v2, .int v3]) (rest := []) C.fix (met_X2_difference l g  M v2 v3) (cw_X2_106 C.ts ⟨Nat.le_of_ble_eq_true rfl, Nat.le_of_ble_eq_true rfl⟩) (preS_of C (P := (nh g M)) va_S.rf hM _) rfl rfl hl.1 rfl (lv_room (Nat.le_of_ble_eq_true rfl)) dX2_wrongValues_11 ⟨Nat.le_of_ble_eq_true rfl, Nat.le_of_ble_eq_true rfl⟩).run (fun r4 er4 => ?_)
  replace hw := hw r4 er4
  refine lv_aload_n hx hb dX2_wrongValues_14 rfl (lv_at hl 0 rfl) ?_
  obtain ⟨v5, ⟨tv5, fsv5, hev5, hvv5⟩, hw⟩ := hw
  refine g_get C in_X2 hM hev5 rfl 1 (by decide) q174 (fun _ h => h) (v := .ref v5) hvv5 dX2_wrongValues_15 ?_
  obtain ⟨v6, ⟨tv6, fsv6, hev6, hvv6⟩, hw⟩ := hw
  refine g_getN C in_X3 hM hev6 rfl 3 (by decide) q151 (fun _ h => h) (v := .int v6) hvv6 dX2_wrongValues_18 ?_
  refine lv_aload_n hx hb dX2_wrongValues_21 rfl (lv_at hl 1 rfl) ?_
  obtain ⟨v7, ⟨tv7, fsv7, hev7, hvv7⟩, hw⟩ := hw
  refine g_getN C in_X3 hM hev7 rfl 3 (by decide) q151 (fun _ h => h) (v := .int v7) hvv7 dX2_wrongValues_22 ?_
  refine vp_callSi (va_runS (As := [.int v6, .int v7]) (rest := [.int r4]) C.fix (met_X2_difference l g  M v6 v7) (cw_X2_106 C.ts ⟨Nat.le_of_ble_eq_true rfl, Nat.le_of_ble_eq_true rfl⟩) (preS_of C (P := (nh g M)) va_S.rf hM _) rfl rfl hl.1 rfl (lv_room (Nat.le_of_ble_eq_true rfl)) dX2_wrongValues_25 ⟨Nat.le_of_ble_eq_true rfl, Nat.le_of_ble_eq_true rfl⟩).run (fun r8 er8 => ?_)
  replace hw := hw r8 er8
  refine lv_iadd hx hb dX2_wrongValues_28 ?_
  refine lv_aload_n hx hb dX2_wrongValues_29 rfl (lv_at hl 0 rfl) ?_
  obtain ⟨v9, ⟨tv9, fsv9, hev9, hvv9⟩, hw⟩ := hw
  refine g_get C in_X2 hM hev9 rfl 1 (by decide) q174 (fun _ h => h) (v := .ref v9) hvv9 dX2_wrongValues_30 ?_
  obtain ⟨v10, ⟨tv10, fsv10, hev10, hvv10⟩, hw⟩ := hw
  refine g_getN C in_X3 hM hev10 rfl 4 (by decide) q155 (fun _ h => h) (v := .int v10) hvv10 dX2_wrongValues_33 ?_
  refine lv_aload_n hx hb dX2_wrongValues_36 rfl (lv_at hl 1 rfl) ?_
  obtain ⟨v11, ⟨tv11, fsv11, hev11, hvv11⟩, hw⟩ := hw
  refine g_getN C in_X3 hM hev11 rfl 4 (by decide) q155 (fun _ h => h) (v := .int v11) hvv11 dX2_wrongValues_37 ?_
  refine vp_callSi (va_runS (As := [.int v10, .int v11]) (rest := [.int (r4 + r8)]) C.fix (met_X2_difference l g  M v10 v11) (cw_X2_106 C.ts ⟨Nat.le_of_ble_eq_true rfl, Nat.le_of_ble_eq_true rfl⟩) (preS_of C (P := (nh g M)) va_S.rf hM _) rfl rfl hl.1 rfl (lv_room (Nat.le_of_ble_eq_true rfl)) dX2_wrongValues_40 ⟨Nat.le_of_ble_eq_true rfl, Nat.le_of_ble_eq_true rfl⟩).run (fun r12 er12 => ?_)
  replace hw := hw r12 er12
  refine lv_iadd hx hb dX2_wrongValues_43 ?_
  refine lv_topi (fun z13 ez13 => ?_)
  have hw := hw z13 ez13
  refine lv_istore_n (lv' := [(2, .int z13), (0, .ref o), (1, .ref lk)]) hx hb dX2_wrongValues_44 rfl hl (by decide) rfl (fun ls hl => ?_)
  refine lv_iconst (v := 0) hx hb dX2_wrongValues_45 (by decide) ?_
  refine lv_istore_n (lv' := [(3, .int 0), (2, .int z13), (0, .ref o), (1, .ref lk)]) hx hb dX2_wrongValues_46 rfl hl (by decide) rfl (fun ls hl => ?_)
  obtain ⟨n_, hw⟩ := hw
  exact wkb_X2_wrongValues_47 C post  A f nA sA cr M hM o lk  n_ z13 0 hw  _ (lv_sub hl [2, 3, 1, 0] rfl)
set_option maxHeartbeats 4000000 in
theorem met_X2_wrongValues (l : Launch) (g : gG) (A : RA) (f : Row) (nA : Nat) (sA : Nat) (cr : Row) (M : nM) (o : Nat) (lk : Nat) (hpre : pre_X2_wrongValues g A f nA sA cr M o lk) : Met l yX2_wrongValues (ws_ yX2_wrongValues cX2_wrongValues 4 (some .int)) ({ frames := 3, cells := 0, slots := 0, locals := 192 } : Room) (va_Pc [.ref o, .ref lk] (Pg g (nh g M))) (vp_Si (fun r => post_X2_wrongValues g A f nA sA cr M o lk r)) 0 0 (fun _ => False) :=
  wk_X2_wrongValues l g A f nA sA cr M o lk _ (pr_X2_wrongValues g A f nA sA cr M o lk hpre)

set_option maxHeartbeats 4000000 in
theorem wkb_X2_faultyInn_27 (C : Cx p s m args meth c cX2_faultyInn 3 RX2 (some .int) g) (post : Int32 → Prop) (A : RA) (f : Row) (nA : Nat) (sA : Nat) (cr : Row) (M : nM) (hM : nh g M s.heap) (o : Nat) (lk : Nat) (K2 : Int32 → Prop) (hK2 : ∀ (y2 : Int32), K2 y2 → ∀ ls : Array Slot, lv_has ls 3 [(0, .ref o), (1, .ref lk), (2, .int y2)] → W p l e ({ frames := 3, cells := 0, slots := 0, locals := 192 } : Room) s m args below meth c s.heap [] 0 0 (MQ below (vp_Si post) args s 0 0 (fun _ => False)) (F0 m 2 ls [])) (x2 : Int32) (hw : wpb_X2_faultyInn_27 post K2 g A f nA sA cr M o lk x2) {ls : Array Slot} (hl : lv_has ls 3 [(0, .ref o), (1, .ref lk), (2, .int x2)]) : W p l e ({ frames := 3, cells := 0, slots := 0, locals := 192 } : Room) s m args below meth c s.heap [] 0 0 (MQ below (vp_Si post) args s 0 0 (fun _ => False)) (F0 m 27 ls []) := by
  have hx := C.1
  have hb := C.2.1
  have hown := C.2.2.2.1
  have hr := C.2.2.2.2.2.1
  have hlocks := C.2.2.2.2.2.2.1
  obtain ⟨z13, ez13⟩ : ∃ y : Int32, y = x2 + 1 := ⟨_, rfl⟩
  have hw := hw z13 ez13
  refine lv_iinc (v := z13) (lv' := [(2, .int z13), (0, .ref o), (1, .ref lk)]) hx hb dX2_faultyInn_27 hl (k := 2) rfl (by rw [ez13]; rfl) (by decide) rfl (fun ls hl => ?_)
  refine lv_goto (tgt := 2) hx hb dX2_faultyInn_30 (by decide) ?_
  exact hK2 z13 hw  _ (lv_sub hl [1, 2, 0] rfl)
set_option maxHeartbeats 4000000 in
theorem wkb_X2_faultyInn_2 (C : Cx p s m args meth c cX2_faultyInn 3 RX2 (some .int) g) (post : Int32 → Prop) (A : RA) (f : Row) (nA : Nat) (sA : Nat) (cr : Row) (M : nM) (hM : nh g M s.heap) (o : Nat) (lk : Nat)  : ∀ (n : Nat) (x2 : Int32), wpb_X2_faultyInn_2 post  g A f nA sA cr M o lk n x2 → ∀ ls : Array Slot, lv_has ls 3 [(0, .ref o), (1, .ref lk), (2, .int x2)] → W p l e ({ frames := 3, cells := 0, slots := 0, locals := 192 } : Room) s m args below meth c s.heap [] 0 0 (MQ below (vp_Si post) args s 0 0 (fun _ => False)) (F0 m 2 ls []) := by
  have hx := C.1
  have hb := C.2.1
  have hown := C.2.2.2.1
  have hr := C.2.2.2.2.2.1
  have hlocks := C.2.2.2.2.2.2.1
  intro n
  induction n with
  | zero =>
    intro x2 hw
    exact hw.elim
  | succ n ih =>
    intro x2 hw  ls hl
    refine lv_iload_n hx hb dX2_faultyInn_2 rfl (lv_at hl 2 rfl) ?_
    refine lv_bipush (v := 12) hx hb dX2_faultyInn_3 (by decide) ?_
    refine lv_icmp_ge (tgt := 33) hx hb dX2_faultyInn_5 (by decide) (fun c1 => ?_) (fun c1 => ?_)
    · have hw := hw.1 c1
      refine lv_iconst (v := (-1)) hx hb dX2_faultyInn_33 (by decide) ?_
      exact W.iret (v := (-1)) hx hb hr (fun t ht _ => ⟨(-1), rfl, hw, ht⟩) (fun _ h => by cases h) dX2_faultyInn_34
    · have hw := hw.2 c1
      refine lv_aload_n hx hb dX2_faultyInn_8 rfl (lv_at hl 0 rfl) ?_
      refine lv_iload_n hx hb dX2_faultyInn_9 rfl (lv_at hl 2 rfl) ?_
      obtain ⟨g_2, g_3, hw⟩ := hw
      obtain ⟨hpr4, hw⟩ := hw
      obtain ⟨⟨wr4, ur4, hrr4⟩, hw⟩ := hw
      refine vp_callSi (va_runV (As := [.int x2]) (rest := []) C.fix (met_X2_hasInn l g g_2 g_3 M o x2 hpr4) (cw_X2_45 C.ts ⟨Nat.le_of_ble_eq_true rfl, Nat.le_of_ble_eq_true rfl⟩) (preV_of C (P := (nh g M)) (nh.recv C hM hrr4 (q := (RX2, TX2, 5)) rfl) va_S.rf hM _) rfl rfl hl.1 rfl (lv_room (Nat.le_of_ble_eq_true rfl)) dX2_faultyInn_10 ⟨Nat.le_of_ble_eq_true rfl, Nat.le_of_ble_eq_true rfl⟩).run (fun r4 er4 => ?_)
      replace hw := hw r4 er4
      refine lv_if_eq (tgt := 27) hx hb dX2_faultyInn_13 (by decide) (fun c5 => ?_) (fun c5 => ?_)
      · have hw := hw.1 c5
        exact wkb_X2_faultyInn_27 C post  A f nA sA cr M hM o lk (wpb_X2_faultyInn_2 post  g A f nA sA cr M o lk n) ih x2 hw  (lv_sub hl [0, 1, 2] rfl)
      · have hw := hw.2 c5
        refine lv_aload_n hx hb dX2_faultyInn_16 rfl (lv_at hl 0 rfl) ?_
        refine lv_iload_n hx hb dX2_faultyInn_17 rfl (lv_at hl 2 rfl) ?_
        refine lv_aload_n hx hb dX2_faultyInn_18 rfl (lv_at hl 1 rfl) ?_
        obtain ⟨g_6, g_7, g_8, g_9, g_10, hw⟩ := hw
        obtain ⟨hpr11, hw⟩ := hw
        obtain ⟨⟨wr11, ur11, hrr11⟩, hw⟩ := hw
        refine vp_callSi (va_runV (As := [.int x2, .ref lk]) (rest := []) C.fix (met_X2_wrongAt l g g_6 g_7 g_8 g_9 g_10 M o x2 lk hpr11) (cw_X2_110 C.ts ⟨Nat.le_of_ble_eq_true rfl, Nat.le_of_ble_eq_true rfl⟩) (preV_of C (P := (nh g M)) (nh.recv C hM hrr11 (q := (RX2, TX2, 5)) rfl) va_S.rf hM _) rfl rfl hl.1 rfl (lv_room (Nat.le_of_ble_eq_true rfl)) dX2_faultyInn_19 ⟨Nat.le_of_ble_eq_true rfl, Nat.le_of_ble_eq_true rfl⟩).run (fun r11 er11 => ?_)
        replace hw := hw r11 er11
        refine lv_if_le (tgt := 27) hx hb dX2_faultyInn_22 (by decide) (fun c12 => ?_) (fun c12 => ?_)
        · have hw := hw.1 c12
          exact wkb_X2_faultyInn_27 C post  A f nA sA cr M hM o lk (wpb_X2_faultyInn_2 post  g A f nA sA cr M o lk n) ih x2 hw  (lv_sub hl [0, 1, 2] rfl)
        · have hw := hw.2 c12
          refine lv_iload_n hx hb dX2_faultyInn_25 rfl (lv_at hl 2 rfl) ?_
          exact W.iret (v := x2) hx hb hr (fun t ht _ => ⟨x2, rfl, hw, ht⟩) (fun _ h => by cases h) dX2_faultyInn_26
set_option maxHeartbeats 4000000 in
theorem wk_X2_faultyInn (l : Launch) (g : gG) (A : RA) (f : Row) (nA : Nat) (sA : Nat) (cr : Row) (M : nM) (o : Nat) (lk : Nat) (post : Int32 → Prop) (hw : wp_X2_faultyInn g A f nA sA cr post M o lk) : Met l yX2_faultyInn (ws_ yX2_faultyInn cX2_faultyInn 3 (some .int)) ({ frames := 3, cells := 0, slots := 0, locals := 192 } : Room) (va_Pc [.ref o, .ref lk] (Pg g (nh g M))) (vp_Si post) 0 0 (fun _ => False) := by
  refine Met.ofW (cc := cX2_faultyInn) (maxL := 3) (ret := (some .int)) (by decide) rfl ?_
  intro p e s m args below meth c s₁ B hml hv
  obtain ⟨rfl, hG, hM⟩ := hv
  have C : Cx p s m _ meth c cX2_faultyInn 3 RX2 (some .int) g := Cx.of B hml hG
  have hx := C.1
  have hb := C.2.1
  have hown := C.2.2.2.1
  have hr := C.2.2.2.2.2.1
  have hlocks := C.2.2.2.2.2.2.1
  refine lv_start ([.ref o, .ref lk] : List Value) (L := [(0, .ref o), (1, .ref lk)]) (Nat.le_of_ble_eq_true rfl) rfl (fun ls hl => ?_)
  refine lv_iconst (v := 0) hx hb dX2_faultyInn_0 (by decide) ?_
  refine lv_istore_n (lv' := [(2, .int 0), (0, .ref o), (1, .ref lk)]) hx hb dX2_faultyInn_1 rfl hl (by decide) rfl (fun ls hl => ?_)
  obtain ⟨n_, hw⟩ := hw
  exact wkb_X2_faultyInn_2 C post  A f nA sA cr M hM o lk  n_ 0 hw  _ (lv_sub hl [1, 2, 0] rfl)
set_option maxHeartbeats 4000000 in
theorem met_X2_faultyInn (l : Launch) (g : gG) (A : RA) (f : Row) (nA : Nat) (sA : Nat) (cr : Row) (M : nM) (o : Nat) (lk : Nat) (hpre : pre_X2_faultyInn g A f nA sA cr M o lk) : Met l yX2_faultyInn (ws_ yX2_faultyInn cX2_faultyInn 3 (some .int)) ({ frames := 3, cells := 0, slots := 0, locals := 192 } : Room) (va_Pc [.ref o, .ref lk] (Pg g (nh g M))) (vp_Si (fun r => post_X2_faultyInn g A f nA sA cr M o lk r)) 0 0 (fun _ => False) :=
  wk_X2_faultyInn l g A f nA sA cr M o lk _ (pr_X2_faultyInn g A f nA sA cr M o lk hpre)
end
