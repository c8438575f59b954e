set_option maxRecDepth 100000
theorem cw_X6_160 {R : Room} {s : State} {args : Array Value} (hts : ∀ w ∈ lw_all, w.before args s = true) {rm : Room} (hR : rm.frames + 1 ≤ R.frames ∧ 8 + (2 + 11) + rm.locals ≤ R.locals) : CallW R s args RX6 RX6 160 yX6_isLower cX6_isLower 2 (some .boolean) (ws_ yX6_isLower cX6_isLower 2 (some .boolean)) rm rm.cells rm.slots 1 := cwV 1 hts (lw_V q2448 q2450 qs35 q98 q2451) rfl rfl rfl (by decide +kernel) hR
theorem cw_X6_164 {R : Room} {s : State} {args : Array Value} (hts : ∀ w ∈ lw_all, w.before args s = true) {rm : Room} (hR : rm.frames + 1 ≤ R.frames ∧ 8 + (2 + 11) + rm.locals ≤ R.locals) : CallW R s args RX6 RX6 164 yX6_isDigit cX6_isDigit 2 (some .boolean) (ws_ yX6_isDigit cX6_isDigit 2 (some .boolean)) rm rm.cells rm.slots 1 := cwV 1 hts (lw_V q2454 q2456 qs36 q98 q2457) rfl rfl rfl (by decide +kernel) hR
section
variable {p : Program} {l : Launch} {e : Env} {s : State} {m : MethodId} {args : Array Value} {below : List Frame} {meth : Method} {c : Code} {g : gG} {F : nM} {adr : Nat → Nat}
abbrev rm_X6_isLower : Room := ({ frames := 2, cells := 0, slots := 0, locals := 128 } : Room)
set_option maxHeartbeats 4000000 in
theorem wk_X6_isLower (l : Launch) (g : gG) (F : nM) (adr : Nat → Nat) (i : Nat → Int32) (a : Nat → Nat → Int32) (q : Nat → Nat) (x : Int32) (post : Int32 → Prop) (hw : wp_X6_isLower post i a q x) : Met l yX6_isLower (ws_ yX6_isLower cX6_isLower 2 (some .boolean)) rm_X6_isLower (va_Pc [.ref (adr 0), .int x] (Pg g (MS g F adr i a q))) (vp_Si post) 0 0 (fun _ => False) := by
  refine Met.ofW (cc := cX6_isLower) (maxL := 2) (ret := (some .boolean)) (by decide) rfl ?_
  intro p e s m args below meth c s₁ B hml hv
  obtain ⟨rfl, hG, hM⟩ := hv
  have C : Cx p s m _ meth c cX6_isLower 2 RX6 (some .boolean) g := Cx.of B hml hG
  have hx := C.1
  have hb := C.2.1
  have hown := C.2.2.2.1
  have hr := C.2.2.2.2.2.1
  have hlocks := C.2.2.2.2.2.2.1
  refine lv_start ([.ref (adr 0), .int x] : List Value) (L := [(0, .ref (adr 0)), (1, .int x)]) (Nat.le_of_ble_eq_true rfl) rfl (fun ls hl => ?_)
  refine lv_iload_n hx hb dX6_isLower_0 rfl (lv_at hl 1 rfl) ?_
  refine lv_aload_n hx hb dX6_isLower_1 rfl (lv_at hl 0 rfl) ?_
  refine m_get C hM 18 (by decide) q2356 rfl rfl dX6_isLower_2 ?_
  refine lv_icmp_ge (tgt := 31) hx hb dX6_isLower_5 (by decide) (fun c1 => ?_) (fun c1 => ?_)
  · have hw := hw.1 c1
    refine lv_iconst (v := 0) hx hb dX6_isLower_31 (by decide) ?_
    exact W.zret (v := 0) hx hb hr hw.1 (fun t ht _ => ⟨0, rfl, hw.2, ht⟩) (fun _ h => by cases h) dX6_isLower_32
  · have hw := hw.2 c1
    refine lv_aload_n hx hb dX6_isLower_8 rfl (lv_at hl 0 rfl) ?_
    refine m_get C hM 16 (by decide) q2354 rfl rfl dX6_isLower_9 ?_
    refine lv_iload_n hx hb dX6_isLower_12 rfl (lv_at hl 1 rfl) ?_
    refine m_bld C hM (j := 8) rfl hw.1 dX6_isLower_13 ?_
    have hw := hw.2
    refine lv_i2l hx hb dX6_isLower_14 rfl ?_
    refine lv_ldc2 (v := 97) hx hb hown (C.ts _ q2452) dX6_isLower_15 ?_
    refine lv_ldc2 (v := 122) hx hb hown (C.ts _ q2453) dX6_isLower_18 ?_
    refine vp_callSi (va_runS (As := [.long ((a 8 x.toNatClampNeg).toInt64), .long 97, .long 122]) (rest := []) C.fix (met_X6_isIn l g  ((a 8 x.toNatClampNeg).toInt64) 97 122 ) (cw_X6_61 C.ts ⟨Nat.le_of_ble_eq_true rfl, Nat.le_of_ble_eq_true rfl⟩) (preS_of C (P := (fun _ => True)) va_S.rf trivial _) rfl rfl hl.1 rfl (lv_room (Nat.le_of_ble_eq_true rfl)) dX6_isLower_21 ⟨Nat.le_of_ble_eq_true rfl, Nat.le_of_ble_eq_true rfl⟩).run (fun r2 er2 => ?_)
    have hw := hw r2 er2
    refine lv_if_eq (tgt := 31) hx hb dX6_isLower_24 (by decide) (fun c3 => ?_) (fun c3 => ?_)
    · have hw := hw.1 c3
      refine lv_iconst (v := 0) hx hb dX6_isLower_31 (by decide) ?_
      exact W.zret (v := 0) hx hb hr hw.1 (fun t ht _ => ⟨0, rfl, hw.2, ht⟩) (fun _ h => by cases h) dX6_isLower_32
    · have hw := hw.2 c3
      refine lv_iconst (v := 1) hx hb dX6_isLower_27 (by decide) ?_
      refine lv_goto (tgt := 32) hx hb dX6_isLower_28 (by decide) ?_
      exact W.zret (v := 1) hx hb hr hw.1 (fun t ht _ => ⟨1, rfl, hw.2, ht⟩) (fun _ h => by cases h) dX6_isLower_32
set_option maxHeartbeats 4000000 in
theorem met_X6_isLower (l : Launch) (g : gG) (F : nM) (adr : Nat → Nat) (i : Nat → Int32) (a : Nat → Nat → Int32) (q : Nat → Nat) (x : Int32) (hpre : pre_X6_isLower i a q x) : Met l yX6_isLower (ws_ yX6_isLower cX6_isLower 2 (some .boolean)) rm_X6_isLower (va_Pc [.ref (adr 0), .int x] (Pg g (MS g F adr i a q))) (vp_Si (fun r => post_X6_isLower i a q x r)) 0 0 (fun _ => False) :=
  wk_X6_isLower l g F adr i a q x _ (pr_X6_isLower i a q x hpre)

abbrev rm_X6_isDigit : Room := ({ frames := 2, cells := 0, slots := 0, locals := 128 } : Room)
set_option maxHeartbeats 4000000 in
theorem wk_X6_isDigit (l : Launch) (g : gG) (F : nM) (adr : Nat → Nat) (i : Nat → Int32) (a : Nat → Nat → Int32) (q : Nat → Nat) (x : Int32) (post : Int32 → Prop) (hw : wp_X6_isDigit post i a q x) : Met l yX6_isDigit (ws_ yX6_isDigit cX6_isDigit 2 (some .boolean)) rm_X6_isDigit (va_Pc [.ref (adr 0), .int x] (Pg g (MS g F adr i a q))) (vp_Si post) 0 0 (fun _ => False) := by
  refine Met.ofW (cc := cX6_isDigit) (maxL := 2) (ret := (some .boolean)) (by decide) rfl ?_
  intro p e s m args below meth c s₁ B hml hv
  obtain ⟨rfl, hG, hM⟩ := hv
  have C : Cx p s m _ meth c cX6_isDigit 2 RX6 (some .boolean) g := Cx.of B hml hG
  have hx := C.1
  have hb := C.2.1
  have hown := C.2.2.2.1
  have hr := C.2.2.2.2.2.1
  have hlocks := C.2.2.2.2.2.2.1
  refine lv_start ([.ref (adr 0), .int x] : List Value) (L := [(0, .ref (adr 0)), (1, .int x)]) (Nat.le_of_ble_eq_true rfl) rfl (fun ls hl => ?_)
  refine lv_iload_n hx hb dX6_isDigit_0 rfl (lv_at hl 1 rfl) ?_
  refine lv_aload_n hx hb dX6_isDigit_1 rfl (lv_at hl 0 rfl) ?_
  refine m_get C hM 18 (by decide) q2356 rfl rfl dX6_isDigit_2 ?_
  refine lv_icmp_ge (tgt := 31) hx hb dX6_isDigit_5 (by decide) (fun c1 => ?_) (fun c1 => ?_)
  · have hw := hw.1 c1
    refine lv_iconst (v := 0) hx hb dX6_isDigit_31 (by decide) ?_
    exact W.zret (v := 0) hx hb hr hw.1 (fun t ht _ => ⟨0, rfl, hw.2, ht⟩) (fun _ h => by cases h) dX6_isDigit_32
  · have hw := hw.2 c1
    refine lv_aload_n hx hb dX6_isDigit_8 rfl (lv_at hl 0 rfl) ?_
    refine m_get C hM 16 (by decide) q2354 rfl rfl dX6_isDigit_9 ?_
    refine lv_iload_n hx hb dX6_isDigit_12 rfl (lv_at hl 1 rfl) ?_
    refine m_bld C hM (j := 8) rfl hw.1 dX6_isDigit_13 ?_
    have hw := hw.2
    refine lv_i2l hx hb dX6_isDigit_14 rfl ?_
    refine lv_ldc2 (v := 48) hx hb hown (C.ts _ q2458) dX6_isDigit_15 ?_
    refine lv_ldc2 (v := 57) hx hb hown (C.ts _ q2459) dX6_isDigit_18 ?_
    refine vp_callSi (va_runS (As := [.long ((a 8 x.toNatClampNeg).toInt64), .long 48, .long 57]) (rest := []) C.fix (met_X6_isIn l g  ((a 8 x.toNatClampNeg).toInt64) 48 57 ) (cw_X6_61 C.ts ⟨Nat.le_of_ble_eq_true rfl, Nat.le_of_ble_eq_true rfl⟩) (preS_of C (P := (fun _ => True)) va_S.rf trivial _) rfl rfl hl.1 rfl (lv_room (Nat.le_of_ble_eq_true rfl)) dX6_isDigit_21 ⟨Nat.le_of_ble_eq_true rfl, Nat.le_of_ble_eq_true rfl⟩).run (fun r2 er2 => ?_)
    have hw := hw r2 er2
    refine lv_if_eq (tgt := 31) hx hb dX6_isDigit_24 (by decide) (fun c3 => ?_) (fun c3 => ?_)
    · have hw := hw.1 c3
      refine lv_iconst (v := 0) hx hb dX6_isDigit_31 (by decide) ?_
      exact W.zret (v := 0) hx hb hr hw.1 (fun t ht _ => ⟨0, rfl, hw.2, ht⟩) (fun _ h => by cases h) dX6_isDigit_32
    · have hw := hw.2 c3
      refine lv_iconst (v := 1) hx hb dX6_isDigit_27 (by decide) ?_
      refine lv_goto (tgt := 32) hx hb dX6_isDigit_28 (by decide) ?_
      exact W.zret (v := 1) hx hb hr hw.1 (fun t ht _ => ⟨1, rfl, hw.2, ht⟩) (fun _ h => by cases h) dX6_isDigit_32
set_option maxHeartbeats 4000000 in
theorem met_X6_isDigit (l : Launch) (g : gG) (F : nM) (adr : Nat → Nat) (i : Nat → Int32) (a : Nat → Nat → Int32) (q : Nat → Nat) (x : Int32) (hpre : pre_X6_isDigit i a q x) : Met l yX6_isDigit (ws_ yX6_isDigit cX6_isDigit 2 (some .boolean)) rm_X6_isDigit (va_Pc [.ref (adr 0), .int x] (Pg g (MS g F adr i a q))) (vp_Si (fun r => post_X6_isDigit i a q x r)) 0 0 (fun _ => False) :=
  wk_X6_isDigit l g F adr i a q x _ (pr_X6_isDigit i a q x hpre)

abbrev rm_X6_advances : Room := ({ frames := 3, cells := 0, slots := 0, locals := 192 } : Room)
set_option maxHeartbeats 4000000 in
theorem wkb_X6_advances_121 (C : Cx p s m args meth c cX6_advances 1 RX6 none g) (post : MSt → Prop)   : ∀ (n : Nat) (i : Nat → Int32) (a : Nat → Nat → Int32) (q : Nat → Nat) , wpb_X6_advances_121 post   n i a q  → ∀ (H : Heap) (locs : List Loc), MS g F adr i a q H → va_S (Ag g) s.heap H locs → ∀ ls : Array Slot, lv_has ls 1 [(0, .ref (adr 0))] → W p l e rm_X6_advances s m args below meth c H locs 0 0 (MQ below (va_Qv post (fun u t => MS g F adr u.1 u.2.1 u.2.2 t.heap) (Ag g)) args s 0 0 (Ag g)) (F0 m 121 ls []) := by
  have hx := C.1
  have hb := C.2.1
  have hown := C.2.2.2.1
  have hr := C.2.2.2.2.2.1
  have hlocks := C.2.2.2.2.2.2.1
  intro n
  induction n with
  | zero =>
    intro i a q  hw
    exact hw.elim
  | succ n ih =>
    intro i a q  hw H locs hM hS ls hl
    refine lv_aload_n hx hb dX6_advances_121 rfl (lv_at hl 0 rfl) ?_
    refine lv_aload_n hx hb dX6_advances_122 rfl (lv_at hl 0 rfl) ?_
    refine m_get C hM 20 (by decide) q2358 rfl rfl dX6_advances_123 ?_
    refine vp_callSi (va_runV (As := [.int (i 20)]) (rest := []) C.fix (met_X6_isDigit l g F adr i a q (i 20) hw.1) (cw_X6_164 C.ts ⟨Nat.le_of_ble_eq_true rfl, Nat.le_of_ble_eq_true rfl⟩) (preV_of C (P := (MS g F adr i a q)) (MS.recv C hM) hS hM _) rfl rfl hl.1 rfl (lv_room (Nat.le_of_ble_eq_true rfl)) dX6_advances_126 ⟨Nat.le_of_ble_eq_true rfl, Nat.le_of_ble_eq_true rfl⟩).run (fun r15 er15 => ?_)
    have hw := hw.2 r15 er15
    refine lv_if_eq (tgt := 160) hx hb dX6_advances_129 (by decide) (fun c16 => ?_) (fun c16 => ?_)
    · have hw := hw.1 c16
      exact W.vret hx hb hr (fun t ht _ => ⟨⟨(i, a, q), rfl, hw, hM.at ht⟩, hS.F ht⟩) hS.2.2 dX6_advances_160
    · have hw := hw.2 c16
      refine lv_aload_n hx hb dX6_advances_132 rfl (lv_at hl 0 rfl) ?_
      refine lv_dup hx hb dX6_advances_133 rfl ?_
      refine m_get C hM 20 (by decide) q2358 rfl rfl dX6_advances_134 ?_
      refine lv_iconst (v := 1) hx hb dX6_advances_137 (by decide) ?_
      refine lv_iadd hx hb dX6_advances_138 ?_
      refine m_put C hM hS 20 rfl q2358 rfl rfl rfl dX6_advances_139 (fun i17 H locs ei17 hM hS => ?_)
      have hw := hw i17 ei17
      refine lv_goto (tgt := 121) hx hb dX6_advances_142 (by decide) ?_
      exact ih i17 a q hw _ _ hM hS _ (lv_sub hl [0] rfl)
set_option maxHeartbeats 4000000 in
theorem wkb_X6_advances_81 (C : Cx p s m args meth c cX6_advances 1 RX6 none g) (post : MSt → Prop)   : ∀ (n : Nat) (i : Nat → Int32) (a : Nat → Nat → Int32) (q : Nat → Nat) , wpb_X6_advances_81 post   n i a q  → ∀ (H : Heap) (locs : List Loc), MS g F adr i a q H → va_S (Ag g) s.heap H locs → ∀ ls : Array Slot, lv_has ls 1 [(0, .ref (adr 0))] → W p l e rm_X6_advances s m args below meth c H locs 0 0 (MQ below (va_Qv post (fun u t => MS g F adr u.1 u.2.1 u.2.2 t.heap) (Ag g)) args s 0 0 (Ag g)) (F0 m 81 ls []) := by
  have hx := C.1
  have hb := C.2.1
  have hown := C.2.2.2.1
  have hr := C.2.2.2.2.2.1
  have hlocks := C.2.2.2.2.2.2.1
  intro n
  induction n with
  | zero =>
    intro i a q  hw
    exact hw.elim
  | succ n ih =>
    intro i a q  hw H locs hM hS ls hl
    refine lv_aload_n hx hb dX6_advances_81 rfl (lv_at hl 0 rfl) ?_
    refine lv_aload_n hx hb dX6_advances_82 rfl (lv_at hl 0 rfl) ?_
    refine m_get C hM 20 (by decide) q2358 rfl rfl dX6_advances_83 ?_
    refine vp_callSi (va_runV (As := [.int (i 20)]) (rest := []) C.fix (met_X6_isLower l g F adr i a q (i 20) hw.1) (cw_X6_160 C.ts ⟨Nat.le_of_ble_eq_true rfl, Nat.le_of_ble_eq_true rfl⟩) (preV_of C (P := (MS g F adr i a q)) (MS.recv C hM) hS hM _) rfl rfl hl.1 rfl (lv_room (Nat.le_of_ble_eq_true rfl)) dX6_advances_86 ⟨Nat.le_of_ble_eq_true rfl, Nat.le_of_ble_eq_true rfl⟩).run (fun r18 er18 => ?_)
    have hw := hw.2 r18 er18
    refine lv_if_eq (tgt := 160) hx hb dX6_advances_89 (by decide) (fun c19 => ?_) (fun c19 => ?_)
    · have hw := hw.1 c19
      exact W.vret hx hb hr (fun t ht _ => ⟨⟨(i, a, q), rfl, hw, hM.at ht⟩, hS.F ht⟩) hS.2.2 dX6_advances_160
    · have hw := hw.2 c19
      refine lv_aload_n hx hb dX6_advances_92 rfl (lv_at hl 0 rfl) ?_
      refine lv_dup hx hb dX6_advances_93 rfl ?_
      refine m_get C hM 20 (by decide) q2358 rfl rfl dX6_advances_94 ?_
      refine lv_iconst (v := 1) hx hb dX6_advances_97 (by decide) ?_
      refine lv_iadd hx hb dX6_advances_98 ?_
      refine m_put C hM hS 20 rfl q2358 rfl rfl rfl dX6_advances_99 (fun i20 H locs ei20 hM hS => ?_)
      have hw := hw i20 ei20
      refine lv_goto (tgt := 81) hx hb dX6_advances_102 (by decide) ?_
      exact ih i20 a q hw _ _ hM hS _ (lv_sub hl [0] rfl)
set_option maxHeartbeats 4000000 in
theorem wkb_X6_advances_38 (C : Cx p s m args meth c cX6_advances 1 RX6 none g) (post : MSt → Prop)   (i : Nat → Int32) (a : Nat → Nat → Int32) (q : Nat → Nat)  (hw : wpb_X6_advances_38 post   i a q ) {H : Heap} {locs : List Loc} (hM : MS g F adr i a q H) (hS : va_S (Ag g) s.heap H locs) {ls : Array Slot} (hl : lv_has ls 1 [(0, .ref (adr 0))]) : W p l e rm_X6_advances s m args below meth c H locs 0 0 (MQ below (va_Qv post (fun u t => MS g F adr u.1 u.2.1 u.2.2 t.heap) (Ag g)) args s 0 0 (Ag g)) (F0 m 38 ls []) := by
  have hx := C.1
  have hb := C.2.1
  have hown := C.2.2.2.1
  have hr := C.2.2.2.2.2.1
  have hlocks := C.2.2.2.2.2.2.1
  refine lv_aload_n hx hb dX6_advances_38 rfl (lv_at hl 0 rfl) ?_
  refine lv_aload_n hx hb dX6_advances_39 rfl (lv_at hl 0 rfl) ?_
  refine m_get C hM 20 (by decide) q2358 rfl rfl dX6_advances_40 ?_
  refine m_put C hM hS 21 rfl q2359 rfl rfl rfl dX6_advances_43 (fun i4 H locs ei4 hM hS => ?_)
  have hw := hw i4 ei4
  refine lv_aload_n hx hb dX6_advances_46 rfl (lv_at hl 0 rfl) ?_
  refine m_get C hM 20 (by decide) q2358 rfl rfl dX6_advances_47 ?_
  refine lv_aload_n hx hb dX6_advances_50 rfl (lv_at hl 0 rfl) ?_
  refine m_get C hM 18 (by decide) q2356 rfl rfl dX6_advances_51 ?_
  refine lv_icmp_ne (tgt := 65) hx hb dX6_advances_54 (by decide) (fun c5 => ?_) (fun c5 => ?_)
  · have hw := hw.1 c5
    refine lv_aload_n hx hb dX6_advances_65 rfl (lv_at hl 0 rfl) ?_
    refine lv_aload_n hx hb dX6_advances_66 rfl (lv_at hl 0 rfl) ?_
    refine m_get C hM 20 (by decide) q2358 rfl rfl dX6_advances_67 ?_
    refine vp_callSi (va_runV (As := [.int (i4 20)]) (rest := []) C.fix (met_X6_isLower l g F adr i4 a q (i4 20) hw.1) (cw_X6_160 C.ts ⟨Nat.le_of_ble_eq_true rfl, Nat.le_of_ble_eq_true rfl⟩) (preV_of C (P := (MS g F adr i4 a q)) (MS.recv C hM) hS hM _) rfl rfl hl.1 rfl (lv_room (Nat.le_of_ble_eq_true rfl)) dX6_advances_70 ⟨Nat.le_of_ble_eq_true rfl, Nat.le_of_ble_eq_true rfl⟩).run (fun r6 er6 => ?_)
    have hw := hw.2 r6 er6
    refine lv_if_eq (tgt := 105) hx hb dX6_advances_73 (by decide) (fun c7 => ?_) (fun c7 => ?_)
    · have hw := hw.1 c7
      refine lv_aload_n hx hb dX6_advances_105 rfl (lv_at hl 0 rfl) ?_
      refine lv_aload_n hx hb dX6_advances_106 rfl (lv_at hl 0 rfl) ?_
      refine m_get C hM 20 (by decide) q2358 rfl rfl dX6_advances_107 ?_
      refine vp_callSi (va_runV (As := [.int (i4 20)]) (rest := []) C.fix (met_X6_isDigit l g F adr i4 a q (i4 20) hw.1) (cw_X6_164 C.ts ⟨Nat.le_of_ble_eq_true rfl, Nat.le_of_ble_eq_true rfl⟩) (preV_of C (P := (MS g F adr i4 a q)) (MS.recv C hM) hS hM _) rfl rfl hl.1 rfl (lv_room (Nat.le_of_ble_eq_true rfl)) dX6_advances_110 ⟨Nat.le_of_ble_eq_true rfl, Nat.le_of_ble_eq_true rfl⟩).run (fun r8 er8 => ?_)
      have hw := hw.2 r8 er8
      refine lv_if_eq (tgt := 145) hx hb dX6_advances_113 (by decide) (fun c9 => ?_) (fun c9 => ?_)
      · have hw := hw.1 c9
        refine lv_aload_n hx hb dX6_advances_145 rfl (lv_at hl 0 rfl) ?_
        refine lv_iconst (v := 3) hx hb dX6_advances_146 (by decide) ?_
        refine m_put C hM hS 22 rfl q2360 rfl rfl rfl dX6_advances_147 (fun i10 H locs ei10 hM hS => ?_)
        have hw := hw i10 ei10
        refine lv_aload_n hx hb dX6_advances_150 rfl (lv_at hl 0 rfl) ?_
        refine lv_dup hx hb dX6_advances_151 rfl ?_
        refine m_get C hM 20 (by decide) q2358 rfl rfl dX6_advances_152 ?_
        refine lv_iconst (v := 1) hx hb dX6_advances_155 (by decide) ?_
        refine lv_iadd hx hb dX6_advances_156 ?_
        refine m_put C hM hS 20 rfl q2358 rfl rfl rfl dX6_advances_157 (fun i11 H locs ei11 hM hS => ?_)
        have hw := hw i11 ei11
        exact W.vret hx hb hr (fun t ht _ => ⟨⟨(i11, a, q), rfl, hw, hM.at ht⟩, hS.F ht⟩) hS.2.2 dX6_advances_160
      · have hw := hw.2 c9
        refine lv_aload_n hx hb dX6_advances_116 rfl (lv_at hl 0 rfl) ?_
        refine lv_iconst (v := 2) hx hb dX6_advances_117 (by decide) ?_
        refine m_put C hM hS 22 rfl q2360 rfl rfl rfl dX6_advances_118 (fun i12 H locs ei12 hM hS => ?_)
        have hw := hw i12 ei12
        obtain ⟨n, hw⟩ := hw
        exact wkb_X6_advances_121 C post   n i12 a q hw _ _ hM hS _ (lv_sub hl [0] rfl)
    · have hw := hw.2 c7
      refine lv_aload_n hx hb dX6_advances_76 rfl (lv_at hl 0 rfl) ?_
      refine lv_iconst (v := 1) hx hb dX6_advances_77 (by decide) ?_
      refine m_put C hM hS 22 rfl q2360 rfl rfl rfl dX6_advances_78 (fun i13 H locs ei13 hM hS => ?_)
      have hw := hw i13 ei13
      obtain ⟨n, hw⟩ := hw
      exact wkb_X6_advances_81 C post   n i13 a q hw _ _ hM hS _ (lv_sub hl [0] rfl)
  · have hw := hw.2 c5
    refine lv_aload_n hx hb dX6_advances_57 rfl (lv_at hl 0 rfl) ?_
    refine lv_iconst (v := 0) hx hb dX6_advances_58 (by decide) ?_
    refine m_put C hM hS 22 rfl q2360 rfl rfl rfl dX6_advances_59 (fun i14 H locs ei14 hM hS => ?_)
    have hw := hw i14 ei14
    refine lv_goto (tgt := 160) hx hb dX6_advances_62 (by decide) ?_
    exact W.vret hx hb hr (fun t ht _ => ⟨⟨(i14, a, q), rfl, hw, hM.at ht⟩, hS.F ht⟩) hS.2.2 dX6_advances_160
set_option maxHeartbeats 4000000 in
theorem wkb_X6_advances_0 (C : Cx p s m args meth c cX6_advances 1 RX6 none g) (post : MSt → Prop)   : ∀ (n : Nat) (i : Nat → Int32) (a : Nat → Nat → Int32) (q : Nat → Nat) , wpb_X6_advances_0 post   n i a q  → ∀ (H : Heap) (locs : List Loc), MS g F adr i a q H → va_S (Ag g) s.heap H locs → ∀ ls : Array Slot, lv_has ls 1 [(0, .ref (adr 0))] → W p l e rm_X6_advances s m args below meth c H locs 0 0 (MQ below (va_Qv post (fun u t => MS g F adr u.1 u.2.1 u.2.2 t.heap) (Ag g)) args s 0 0 (Ag g)) (F0 m 0 ls []) := by
  have hx := C.1
  have hb := C.2.1
  have hown := C.2.2.2.1
  have hr := C.2.2.2.2.2.1
  have hlocks := C.2.2.2.2.2.2.1
  intro n
  induction n with
  | zero =>
    intro i a q  hw
    exact hw.elim
  | succ n ih =>
    intro i a q  hw H locs hM hS ls hl
    refine lv_aload_n hx hb dX6_advances_0 rfl (lv_at hl 0 rfl) ?_
    refine m_get C hM 20 (by decide) q2358 rfl rfl dX6_advances_1 ?_
    refine lv_aload_n hx hb dX6_advances_4 rfl (lv_at hl 0 rfl) ?_
    refine m_get C hM 18 (by decide) q2356 rfl rfl dX6_advances_5 ?_
    refine lv_icmp_ge (tgt := 38) hx hb dX6_advances_8 (by decide) (fun c1 => ?_) (fun c1 => ?_)
    · have hw := hw.1 c1
      exact wkb_X6_advances_38 C post   i a q hw hM hS (lv_sub hl [0] rfl)
    · have hw := hw.2 c1
      refine lv_aload_n hx hb dX6_advances_11 rfl (lv_at hl 0 rfl) ?_
      refine m_get C hM 16 (by decide) q2354 rfl rfl dX6_advances_12 ?_
      refine lv_aload_n hx hb dX6_advances_15 rfl (lv_at hl 0 rfl) ?_
      refine m_get C hM 20 (by decide) q2358 rfl rfl dX6_advances_16 ?_
      refine m_bld C hM (j := 8) rfl hw.1 dX6_advances_19 ?_
      have hw := hw.2
      refine lv_bipush (v := 32) hx hb dX6_advances_20 (by decide) ?_
      refine lv_icmp_ne (tgt := 38) hx hb dX6_advances_22 (by decide) (fun c2 => ?_) (fun c2 => ?_)
      · have hw := hw.1 c2
        exact wkb_X6_advances_38 C post   i a q hw hM hS (lv_sub hl [0] rfl)
      · have hw := hw.2 c2
        refine lv_aload_n hx hb dX6_advances_25 rfl (lv_at hl 0 rfl) ?_
        refine lv_dup hx hb dX6_advances_26 rfl ?_
        refine m_get C hM 20 (by decide) q2358 rfl rfl dX6_advances_27 ?_
        refine lv_iconst (v := 1) hx hb dX6_advances_30 (by decide) ?_
        refine lv_iadd hx hb dX6_advances_31 ?_
        refine m_put C hM hS 20 rfl q2358 rfl rfl rfl dX6_advances_32 (fun i3 H locs ei3 hM hS => ?_)
        have hw := hw i3 ei3
        refine lv_goto (tgt := 0) hx hb dX6_advances_35 (by decide) ?_
        exact ih i3 a q hw _ _ hM hS _ (lv_sub hl [0] rfl)
set_option maxHeartbeats 4000000 in
theorem wk_X6_advances (l : Launch) (g : gG) (F : nM) (adr : Nat → Nat) (i : Nat → Int32) (a : Nat → Nat → Int32) (q : Nat → Nat)  (post : MSt → Prop) (hw : wp_X6_advances post i a q ) : Met l yX6_advances (ws_ yX6_advances cX6_advances 1 none) rm_X6_advances (va_Pc [.ref (adr 0)] (Pg g (MS g F adr i a q))) (va_Qv post (fun u t => MS g F adr u.1 u.2.1 u.2.2 t.heap) (Ag g)) 0 0 (Ag g) := by
  refine Met.ofW (cc := cX6_advances) (maxL := 1) (ret := none) (by decide) rfl ?_
  intro p e s m args below meth c s₁ B hml hv
  obtain ⟨rfl, hG, hM⟩ := hv
  have C : Cx p s m _ meth c cX6_advances 1 RX6 none g := Cx.of B hml hG
  have hx := C.1
  have hb := C.2.1
  have hown := C.2.2.2.1
  have hr := C.2.2.2.2.2.1
  have hlocks := C.2.2.2.2.2.2.1
  have hS : va_S (Ag g) s.heap s.heap [] := va_S.rf
  refine lv_start ([.ref (adr 0)] : List Value) (L := [(0, .ref (adr 0))]) (Nat.le_of_ble_eq_true rfl) rfl (fun ls hl => ?_)
  obtain ⟨n, hw⟩ := hw
  exact wkb_X6_advances_0 C post   n i a q hw _ _ hM hS _ (lv_sub hl [0] rfl)
set_option maxHeartbeats 4000000 in
theorem met_X6_advances (l : Launch) (g : gG) (F : nM) (adr : Nat → Nat) (i : Nat → Int32) (a : Nat → Nat → Int32) (q : Nat → Nat)  (hpre : pre_X6_advances i a q ) : Met l yX6_advances (ws_ yX6_advances cX6_advances 1 none) rm_X6_advances (va_Pc [.ref (adr 0)] (Pg g (MS g F adr i a q))) (va_Qv (fun u => post_X6_advances i a q  u) (fun u t => MS g F adr u.1 u.2.1 u.2.2 t.heap) (Ag g)) 0 0 (Ag g) :=
  wk_X6_advances l g F adr i a q  _ (pr_X6_advances i a q  hpre)
end
