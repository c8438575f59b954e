set_option maxRecDepth 100000
theorem cw_X6_95 {R : Room} {s : State} {args : Array Value} (hts : ∀ w ∈ lw_all, w.before args s = true) {rm : Room} (hR : rm.frames + 1 ≤ R.frames ∧ 8 + (3 + 11) + rm.locals ≤ R.locals) : CallW R s args RX6 RX6 95 yX6_laysChain cX6_laysChain 3 none (ws_ yX6_laysChain cX6_laysChain 3 none) rm rm.cells rm.slots 1 := cwV 1 hts (lw_V q2534 q2536 qs49 q98 q2537) rfl rfl rfl (by decide +kernel) hR
theorem cw_X6_98 {R : Room} {s : State} {args : Array Value} (hts : ∀ w ∈ lw_all, w.before args s = true) {rm : Room} (hR : rm.frames + 1 ≤ R.frames ∧ 8 + (2 + 11) + rm.locals ≤ R.locals) : CallB R s args RX6 98 yX6_nextOf cX6_nextOf 2 (some .int) (ws_ yX6_nextOf cX6_nextOf 2 (some .int)) rm rm.cells rm.slots 2 ∧ (Cond.static yX6_nextOf).before args s = true := va_cwS 2 hts (lw_S q2546 q2547 q98 q2548) rfl rfl rfl (by decide +kernel) hR
theorem cw_X6_101 {R : Room} {s : State} {args : Array Value} (hts : ∀ w ∈ lw_all, w.before args s = true) {rm : Room} (hR : rm.frames + 1 ≤ R.frames ∧ 8 + (4 + 11) + rm.locals ≤ R.locals) : CallW R s args RX6 RX6 101 yX6_isSound cX6_isSound 4 (some .boolean) (ws_ yX6_isSound cX6_isSound 4 (some .boolean)) rm rm.cells rm.slots 1 := cwV 1 hts (lw_V q2530 q2532 qs48 q98 q2533) rfl rfl rfl (by decide +kernel) hR
section
variable {p : Program} {l : Launch} {e : Env} {s : State} {m : MethodId} {args : Array Value} {below : List Frame} {meth : Method} {c : Code} {g : gG} {F : nM} {adr : Nat → Nat}
abbrev rm_X6_remembers : Room := ({ frames := 2, cells := 0, slots := 0, locals := 128 } : Room)
set_option maxHeartbeats 4000000 in
theorem wkb_X6_remembers_62 (C : Cx p s m args meth c cX6_remembers 3 RX6 none g) (post : MSt → Prop)   (i : Nat → Int32) (a : Nat → Nat → Int32) (q : Nat → Nat)  (hw : wpb_X6_remembers_62 post   i a q ) {H : Heap} {locs : List Loc} (hM : MS g F adr i a q H) (hS : va_S (Ag g) s.heap H locs) {ls : Array Slot} (hl : lv_has ls 3 [(0, .ref (adr 0))]) : W p l e rm_X6_remembers s m args below meth c H locs 0 0 (MQ below (va_Qv post (fun u t => MS g F adr u.1 u.2.1 u.2.2 t.heap) (Ag g)) args s 0 0 (Ag g)) (F0 m 62 ls []) := by
  have hx := C.1
  have hb := C.2.1
  have hown := C.2.2.2.1
  have hr := C.2.2.2.2.2.1
  have hlocks := C.2.2.2.2.2.2.1
  refine lv_aload_n hx hb dX6_remembers_62 rfl (lv_at hl 0 rfl) ?_
  refine m_get C hM 1 (by decide) q2339 rfl rfl dX6_remembers_63 ?_
  refine lv_aload_n hx hb dX6_remembers_66 rfl (lv_at hl 0 rfl) ?_
  refine m_get C hM 6 (by decide) q2344 rfl rfl dX6_remembers_67 ?_
  refine lv_aload_n hx hb dX6_remembers_70 rfl (lv_at hl 0 rfl) ?_
  refine m_get C hM 7 (by decide) q2345 rfl rfl dX6_remembers_71 ?_
  refine m_pld C hM hw.1 dX6_remembers_74 ?_
  have hw := hw.2
  have hj3 := hw.1
  have hw := hw.2
  refine va_callv (va_runS (As := [.ref (adr 1), .ref (adr (q (i 7).toNatClampNeg))]) (rest := []) C.fix (met_X6_copies l g F adr i a q 1 (by decide) (q (i 7).toNatClampNeg) hj3 ) (cw_X6_55 C.ts ⟨Nat.le_of_ble_eq_true rfl, Nat.le_of_ble_eq_true rfl⟩) (preS_of C (P := (MS g F adr i a q)) hS hM _) rfl rfl hl.1 rfl (lv_room (Nat.le_of_ble_eq_true rfl)) dX6_remembers_75 ⟨Nat.le_of_ble_eq_true rfl, Nat.le_of_ble_eq_true rfl⟩) hS (fun _ _ h => h) (fun _ h => h) (fun z_u t H locs ht _ hw1 hB _ _ hS => ?_)
  obtain ⟨i5, a6, q7⟩ := z_u
  have hM : MS g F adr i5 a6 q7 H := by rw [← ht]; exact hB
  have hw := hw i5 a6 q7 hw1
  refine lv_aload_n hx hb dX6_remembers_78 rfl (lv_at hl 0 rfl) ?_
  refine lv_dup hx hb dX6_remembers_79 rfl ?_
  refine m_get C hM 7 (by decide) q2345 rfl rfl dX6_remembers_80 ?_
  refine lv_iconst (v := 1) hx hb dX6_remembers_83 (by decide) ?_
  refine lv_iadd hx hb dX6_remembers_84 ?_
  refine m_put C hM hS 7 rfl q2345 rfl rfl rfl dX6_remembers_85 (fun i8 H locs ei8 hM hS => ?_)
  have hw := hw i8 ei8
  exact W.vret hx hb hr (fun t ht _ => ⟨⟨(i8, a6, q7), rfl, hw, hM.at ht⟩, hS.F ht⟩) hS.2.2 dX6_remembers_88
set_option maxHeartbeats 4000000 in
theorem wkb_X6_remembers_18 (C : Cx p s m args meth c cX6_remembers 3 RX6 none g) (post : MSt → Prop)   : ∀ (n : Nat) (i : Nat → Int32) (a : Nat → Nat → Int32) (q : Nat → Nat) (x1 : Nat) (x2 : Int32), wpb_X6_remembers_18 post   n i a q x1 x2 → ∀ (H : Heap) (locs : List Loc), MS g F adr i a q H → va_S (Ag g) s.heap H locs → ∀ ls : Array Slot, lv_has ls 3 [(0, .ref (adr 0)), (1, .ref (adr x1)), (2, .int x2)] → W p l e rm_X6_remembers s m args below meth c H locs 0 0 (MQ below (va_Qv post (fun u t => MS g F adr u.1 u.2.1 u.2.2 t.heap) (Ag g)) args s 0 0 (Ag g)) (F0 m 18 ls []) := by
  have hx := C.1
  have hb := C.2.1
  have hown := C.2.2.2.1
  have hr := C.2.2.2.2.2.1
  have hlocks := C.2.2.2.2.2.2.1
  intro n
  induction n with
  | zero =>
    intro i a q x1 x2 hw
    exact hw.elim
  | succ n ih =>
    intro i a q x1 x2 hw H locs hM hS ls hl
    refine lv_iload_n hx hb dX6_remembers_18 rfl (lv_at hl 2 rfl) ?_
    refine lv_bipush (v := 7) hx hb dX6_remembers_19 (by decide) ?_
    refine lv_icmp_ge (tgt := 44) hx hb dX6_remembers_21 (by decide) (fun c9 => ?_) (fun c9 => ?_)
    · have hw := hw.1 c9
      refine lv_aload_n hx hb dX6_remembers_44 rfl (lv_at hl 0 rfl) ?_
      refine m_get C hM 6 (by decide) q2344 rfl rfl dX6_remembers_45 ?_
      refine lv_bipush (v := 7) hx hb dX6_remembers_48 (by decide) ?_
      refine lv_aload_n hx hb dX6_remembers_50 rfl (lv_at hl 1 rfl) ?_
      refine m_pst C hM hS hw.1 hw.2.1 dX6_remembers_51 (fun q10 H locs eq10 hM hS => ?_)
      have hw := hw.2.2 q10 eq10
      refine lv_aload_n hx hb dX6_remembers_52 rfl (lv_at hl 0 rfl) ?_
      refine lv_dup hx hb dX6_remembers_53 rfl ?_
      refine m_get C hM 7 (by decide) q2345 rfl rfl dX6_remembers_54 ?_
      refine lv_iconst (v := 1) hx hb dX6_remembers_57 (by decide) ?_
      refine lv_isub hx hb dX6_remembers_58 ?_
      refine m_put C hM hS 7 rfl q2345 rfl rfl rfl dX6_remembers_59 (fun i11 H locs ei11 hM hS => ?_)
      have hw := hw i11 ei11
      exact wkb_X6_remembers_62 C post   i11 a q10 hw hM hS (lv_sub hl [0] rfl)
    · have hw := hw.2 c9
      refine lv_aload_n hx hb dX6_remembers_24 rfl (lv_at hl 0 rfl) ?_
      refine m_get C hM 6 (by decide) q2344 rfl rfl dX6_remembers_25 ?_
      refine lv_iload_n hx hb dX6_remembers_28 rfl (lv_at hl 2 rfl) ?_
      refine lv_aload_n hx hb dX6_remembers_29 rfl (lv_at hl 0 rfl) ?_
      refine m_get C hM 6 (by decide) q2344 rfl rfl dX6_remembers_30 ?_
      refine lv_iload_n hx hb dX6_remembers_33 rfl (lv_at hl 2 rfl) ?_
      refine lv_iconst (v := 1) hx hb dX6_remembers_34 (by decide) ?_
      refine lv_iadd hx hb dX6_remembers_35 ?_
      refine m_pld C hM hw.1 dX6_remembers_36 ?_
      have hw := hw.2
      refine m_pst C hM hS hw.1 hw.2.1 dX6_remembers_37 (fun q12 H locs eq12 hM hS => ?_)
      have hw := hw.2.2 q12 eq12
      obtain ⟨z13, ez13⟩ : ∃ y : Int32, y = x2 + 1 := ⟨_, rfl⟩
      have hw := hw z13 ez13
      refine lv_iinc (v := z13) (lv' := [(2, .int z13), (0, .ref (adr 0)), (1, .ref (adr x1))]) hx hb dX6_remembers_38 hl (k := 2) rfl (by rw [ez13]; rfl) (by decide) rfl (fun ls hl => ?_)
      refine lv_goto (tgt := 18) hx hb dX6_remembers_41 (by decide) ?_
      exact ih i a q12 x1 z13 hw _ _ hM hS _ (lv_sub hl [1, 2, 0] rfl)
set_option maxHeartbeats 4000000 in
theorem wk_X6_remembers (l : Launch) (g : gG) (F : nM) (adr : Nat → Nat) (i : Nat → Int32) (a : Nat → Nat → Int32) (q : Nat → Nat)  (post : MSt → Prop) (hw : wp_X6_remembers post i a q ) : Met l yX6_remembers (ws_ yX6_remembers cX6_remembers 3 none) rm_X6_remembers (va_Pc [.ref (adr 0)] (Pg g (MS g F adr i a q))) (va_Qv post (fun u t => MS g F adr u.1 u.2.1 u.2.2 t.heap) (Ag g)) 0 0 (Ag g) := by
  refine Met.ofW (cc := cX6_remembers) (maxL := 3) (ret := none) (by decide) rfl ?_
  intro p e s m args below meth c s₁ B hml hv
  obtain ⟨rfl, hG, hM⟩ := hv
  have C : Cx p s m _ meth c cX6_remembers 3 RX6 none g := Cx.of B hml hG
  have hx := C.1
  have hb := C.2.1
  have hown := C.2.2.2.1
  have hr := C.2.2.2.2.2.1
  have hlocks := C.2.2.2.2.2.2.1
  have hS : va_S (Ag g) s.heap s.heap [] := va_S.rf
  refine lv_start ([.ref (adr 0)] : List Value) (L := [(0, .ref (adr 0))]) (Nat.le_of_ble_eq_true rfl) rfl (fun ls hl => ?_)
  refine lv_aload_n hx hb dX6_remembers_0 rfl (lv_at hl 0 rfl) ?_
  refine m_get C hM 7 (by decide) q2345 rfl rfl dX6_remembers_1 ?_
  refine lv_bipush (v := 8) hx hb dX6_remembers_4 (by decide) ?_
  refine lv_icmp_ne (tgt := 62) hx hb dX6_remembers_6 (by decide) (fun c1 => ?_) (fun c1 => ?_)
  · have hw := hw.1 c1
    exact wkb_X6_remembers_62 C post   i a q hw hM hS (lv_sub hl [0] rfl)
  · have hw := hw.2 c1
    refine lv_aload_n hx hb dX6_remembers_9 rfl (lv_at hl 0 rfl) ?_
    refine m_get C hM 6 (by decide) q2344 rfl rfl dX6_remembers_10 ?_
    refine lv_iconst (v := 0) hx hb dX6_remembers_13 (by decide) ?_
    refine m_pld C hM hw.1 dX6_remembers_14 ?_
    have hw := hw.2
    generalize ej2 : (q (0 : Int32).toNatClampNeg) = j2
    have hw := hw j2 ej2.symm
    refine lv_astore_n (lv' := [(1, .ref (adr j2)), (0, .ref (adr 0))]) hx hb dX6_remembers_15 rfl hl (by decide) rfl (fun ls hl => ?_)
    refine lv_iconst (v := 0) hx hb dX6_remembers_16 (by decide) ?_
    refine lv_istore_n (lv' := [(2, .int 0), (1, .ref (adr j2)), (0, .ref (adr 0))]) hx hb dX6_remembers_17 rfl hl (by decide) rfl (fun ls hl => ?_)
    obtain ⟨n, hw⟩ := hw
    exact wkb_X6_remembers_18 C post   n i a q j2 0 hw _ _ hM hS _ (lv_sub hl [2, 1, 0] rfl)
set_option maxHeartbeats 4000000 in
theorem met_X6_remembers (l : Launch) (g : gG) (F : nM) (adr : Nat → Nat) (i : Nat → Int32) (a : Nat → Nat → Int32) (q : Nat → Nat)  (hpre : pre_X6_remembers i a q ) : Met l yX6_remembers (ws_ yX6_remembers cX6_remembers 3 none) rm_X6_remembers (va_Pc [.ref (adr 0)] (Pg g (MS g F adr i a q))) (va_Qv (fun u => post_X6_remembers i a q  u) (fun u t => MS g F adr u.1 u.2.1 u.2.2 t.heap) (Ag g)) 0 0 (Ag g) :=
  wk_X6_remembers l g F adr i a q  _ (pr_X6_remembers i a q  hpre)

abbrev rm_X6_isSound : Room := ({ frames := 4, cells := 0, slots := 0, locals := 256 } : Room)
set_option maxHeartbeats 4000000 in
theorem wkb_X6_isSound_98 (C : Cx p s m args meth c cX6_isSound 4 RX6 (some .boolean) g) (post : Int32 → MSt → Prop)  (j : Nat) (hj_j : m78 j = true)(K54 : (Nat → Int32) → (Nat → Nat → Int32) → (Nat → Nat) → Int32 → Prop) (hK54 : ∀ (i : Nat → Int32) (a : Nat → Nat → Int32) (q : Nat → Nat) (y2 : Int32), K54 i a q y2 → ∀ (H : Heap) (locs : List Loc), MS g F adr i a q H → va_S (Ag g) s.heap H locs → ∀ ls : Array Slot, lv_has ls 4 [(0, .ref (adr 0)), (1, .ref (adr j)), (2, .int y2)] → W p l e rm_X6_isSound s m args below meth c H locs 0 0 (MQ below (va_Qi post (fun u t => MS g F adr u.1 u.2.1 u.2.2 t.heap) (Ag g)) args s 0 0 (Ag g)) (F0 m 54 ls [])) (i : Nat → Int32) (a : Nat → Nat → Int32) (q : Nat → Nat) (x2 : Int32) (s0 : Int32) (hw : wpb_X6_isSound_98 post K54 j i a q x2 s0) {H : Heap} {locs : List Loc} (hM : MS g F adr i a q H) (hS : va_S (Ag g) s.heap H locs) {ls : Array Slot} (hl : lv_has ls 4 [(0, .ref (adr 0)), (1, .ref (adr j)), (2, .int x2)]) : W p l e rm_X6_isSound s m args below meth c H locs 0 0 (MQ below (va_Qi post (fun u t => MS g F adr u.1 u.2.1 u.2.2 t.heap) (Ag g)) args s 0 0 (Ag g)) (F0 m 98 ls [.int s0]) := by
  have hx := C.1
  have hb := C.2.1
  have hown := C.2.2.2.1
  have hr := C.2.2.2.2.2.1
  have hlocks := C.2.2.2.2.2.2.1
  refine lv_istore_n (lv' := [(3, .int s0), (0, .ref (adr 0)), (1, .ref (adr j)), (2, .int x2)]) hx hb dX6_isSound_98 rfl hl (by decide) rfl (fun ls hl => ?_)
  refine lv_iload_n hx hb dX6_isSound_99 rfl (lv_at hl 0 rfl) ?_
  refine lv_if_eq (tgt := 132) hx hb dX6_isSound_100 (by decide) (fun c14 => ?_) (fun c14 => ?_)
  · have hw := hw.1 c14
    refine lv_iconst (v := 0) hx hb dX6_isSound_132 (by decide) ?_
    exact W.zret (v := 0) hx hb hr hw.1 (fun t ht _ => ⟨⟨0, (i, a, q), rfl, hw.2, hM.at ht⟩, hS.F ht⟩) hS.2.2 dX6_isSound_133
  · have hw := hw.2 c14
    refine lv_aload_n hx hb dX6_isSound_103 rfl (lv_at hl 2 rfl) ?_
    refine lv_bipush (v := 66) hx hb dX6_isSound_104 (by decide) ?_
    refine lv_aload_n hx hb dX6_isSound_106 rfl (lv_at hl 1 rfl) ?_
    refine m_get C hM 9 (by decide) q2347 rfl rfl dX6_isSound_107 ?_
    refine lv_iload_n hx hb dX6_isSound_110 rfl (lv_at hl 3 rfl) ?_
    refine m_ald C hM (j := 7) rfl hw.1 dX6_isSound_111 ?_
    have hw := hw.2
    refine lv_iadd hx hb dX6_isSound_112 ?_
    refine m_ald C hM (j := j) (m78_int hj_j) (by rw [m78_len hj_j]; exact hw.1) dX6_isSound_113 ?_
    have hw := hw.2
    refine lv_aload_n hx hb dX6_isSound_114 rfl (lv_at hl 2 rfl) ?_
    refine lv_aload_n hx hb dX6_isSound_115 rfl (lv_at hl 2 rfl) ?_
    refine lv_bipush (v := 54) hx hb dX6_isSound_116 (by decide) ?_
    refine lv_aload_n hx hb dX6_isSound_118 rfl (lv_at hl 1 rfl) ?_
    refine m_get C hM 9 (by decide) q2347 rfl rfl dX6_isSound_119 ?_
    refine lv_iload_n hx hb dX6_isSound_122 rfl (lv_at hl 3 rfl) ?_
    refine m_ald C hM (j := 7) rfl hw.1 dX6_isSound_123 ?_
    have hw := hw.2
    refine lv_iadd hx hb dX6_isSound_124 ?_
    refine m_ald C hM (j := j) (m78_int hj_j) (by rw [m78_len hj_j]; exact hw.1) dX6_isSound_125 ?_
    have hw := hw.2
    refine vp_callSi (va_runS (As := [.ref (adr j), .int (a j (54 + (a 7 x2.toNatClampNeg)).toNatClampNeg)]) (rest := [.int (a j (66 + (a 7 x2.toNatClampNeg)).toNatClampNeg)]) C.fix (met_X6_nextOf l g F adr i a q j hj_j (a j (54 + (a 7 x2.toNatClampNeg)).toNatClampNeg) ) (cw_X6_98 C.ts ⟨Nat.le_of_ble_eq_true rfl, Nat.le_of_ble_eq_true rfl⟩) (preS_of C (P := (MS g F adr i a q)) hS hM _) rfl rfl hl.1 rfl (lv_room (Nat.le_of_ble_eq_true rfl)) dX6_isSound_126 ⟨Nat.le_of_ble_eq_true rfl, Nat.le_of_ble_eq_true rfl⟩).run (fun r15 er15 => ?_)
    have hw := hw r15 er15
    refine lv_icmp_eq (tgt := 134) hx hb dX6_isSound_129 (by decide) (fun c16 => ?_) (fun c16 => ?_)
    · have hw := hw.1 c16
      obtain ⟨z17, ez17⟩ : ∃ y : Int32, y = x2 + 1 := ⟨_, rfl⟩
      have hw := hw z17 ez17
      refine lv_iinc (v := z17) (lv' := [(2, .int z17), (3, .int s0), (0, .ref (adr 0)), (1, .ref (adr j))]) hx hb dX6_isSound_134 hl (k := 3) rfl (by rw [ez17]; rfl) (by decide) rfl (fun ls hl => ?_)
      refine lv_goto (tgt := 54) hx hb dX6_isSound_137 (by decide) ?_
      exact hK54 i a q z17 hw _ _ hM hS _ (lv_sub hl [2, 3, 0] rfl)
    · have hw := hw.2 c16
      refine lv_iconst (v := 0) hx hb dX6_isSound_132 (by decide) ?_
      exact W.zret (v := 0) hx hb hr hw.1 (fun t ht _ => ⟨⟨0, (i, a, q), rfl, hw.2, hM.at ht⟩, hS.F ht⟩) hS.2.2 dX6_isSound_133
set_option maxHeartbeats 4000000 in
theorem wkb_X6_isSound_93 (C : Cx p s m args meth c cX6_isSound 4 RX6 (some .boolean) g) (post : Int32 → MSt → Prop)  (j : Nat) (hj_j : m78 j = true)(K54 : (Nat → Int32) → (Nat → Nat → Int32) → (Nat → Nat) → Int32 → Prop) (hK54 : ∀ (i : Nat → Int32) (a : Nat → Nat → Int32) (q : Nat → Nat) (y2 : Int32), K54 i a q y2 → ∀ (H : Heap) (locs : List Loc), MS g F adr i a q H → va_S (Ag g) s.heap H locs → ∀ ls : Array Slot, lv_has ls 4 [(0, .ref (adr 0)), (1, .ref (adr j)), (2, .int y2)] → W p l e rm_X6_isSound s m args below meth c H locs 0 0 (MQ below (va_Qi post (fun u t => MS g F adr u.1 u.2.1 u.2.2 t.heap) (Ag g)) args s 0 0 (Ag g)) (F0 m 54 ls [])) (i : Nat → Int32) (a : Nat → Nat → Int32) (q : Nat → Nat) (x2 : Int32) (hw : wpb_X6_isSound_93 post K54 j i a q x2) {H : Heap} {locs : List Loc} (hM : MS g F adr i a q H) (hS : va_S (Ag g) s.heap H locs) {ls : Array Slot} (hl : lv_has ls 4 [(0, .ref (adr 0)), (1, .ref (adr j)), (2, .int x2)]) : W p l e rm_X6_isSound s m args below meth c H locs 0 0 (MQ below (va_Qi post (fun u t => MS g F adr u.1 u.2.1 u.2.2 t.heap) (Ag g)) args s 0 0 (Ag g)) (F0 m 93 ls []) := by
  have hx := C.1
  have hb := C.2.1
  have hown := C.2.2.2.1
  have hr := C.2.2.2.2.2.1
  have hlocks := C.2.2.2.2.2.2.1
  refine lv_iconst (v := 1) hx hb dX6_isSound_93 (by decide) ?_
  refine lv_goto (tgt := 98) hx hb dX6_isSound_94 (by decide) ?_
  exact wkb_X6_isSound_98 C post j hj_j K54 hK54 i a q x2 1 hw hM hS (lv_sub hl [0, 1, 2] rfl)
set_option maxHeartbeats 4000000 in
theorem wkb_X6_isSound_54 (C : Cx p s m args meth c cX6_isSound 4 RX6 (some .boolean) g) (post : Int32 → MSt → Prop)  (j : Nat) (hj_j : m78 j = true) : ∀ (n : Nat) (i : Nat → Int32) (a : Nat → Nat → Int32) (q : Nat → Nat) (x2 : Int32), wpb_X6_isSound_54 post  j n i a q x2 → ∀ (H : Heap) (locs : List Loc), MS g F adr i a q H → va_S (Ag g) s.heap H locs → ∀ ls : Array Slot, lv_has ls 4 [(0, .ref (adr 0)), (1, .ref (adr j)), (2, .int x2)] → W p l e rm_X6_isSound s m args below meth c H locs 0 0 (MQ below (va_Qi post (fun u t => MS g F adr u.1 u.2.1 u.2.2 t.heap) (Ag g)) args s 0 0 (Ag g)) (F0 m 54 ls []) := by
  have hx := C.1
  have hb := C.2.1
  have hown := C.2.2.2.1
  have hr := C.2.2.2.2.2.1
  have hlocks := C.2.2.2.2.2.2.1
  intro n
  induction n with
  | zero =>
    intro i a q x2 hw
    exact hw.elim
  | succ n ih =>
    intro i a q x2 hw H locs hM hS ls hl
    refine lv_iload_n hx hb dX6_isSound_54 rfl (lv_at hl 2 rfl) ?_
    refine lv_aload_n hx hb dX6_isSound_55 rfl (lv_at hl 0 rfl) ?_
    refine m_get C hM 10 (by decide) q2348 rfl rfl dX6_isSound_56 ?_
    refine lv_icmp_ge (tgt := 140) hx hb dX6_isSound_59 (by decide) (fun c11 => ?_) (fun c11 => ?_)
    · have hw := hw.1 c11
      refine lv_iconst (v := 1) hx hb dX6_isSound_140 (by decide) ?_
      exact W.zret (v := 1) hx hb hr hw.1 (fun t ht _ => ⟨⟨1, (i, a, q), rfl, hw.2, hM.at ht⟩, hS.F ht⟩) hS.2.2 dX6_isSound_141
    · have hw := hw.2 c11
      refine lv_iload_n hx hb dX6_isSound_62 rfl (lv_at hl 2 rfl) ?_
      refine lv_if_eq (tgt := 93) hx hb dX6_isSound_63 (by decide) (fun c12 => ?_) (fun c12 => ?_)
      · have hw := hw.1 c12
        exact wkb_X6_isSound_93 C post j hj_j (wpb_X6_isSound_54 post  j n) ih i a q x2 hw hM hS (lv_sub hl [0, 1, 2] rfl)
      · have hw := hw.2 c12
        refine lv_aload_n hx hb dX6_isSound_66 rfl (lv_at hl 1 rfl) ?_
        refine lv_bipush (v := 15) hx hb dX6_isSound_67 (by decide) ?_
        refine lv_aload_n hx hb dX6_isSound_69 rfl (lv_at hl 0 rfl) ?_
        refine m_get C hM 9 (by decide) q2347 rfl rfl dX6_isSound_70 ?_
        refine lv_iload_n hx hb dX6_isSound_73 rfl (lv_at hl 2 rfl) ?_
        refine lv_iconst (v := 1) hx hb dX6_isSound_74 (by decide) ?_
        refine lv_isub hx hb dX6_isSound_75 ?_
        refine m_ald C hM (j := 7) rfl hw.1 dX6_isSound_76 ?_
        have hw := hw.2
        refine lv_iadd hx hb dX6_isSound_77 ?_
        refine m_ald C hM (j := j) (m78_int hj_j) (by rw [m78_len hj_j]; exact hw.1) dX6_isSound_78 ?_
        have hw := hw.2
        refine lv_aload_n hx hb dX6_isSound_79 rfl (lv_at hl 1 rfl) ?_
        refine lv_bipush (v := 15) hx hb dX6_isSound_80 (by decide) ?_
        refine lv_aload_n hx hb dX6_isSound_82 rfl (lv_at hl 0 rfl) ?_
        refine m_get C hM 9 (by decide) q2347 rfl rfl dX6_isSound_83 ?_
        refine lv_iload_n hx hb dX6_isSound_86 rfl (lv_at hl 2 rfl) ?_
        refine m_ald C hM (j := 7) rfl hw.1 dX6_isSound_87 ?_
        have hw := hw.2
        refine lv_iadd hx hb dX6_isSound_88 ?_
        refine m_ald C hM (j := j) (m78_int hj_j) (by rw [m78_len hj_j]; exact hw.1) dX6_isSound_89 ?_
        have hw := hw.2
        refine lv_icmp_ge (tgt := 97) hx hb dX6_isSound_90 (by decide) (fun c13 => ?_) (fun c13 => ?_)
        · have hw := hw.1 c13
          refine lv_iconst (v := 0) hx hb dX6_isSound_97 (by decide) ?_
          exact wkb_X6_isSound_98 C post j hj_j (wpb_X6_isSound_54 post  j n) ih i a q x2 0 hw hM hS (lv_sub hl [0, 1, 2] rfl)
        · have hw := hw.2 c13
          exact wkb_X6_isSound_93 C post j hj_j (wpb_X6_isSound_54 post  j n) ih i a q x2 hw hM hS (lv_sub hl [0, 1, 2] rfl)
set_option maxHeartbeats 4000000 in
theorem wk_X6_isSound (l : Launch) (g : gG) (F : nM) (adr : Nat → Nat) (i : Nat → Int32) (a : Nat → Nat → Int32) (q : Nat → Nat) (j : Nat) (hj_j : m78 j = true) (post : Int32 → MSt → Prop) (hw : wp_X6_isSound post i a q j) : Met l yX6_isSound (ws_ yX6_isSound cX6_isSound 4 (some .boolean)) rm_X6_isSound (va_Pc [.ref (adr 0), .ref (adr j)] (Pg g (MS g F adr i a q))) (va_Qi post (fun u t => MS g F adr u.1 u.2.1 u.2.2 t.heap) (Ag g)) 0 0 (Ag g) := by
  refine Met.ofW (cc := cX6_isSound) (maxL := 4) (ret := (some .boolean)) (by decide) rfl ?_
  intro p e s m args below meth c s₁ B hml hv
  obtain ⟨rfl, hG, hM⟩ := hv
  have C : Cx p s m _ meth c cX6_isSound 4 RX6 (some .boolean) g := Cx.of B hml hG
  have hx := C.1
  have hb := C.2.1
  have hown := C.2.2.2.1
  have hr := C.2.2.2.2.2.1
  have hlocks := C.2.2.2.2.2.2.1
  have hS : va_S (Ag g) s.heap s.heap [] := va_S.rf
  refine lv_start ([.ref (adr 0), .ref (adr j)] : List Value) (L := [(0, .ref (adr 0)), (1, .ref (adr j))]) (Nat.le_of_ble_eq_true rfl) rfl (fun ls hl => ?_)
  refine lv_aload_n hx hb dX6_isSound_0 rfl (lv_at hl 0 rfl) ?_
  refine lv_aload_n hx hb dX6_isSound_1 rfl (lv_at hl 1 rfl) ?_
  refine va_callv (va_runV (As := [.ref (adr j)]) (rest := []) C.fix (met_X6_laysChain l g F adr i a q j hj_j ) (cw_X6_95 C.ts ⟨Nat.le_of_ble_eq_true rfl, Nat.le_of_ble_eq_true rfl⟩) (preV_of C (P := (MS g F adr i a q)) (MS.recv C hM) hS hM _) rfl rfl hl.1 rfl (lv_room (Nat.le_of_ble_eq_true rfl)) dX6_isSound_2 ⟨Nat.le_of_ble_eq_true rfl, Nat.le_of_ble_eq_true rfl⟩) hS (fun _ _ h => h) (fun _ h => h) (fun z_u t H locs ht _ hw1 hB _ _ hS => ?_)
  obtain ⟨i2, a3, q4⟩ := z_u
  have hM : MS g F adr i2 a3 q4 H := by rw [← ht]; exact hB
  have hw := hw i2 a3 q4 hw1
  refine lv_aload_n hx hb dX6_isSound_5 rfl (lv_at hl 0 rfl) ?_
  refine m_get C hM 10 (by decide) q2348 rfl rfl dX6_isSound_6 ?_
  refine lv_aload_n hx hb dX6_isSound_9 rfl (lv_at hl 1 rfl) ?_
  refine vp_callSi (va_runS (As := [.ref (adr j)]) (rest := [.int (i2 10)]) C.fix (met_X6_innsOf l g F adr i2 a3 q4 j hj_j ) (cw_X6_71 C.ts ⟨Nat.le_of_ble_eq_true rfl, Nat.le_of_ble_eq_true rfl⟩) (preS_of C (P := (MS g F adr i2 a3 q4)) hS hM _) rfl rfl hl.1 rfl (lv_room (Nat.le_of_ble_eq_true rfl)) dX6_isSound_10 ⟨Nat.le_of_ble_eq_true rfl, Nat.le_of_ble_eq_true rfl⟩).run (fun r5 er5 => ?_)
  have hw := hw r5 er5
  refine lv_icmp_ne (tgt := 50) hx hb dX6_isSound_13 (by decide) (fun c6 => ?_) (fun c6 => ?_)
  · have hw := hw.1 c6
    refine lv_iconst (v := 0) hx hb dX6_isSound_50 (by decide) ?_
    exact W.zret (v := 0) hx hb hr hw.1 (fun t ht _ => ⟨⟨0, (i2, a3, q4), rfl, hw.2, hM.at ht⟩, hS.F ht⟩) hS.2.2 dX6_isSound_51
  · have hw := hw.2 c6
    refine lv_aload_n hx hb dX6_isSound_16 rfl (lv_at hl 0 rfl) ?_
    refine m_get C hM 11 (by decide) q2349 rfl rfl dX6_isSound_17 ?_
    refine lv_iconst (v := (-1)) hx hb dX6_isSound_20 (by decide) ?_
    refine lv_icmp_ne (tgt := 50) hx hb dX6_isSound_21 (by decide) (fun c7 => ?_) (fun c7 => ?_)
    · have hw := hw.1 c7
      refine lv_iconst (v := 0) hx hb dX6_isSound_50 (by decide) ?_
      exact W.zret (v := 0) hx hb hr hw.1 (fun t ht _ => ⟨⟨0, (i2, a3, q4), rfl, hw.2, hM.at ht⟩, hS.F ht⟩) hS.2.2 dX6_isSound_51
    · have hw := hw.2 c7
      refine lv_aload_n hx hb dX6_isSound_24 rfl (lv_at hl 1 rfl) ?_
      refine lv_bipush (v := 53) hx hb dX6_isSound_25 (by decide) ?_
      refine m_ald C hM (j := j) (m78_int hj_j) (by rw [m78_len hj_j]; exact hw.1) dX6_isSound_27 ?_
      have hw := hw.2
      refine lv_aload_n hx hb dX6_isSound_28 rfl (lv_at hl 0 rfl) ?_
      refine m_get C hM 10 (by decide) q2348 rfl rfl dX6_isSound_29 ?_
      refine lv_icmp_ne (tgt := 50) hx hb dX6_isSound_32 (by decide) (fun c8 => ?_) (fun c8 => ?_)
      · have hw := hw.1 c8
        refine lv_iconst (v := 0) hx hb dX6_isSound_50 (by decide) ?_
        exact W.zret (v := 0) hx hb hr hw.1 (fun t ht _ => ⟨⟨0, (i2, a3, q4), rfl, hw.2, hM.at ht⟩, hS.F ht⟩) hS.2.2 dX6_isSound_51
      · have hw := hw.2 c8
        refine lv_aload_n hx hb dX6_isSound_35 rfl (lv_at hl 1 rfl) ?_
        refine lv_bipush (v := 52) hx hb dX6_isSound_36 (by decide) ?_
        refine m_ald C hM (j := j) (m78_int hj_j) (by rw [m78_len hj_j]; exact hw.1) dX6_isSound_38 ?_
        have hw := hw.2
        refine lv_aload_n hx hb dX6_isSound_39 rfl (lv_at hl 1 rfl) ?_
        refine lv_aload_n hx hb dX6_isSound_40 rfl (lv_at hl 1 rfl) ?_
        refine lv_bipush (v := 51) hx hb dX6_isSound_41 (by decide) ?_
        refine m_ald C hM (j := j) (m78_int hj_j) (by rw [m78_len hj_j]; exact hw.1) dX6_isSound_43 ?_
        have hw := hw.2
        refine vp_callSi (va_runS (As := [.ref (adr j), .int (a3 j (51 : Int32).toNatClampNeg)]) (rest := [.int (a3 j (52 : Int32).toNatClampNeg)]) C.fix (met_X6_nextOf l g F adr i2 a3 q4 j hj_j (a3 j (51 : Int32).toNatClampNeg) ) (cw_X6_98 C.ts ⟨Nat.le_of_ble_eq_true rfl, Nat.le_of_ble_eq_true rfl⟩) (preS_of C (P := (MS g F adr i2 a3 q4)) hS hM _) rfl rfl hl.1 rfl (lv_room (Nat.le_of_ble_eq_true rfl)) dX6_isSound_44 ⟨Nat.le_of_ble_eq_true rfl, Nat.le_of_ble_eq_true rfl⟩).run (fun r9 er9 => ?_)
        have hw := hw r9 er9
        refine lv_icmp_eq (tgt := 52) hx hb dX6_isSound_47 (by decide) (fun c10 => ?_) (fun c10 => ?_)
        · have hw := hw.1 c10
          refine lv_iconst (v := 0) hx hb dX6_isSound_52 (by decide) ?_
          refine lv_istore_n (lv' := [(2, .int 0), (0, .ref (adr 0)), (1, .ref (adr j))]) hx hb dX6_isSound_53 rfl hl (by decide) rfl (fun ls hl => ?_)
          obtain ⟨n, hw⟩ := hw
          exact wkb_X6_isSound_54 C post j hj_j  n i2 a3 q4 0 hw _ _ hM hS _ (lv_sub hl [1, 2, 0] rfl)
        · have hw := hw.2 c10
          refine lv_iconst (v := 0) hx hb dX6_isSound_50 (by decide) ?_
          exact W.zret (v := 0) hx hb hr hw.1 (fun t ht _ => ⟨⟨0, (i2, a3, q4), rfl, hw.2, hM.at ht⟩, hS.F ht⟩) hS.2.2 dX6_isSound_51
set_option maxHeartbeats 4000000 in
theorem met_X6_isSound (l : Launch) (g : gG) (F : nM) (adr : Nat → Nat) (i : Nat → Int32) (a : Nat → Nat → Int32) (q : Nat → Nat) (j : Nat) (hj_j : m78 j = true) (hpre : pre_X6_isSound i a q j) : Met l yX6_isSound (ws_ yX6_isSound cX6_isSound 4 (some .boolean)) rm_X6_isSound (va_Pc [.ref (adr 0), .ref (adr j)] (Pg g (MS g F adr i a q))) (va_Qi (fun r u => post_X6_isSound i a q j r u) (fun u t => MS g F adr u.1 u.2.1 u.2.2 t.heap) (Ag g)) 0 0 (Ag g) :=
  wk_X6_isSound l g F adr i a q j hj_j _ (pr_X6_isSound i a q j hj_j hpre)

abbrev rm_X6_fault : Room := ({ frames := 5, cells := 0, slots := 0, locals := 320 } : Room)
set_option maxHeartbeats 4000000 in
theorem wkb_X6_fault_88 (C : Cx p s m args meth c cX6_fault 2 RX6 (some .int) g) (post : Int32 → MSt → Prop)  (K20 : (Nat → Int32) → (Nat → Nat → Int32) → (Nat → Nat) → Int32 → Prop) (hK20 : ∀ (i : Nat → Int32) (a : Nat → Nat → Int32) (q : Nat → Nat) (y1 : Int32), K20 i a q y1 → ∀ (H : Heap) (locs : List Loc), MS g F adr i a q H → va_S (Ag g) s.heap H locs → ∀ ls : Array Slot, lv_has ls 2 [(0, .ref (adr 0)), (1, .int y1)] → W p l e rm_X6_fault s m args below meth c H locs 0 0 (MQ below (va_Qi post (fun u t => MS g F adr u.1 u.2.1 u.2.2 t.heap) (Ag g)) args s 0 0 (Ag g)) (F0 m 20 ls [])) (i : Nat → Int32) (a : Nat → Nat → Int32) (q : Nat → Nat) (x1 : Int32) (hw : wpb_X6_fault_88 post K20  i a q x1) {H : Heap} {locs : List Loc} (hM : MS g F adr i a q H) (hS : va_S (Ag g) s.heap H locs) {ls : Array Slot} (hl : lv_has ls 2 [(0, .ref (adr 0)), (1, .int x1)]) : W p l e rm_X6_fault s m args below meth c H locs 0 0 (MQ below (va_Qi post (fun u t => MS g F adr u.1 u.2.1 u.2.2 t.heap) (Ag g)) args s 0 0 (Ag g)) (F0 m 88 ls []) := by
  have hx := C.1
  have hb := C.2.1
  have hown := C.2.2.2.1
  have hr := C.2.2.2.2.2.1
  have hlocks := C.2.2.2.2.2.2.1
  obtain ⟨z24, ez24⟩ : ∃ y : Int32, y = x1 + 1 := ⟨_, rfl⟩
  have hw := hw z24 ez24
  refine lv_iinc (v := z24) (lv' := [(1, .int z24), (0, .ref (adr 0))]) hx hb dX6_fault_88 hl (k := 1) rfl (by rw [ez24]; rfl) (by decide) rfl (fun ls hl => ?_)
  refine lv_goto (tgt := 20) hx hb dX6_fault_91 (by decide) ?_
  exact hK20 i a q z24 hw _ _ hM hS _ (lv_sub hl [1, 0] rfl)
set_option maxHeartbeats 4000000 in
theorem wkb_X6_fault_20 (C : Cx p s m args meth c cX6_fault 2 RX6 (some .int) g) (post : Int32 → MSt → Prop)   : ∀ (n : Nat) (i : Nat → Int32) (a : Nat → Nat → Int32) (q : Nat → Nat) (x1 : Int32), wpb_X6_fault_20 post   n i a q x1 → ∀ (H : Heap) (locs : List Loc), MS g F adr i a q H → va_S (Ag g) s.heap H locs → ∀ ls : Array Slot, lv_has ls 2 [(0, .ref (adr 0)), (1, .int x1)] → W p l e rm_X6_fault s m args below meth c H locs 0 0 (MQ below (va_Qi post (fun u t => MS g F adr u.1 u.2.1 u.2.2 t.heap) (Ag g)) args s 0 0 (Ag g)) (F0 m 20 ls []) := by
  have hx := C.1
  have hb := C.2.1
  have hown := C.2.2.2.1
  have hr := C.2.2.2.2.2.1
  have hlocks := C.2.2.2.2.2.2.1
  intro n
  induction n with
  | zero =>
    intro i a q x1 hw
    exact hw.elim
  | succ n ih =>
    intro i a q x1 hw H locs hM hS ls hl
    refine lv_iload_n hx hb dX6_fault_20 rfl (lv_at hl 1 rfl) ?_
    refine lv_bipush (v := 78) hx hb dX6_fault_21 (by decide) ?_
    refine lv_icmp_ge (tgt := 94) hx hb dX6_fault_23 (by decide) (fun c10 => ?_) (fun c10 => ?_)
    · have hw := hw.1 c10
      refine lv_iconst (v := (-1)) hx hb dX6_fault_94 (by decide) ?_
      exact W.iret (v := (-1)) hx hb hr (fun t ht _ => ⟨⟨(-1), (i, a, q), rfl, hw, hM.at ht⟩, hS.F ht⟩) hS.2.2 dX6_fault_95
    · have hw := hw.2 c10
      refine lv_aload_n hx hb dX6_fault_26 rfl (lv_at hl 0 rfl) ?_
      refine m_get C hM 1 (by decide) q2339 rfl rfl dX6_fault_27 ?_
      refine lv_iload_n hx hb dX6_fault_30 rfl (lv_at hl 1 rfl) ?_
      refine vp_callSi (va_runS (As := [.ref (adr 1), .int x1]) (rest := []) C.fix (met_X6_isStored l g F adr i a q 1 (by decide) x1 hw.1) (cw_X6_78 C.ts ⟨Nat.le_of_ble_eq_true rfl, Nat.le_of_ble_eq_true rfl⟩) (preS_of C (P := (MS g F adr i a q)) hS hM _) rfl rfl hl.1 rfl (lv_room (Nat.le_of_ble_eq_true rfl)) dX6_fault_31 ⟨Nat.le_of_ble_eq_true rfl, Nat.le_of_ble_eq_true rfl⟩).run (fun r11 er11 => ?_)
      have hw := hw.2 r11 er11
      refine lv_if_eq (tgt := 88) hx hb dX6_fault_34 (by decide) (fun c12 => ?_) (fun c12 => ?_)
      · have hw := hw.1 c12
        exact wkb_X6_fault_88 C post  (wpb_X6_fault_20 post   n) ih i a q x1 hw hM hS (lv_sub hl [0, 1] rfl)
      · have hw := hw.2 c12
        refine lv_aload_n hx hb dX6_fault_37 rfl (lv_at hl 0 rfl) ?_
        refine m_get C hM 1 (by decide) q2339 rfl rfl dX6_fault_38 ?_
        refine lv_iload_n hx hb dX6_fault_41 rfl (lv_at hl 1 rfl) ?_
        refine m_ald C hM (j := 1) rfl hw.1 dX6_fault_42 ?_
        have hw := hw.2
        refine lv_aload_n hx hb dX6_fault_43 rfl (lv_at hl 0 rfl) ?_
        refine m_get C hM 4 (by decide) q2342 rfl rfl dX6_fault_44 ?_
        refine lv_iload_n hx hb dX6_fault_47 rfl (lv_at hl 1 rfl) ?_
        refine m_ald C hM (j := 4) rfl hw.1 dX6_fault_48 ?_
        have hw := hw.2
        refine lv_icmp_eq (tgt := 88) hx hb dX6_fault_49 (by decide) (fun c13 => ?_) (fun c13 => ?_)
        · have hw := hw.1 c13
          exact wkb_X6_fault_88 C post  (wpb_X6_fault_20 post   n) ih i a q x1 hw hM hS (lv_sub hl [0, 1] rfl)
        · have hw := hw.2 c13
          refine lv_aload_n hx hb dX6_fault_52 rfl (lv_at hl 0 rfl) ?_
          refine m_get C hM 1 (by decide) q2339 rfl rfl dX6_fault_53 ?_
          refine lv_aload_n hx hb dX6_fault_56 rfl (lv_at hl 0 rfl) ?_
          refine m_get C hM 5 (by decide) q2343 rfl rfl dX6_fault_57 ?_
          refine va_callv (va_runS (As := [.ref (adr 1), .ref (adr 5)]) (rest := []) C.fix (met_X6_copies l g F adr i a q 1 (by decide) 5 (by decide) ) (cw_X6_55 C.ts ⟨Nat.le_of_ble_eq_true rfl, Nat.le_of_ble_eq_true rfl⟩) (preS_of C (P := (MS g F adr i a q)) hS hM _) rfl rfl hl.1 rfl (lv_room (Nat.le_of_ble_eq_true rfl)) dX6_fault_60 ⟨Nat.le_of_ble_eq_true rfl, Nat.le_of_ble_eq_true rfl⟩) hS (fun _ _ h => h) (fun _ h => h) (fun z_u t H locs ht _ hw1 hB _ _ hS => ?_)
          obtain ⟨i15, a16, q17⟩ := z_u
          have hM : MS g F adr i15 a16 q17 H := by rw [← ht]; exact hB
          have hw := hw i15 a16 q17 hw1
          refine lv_aload_n hx hb dX6_fault_63 rfl (lv_at hl 0 rfl) ?_
          refine m_get C hM 5 (by decide) q2343 rfl rfl dX6_fault_64 ?_
          refine lv_iload_n hx hb dX6_fault_67 rfl (lv_at hl 1 rfl) ?_
          refine lv_aload_n hx hb dX6_fault_68 rfl (lv_at hl 0 rfl) ?_
          refine m_get C hM 4 (by decide) q2342 rfl rfl dX6_fault_69 ?_
          refine lv_iload_n hx hb dX6_fault_72 rfl (lv_at hl 1 rfl) ?_
          refine m_ald C hM (j := 4) rfl hw.1 dX6_fault_73 ?_
          have hw := hw.2
          refine m_ast C hM hS (j := 5) rfl hw.1 dX6_fault_74 (fun a18 H locs ea18 hM hS => ?_)
          have hw := hw.2 a18 ea18
          refine lv_aload_n hx hb dX6_fault_75 rfl (lv_at hl 0 rfl) ?_
          refine lv_aload_n hx hb dX6_fault_76 rfl (lv_at hl 0 rfl) ?_
          refine m_get C hM 5 (by decide) q2343 rfl rfl dX6_fault_77 ?_
          refine va_calli (va_runV (As := [.ref (adr 5)]) (rest := []) C.fix (met_X6_isSound l g F adr i15 a18 q17 5 (by decide) hw.1) (cw_X6_101 C.ts ⟨Nat.le_of_ble_eq_true rfl, Nat.le_of_ble_eq_true rfl⟩) (preV_of C (P := (MS g F adr i15 a18 q17)) (MS.recv C hM) hS hM _) rfl rfl hl.1 rfl (lv_room (Nat.le_of_ble_eq_true rfl)) dX6_fault_80 ⟨Nat.le_of_ble_eq_true rfl, Nat.le_of_ble_eq_true rfl⟩) hS (fun _ _ h => h) (fun _ h => h) (fun r19 z_u t H locs ht _ hw1 hB _ _ hS => ?_)
          obtain ⟨i20, a21, q22⟩ := z_u
          have hM : MS g F adr i20 a21 q22 H := by rw [← ht]; exact hB
          have hw := hw.2 r19 i20 a21 q22 hw1
          refine lv_if_eq (tgt := 88) hx hb dX6_fault_83 (by decide) (fun c23 => ?_) (fun c23 => ?_)
          · have hw := hw.1 c23
            exact wkb_X6_fault_88 C post  (wpb_X6_fault_20 post   n) ih i20 a21 q22 x1 hw hM hS (lv_sub hl [0, 1] rfl)
          · have hw := hw.2 c23
            refine lv_iload_n hx hb dX6_fault_86 rfl (lv_at hl 1 rfl) ?_
            exact W.iret (v := x1) hx hb hr (fun t ht _ => ⟨⟨x1, (i20, a21, q22), rfl, hw, hM.at ht⟩, hS.F ht⟩) hS.2.2 dX6_fault_87
set_option maxHeartbeats 4000000 in
theorem wk_X6_fault (l : Launch) (g : gG) (F : nM) (adr : Nat → Nat) (i : Nat → Int32) (a : Nat → Nat → Int32) (q : Nat → Nat)  (post : Int32 → MSt → Prop) (hw : wp_X6_fault post i a q ) : Met l yX6_fault (ws_ yX6_fault cX6_fault 2 (some .int)) rm_X6_fault (va_Pc [.ref (adr 0)] (Pg g (MS g F adr i a q))) (va_Qi post (fun u t => MS g F adr u.1 u.2.1 u.2.2 t.heap) (Ag g)) 0 0 (Ag g) := by
  refine Met.ofW (cc := cX6_fault) (maxL := 2) (ret := (some .int)) (by decide) rfl ?_
  intro p e s m args below meth c s₁ B hml hv
  obtain ⟨rfl, hG, hM⟩ := hv
  have C : Cx p s m _ meth c cX6_fault 2 RX6 (some .int) g := Cx.of B hml hG
  have hx := C.1
  have hb := C.2.1
  have hown := C.2.2.2.1
  have hr := C.2.2.2.2.2.1
  have hlocks := C.2.2.2.2.2.2.1
  have hS : va_S (Ag g) s.heap s.heap [] := va_S.rf
  refine lv_start ([.ref (adr 0)] : List Value) (L := [(0, .ref (adr 0))]) (Nat.le_of_ble_eq_true rfl) rfl (fun ls hl => ?_)
  refine lv_aload_n hx hb dX6_fault_0 rfl (lv_at hl 0 rfl) ?_
  refine lv_aload_n hx hb dX6_fault_1 rfl (lv_at hl 0 rfl) ?_
  refine m_get C hM 1 (by decide) q2339 rfl rfl dX6_fault_2 ?_
  refine va_calli (va_runV (As := [.ref (adr 1)]) (rest := []) C.fix (met_X6_isSound l g F adr i a q 1 (by decide) hw.1) (cw_X6_101 C.ts ⟨Nat.le_of_ble_eq_true rfl, Nat.le_of_ble_eq_true rfl⟩) (preV_of C (P := (MS g F adr i a q)) (MS.recv C hM) hS hM _) rfl rfl hl.1 rfl (lv_room (Nat.le_of_ble_eq_true rfl)) dX6_fault_5 ⟨Nat.le_of_ble_eq_true rfl, Nat.le_of_ble_eq_true rfl⟩) hS (fun _ _ h => h) (fun _ h => h) (fun r1 z_u t H locs ht _ hw1 hB _ _ hS => ?_)
  obtain ⟨i2, a3, q4⟩ := z_u
  have hM : MS g F adr i2 a3 q4 H := by rw [← ht]; exact hB
  have hw := hw.2 r1 i2 a3 q4 hw1
  refine lv_if_eq (tgt := 13) hx hb dX6_fault_8 (by decide) (fun c5 => ?_) (fun c5 => ?_)
  · have hw := hw.1 c5
    refine lv_aload_n hx hb dX6_fault_13 rfl (lv_at hl 0 rfl) ?_
    refine va_callv (va_runV (As := []) (rest := []) C.fix (met_X6_laysDue l g F adr i2 a3 q4  ) (cw_X6_75 C.ts ⟨Nat.le_of_ble_eq_true rfl, Nat.le_of_ble_eq_true rfl⟩) (preV_of C (P := (MS g F adr i2 a3 q4)) (MS.recv C hM) hS hM _) rfl rfl hl.1 rfl (lv_room (Nat.le_of_ble_eq_true rfl)) dX6_fault_14 ⟨Nat.le_of_ble_eq_true rfl, Nat.le_of_ble_eq_true rfl⟩) hS (fun _ _ h => h) (fun _ h => h) (fun z_u t H locs ht _ hw1 hB _ _ hS => ?_)
    obtain ⟨i7, a8, q9⟩ := z_u
    have hM : MS g F adr i7 a8 q9 H := by rw [← ht]; exact hB
    have hw := hw i7 a8 q9 hw1
    refine lv_bipush (v := 51) hx hb dX6_fault_17 (by decide) ?_
    refine lv_istore_n (lv' := [(1, .int 51), (0, .ref (adr 0))]) hx hb dX6_fault_19 rfl hl (by decide) rfl (fun ls hl => ?_)
    obtain ⟨n, hw⟩ := hw
    exact wkb_X6_fault_20 C post   n i7 a8 q9 51 hw _ _ hM hS _ (lv_sub hl [1, 0] rfl)
  · have hw := hw.2 c5
    refine lv_iconst (v := (-1)) hx hb dX6_fault_11 (by decide) ?_
    exact W.iret (v := (-1)) hx hb hr (fun t ht _ => ⟨⟨(-1), (i2, a3, q4), rfl, hw, hM.at ht⟩, hS.F ht⟩) hS.2.2 dX6_fault_12
set_option maxHeartbeats 4000000 in
theorem met_X6_fault (l : Launch) (g : gG) (F : nM) (adr : Nat → Nat) (i : Nat → Int32) (a : Nat → Nat → Int32) (q : Nat → Nat)  (hpre : pre_X6_fault i a q ) : Met l yX6_fault (ws_ yX6_fault cX6_fault 2 (some .int)) rm_X6_fault (va_Pc [.ref (adr 0)] (Pg g (MS g F adr i a q))) (va_Qi (fun r u => post_X6_fault i a q  r u) (fun u t => MS g F adr u.1 u.2.1 u.2.2 t.heap) (Ag g)) 0 0 (Ag g) :=
  wk_X6_fault l g F adr i a q  _ (pr_X6_fault i a q  hpre)
end
