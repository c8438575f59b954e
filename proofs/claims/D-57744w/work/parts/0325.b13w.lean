set_option maxRecDepth 100000

section
variable {p : Program} {l : Launch} {e : Env} {s : State} {m : MethodId} {args : Array Value} {below : List Frame} {meth : Method} {c : Code} {g : gG} {F : nM} {adr : Nat → Nat}
abbrev rm_X6_send : Room := ({ frames := 5, cells := 0, slots := 0, locals := 320 } : Room)
set_option maxHeartbeats 4000000 in
theorem wkb_X6_send_87 (C : Cx p s m args meth c cX6_send 4 RX6 (some .int) g) (post : Int32 → MSt → Prop)  (x : Int32) (y : Int32) (i : Nat → Int32) (a : Nat → Nat → Int32) (q : Nat → Nat)  (hw : wpb_X6_send_87 post  x y i a q ) {H : Heap} {locs : List Loc} (hM : MS g F adr i a q H) (hS : va_S (Ag g) s.heap H locs) {ls : Array Slot} (hl : lv_has ls 4 [(0, .ref (adr 0))]) : W p l e rm_X6_send s m args below meth c H locs 0 0 (MQ below (va_Qi post (fun u t => MS g F adr u.1 u.2.1 u.2.2 t.heap) (Ag g)) args s 0 0 (Ag g)) (F0 m 87 ls []) := by
  have hx := C.1
  have hb := C.2.1
  have hown := C.2.2.2.1
  have hr := C.2.2.2.2.2.1
  have hlocks := C.2.2.2.2.2.2.1
  refine lv_aload_n hx hb dX6_send_87 rfl (lv_at hl 0 rfl) ?_
  refine lv_iconst (v := 3) hx hb dX6_send_88 (by decide) ?_
  refine va_calli (va_runV (As := [.int 3]) (rest := []) C.fix (met_X6_fails l g F adr i a q 3 ) (cw_X6_136 C.ts ⟨Nat.le_of_ble_eq_true rfl, Nat.le_of_ble_eq_true rfl⟩) (preV_of C (P := (MS g F adr i a q)) (MS.recv C hM) hS hM _) rfl rfl hl.1 rfl (lv_room (Nat.le_of_ble_eq_true rfl)) dX6_send_89 ⟨Nat.le_of_ble_eq_true rfl, Nat.le_of_ble_eq_true rfl⟩) hS (fun _ _ h => h) (fun _ h => h) (fun r27 z_u t H locs ht _ hw1 hB _ _ hS => ?_)
  obtain ⟨i28, a29, q30⟩ := z_u
  have hM : MS g F adr i28 a29 q30 H := by rw [← ht]; exact hB
  have hw := hw r27 i28 a29 q30 hw1
  exact W.iret (v := r27) hx hb hr (fun t ht _ => ⟨⟨r27, (i28, a29, q30), rfl, hw, hM.at ht⟩, hS.F ht⟩) hS.2.2 dX6_send_92
set_option maxHeartbeats 4000000 in
theorem wkb_X6_send_27 (C : Cx p s m args meth c cX6_send 4 RX6 (some .int) g) (post : Int32 → MSt → Prop)  (x : Int32) (y : Int32) (i : Nat → Int32) (a : Nat → Nat → Int32) (q : Nat → Nat)  (hw : wpb_X6_send_27 post  x y i a q ) {H : Heap} {locs : List Loc} (hM : MS g F adr i a q H) (hS : va_S (Ag g) s.heap H locs) {ls : Array Slot} (hl : lv_has ls 4 [(0, .ref (adr 0))]) : W p l e rm_X6_send s m args below meth c H locs 0 0 (MQ below (va_Qi post (fun u t => MS g F adr u.1 u.2.1 u.2.2 t.heap) (Ag g)) args s 0 0 (Ag g)) (F0 m 27 ls []) := by
  have hx := C.1
  have hb := C.2.1
  have hown := C.2.2.2.1
  have hr := C.2.2.2.2.2.1
  have hlocks := C.2.2.2.2.2.2.1
  refine lv_aload_n hx hb dX6_send_27 rfl (lv_at hl 0 rfl) ?_
  refine lv_iconst (v := 1) hx hb dX6_send_28 (by decide) ?_
  refine va_calli (va_runV (As := [.int 1]) (rest := []) C.fix (met_X6_fails l g F adr i a q 1 ) (cw_X6_136 C.ts ⟨Nat.le_of_ble_eq_true rfl, Nat.le_of_ble_eq_true rfl⟩) (preV_of C (P := (MS g F adr i a q)) (MS.recv C hM) hS hM _) rfl rfl hl.1 rfl (lv_room (Nat.le_of_ble_eq_true rfl)) dX6_send_29 ⟨Nat.le_of_ble_eq_true rfl, Nat.le_of_ble_eq_true rfl⟩) hS (fun _ _ h => h) (fun _ h => h) (fun r31 z_u t H locs ht _ hw1 hB _ _ hS => ?_)
  obtain ⟨i32, a33, q34⟩ := z_u
  have hM : MS g F adr i32 a33 q34 H := by rw [← ht]; exact hB
  have hw := hw r31 i32 a33 q34 hw1
  exact W.iret (v := r31) hx hb hr (fun t ht _ => ⟨⟨r31, (i32, a33, q34), rfl, hw, hM.at ht⟩, hS.F ht⟩) hS.2.2 dX6_send_32
set_option maxHeartbeats 4000000 in
theorem wk_X6_send (l : Launch) (g : gG) (F : nM) (adr : Nat → Nat) (i : Nat → Int32) (a : Nat → Nat → Int32) (q : Nat → Nat) (x : Int32) (y : Int32) (post : Int32 → MSt → Prop) (hw : wp_X6_send post i a q x y) : Met l yX6_send (ws_ yX6_send cX6_send 4 (some .int)) rm_X6_send (va_Pc [.ref (adr 0), .int x, .int y] (Pg g (MS g F adr i a q))) (va_Qi post (fun u t => MS g F adr u.1 u.2.1 u.2.2 t.heap) (Ag g)) 0 0 (Ag g) := by
  refine Met.ofW (cc := cX6_send) (maxL := 4) (ret := (some .int)) (by decide) rfl ?_
  intro p e s m args below meth c s₁ B hml hv
  obtain ⟨rfl, hG, hM⟩ := hv
  have C : Cx p s m _ meth c cX6_send 4 RX6 (some .int) g := Cx.of B hml hG
  have hx := C.1
  have hb := C.2.1
  have hown := C.2.2.2.1
  have hr := C.2.2.2.2.2.1
  have hlocks := C.2.2.2.2.2.2.1
  have hS : va_S (Ag g) s.heap s.heap [] := va_S.rf
  refine lv_start ([.ref (adr 0), .int x, .int y] : List Value) (L := [(0, .ref (adr 0)), (1, .int x), (2, .int y)]) (Nat.le_of_ble_eq_true rfl) rfl (fun ls hl => ?_)
  refine lv_aload_n hx hb dX6_send_0 rfl (lv_at hl 0 rfl) ?_
  refine lv_iconst (v := 0) hx hb dX6_send_1 (by decide) ?_
  refine m_put C hM hS 0 rfl q2338 rfl rfl rfl dX6_send_2 (fun i1 H locs ei1 hM hS => ?_)
  have hw := hw i1 ei1
  refine lv_aload_n hx hb dX6_send_5 rfl (lv_at hl 0 rfl) ?_
  refine m_get C hM 1 (by decide) q2339 rfl rfl dX6_send_6 ?_
  refine lv_iload_n hx hb dX6_send_9 rfl (lv_at hl 1 rfl) ?_
  refine vp_callSi (va_runS (As := [.ref (adr 1), .int x]) (rest := []) C.fix (met_X6_hasInnAt l g F adr i1 a q 1 (by decide) x ) (cw_X6_85 C.ts ⟨Nat.le_of_ble_eq_true rfl, Nat.le_of_ble_eq_true rfl⟩) (preS_of C (P := (MS g F adr i1 a q)) hS hM _) rfl rfl hl.1 rfl (lv_room (Nat.le_of_ble_eq_true rfl)) dX6_send_10 ⟨Nat.le_of_ble_eq_true rfl, Nat.le_of_ble_eq_true rfl⟩).run (fun r2 er2 => ?_)
  have hw := hw r2 er2
  refine lv_if_eq (tgt := 27) hx hb dX6_send_13 (by decide) (fun c3 => ?_) (fun c3 => ?_)
  · have hw := hw.1 c3
    exact wkb_X6_send_27 C post x y  i1 a q hw hM hS (lv_sub hl [0] rfl)
  · have hw := hw.2 c3
    refine lv_aload_n hx hb dX6_send_16 rfl (lv_at hl 0 rfl) ?_
    refine m_get C hM 1 (by decide) q2339 rfl rfl dX6_send_17 ?_
    refine lv_iload_n hx hb dX6_send_20 rfl (lv_at hl 2 rfl) ?_
    refine vp_callSi (va_runS (As := [.ref (adr 1), .int y]) (rest := []) C.fix (met_X6_hasInnAt l g F adr i1 a q 1 (by decide) y ) (cw_X6_85 C.ts ⟨Nat.le_of_ble_eq_true rfl, Nat.le_of_ble_eq_true rfl⟩) (preS_of C (P := (MS g F adr i1 a q)) hS hM _) rfl rfl hl.1 rfl (lv_room (Nat.le_of_ble_eq_true rfl)) dX6_send_21 ⟨Nat.le_of_ble_eq_true rfl, Nat.le_of_ble_eq_true rfl⟩).run (fun r4 er4 => ?_)
    have hw := hw r4 er4
    refine lv_if_ne (tgt := 33) hx hb dX6_send_24 (by decide) (fun c5 => ?_) (fun c5 => ?_)
    · have hw := hw.1 c5
      refine lv_iload_n hx hb dX6_send_33 rfl (lv_at hl 1 rfl) ?_
      refine lv_iload_n hx hb dX6_send_34 rfl (lv_at hl 2 rfl) ?_
      refine lv_icmp_ne (tgt := 44) hx hb dX6_send_35 (by decide) (fun c6 => ?_) (fun c6 => ?_)
      · have hw := hw.1 c6
        refine lv_aload_n hx hb dX6_send_44 rfl (lv_at hl 0 rfl) ?_
        refine m_get C hM 1 (by decide) q2339 rfl rfl dX6_send_45 ?_
        refine lv_bipush (v := 39) hx hb dX6_send_48 (by decide) ?_
        refine lv_iload_n hx hb dX6_send_50 rfl (lv_at hl 1 rfl) ?_
        refine lv_iadd hx hb dX6_send_51 ?_
        refine m_ald C hM (j := 1) rfl hw.1 dX6_send_52 ?_
        have hw := hw.2
        refine lv_topi (fun z7 ez7 => ?_)
        have hw := hw z7 ez7
        refine lv_istore_n (lv' := [(3, .int z7), (0, .ref (adr 0)), (1, .int x), (2, .int y)]) hx hb dX6_send_53 rfl hl (by decide) rfl (fun ls hl => ?_)
        refine lv_aload_n hx hb dX6_send_54 rfl (lv_at hl 1 rfl) ?_
        refine lv_aload_n hx hb dX6_send_55 rfl (lv_at hl 1 rfl) ?_
        refine m_get C hM 1 (by decide) q2339 rfl rfl dX6_send_56 ?_
        refine lv_iload_n hx hb dX6_send_59 rfl (lv_at hl 2 rfl) ?_
        refine lv_iload_n hx hb dX6_send_60 rfl (lv_at hl 3 rfl) ?_
        refine va_calli (va_runV (As := [.ref (adr 1), .int x, .int y]) (rest := []) C.fix (met_X6_rides l g F adr i1 a q 1 (by decide) x y hw.1) (cw_X6_267 C.ts ⟨Nat.le_of_ble_eq_true rfl, Nat.le_of_ble_eq_true rfl⟩) (preV_of C (P := (MS g F adr i1 a q)) (MS.recv C hM) hS hM _) rfl rfl hl.1 rfl (lv_room (Nat.le_of_ble_eq_true rfl)) dX6_send_61 ⟨Nat.le_of_ble_eq_true rfl, Nat.le_of_ble_eq_true rfl⟩) hS (fun _ _ h => h) (fun _ h => h) (fun r8 z_u t H locs ht _ hw1 hB _ _ hS => ?_)
        obtain ⟨i9, a10, q11⟩ := z_u
        have hM : MS g F adr i9 a10 q11 H := by rw [← ht]; exact hB
        have hw := hw.2 r8 i9 a10 q11 hw1
        refine lv_if_eq (tgt := 87) hx hb dX6_send_64 (by decide) (fun c12 => ?_) (fun c12 => ?_)
        · have hw := hw.1 c12
          exact wkb_X6_send_87 C post x y  i9 a10 q11 hw hM hS (lv_sub hl [1] rfl)
        · have hw := hw.2 c12
          refine lv_iload_n hx hb dX6_send_67 rfl (lv_at hl 0 rfl) ?_
          refine lv_if_eq (tgt := 87) hx hb dX6_send_68 (by decide) (fun c13 => ?_) (fun c13 => ?_)
          · have hw := hw.1 c13
            exact wkb_X6_send_87 C post x y  i9 a10 q11 hw hM hS (lv_sub hl [1] rfl)
          · have hw := hw.2 c13
            refine lv_aload_n hx hb dX6_send_71 rfl (lv_at hl 1 rfl) ?_
            refine m_get C hM 1 (by decide) q2339 rfl rfl dX6_send_72 ?_
            refine lv_bipush (v := 39) hx hb dX6_send_75 (by decide) ?_
            refine lv_iload_n hx hb dX6_send_77 rfl (lv_at hl 3 rfl) ?_
            refine lv_iadd hx hb dX6_send_78 ?_
            refine m_ald C hM (j := 1) rfl hw.1 dX6_send_79 ?_
            have hw := hw.2
            refine lv_iload_n hx hb dX6_send_80 rfl (lv_at hl 0 rfl) ?_
            refine lv_iadd hx hb dX6_send_81 ?_
            refine lv_bipush (v := 99) hx hb dX6_send_82 (by decide) ?_
            refine lv_icmp_le (tgt := 93) hx hb dX6_send_84 (by decide) (fun c14 => ?_) (fun c14 => ?_)
            · have hw := hw.1 c14
              refine lv_aload_n hx hb dX6_send_93 rfl (lv_at hl 1 rfl) ?_
              refine va_callv (va_runV (As := []) (rest := []) C.fix (met_X6_remembers l g F adr i9 a10 q11  hw.1) (cw_X6_242 C.ts ⟨Nat.le_of_ble_eq_true rfl, Nat.le_of_ble_eq_true rfl⟩) (preV_of C (P := (MS g F adr i9 a10 q11)) (MS.recv C hM) hS hM _) rfl rfl hl.1 rfl (lv_room (Nat.le_of_ble_eq_true rfl)) dX6_send_94 ⟨Nat.le_of_ble_eq_true rfl, Nat.le_of_ble_eq_true rfl⟩) hS (fun _ _ h => h) (fun _ h => h) (fun z_u t H locs ht _ hw1 hB _ _ hS => ?_)
              obtain ⟨i16, a17, q18⟩ := z_u
              have hM : MS g F adr i16 a17 q18 H := by rw [← ht]; exact hB
              have hw := hw.2 i16 a17 q18 hw1
              refine lv_aload_n hx hb dX6_send_97 rfl (lv_at hl 1 rfl) ?_
              refine m_get C hM 1 (by decide) q2339 rfl rfl dX6_send_98 ?_
              refine lv_bipush (v := 39) hx hb dX6_send_101 (by decide) ?_
              refine lv_iload_n hx hb dX6_send_103 rfl (lv_at hl 2 rfl) ?_
              refine lv_iadd hx hb dX6_send_104 ?_
              refine lv_iconst (v := 0) hx hb dX6_send_105 (by decide) ?_
              refine m_ast C hM hS (j := 1) rfl hw.1 dX6_send_106 (fun a19 H locs ea19 hM hS => ?_)
              have hw := hw.2 a19 ea19
              refine lv_aload_n hx hb dX6_send_107 rfl (lv_at hl 1 rfl) ?_
              refine m_get C hM 1 (by decide) q2339 rfl rfl dX6_send_108 ?_
              refine lv_bipush (v := 39) hx hb dX6_send_111 (by decide) ?_
              refine lv_iload_n hx hb dX6_send_113 rfl (lv_at hl 3 rfl) ?_
              refine lv_iadd hx hb dX6_send_114 ?_
              refine lv_dup2_11 hx hb dX6_send_115 rfl rfl ?_
              refine m_ald C hM (j := 1) rfl hw.1 dX6_send_116 ?_
              have hw := hw.2
              refine lv_iload_n hx hb dX6_send_117 rfl (lv_at hl 0 rfl) ?_
              refine lv_iadd hx hb dX6_send_118 ?_
              refine m_ast C hM hS (j := 1) rfl hw.1 dX6_send_119 (fun a20 H locs ea20 hM hS => ?_)
              have hw := hw.2 a20 ea20
              refine lv_aload_n hx hb dX6_send_120 rfl (lv_at hl 1 rfl) ?_
              refine m_get C hM 1 (by decide) q2339 rfl rfl dX6_send_121 ?_
              refine lv_iconst (v := 1) hx hb dX6_send_124 (by decide) ?_
              refine lv_dup2_11 hx hb dX6_send_125 rfl rfl ?_
              refine m_ald C hM (j := 1) rfl hw.1 dX6_send_126 ?_
              have hw := hw.2
              refine lv_aload_n hx hb dX6_send_127 rfl (lv_at hl 1 rfl) ?_
              refine m_get C hM 12 (by decide) q2350 rfl rfl dX6_send_128 ?_
              refine lv_iadd hx hb dX6_send_131 ?_
              refine m_ast C hM hS (j := 1) rfl hw.1 dX6_send_132 (fun a21 H locs ea21 hM hS => ?_)
              have hw := hw.2 a21 ea21
              refine lv_aload_n hx hb dX6_send_133 rfl (lv_at hl 1 rfl) ?_
              refine m_get C hM 1 (by decide) q2339 rfl rfl dX6_send_134 ?_
              refine lv_iconst (v := 2) hx hb dX6_send_137 (by decide) ?_
              refine lv_dup2_11 hx hb dX6_send_138 rfl rfl ?_
              refine m_ald C hM (j := 1) rfl hw.1 dX6_send_139 ?_
              have hw := hw.2
              refine lv_iload_n hx hb dX6_send_140 rfl (lv_at hl 0 rfl) ?_
              refine lv_iadd hx hb dX6_send_141 ?_
              refine m_ast C hM hS (j := 1) rfl hw.1 dX6_send_142 (fun a22 H locs ea22 hM hS => ?_)
              have hw := hw.2 a22 ea22
              refine lv_aload_n hx hb dX6_send_143 rfl (lv_at hl 1 rfl) ?_
              refine m_get C hM 12 (by decide) q2350 rfl rfl dX6_send_144 ?_
              exact W.iret (v := (i16 12)) hx hb hr (fun t ht _ => ⟨⟨(i16 12), (i16, a22, q18), rfl, hw, hM.at ht⟩, hS.F ht⟩) hS.2.2 dX6_send_147
            · have hw := hw.2 c14
              exact wkb_X6_send_87 C post x y  i9 a10 q11 hw hM hS (lv_sub hl [1] rfl)
      · have hw := hw.2 c6
        refine lv_aload_n hx hb dX6_send_38 rfl (lv_at hl 0 rfl) ?_
        refine lv_iconst (v := 2) hx hb dX6_send_39 (by decide) ?_
        refine va_calli (va_runV (As := [.int 2]) (rest := []) C.fix (met_X6_fails l g F adr i1 a q 2 ) (cw_X6_136 C.ts ⟨Nat.le_of_ble_eq_true rfl, Nat.le_of_ble_eq_true rfl⟩) (preV_of C (P := (MS g F adr i1 a q)) (MS.recv C hM) hS hM _) rfl rfl hl.1 rfl (lv_room (Nat.le_of_ble_eq_true rfl)) dX6_send_40 ⟨Nat.le_of_ble_eq_true rfl, Nat.le_of_ble_eq_true rfl⟩) hS (fun _ _ h => h) (fun _ h => h) (fun r23 z_u t H locs ht _ hw1 hB _ _ hS => ?_)
        obtain ⟨i24, a25, q26⟩ := z_u
        have hM : MS g F adr i24 a25 q26 H := by rw [← ht]; exact hB
        have hw := hw r23 i24 a25 q26 hw1
        exact W.iret (v := r23) hx hb hr (fun t ht _ => ⟨⟨r23, (i24, a25, q26), rfl, hw, hM.at ht⟩, hS.F ht⟩) hS.2.2 dX6_send_43
    · have hw := hw.2 c5
      exact wkb_X6_send_27 C post x y  i1 a q hw hM hS (lv_sub hl [0] rfl)
set_option maxHeartbeats 4000000 in
theorem met_X6_send (l : Launch) (g : gG) (F : nM) (adr : Nat → Nat) (i : Nat → Int32) (a : Nat → Nat → Int32) (q : Nat → Nat) (x : Int32) (y : Int32) (hpre : pre_X6_send i a q x y) : Met l yX6_send (ws_ yX6_send cX6_send 4 (some .int)) rm_X6_send (va_Pc [.ref (adr 0), .int x, .int y] (Pg g (MS g F adr i a q))) (va_Qi (fun r u => post_X6_send i a q x y r u) (fun u t => MS g F adr u.1 u.2.1 u.2.2 t.heap) (Ag g)) 0 0 (Ag g) :=
  wk_X6_send l g F adr i a q x y _ (pr_X6_send i a q x y hpre)

abbrev rm_X6_leastRange : Room := ({ frames := 5, cells := 0, slots := 0, locals := 320 } : Room)
set_option maxHeartbeats 4000000 in
theorem wkb_X6_leastRange_33 (C : Cx p s m args meth c cX6_leastRange 4 RX6 (some .int) g) (post : Int32 → MSt → Prop)  (x : Int32) (y : Int32) : ∀ (n : Nat) (i : Nat → Int32) (a : Nat → Nat → Int32) (q : Nat → Nat) (x3 : Int32), wpb_X6_leastRange_33 post  x y n i a q x3 → ∀ (H : Heap) (locs : List Loc), MS g F adr i a q H → va_S (Ag g) s.heap H locs → ∀ ls : Array Slot, lv_has ls 4 [(0, .ref (adr 0)), (1, .int x), (2, .int y), (3, .int x3)] → W p l e rm_X6_leastRange s m args below meth c H locs 0 0 (MQ below (va_Qi post (fun u t => MS g F adr u.1 u.2.1 u.2.2 t.heap) (Ag g)) args s 0 0 (Ag g)) (F0 m 33 ls []) := by
  have hx := C.1
  have hb := C.2.1
  have hown := C.2.2.2.1
  have hr := C.2.2.2.2.2.1
  have hlocks := C.2.2.2.2.2.2.1
  intro n
  induction n with
  | zero =>
    intro i a q x3 hw
    exact hw.elim
  | succ n ih =>
    intro i a q x3 hw H locs hM hS ls hl
    refine lv_iload_n hx hb dX6_leastRange_33 rfl (lv_at hl 3 rfl) ?_
    refine lv_sipush (v := 999) hx hb dX6_leastRange_34 (by decide) ?_
    refine lv_icmp_gt (tgt := 68) hx hb dX6_leastRange_37 (by decide) (fun c12 => ?_) (fun c12 => ?_)
    · have hw := hw.1 c12
      refine lv_iconst (v := (-1)) hx hb dX6_leastRange_68 (by decide) ?_
      exact W.iret (v := (-1)) hx hb hr (fun t ht _ => ⟨⟨(-1), (i, a, q), rfl, hw, hM.at ht⟩, hS.F ht⟩) hS.2.2 dX6_leastRange_69
    · have hw := hw.2 c12
      refine lv_aload_n hx hb dX6_leastRange_40 rfl (lv_at hl 0 rfl) ?_
      refine m_get C hM 5 (by decide) q2343 rfl rfl dX6_leastRange_41 ?_
      refine lv_iconst (v := 0) hx hb dX6_leastRange_44 (by decide) ?_
      refine lv_iload_n hx hb dX6_leastRange_45 rfl (lv_at hl 3 rfl) ?_
      refine m_ast C hM hS (j := 5) rfl hw.1 dX6_leastRange_46 (fun a13 H locs ea13 hM hS => ?_)
      have hw := hw.2 a13 ea13
      refine lv_aload_n hx hb dX6_leastRange_47 rfl (lv_at hl 0 rfl) ?_
      refine lv_aload_n hx hb dX6_leastRange_48 rfl (lv_at hl 0 rfl) ?_
      refine m_get C hM 5 (by decide) q2343 rfl rfl dX6_leastRange_49 ?_
      refine lv_iload_n hx hb dX6_leastRange_52 rfl (lv_at hl 1 rfl) ?_
      refine lv_iload_n hx hb dX6_leastRange_53 rfl (lv_at hl 2 rfl) ?_
      refine va_calli (va_runV (As := [.ref (adr 5), .int x, .int y]) (rest := []) C.fix (met_X6_rides l g F adr i a13 q 5 (by decide) x y hw.1) (cw_X6_267 C.ts ⟨Nat.le_of_ble_eq_true rfl, Nat.le_of_ble_eq_true rfl⟩) (preV_of C (P := (MS g F adr i a13 q)) (MS.recv C hM) hS hM _) rfl rfl hl.1 rfl (lv_room (Nat.le_of_ble_eq_true rfl)) dX6_leastRange_54 ⟨Nat.le_of_ble_eq_true rfl, Nat.le_of_ble_eq_true rfl⟩) hS (fun _ _ h => h) (fun _ h => h) (fun r14 z_u t H locs ht _ hw1 hB _ _ hS => ?_)
      obtain ⟨i15, a16, q17⟩ := z_u
      have hM : MS g F adr i15 a16 q17 H := by rw [← ht]; exact hB
      have hw := hw.2 r14 i15 a16 q17 hw1
      refine lv_if_eq (tgt := 62) hx hb dX6_leastRange_57 (by decide) (fun c18 => ?_) (fun c18 => ?_)
      · have hw := hw.1 c18
        obtain ⟨z19, ez19⟩ : ∃ y : Int32, y = x3 + 1 := ⟨_, rfl⟩
        have hw := hw z19 ez19
        refine lv_iinc (v := z19) (lv' := [(3, .int z19), (0, .ref (adr 0)), (1, .int x), (2, .int y)]) hx hb dX6_leastRange_62 hl (k := 3) rfl (by rw [ez19]; rfl) (by decide) rfl (fun ls hl => ?_)
        refine lv_goto (tgt := 33) hx hb dX6_leastRange_65 (by decide) ?_
        exact ih i15 a16 q17 z19 hw _ _ hM hS _ (lv_sub hl [1, 2, 3, 0] rfl)
      · have hw := hw.2 c18
        refine lv_iload_n hx hb dX6_leastRange_60 rfl (lv_at hl 3 rfl) ?_
        exact W.iret (v := x3) hx hb hr (fun t ht _ => ⟨⟨x3, (i15, a16, q17), rfl, hw, hM.at ht⟩, hS.F ht⟩) hS.2.2 dX6_leastRange_61
set_option maxHeartbeats 4000000 in
theorem wk_X6_leastRange (l : Launch) (g : gG) (F : nM) (adr : Nat → Nat) (i : Nat → Int32) (a : Nat → Nat → Int32) (q : Nat → Nat) (x : Int32) (y : Int32) (post : Int32 → MSt → Prop) (hw : wp_X6_leastRange post i a q x y) : Met l yX6_leastRange (ws_ yX6_leastRange cX6_leastRange 4 (some .int)) rm_X6_leastRange (va_Pc [.ref (adr 0), .int x, .int y] (Pg g (MS g F adr i a q))) (va_Qi post (fun u t => MS g F adr u.1 u.2.1 u.2.2 t.heap) (Ag g)) 0 0 (Ag g) := by
  refine Met.ofW (cc := cX6_leastRange) (maxL := 4) (ret := (some .int)) (by decide) rfl ?_
  intro p e s m args below meth c s₁ B hml hv
  obtain ⟨rfl, hG, hM⟩ := hv
  have C : Cx p s m _ meth c cX6_leastRange 4 RX6 (some .int) g := Cx.of B hml hG
  have hx := C.1
  have hb := C.2.1
  have hown := C.2.2.2.1
  have hr := C.2.2.2.2.2.1
  have hlocks := C.2.2.2.2.2.2.1
  have hS : va_S (Ag g) s.heap s.heap [] := va_S.rf
  refine lv_start ([.ref (adr 0), .int x, .int y] : List Value) (L := [(0, .ref (adr 0)), (1, .int x), (2, .int y)]) (Nat.le_of_ble_eq_true rfl) rfl (fun ls hl => ?_)
  refine lv_aload_n hx hb dX6_leastRange_0 rfl (lv_at hl 0 rfl) ?_
  refine lv_iconst (v := 0) hx hb dX6_leastRange_1 (by decide) ?_
  refine m_put C hM hS 0 rfl q2338 rfl rfl rfl dX6_leastRange_2 (fun i1 H locs ei1 hM hS => ?_)
  have hw := hw i1 ei1
  refine lv_aload_n hx hb dX6_leastRange_5 rfl (lv_at hl 0 rfl) ?_
  refine lv_iload_n hx hb dX6_leastRange_6 rfl (lv_at hl 1 rfl) ?_
  refine lv_iload_n hx hb dX6_leastRange_7 rfl (lv_at hl 2 rfl) ?_
  refine vp_callSi (va_runV (As := [.int x, .int y]) (rest := []) C.fix (met_X6_areInns l g F adr i1 a q x y ) (cw_X6_289 C.ts ⟨Nat.le_of_ble_eq_true rfl, Nat.le_of_ble_eq_true rfl⟩) (preV_of C (P := (MS g F adr i1 a q)) (MS.recv C hM) hS hM _) rfl rfl hl.1 rfl (lv_room (Nat.le_of_ble_eq_true rfl)) dX6_leastRange_8 ⟨Nat.le_of_ble_eq_true rfl, Nat.le_of_ble_eq_true rfl⟩).run (fun r2 er2 => ?_)
  have hw := hw r2 er2
  refine lv_if_ne (tgt := 20) hx hb dX6_leastRange_11 (by decide) (fun c3 => ?_) (fun c3 => ?_)
  · have hw := hw.1 c3
    refine lv_aload_n hx hb dX6_leastRange_20 rfl (lv_at hl 0 rfl) ?_
    refine m_get C hM 1 (by decide) q2339 rfl rfl dX6_leastRange_21 ?_
    refine lv_aload_n hx hb dX6_leastRange_24 rfl (lv_at hl 0 rfl) ?_
    refine m_get C hM 5 (by decide) q2343 rfl rfl dX6_leastRange_25 ?_
    refine va_callv (va_runS (As := [.ref (adr 1), .ref (adr 5)]) (rest := []) C.fix (met_X6_copies l g F adr i1 a q 1 (by decide) 5 (by decide) ) (cw_X6_55 C.ts ⟨Nat.le_of_ble_eq_true rfl, Nat.le_of_ble_eq_true rfl⟩) (preS_of C (P := (MS g F adr i1 a q)) hS hM _) rfl rfl hl.1 rfl (lv_room (Nat.le_of_ble_eq_true rfl)) dX6_leastRange_28 ⟨Nat.le_of_ble_eq_true rfl, Nat.le_of_ble_eq_true rfl⟩) hS (fun _ _ h => h) (fun _ h => h) (fun z_u t H locs ht _ hw1 hB _ _ hS => ?_)
    obtain ⟨i5, a6, q7⟩ := z_u
    have hM : MS g F adr i5 a6 q7 H := by rw [← ht]; exact hB
    have hw := hw i5 a6 q7 hw1
    refine lv_iconst (v := 1) hx hb dX6_leastRange_31 (by decide) ?_
    refine lv_istore_n (lv' := [(3, .int 1), (0, .ref (adr 0)), (1, .int x), (2, .int y)]) hx hb dX6_leastRange_32 rfl hl (by decide) rfl (fun ls hl => ?_)
    obtain ⟨n, hw⟩ := hw
    exact wkb_X6_leastRange_33 C post x y  n i5 a6 q7 1 hw _ _ hM hS _ (lv_sub hl [1, 2, 3, 0] rfl)
  · have hw := hw.2 c3
    refine lv_aload_n hx hb dX6_leastRange_14 rfl (lv_at hl 0 rfl) ?_
    refine lv_iconst (v := 1) hx hb dX6_leastRange_15 (by decide) ?_
    refine va_calli (va_runV (As := [.int 1]) (rest := []) C.fix (met_X6_fails l g F adr i1 a q 1 ) (cw_X6_136 C.ts ⟨Nat.le_of_ble_eq_true rfl, Nat.le_of_ble_eq_true rfl⟩) (preV_of C (P := (MS g F adr i1 a q)) (MS.recv C hM) hS hM _) rfl rfl hl.1 rfl (lv_room (Nat.le_of_ble_eq_true rfl)) dX6_leastRange_16 ⟨Nat.le_of_ble_eq_true rfl, Nat.le_of_ble_eq_true rfl⟩) hS (fun _ _ h => h) (fun _ h => h) (fun r8 z_u t H locs ht _ hw1 hB _ _ hS => ?_)
    obtain ⟨i9, a10, q11⟩ := z_u
    have hM : MS g F adr i9 a10 q11 H := by rw [← ht]; exact hB
    have hw := hw r8 i9 a10 q11 hw1
    exact W.iret (v := r8) hx hb hr (fun t ht _ => ⟨⟨r8, (i9, a10, q11), rfl, hw, hM.at ht⟩, hS.F ht⟩) hS.2.2 dX6_leastRange_19
set_option maxHeartbeats 4000000 in
theorem met_X6_leastRange (l : Launch) (g : gG) (F : nM) (adr : Nat → Nat) (i : Nat → Int32) (a : Nat → Nat → Int32) (q : Nat → Nat) (x : Int32) (y : Int32) (hpre : pre_X6_leastRange i a q x y) : Met l yX6_leastRange (ws_ yX6_leastRange cX6_leastRange 4 (some .int)) rm_X6_leastRange (va_Pc [.ref (adr 0), .int x, .int y] (Pg g (MS g F adr i a q))) (va_Qi (fun r u => post_X6_leastRange i a q x y r u) (fun u t => MS g F adr u.1 u.2.1 u.2.2 t.heap) (Ag g)) 0 0 (Ag g) :=
  wk_X6_leastRange l g F adr i a q x y _ (pr_X6_leastRange i a q x y hpre)

abbrev rm_X6_helpfulOpening : Room := ({ frames := 5, cells := 0, slots := 0, locals := 320 } : Room)
set_option maxHeartbeats 4000000 in
theorem wkb_X6_helpfulOpening_111 (C : Cx p s m args meth c cX6_helpfulOpening 4 RX6 (some .int) g) (post : Int32 → MSt → Prop)  (x : Int32) (y : Int32)(K33 : (Nat → Int32) → (Nat → Nat → Int32) → (Nat → Nat) → Int32 → Prop) (hK33 : ∀ (i : Nat → Int32) (a : Nat → Nat → Int32) (q : Nat → Nat) (y3 : Int32), K33 i a q y3 → ∀ (H : Heap) (locs : List Loc), MS g F adr i a q H → va_S (Ag g) s.heap H locs → ∀ ls : Array Slot, lv_has ls 4 [(0, .ref (adr 0)), (1, .int x), (2, .int y), (3, .int y3)] → W p l e rm_X6_helpfulOpening s m args below meth c H locs 0 0 (MQ below (va_Qi post (fun u t => MS g F adr u.1 u.2.1 u.2.2 t.heap) (Ag g)) args s 0 0 (Ag g)) (F0 m 33 ls [])) (i : Nat → Int32) (a : Nat → Nat → Int32) (q : Nat → Nat) (x3 : Int32) (hw : wpb_X6_helpfulOpening_111 post K33 x y i a q x3) {H : Heap} {locs : List Loc} (hM : MS g F adr i a q H) (hS : va_S (Ag g) s.heap H locs) {ls : Array Slot} (hl : lv_has ls 4 [(0, .ref (adr 0)), (1, .int x), (2, .int y), (3, .int x3)]) : W p l e rm_X6_helpfulOpening s m args below meth c H locs 0 0 (MQ below (va_Qi post (fun u t => MS g F adr u.1 u.2.1 u.2.2 t.heap) (Ag g)) args s 0 0 (Ag g)) (F0 m 111 ls []) := by
  have hx := C.1
  have hb := C.2.1
  have hown := C.2.2.2.1
  have hr := C.2.2.2.2.2.1
  have hlocks := C.2.2.2.2.2.2.1
  obtain ⟨z27, ez27⟩ : ∃ y : Int32, y = x3 + 1 := ⟨_, rfl⟩
  have hw := hw z27 ez27
  refine lv_iinc (v := z27) (lv' := [(3, .int z27), (0, .ref (adr 0)), (1, .int x), (2, .int y)]) hx hb dX6_helpfulOpening_111 hl (k := 3) rfl (by rw [ez27]; rfl) (by decide) rfl (fun ls hl => ?_)
  refine lv_goto (tgt := 33) hx hb dX6_helpfulOpening_114 (by decide) ?_
  exact hK33 i a q z27 hw _ _ hM hS _ (lv_sub hl [1, 2, 3, 0] rfl)
set_option maxHeartbeats 4000000 in
theorem wkb_X6_helpfulOpening_33 (C : Cx p s m args meth c cX6_helpfulOpening 4 RX6 (some .int) g) (post : Int32 → MSt → Prop)  (x : Int32) (y : Int32) : ∀ (n : Nat) (i : Nat → Int32) (a : Nat → Nat → Int32) (q : Nat → Nat) (x3 : Int32), wpb_X6_helpfulOpening_33 post  x y n i a q x3 → ∀ (H : Heap) (locs : List Loc), MS g F adr i a q H → va_S (Ag g) s.heap H locs → ∀ ls : Array Slot, lv_has ls 4 [(0, .ref (adr 0)), (1, .int x), (2, .int y), (3, .int x3)] → W p l e rm_X6_helpfulOpening s m args below meth c H locs 0 0 (MQ below (va_Qi post (fun u t => MS g F adr u.1 u.2.1 u.2.2 t.heap) (Ag g)) args s 0 0 (Ag g)) (F0 m 33 ls []) := by
  have hx := C.1
  have hb := C.2.1
  have hown := C.2.2.2.1
  have hr := C.2.2.2.2.2.1
  have hlocks := C.2.2.2.2.2.2.1
  intro n
  induction n with
  | zero =>
    intro i a q x3 hw
    exact hw.elim
  | succ n ih =>
    intro i a q x3 hw H locs hM hS ls hl
    refine lv_iload_n hx hb dX6_helpfulOpening_33 rfl (lv_at hl 3 rfl) ?_
    refine lv_bipush (v := 12) hx hb dX6_helpfulOpening_34 (by decide) ?_
    refine lv_icmp_ge (tgt := 117) hx hb dX6_helpfulOpening_36 (by decide) (fun c12 => ?_) (fun c12 => ?_)
    · have hw := hw.1 c12
      refine lv_iconst (v := (-1)) hx hb dX6_helpfulOpening_117 (by decide) ?_
      exact W.iret (v := (-1)) hx hb hr (fun t ht _ => ⟨⟨(-1), (i, a, q), rfl, hw, hM.at ht⟩, hS.F ht⟩) hS.2.2 dX6_helpfulOpening_118
    · have hw := hw.2 c12
      refine lv_aload_n hx hb dX6_helpfulOpening_39 rfl (lv_at hl 0 rfl) ?_
      refine lv_aload_n hx hb dX6_helpfulOpening_40 rfl (lv_at hl 0 rfl) ?_
      refine m_get C hM 1 (by decide) q2339 rfl rfl dX6_helpfulOpening_41 ?_
      refine lv_iload_n hx hb dX6_helpfulOpening_44 rfl (lv_at hl 1 rfl) ?_
      refine lv_iload_n hx hb dX6_helpfulOpening_45 rfl (lv_at hl 2 rfl) ?_
      refine va_calli (va_runV (As := [.ref (adr 1), .int x, .int y]) (rest := []) C.fix (met_X6_rides l g F adr i a q 1 (by decide) x y hw.1) (cw_X6_267 C.ts ⟨Nat.le_of_ble_eq_true rfl, Nat.le_of_ble_eq_true rfl⟩) (preV_of C (P := (MS g F adr i a q)) (MS.recv C hM) hS hM _) rfl rfl hl.1 rfl (lv_room (Nat.le_of_ble_eq_true rfl)) dX6_helpfulOpening_46 ⟨Nat.le_of_ble_eq_true rfl, Nat.le_of_ble_eq_true rfl⟩) hS (fun _ _ h => h) (fun _ h => h) (fun r13 z_u t H locs ht _ hw1 hB _ _ hS => ?_)
      obtain ⟨i14, a15, q16⟩ := z_u
      have hM : MS g F adr i14 a15 q16 H := by rw [← ht]; exact hB
      have hw := hw.2 r13 i14 a15 q16 hw1
      refine lv_if_ne (tgt := 117) hx hb dX6_helpfulOpening_49 (by decide) (fun c17 => ?_) (fun c17 => ?_)
      · have hw := hw.1 c17
        refine lv_iconst (v := (-1)) hx hb dX6_helpfulOpening_117 (by decide) ?_
        exact W.iret (v := (-1)) hx hb hr (fun t ht _ => ⟨⟨(-1), (i14, a15, q16), rfl, hw, hM.at ht⟩, hS.F ht⟩) hS.2.2 dX6_helpfulOpening_118
      · have hw := hw.2 c17
        refine lv_aload_n hx hb dX6_helpfulOpening_52 rfl (lv_at hl 0 rfl) ?_
        refine m_get C hM 1 (by decide) q2339 rfl rfl dX6_helpfulOpening_53 ?_
        refine lv_iconst (v := 3) hx hb dX6_helpfulOpening_56 (by decide) ?_
        refine lv_iload_n hx hb dX6_helpfulOpening_57 rfl (lv_at hl 3 rfl) ?_
        refine lv_iadd hx hb dX6_helpfulOpening_58 ?_
        refine m_ald C hM (j := 1) rfl hw.1 dX6_helpfulOpening_59 ?_
        have hw := hw.2
        refine lv_iconst (v := 1) hx hb dX6_helpfulOpening_60 (by decide) ?_
        refine lv_icmp_ne (tgt := 111) hx hb dX6_helpfulOpening_61 (by decide) (fun c18 => ?_) (fun c18 => ?_)
        · have hw := hw.1 c18
          exact wkb_X6_helpfulOpening_111 C post x y (wpb_X6_helpfulOpening_33 post  x y n) ih i14 a15 q16 x3 hw hM hS (lv_sub hl [0, 1, 2, 3] rfl)
        · have hw := hw.2 c18
          refine lv_aload_n hx hb dX6_helpfulOpening_64 rfl (lv_at hl 0 rfl) ?_
          refine m_get C hM 1 (by decide) q2339 rfl rfl dX6_helpfulOpening_65 ?_
          refine lv_bipush (v := 27) hx hb dX6_helpfulOpening_68 (by decide) ?_
          refine lv_iload_n hx hb dX6_helpfulOpening_70 rfl (lv_at hl 3 rfl) ?_
          refine lv_iadd hx hb dX6_helpfulOpening_71 ?_
          refine m_ald C hM (j := 1) rfl hw.1 dX6_helpfulOpening_72 ?_
          have hw := hw.2
          refine lv_if_ne (tgt := 111) hx hb dX6_helpfulOpening_73 (by decide) (fun c19 => ?_) (fun c19 => ?_)
          · have hw := hw.1 c19
            exact wkb_X6_helpfulOpening_111 C post x y (wpb_X6_helpfulOpening_33 post  x y n) ih i14 a15 q16 x3 hw hM hS (lv_sub hl [0, 1, 2, 3] rfl)
          · have hw := hw.2 c19
            refine lv_aload_n hx hb dX6_helpfulOpening_76 rfl (lv_at hl 0 rfl) ?_
            refine m_get C hM 5 (by decide) q2343 rfl rfl dX6_helpfulOpening_77 ?_
            refine lv_bipush (v := 27) hx hb dX6_helpfulOpening_80 (by decide) ?_
            refine lv_iload_n hx hb dX6_helpfulOpening_82 rfl (lv_at hl 3 rfl) ?_
            refine lv_iadd hx hb dX6_helpfulOpening_83 ?_
            refine lv_iconst (v := 1) hx hb dX6_helpfulOpening_84 (by decide) ?_
            refine m_ast C hM hS (j := 5) rfl hw.1 dX6_helpfulOpening_85 (fun a20 H locs ea20 hM hS => ?_)
            have hw := hw.2 a20 ea20
            refine lv_aload_n hx hb dX6_helpfulOpening_86 rfl (lv_at hl 0 rfl) ?_
            refine lv_aload_n hx hb dX6_helpfulOpening_87 rfl (lv_at hl 0 rfl) ?_
            refine m_get C hM 5 (by decide) q2343 rfl rfl dX6_helpfulOpening_88 ?_
            refine lv_iload_n hx hb dX6_helpfulOpening_91 rfl (lv_at hl 1 rfl) ?_
            refine lv_iload_n hx hb dX6_helpfulOpening_92 rfl (lv_at hl 2 rfl) ?_
            refine va_calli (va_runV (As := [.ref (adr 5), .int x, .int y]) (rest := []) C.fix (met_X6_rides l g F adr i14 a20 q16 5 (by decide) x y hw.1) (cw_X6_267 C.ts ⟨Nat.le_of_ble_eq_true rfl, Nat.le_of_ble_eq_true rfl⟩) (preV_of C (P := (MS g F adr i14 a20 q16)) (MS.recv C hM) hS hM _) rfl rfl hl.1 rfl (lv_room (Nat.le_of_ble_eq_true rfl)) dX6_helpfulOpening_93 ⟨Nat.le_of_ble_eq_true rfl, Nat.le_of_ble_eq_true rfl⟩) hS (fun _ _ h => h) (fun _ h => h) (fun r21 z_u t H locs ht _ hw1 hB _ _ hS => ?_)
            obtain ⟨i22, a23, q24⟩ := z_u
            have hM : MS g F adr i22 a23 q24 H := by rw [← ht]; exact hB
            have hw := hw.2 r21 i22 a23 q24 hw1
            refine lv_if_eq (tgt := 101) hx hb dX6_helpfulOpening_96 (by decide) (fun c25 => ?_) (fun c25 => ?_)
            · have hw := hw.1 c25
              refine lv_aload_n hx hb dX6_helpfulOpening_101 rfl (lv_at hl 0 rfl) ?_
              refine m_get C hM 5 (by decide) q2343 rfl rfl dX6_helpfulOpening_102 ?_
              refine lv_bipush (v := 27) hx hb dX6_helpfulOpening_105 (by decide) ?_
              refine lv_iload_n hx hb dX6_helpfulOpening_107 rfl (lv_at hl 3 rfl) ?_
              refine lv_iadd hx hb dX6_helpfulOpening_108 ?_
              refine lv_iconst (v := 0) hx hb dX6_helpfulOpening_109 (by decide) ?_
              refine m_ast C hM hS (j := 5) rfl hw.1 dX6_helpfulOpening_110 (fun a26 H locs ea26 hM hS => ?_)
              have hw := hw.2 a26 ea26
              exact wkb_X6_helpfulOpening_111 C post x y (wpb_X6_helpfulOpening_33 post  x y n) ih i22 a26 q24 x3 hw hM hS (lv_sub hl [0, 1, 2, 3] rfl)
            · have hw := hw.2 c25
              refine lv_iload_n hx hb dX6_helpfulOpening_99 rfl (lv_at hl 3 rfl) ?_
              exact W.iret (v := x3) hx hb hr (fun t ht _ => ⟨⟨x3, (i22, a23, q24), rfl, hw, hM.at ht⟩, hS.F ht⟩) hS.2.2 dX6_helpfulOpening_100
set_option maxHeartbeats 4000000 in
theorem wk_X6_helpfulOpening (l : Launch) (g : gG) (F : nM) (adr : Nat → Nat) (i : Nat → Int32) (a : Nat → Nat → Int32) (q : Nat → Nat) (x : Int32) (y : Int32) (post : Int32 → MSt → Prop) (hw : wp_X6_helpfulOpening post i a q x y) : Met l yX6_helpfulOpening (ws_ yX6_helpfulOpening cX6_helpfulOpening 4 (some .int)) rm_X6_helpfulOpening (va_Pc [.ref (adr 0), .int x, .int y] (Pg g (MS g F adr i a q))) (va_Qi post (fun u t => MS g F adr u.1 u.2.1 u.2.2 t.heap) (Ag g)) 0 0 (Ag g) := by
  refine Met.ofW (cc := cX6_helpfulOpening) (maxL := 4) (ret := (some .int)) (by decide) rfl ?_
  intro p e s m args below meth c s₁ B hml hv
  obtain ⟨rfl, hG, hM⟩ := hv
  have C : Cx p s m _ meth c cX6_helpfulOpening 4 RX6 (some .int) g := Cx.of B hml hG
  have hx := C.1
  have hb := C.2.1
  have hown := C.2.2.2.1
  have hr := C.2.2.2.2.2.1
  have hlocks := C.2.2.2.2.2.2.1
  have hS : va_S (Ag g) s.heap s.heap [] := va_S.rf
  refine lv_start ([.ref (adr 0), .int x, .int y] : List Value) (L := [(0, .ref (adr 0)), (1, .int x), (2, .int y)]) (Nat.le_of_ble_eq_true rfl) rfl (fun ls hl => ?_)
  refine lv_aload_n hx hb dX6_helpfulOpening_0 rfl (lv_at hl 0 rfl) ?_
  refine lv_iconst (v := 0) hx hb dX6_helpfulOpening_1 (by decide) ?_
  refine m_put C hM hS 0 rfl q2338 rfl rfl rfl dX6_helpfulOpening_2 (fun i1 H locs ei1 hM hS => ?_)
  have hw := hw i1 ei1
  refine lv_aload_n hx hb dX6_helpfulOpening_5 rfl (lv_at hl 0 rfl) ?_
  refine lv_iload_n hx hb dX6_helpfulOpening_6 rfl (lv_at hl 1 rfl) ?_
  refine lv_iload_n hx hb dX6_helpfulOpening_7 rfl (lv_at hl 2 rfl) ?_
  refine vp_callSi (va_runV (As := [.int x, .int y]) (rest := []) C.fix (met_X6_areInns l g F adr i1 a q x y ) (cw_X6_289 C.ts ⟨Nat.le_of_ble_eq_true rfl, Nat.le_of_ble_eq_true rfl⟩) (preV_of C (P := (MS g F adr i1 a q)) (MS.recv C hM) hS hM _) rfl rfl hl.1 rfl (lv_room (Nat.le_of_ble_eq_true rfl)) dX6_helpfulOpening_8 ⟨Nat.le_of_ble_eq_true rfl, Nat.le_of_ble_eq_true rfl⟩).run (fun r2 er2 => ?_)
  have hw := hw r2 er2
  refine lv_if_ne (tgt := 20) hx hb dX6_helpfulOpening_11 (by decide) (fun c3 => ?_) (fun c3 => ?_)
  · have hw := hw.1 c3
    refine lv_aload_n hx hb dX6_helpfulOpening_20 rfl (lv_at hl 0 rfl) ?_
    refine m_get C hM 1 (by decide) q2339 rfl rfl dX6_helpfulOpening_21 ?_
    refine lv_aload_n hx hb dX6_helpfulOpening_24 rfl (lv_at hl 0 rfl) ?_
    refine m_get C hM 5 (by decide) q2343 rfl rfl dX6_helpfulOpening_25 ?_
    refine va_callv (va_runS (As := [.ref (adr 1), .ref (adr 5)]) (rest := []) C.fix (met_X6_copies l g F adr i1 a q 1 (by decide) 5 (by decide) ) (cw_X6_55 C.ts ⟨Nat.le_of_ble_eq_true rfl, Nat.le_of_ble_eq_true rfl⟩) (preS_of C (P := (MS g F adr i1 a q)) hS hM _) rfl rfl hl.1 rfl (lv_room (Nat.le_of_ble_eq_true rfl)) dX6_helpfulOpening_28 ⟨Nat.le_of_ble_eq_true rfl, Nat.le_of_ble_eq_true rfl⟩) hS (fun _ _ h => h) (fun _ h => h) (fun z_u t H locs ht _ hw1 hB _ _ hS => ?_)
    obtain ⟨i5, a6, q7⟩ := z_u
    have hM : MS g F adr i5 a6 q7 H := by rw [← ht]; exact hB
    have hw := hw i5 a6 q7 hw1
    refine lv_iconst (v := 0) hx hb dX6_helpfulOpening_31 (by decide) ?_
    refine lv_istore_n (lv' := [(3, .int 0), (0, .ref (adr 0)), (1, .int x), (2, .int y)]) hx hb dX6_helpfulOpening_32 rfl hl (by decide) rfl (fun ls hl => ?_)
    obtain ⟨n, hw⟩ := hw
    exact wkb_X6_helpfulOpening_33 C post x y  n i5 a6 q7 0 hw _ _ hM hS _ (lv_sub hl [1, 2, 3, 0] rfl)
  · have hw := hw.2 c3
    refine lv_aload_n hx hb dX6_helpfulOpening_14 rfl (lv_at hl 0 rfl) ?_
    refine lv_iconst (v := 1) hx hb dX6_helpfulOpening_15 (by decide) ?_
    refine va_calli (va_runV (As := [.int 1]) (rest := []) C.fix (met_X6_fails l g F adr i1 a q 1 ) (cw_X6_136 C.ts ⟨Nat.le_of_ble_eq_true rfl, Nat.le_of_ble_eq_true rfl⟩) (preV_of C (P := (MS g F adr i1 a q)) (MS.recv C hM) hS hM _) rfl rfl hl.1 rfl (lv_room (Nat.le_of_ble_eq_true rfl)) dX6_helpfulOpening_16 ⟨Nat.le_of_ble_eq_true rfl, Nat.le_of_ble_eq_true rfl⟩) hS (fun _ _ h => h) (fun _ h => h) (fun r8 z_u t H locs ht _ hw1 hB _ _ hS => ?_)
    obtain ⟨i9, a10, q11⟩ := z_u
    have hM : MS g F adr i9 a10 q11 H := by rw [← ht]; exact hB
    have hw := hw r8 i9 a10 q11 hw1
    exact W.iret (v := r8) hx hb hr (fun t ht _ => ⟨⟨r8, (i9, a10, q11), rfl, hw, hM.at ht⟩, hS.F ht⟩) hS.2.2 dX6_helpfulOpening_19
set_option maxHeartbeats 4000000 in
theorem met_X6_helpfulOpening (l : Launch) (g : gG) (F : nM) (adr : Nat → Nat) (i : Nat → Int32) (a : Nat → Nat → Int32) (q : Nat → Nat) (x : Int32) (y : Int32) (hpre : pre_X6_helpfulOpening i a q x y) : Met l yX6_helpfulOpening (ws_ yX6_helpfulOpening cX6_helpfulOpening 4 (some .int)) rm_X6_helpfulOpening (va_Pc [.ref (adr 0), .int x, .int y] (Pg g (MS g F adr i a q))) (va_Qi (fun r u => post_X6_helpfulOpening i a q x y r u) (fun u t => MS g F adr u.1 u.2.1 u.2.2 t.heap) (Ag g)) 0 0 (Ag g) :=
  wk_X6_helpfulOpening l g F adr i a q x y _ (pr_X6_helpfulOpening i a q x y hpre)

abbrev rm_X6_neededInns : Room := ({ frames := 5, cells := 0, slots := 0, locals := 320 } : Room)
set_option maxHeartbeats 4000000 in
theorem wkb_X6_neededInns_138 (C : Cx p s m args meth c cX6_neededInns 5 RX6 (some .int) g) (post : Int32 → MSt → Prop)  (x : Int32) (y : Int32)(K36 : (Nat → Int32) → (Nat → Nat → Int32) → (Nat → Nat) → Int32 → Int32 → Prop) (hK36 : ∀ (i : Nat → Int32) (a : Nat → Nat → Int32) (q : Nat → Nat) (y3 : Int32) (y4 : Int32), K36 i a q y3 y4 → ∀ (H : Heap) (locs : List Loc), MS g F adr i a q H → va_S (Ag g) s.heap H locs → ∀ ls : Array Slot, lv_has ls 5 [(0, .ref (adr 0)), (1, .int x), (2, .int y), (3, .int y3), (4, .int y4)] → W p l e rm_X6_neededInns s m args below meth c H locs 0 0 (MQ below (va_Qi post (fun u t => MS g F adr u.1 u.2.1 u.2.2 t.heap) (Ag g)) args s 0 0 (Ag g)) (F0 m 36 ls [])) (i : Nat → Int32) (a : Nat → Nat → Int32) (q : Nat → Nat) (x3 : Int32) (x4 : Int32) (hw : wpb_X6_neededInns_138 post K36 x y i a q x3 x4) {H : Heap} {locs : List Loc} (hM : MS g F adr i a q H) (hS : va_S (Ag g) s.heap H locs) {ls : Array Slot} (hl : lv_has ls 5 [(0, .ref (adr 0)), (1, .int x), (2, .int y), (3, .int x3), (4, .int x4)]) : W p l e rm_X6_neededInns s m args below meth c H locs 0 0 (MQ below (va_Qi post (fun u t => MS g F adr u.1 u.2.1 u.2.2 t.heap) (Ag g)) args s 0 0 (Ag g)) (F0 m 138 ls []) := by
  have hx := C.1
  have hb := C.2.1
  have hown := C.2.2.2.1
  have hr := C.2.2.2.2.2.1
  have hlocks := C.2.2.2.2.2.2.1
  obtain ⟨z28, ez28⟩ : ∃ y : Int32, y = x4 + 1 := ⟨_, rfl⟩
  have hw := hw z28 ez28
  refine lv_iinc (v := z28) (lv' := [(4, .int z28), (0, .ref (adr 0)), (1, .int x), (2, .int y), (3, .int x3)]) hx hb dX6_neededInns_138 hl (k := 4) rfl (by rw [ez28]; rfl) (by decide) rfl (fun ls hl => ?_)
  refine lv_goto (tgt := 36) hx hb dX6_neededInns_141 (by decide) ?_
  exact hK36 i a q x3 z28 hw _ _ hM hS _ (lv_sub hl [1, 2, 3, 4, 0] rfl)
set_option maxHeartbeats 4000000 in
theorem wkb_X6_neededInns_125 (C : Cx p s m args meth c cX6_neededInns 5 RX6 (some .int) g) (post : Int32 → MSt → Prop)  (x : Int32) (y : Int32)(K36 : (Nat → Int32) → (Nat → Nat → Int32) → (Nat → Nat) → Int32 → Int32 → Prop) (hK36 : ∀ (i : Nat → Int32) (a : Nat → Nat → Int32) (q : Nat → Nat) (y3 : Int32) (y4 : Int32), K36 i a q y3 y4 → ∀ (H : Heap) (locs : List Loc), MS g F adr i a q H → va_S (Ag g) s.heap H locs → ∀ ls : Array Slot, lv_has ls 5 [(0, .ref (adr 0)), (1, .int x), (2, .int y), (3, .int y3), (4, .int y4)] → W p l e rm_X6_neededInns s m args below meth c H locs 0 0 (MQ below (va_Qi post (fun u t => MS g F adr u.1 u.2.1 u.2.2 t.heap) (Ag g)) args s 0 0 (Ag g)) (F0 m 36 ls [])) (i : Nat → Int32) (a : Nat → Nat → Int32) (q : Nat → Nat) (x4 : Int32) (s0 : Int32) (s1 : Int32) (hw : wpb_X6_neededInns_125 post K36 x y i a q x4 s0 s1) {H : Heap} {locs : List Loc} (hM : MS g F adr i a q H) (hS : va_S (Ag g) s.heap H locs) {ls : Array Slot} (hl : lv_has ls 5 [(0, .ref (adr 0)), (1, .int x), (2, .int y), (4, .int x4)]) : W p l e rm_X6_neededInns s m args below meth c H locs 0 0 (MQ below (va_Qi post (fun u t => MS g F adr u.1 u.2.1 u.2.2 t.heap) (Ag g)) args s 0 0 (Ag g)) (F0 m 125 ls [.int s0, .int s1]) := by
  have hx := C.1
  have hb := C.2.1
  have hown := C.2.2.2.1
  have hr := C.2.2.2.2.2.1
  have hlocks := C.2.2.2.2.2.2.1
  refine lv_iadd hx hb dX6_neededInns_125 ?_
  refine lv_topi (fun z29 ez29 => ?_)
  have hw := hw z29 ez29
  refine lv_istore_n (lv' := [(3, .int z29), (0, .ref (adr 0)), (1, .int x), (2, .int y), (4, .int x4)]) hx hb dX6_neededInns_126 rfl hl (by decide) rfl (fun ls hl => ?_)
  refine lv_aload_n hx hb dX6_neededInns_127 rfl (lv_at hl 1 rfl) ?_
  refine m_get C hM 5 (by decide) q2343 rfl rfl dX6_neededInns_128 ?_
  refine lv_bipush (v := 27) hx hb dX6_neededInns_131 (by decide) ?_
  refine lv_iload hx hb dX6_neededInns_133 (lv_at hl 4 rfl) ?_
  refine lv_iadd hx hb dX6_neededInns_135 ?_
  refine lv_iconst (v := 1) hx hb dX6_neededInns_136 (by decide) ?_
  refine m_ast C hM hS (j := 5) rfl hw.1 dX6_neededInns_137 (fun a30 H locs ea30 hM hS => ?_)
  have hw := hw.2 a30 ea30
  exact wkb_X6_neededInns_138 C post x y K36 hK36 i a30 q z29 x4 hw hM hS (lv_sub hl [1, 2, 3, 0, 4] rfl)
set_option maxHeartbeats 4000000 in
theorem wkb_X6_neededInns_36 (C : Cx p s m args meth c cX6_neededInns 5 RX6 (some .int) g) (post : Int32 → MSt → Prop)  (x : Int32) (y : Int32) : ∀ (n : Nat) (i : Nat → Int32) (a : Nat → Nat → Int32) (q : Nat → Nat) (x3 : Int32) (x4 : Int32), wpb_X6_neededInns_36 post  x y n i a q x3 x4 → ∀ (H : Heap) (locs : List Loc), MS g F adr i a q H → va_S (Ag g) s.heap H locs → ∀ ls : Array Slot, lv_has ls 5 [(0, .ref (adr 0)), (1, .int x), (2, .int y), (3, .int x3), (4, .int x4)] → W p l e rm_X6_neededInns s m args below meth c H locs 0 0 (MQ below (va_Qi post (fun u t => MS g F adr u.1 u.2.1 u.2.2 t.heap) (Ag g)) args s 0 0 (Ag g)) (F0 m 36 ls []) := by
  have hx := C.1
  have hb := C.2.1
  have hown := C.2.2.2.1
  have hr := C.2.2.2.2.2.1
  have hlocks := C.2.2.2.2.2.2.1
  intro n
  induction n with
  | zero =>
    intro i a q x3 x4 hw
    exact hw.elim
  | succ n ih =>
    intro i a q x3 x4 hw H locs hM hS ls hl
    refine lv_iload hx hb dX6_neededInns_36 (lv_at hl 4 rfl) ?_
    refine lv_bipush (v := 12) hx hb dX6_neededInns_38 (by decide) ?_
    refine lv_icmp_ge (tgt := 144) hx hb dX6_neededInns_40 (by decide) (fun c12 => ?_) (fun c12 => ?_)
    · have hw := hw.1 c12
      refine lv_iload_n hx hb dX6_neededInns_144 rfl (lv_at hl 3 rfl) ?_
      exact W.iret (v := x3) hx hb hr (fun t ht _ => ⟨⟨x3, (i, a, q), rfl, hw, hM.at ht⟩, hS.F ht⟩) hS.2.2 dX6_neededInns_145
    · have hw := hw.2 c12
      refine lv_aload_n hx hb dX6_neededInns_43 rfl (lv_at hl 0 rfl) ?_
      refine lv_aload_n hx hb dX6_neededInns_44 rfl (lv_at hl 0 rfl) ?_
      refine m_get C hM 1 (by decide) q2339 rfl rfl dX6_neededInns_45 ?_
      refine lv_iload_n hx hb dX6_neededInns_48 rfl (lv_at hl 1 rfl) ?_
      refine lv_iload_n hx hb dX6_neededInns_49 rfl (lv_at hl 2 rfl) ?_
      refine va_calli (va_runV (As := [.ref (adr 1), .int x, .int y]) (rest := []) C.fix (met_X6_rides l g F adr i a q 1 (by decide) x y hw.1) (cw_X6_267 C.ts ⟨Nat.le_of_ble_eq_true rfl, Nat.le_of_ble_eq_true rfl⟩) (preV_of C (P := (MS g F adr i a q)) (MS.recv C hM) hS hM _) rfl rfl hl.1 rfl (lv_room (Nat.le_of_ble_eq_true rfl)) dX6_neededInns_50 ⟨Nat.le_of_ble_eq_true rfl, Nat.le_of_ble_eq_true rfl⟩) hS (fun _ _ h => h) (fun _ h => h) (fun r13 z_u t H locs ht _ hw1 hB _ _ hS => ?_)
      obtain ⟨i14, a15, q16⟩ := z_u
      have hM : MS g F adr i14 a15 q16 H := by rw [← ht]; exact hB
      have hw := hw.2 r13 i14 a15 q16 hw1
      refine lv_if_eq (tgt := 144) hx hb dX6_neededInns_53 (by decide) (fun c17 => ?_) (fun c17 => ?_)
      · have hw := hw.1 c17
        refine lv_iload_n hx hb dX6_neededInns_144 rfl (lv_at hl 3 rfl) ?_
        exact W.iret (v := x3) hx hb hr (fun t ht _ => ⟨⟨x3, (i14, a15, q16), rfl, hw, hM.at ht⟩, hS.F ht⟩) hS.2.2 dX6_neededInns_145
      · have hw := hw.2 c17
        refine lv_iload hx hb dX6_neededInns_56 (lv_at hl 4 rfl) ?_
        refine lv_iload_n hx hb dX6_neededInns_58 rfl (lv_at hl 1 rfl) ?_
        refine lv_icmp_eq (tgt := 138) hx hb dX6_neededInns_59 (by decide) (fun c18 => ?_) (fun c18 => ?_)
        · have hw := hw.1 c18
          exact wkb_X6_neededInns_138 C post x y (wpb_X6_neededInns_36 post  x y n) ih i14 a15 q16 x3 x4 hw hM hS (lv_sub hl [0, 1, 2, 3, 4] rfl)
        · have hw := hw.2 c18
          refine lv_iload hx hb dX6_neededInns_62 (lv_at hl 4 rfl) ?_
          refine lv_iload_n hx hb dX6_neededInns_64 rfl (lv_at hl 2 rfl) ?_
          refine lv_icmp_eq (tgt := 138) hx hb dX6_neededInns_65 (by decide) (fun c19 => ?_) (fun c19 => ?_)
          · have hw := hw.1 c19
            exact wkb_X6_neededInns_138 C post x y (wpb_X6_neededInns_36 post  x y n) ih i14 a15 q16 x3 x4 hw hM hS (lv_sub hl [0, 1, 2, 3, 4] rfl)
          · have hw := hw.2 c19
            refine lv_aload_n hx hb dX6_neededInns_68 rfl (lv_at hl 0 rfl) ?_
            refine m_get C hM 1 (by decide) q2339 rfl rfl dX6_neededInns_69 ?_
            refine lv_iconst (v := 3) hx hb dX6_neededInns_72 (by decide) ?_
            refine lv_iload hx hb dX6_neededInns_73 (lv_at hl 4 rfl) ?_
            refine lv_iadd hx hb dX6_neededInns_75 ?_
            refine m_ald C hM (j := 1) rfl hw.1 dX6_neededInns_76 ?_
            have hw := hw.2
            refine lv_iconst (v := 1) hx hb dX6_neededInns_77 (by decide) ?_
            refine lv_icmp_ne (tgt := 138) hx hb dX6_neededInns_78 (by decide) (fun c20 => ?_) (fun c20 => ?_)
            · have hw := hw.1 c20
              exact wkb_X6_neededInns_138 C post x y (wpb_X6_neededInns_36 post  x y n) ih i14 a15 q16 x3 x4 hw hM hS (lv_sub hl [0, 1, 2, 3, 4] rfl)
            · have hw := hw.2 c20
              refine lv_aload_n hx hb dX6_neededInns_81 rfl (lv_at hl 0 rfl) ?_
              refine m_get C hM 1 (by decide) q2339 rfl rfl dX6_neededInns_82 ?_
              refine lv_bipush (v := 27) hx hb dX6_neededInns_85 (by decide) ?_
              refine lv_iload hx hb dX6_neededInns_87 (lv_at hl 4 rfl) ?_
              refine lv_iadd hx hb dX6_neededInns_89 ?_
              refine m_ald C hM (j := 1) rfl hw.1 dX6_neededInns_90 ?_
              have hw := hw.2
              refine lv_iconst (v := 1) hx hb dX6_neededInns_91 (by decide) ?_
              refine lv_icmp_ne (tgt := 138) hx hb dX6_neededInns_92 (by decide) (fun c21 => ?_) (fun c21 => ?_)
              · have hw := hw.1 c21
                exact wkb_X6_neededInns_138 C post x y (wpb_X6_neededInns_36 post  x y n) ih i14 a15 q16 x3 x4 hw hM hS (lv_sub hl [0, 1, 2, 3, 4] rfl)
              · have hw := hw.2 c21
                refine lv_aload_n hx hb dX6_neededInns_95 rfl (lv_at hl 0 rfl) ?_
                refine m_get C hM 5 (by decide) q2343 rfl rfl dX6_neededInns_96 ?_
                refine lv_bipush (v := 27) hx hb dX6_neededInns_99 (by decide) ?_
                refine lv_iload hx hb dX6_neededInns_101 (lv_at hl 4 rfl) ?_
                refine lv_iadd hx hb dX6_neededInns_103 ?_
                refine lv_iconst (v := 0) hx hb dX6_neededInns_104 (by decide) ?_
                refine m_ast C hM hS (j := 5) rfl hw.1 dX6_neededInns_105 (fun a22 H locs ea22 hM hS => ?_)
                have hw := hw.2 a22 ea22
                refine lv_iload_n hx hb dX6_neededInns_106 rfl (lv_at hl 3 rfl) ?_
                refine lv_aload_n hx hb dX6_neededInns_107 rfl (lv_at hl 0 rfl) ?_
                refine lv_aload_n hx hb dX6_neededInns_108 rfl (lv_at hl 0 rfl) ?_
                refine m_get C hM 5 (by decide) q2343 rfl rfl dX6_neededInns_109 ?_
                refine lv_iload_n hx hb dX6_neededInns_112 rfl (lv_at hl 1 rfl) ?_
                refine lv_iload_n hx hb dX6_neededInns_113 rfl (lv_at hl 2 rfl) ?_
                refine va_calli (va_runV (As := [.ref (adr 5), .int x, .int y]) (rest := [.int x3]) C.fix (met_X6_rides l g F adr i14 a22 q16 5 (by decide) x y hw.1) (cw_X6_267 C.ts ⟨Nat.le_of_ble_eq_true rfl, Nat.le_of_ble_eq_true rfl⟩) (preV_of C (P := (MS g F adr i14 a22 q16)) (MS.recv C hM) hS hM _) rfl rfl hl.1 rfl (lv_room (Nat.le_of_ble_eq_true rfl)) dX6_neededInns_114 ⟨Nat.le_of_ble_eq_true rfl, Nat.le_of_ble_eq_true rfl⟩) hS (fun _ _ h => h) (fun _ h => h) (fun r23 z_u t H locs ht _ hw1 hB _ _ hS => ?_)
                obtain ⟨i24, a25, q26⟩ := z_u
                have hM : MS g F adr i24 a25 q26 H := by rw [← ht]; exact hB
                have hw := hw.2 r23 i24 a25 q26 hw1
                refine lv_if_eq (tgt := 124) hx hb dX6_neededInns_117 (by decide) (fun c27 => ?_) (fun c27 => ?_)
                · have hw := hw.1 c27
                  refine lv_iconst (v := 1) hx hb dX6_neededInns_124 (by decide) ?_
                  exact wkb_X6_neededInns_125 C post x y (wpb_X6_neededInns_36 post  x y n) ih i24 a25 q26 x4 1 x3 hw hM hS (lv_sub hl [0, 1, 2, 4] rfl)
                · have hw := hw.2 c27
                  refine lv_iconst (v := 0) hx hb dX6_neededInns_120 (by decide) ?_
                  refine lv_goto (tgt := 125) hx hb dX6_neededInns_121 (by decide) ?_
                  exact wkb_X6_neededInns_125 C post x y (wpb_X6_neededInns_36 post  x y n) ih i24 a25 q26 x4 0 x3 hw hM hS (lv_sub hl [0, 1, 2, 4] rfl)
set_option maxHeartbeats 4000000 in
theorem wk_X6_neededInns (l : Launch) (g : gG) (F : nM) (adr : Nat → Nat) (i : Nat → Int32) (a : Nat → Nat → Int32) (q : Nat → Nat) (x : Int32) (y : Int32) (post : Int32 → MSt → Prop) (hw : wp_X6_neededInns post i a q x y) : Met l yX6_neededInns (ws_ yX6_neededInns cX6_neededInns 5 (some .int)) rm_X6_neededInns (va_Pc [.ref (adr 0), .int x, .int y] (Pg g (MS g F adr i a q))) (va_Qi post (fun u t => MS g F adr u.1 u.2.1 u.2.2 t.heap) (Ag g)) 0 0 (Ag g) := by
  refine Met.ofW (cc := cX6_neededInns) (maxL := 5) (ret := (some .int)) (by decide) rfl ?_
  intro p e s m args below meth c s₁ B hml hv
  obtain ⟨rfl, hG, hM⟩ := hv
  have C : Cx p s m _ meth c cX6_neededInns 5 RX6 (some .int) g := Cx.of B hml hG
  have hx := C.1
  have hb := C.2.1
  have hown := C.2.2.2.1
  have hr := C.2.2.2.2.2.1
  have hlocks := C.2.2.2.2.2.2.1
  have hS : va_S (Ag g) s.heap s.heap [] := va_S.rf
  refine lv_start ([.ref (adr 0), .int x, .int y] : List Value) (L := [(0, .ref (adr 0)), (1, .int x), (2, .int y)]) (Nat.le_of_ble_eq_true rfl) rfl (fun ls hl => ?_)
  refine lv_aload_n hx hb dX6_neededInns_0 rfl (lv_at hl 0 rfl) ?_
  refine lv_iconst (v := 0) hx hb dX6_neededInns_1 (by decide) ?_
  refine m_put C hM hS 0 rfl q2338 rfl rfl rfl dX6_neededInns_2 (fun i1 H locs ei1 hM hS => ?_)
  have hw := hw i1 ei1
  refine lv_aload_n hx hb dX6_neededInns_5 rfl (lv_at hl 0 rfl) ?_
  refine lv_iload_n hx hb dX6_neededInns_6 rfl (lv_at hl 1 rfl) ?_
  refine lv_iload_n hx hb dX6_neededInns_7 rfl (lv_at hl 2 rfl) ?_
  refine vp_callSi (va_runV (As := [.int x, .int y]) (rest := []) C.fix (met_X6_areInns l g F adr i1 a q x y ) (cw_X6_289 C.ts ⟨Nat.le_of_ble_eq_true rfl, Nat.le_of_ble_eq_true rfl⟩) (preV_of C (P := (MS g F adr i1 a q)) (MS.recv C hM) hS hM _) rfl rfl hl.1 rfl (lv_room (Nat.le_of_ble_eq_true rfl)) dX6_neededInns_8 ⟨Nat.le_of_ble_eq_true rfl, Nat.le_of_ble_eq_true rfl⟩).run (fun r2 er2 => ?_)
  have hw := hw r2 er2
  refine lv_if_ne (tgt := 20) hx hb dX6_neededInns_11 (by decide) (fun c3 => ?_) (fun c3 => ?_)
  · have hw := hw.1 c3
    refine lv_iconst (v := 0) hx hb dX6_neededInns_20 (by decide) ?_
    refine lv_istore_n (lv' := [(3, .int 0), (0, .ref (adr 0)), (1, .int x), (2, .int y)]) hx hb dX6_neededInns_21 rfl hl (by decide) rfl (fun ls hl => ?_)
    refine lv_aload_n hx hb dX6_neededInns_22 rfl (lv_at hl 1 rfl) ?_
    refine m_get C hM 1 (by decide) q2339 rfl rfl dX6_neededInns_23 ?_
    refine lv_aload_n hx hb dX6_neededInns_26 rfl (lv_at hl 1 rfl) ?_
    refine m_get C hM 5 (by decide) q2343 rfl rfl dX6_neededInns_27 ?_
    refine va_callv (va_runS (As := [.ref (adr 1), .ref (adr 5)]) (rest := []) C.fix (met_X6_copies l g F adr i1 a q 1 (by decide) 5 (by decide) ) (cw_X6_55 C.ts ⟨Nat.le_of_ble_eq_true rfl, Nat.le_of_ble_eq_true rfl⟩) (preS_of C (P := (MS g F adr i1 a q)) hS hM _) rfl rfl hl.1 rfl (lv_room (Nat.le_of_ble_eq_true rfl)) dX6_neededInns_30 ⟨Nat.le_of_ble_eq_true rfl, Nat.le_of_ble_eq_true rfl⟩) hS (fun _ _ h => h) (fun _ h => h) (fun z_u t H locs ht _ hw1 hB _ _ hS => ?_)
    obtain ⟨i5, a6, q7⟩ := z_u
    have hM : MS g F adr i5 a6 q7 H := by rw [← ht]; exact hB
    have hw := hw i5 a6 q7 hw1
    refine lv_iconst (v := 0) hx hb dX6_neededInns_33 (by decide) ?_
    refine lv_istore (lv' := [(4, .int 0), (3, .int 0), (0, .ref (adr 0)), (1, .int x), (2, .int y)]) hx hb dX6_neededInns_34 hl (by decide) rfl (fun ls hl => ?_)
    obtain ⟨n, hw⟩ := hw
    exact wkb_X6_neededInns_36 C post x y  n i5 a6 q7 0 0 hw _ _ hM hS _ (lv_sub hl [2, 3, 4, 1, 0] rfl)
  · have hw := hw.2 c3
    refine lv_aload_n hx hb dX6_neededInns_14 rfl (lv_at hl 0 rfl) ?_
    refine lv_iconst (v := 1) hx hb dX6_neededInns_15 (by decide) ?_
    refine va_calli (va_runV (As := [.int 1]) (rest := []) C.fix (met_X6_fails l g F adr i1 a q 1 ) (cw_X6_136 C.ts ⟨Nat.le_of_ble_eq_true rfl, Nat.le_of_ble_eq_true rfl⟩) (preV_of C (P := (MS g F adr i1 a q)) (MS.recv C hM) hS hM _) rfl rfl hl.1 rfl (lv_room (Nat.le_of_ble_eq_true rfl)) dX6_neededInns_16 ⟨Nat.le_of_ble_eq_true rfl, Nat.le_of_ble_eq_true rfl⟩) hS (fun _ _ h => h) (fun _ h => h) (fun r8 z_u t H locs ht _ hw1 hB _ _ hS => ?_)
    obtain ⟨i9, a10, q11⟩ := z_u
    have hM : MS g F adr i9 a10 q11 H := by rw [← ht]; exact hB
    have hw := hw r8 i9 a10 q11 hw1
    exact W.iret (v := r8) hx hb hr (fun t ht _ => ⟨⟨r8, (i9, a10, q11), rfl, hw, hM.at ht⟩, hS.F ht⟩) hS.2.2 dX6_neededInns_19
set_option maxHeartbeats 4000000 in
theorem met_X6_neededInns (l : Launch) (g : gG) (F : nM) (adr : Nat → Nat) (i : Nat → Int32) (a : Nat → Nat → Int32) (q : Nat → Nat) (x : Int32) (y : Int32) (hpre : pre_X6_neededInns i a q x y) : Met l yX6_neededInns (ws_ yX6_neededInns cX6_neededInns 5 (some .int)) rm_X6_neededInns (va_Pc [.ref (adr 0), .int x, .int y] (Pg g (MS g F adr i a q))) (va_Qi (fun r u => post_X6_neededInns i a q x y r u) (fun u t => MS g F adr u.1 u.2.1 u.2.2 t.heap) (Ag g)) 0 0 (Ag g) :=
  wk_X6_neededInns l g F adr i a q x y _ (pr_X6_neededInns i a q x y hpre)

abbrev rm_X6_reachableInns : Room := ({ frames := 5, cells := 0, slots := 0, locals := 320 } : Room)
set_option maxHeartbeats 4000000 in
theorem wkb_X6_reachableInns_63 (C : Cx p s m args meth c cX6_reachableInns 4 RX6 (some .int) g) (post : Int32 → MSt → Prop)  (x : Int32)(K26 : (Nat → Int32) → (Nat → Nat → Int32) → (Nat → Nat) → Int32 → Int32 → Prop) (hK26 : ∀ (i : Nat → Int32) (a : Nat → Nat → Int32) (q : Nat → Nat) (y2 : Int32) (y3 : Int32), K26 i a q y2 y3 → ∀ (H : Heap) (locs : List Loc), MS g F adr i a q H → va_S (Ag g) s.heap H locs → ∀ ls : Array Slot, lv_has ls 4 [(0, .ref (adr 0)), (1, .int x), (2, .int y2), (3, .int y3)] → W p l e rm_X6_reachableInns s m args below meth c H locs 0 0 (MQ below (va_Qi post (fun u t => MS g F adr u.1 u.2.1 u.2.2 t.heap) (Ag g)) args s 0 0 (Ag g)) (F0 m 26 ls [])) (i : Nat → Int32) (a : Nat → Nat → Int32) (q : Nat → Nat) (x3 : Int32) (s0 : Int32) (s1 : Int32) (hw : wpb_X6_reachableInns_63 post K26 x i a q x3 s0 s1) {H : Heap} {locs : List Loc} (hM : MS g F adr i a q H) (hS : va_S (Ag g) s.heap H locs) {ls : Array Slot} (hl : lv_has ls 4 [(0, .ref (adr 0)), (1, .int x), (3, .int x3)]) : W p l e rm_X6_reachableInns s m args below meth c H locs 0 0 (MQ below (va_Qi post (fun u t => MS g F adr u.1 u.2.1 u.2.2 t.heap) (Ag g)) args s 0 0 (Ag g)) (F0 m 63 ls [.int s0, .int s1]) := by
  have hx := C.1
  have hb := C.2.1
  have hown := C.2.2.2.1
  have hr := C.2.2.2.2.2.1
  have hlocks := C.2.2.2.2.2.2.1
  refine lv_iadd hx hb dX6_reachableInns_63 ?_
  refine lv_topi (fun z15 ez15 => ?_)
  have hw := hw z15 ez15
  refine lv_istore_n (lv' := [(2, .int z15), (0, .ref (adr 0)), (1, .int x), (3, .int x3)]) hx hb dX6_reachableInns_64 rfl hl (by decide) rfl (fun ls hl => ?_)
  obtain ⟨z16, ez16⟩ : ∃ y : Int32, y = x3 + 1 := ⟨_, rfl⟩
  have hw := hw z16 ez16
  refine lv_iinc (v := z16) (lv' := [(3, .int z16), (2, .int z15), (0, .ref (adr 0)), (1, .int x)]) hx hb dX6_reachableInns_65 hl (k := 3) rfl (by rw [ez16]; rfl) (by decide) rfl (fun ls hl => ?_)
  refine lv_goto (tgt := 26) hx hb dX6_reachableInns_68 (by decide) ?_
  exact hK26 i a q z15 z16 hw _ _ hM hS _ (lv_sub hl [2, 3, 1, 0] rfl)
set_option maxHeartbeats 4000000 in
theorem wkb_X6_reachableInns_62 (C : Cx p s m args meth c cX6_reachableInns 4 RX6 (some .int) g) (post : Int32 → MSt → Prop)  (x : Int32)(K26 : (Nat → Int32) → (Nat → Nat → Int32) → (Nat → Nat) → Int32 → Int32 → Prop) (hK26 : ∀ (i : Nat → Int32) (a : Nat → Nat → Int32) (q : Nat → Nat) (y2 : Int32) (y3 : Int32), K26 i a q y2 y3 → ∀ (H : Heap) (locs : List Loc), MS g F adr i a q H → va_S (Ag g) s.heap H locs → ∀ ls : Array Slot, lv_has ls 4 [(0, .ref (adr 0)), (1, .int x), (2, .int y2), (3, .int y3)] → W p l e rm_X6_reachableInns s m args below meth c H locs 0 0 (MQ below (va_Qi post (fun u t => MS g F adr u.1 u.2.1 u.2.2 t.heap) (Ag g)) args s 0 0 (Ag g)) (F0 m 26 ls [])) (i : Nat → Int32) (a : Nat → Nat → Int32) (q : Nat → Nat) (x3 : Int32) (s0 : Int32) (hw : wpb_X6_reachableInns_62 post K26 x i a q x3 s0) {H : Heap} {locs : List Loc} (hM : MS g F adr i a q H) (hS : va_S (Ag g) s.heap H locs) {ls : Array Slot} (hl : lv_has ls 4 [(0, .ref (adr 0)), (1, .int x), (3, .int x3)]) : W p l e rm_X6_reachableInns s m args below meth c H locs 0 0 (MQ below (va_Qi post (fun u t => MS g F adr u.1 u.2.1 u.2.2 t.heap) (Ag g)) args s 0 0 (Ag g)) (F0 m 62 ls [.int s0]) := by
  have hx := C.1
  have hb := C.2.1
  have hown := C.2.2.2.1
  have hr := C.2.2.2.2.2.1
  have hlocks := C.2.2.2.2.2.2.1
  refine lv_iconst (v := 0) hx hb dX6_reachableInns_62 (by decide) ?_
  exact wkb_X6_reachableInns_63 C post x K26 hK26 i a q x3 0 s0 hw hM hS (lv_sub hl [0, 1, 2] rfl)
set_option maxHeartbeats 4000000 in
theorem wkb_X6_reachableInns_26 (C : Cx p s m args meth c cX6_reachableInns 4 RX6 (some .int) g) (post : Int32 → MSt → Prop)  (x : Int32) : ∀ (n : Nat) (i : Nat → Int32) (a : Nat → Nat → Int32) (q : Nat → Nat) (x2 : Int32) (x3 : Int32), wpb_X6_reachableInns_26 post  x n i a q x2 x3 → ∀ (H : Heap) (locs : List Loc), MS g F adr i a q H → va_S (Ag g) s.heap H locs → ∀ ls : Array Slot, lv_has ls 4 [(0, .ref (adr 0)), (1, .int x), (2, .int x2), (3, .int x3)] → W p l e rm_X6_reachableInns s m args below meth c H locs 0 0 (MQ below (va_Qi post (fun u t => MS g F adr u.1 u.2.1 u.2.2 t.heap) (Ag g)) args s 0 0 (Ag g)) (F0 m 26 ls []) := by
  have hx := C.1
  have hb := C.2.1
  have hown := C.2.2.2.1
  have hr := C.2.2.2.2.2.1
  have hlocks := C.2.2.2.2.2.2.1
  intro n
  induction n with
  | zero =>
    intro i a q x2 x3 hw
    exact hw.elim
  | succ n ih =>
    intro i a q x2 x3 hw H locs hM hS ls hl
    refine lv_iload_n hx hb dX6_reachableInns_26 rfl (lv_at hl 3 rfl) ?_
    refine lv_bipush (v := 12) hx hb dX6_reachableInns_27 (by decide) ?_
    refine lv_icmp_ge (tgt := 71) hx hb dX6_reachableInns_29 (by decide) (fun c8 => ?_) (fun c8 => ?_)
    · have hw := hw.1 c8
      refine lv_iload_n hx hb dX6_reachableInns_71 rfl (lv_at hl 2 rfl) ?_
      exact W.iret (v := x2) hx hb hr (fun t ht _ => ⟨⟨x2, (i, a, q), rfl, hw, hM.at ht⟩, hS.F ht⟩) hS.2.2 dX6_reachableInns_72
    · have hw := hw.2 c8
      refine lv_iload_n hx hb dX6_reachableInns_32 rfl (lv_at hl 2 rfl) ?_
      refine lv_aload_n hx hb dX6_reachableInns_33 rfl (lv_at hl 0 rfl) ?_
      refine m_get C hM 1 (by decide) q2339 rfl rfl dX6_reachableInns_34 ?_
      refine lv_iconst (v := 3) hx hb dX6_reachableInns_37 (by decide) ?_
      refine lv_iload_n hx hb dX6_reachableInns_38 rfl (lv_at hl 3 rfl) ?_
      refine lv_iadd hx hb dX6_reachableInns_39 ?_
      refine m_ald C hM (j := 1) rfl hw.1 dX6_reachableInns_40 ?_
      have hw := hw.2
      refine lv_iconst (v := 1) hx hb dX6_reachableInns_41 (by decide) ?_
      refine lv_icmp_ne (tgt := 62) hx hb dX6_reachableInns_42 (by decide) (fun c9 => ?_) (fun c9 => ?_)
      · have hw := hw.1 c9
        exact wkb_X6_reachableInns_62 C post x (wpb_X6_reachableInns_26 post  x n) ih i a q x3 x2 hw hM hS (lv_sub hl [0, 1, 3] rfl)
      · have hw := hw.2 c9
        refine lv_aload_n hx hb dX6_reachableInns_45 rfl (lv_at hl 0 rfl) ?_
        refine lv_aload_n hx hb dX6_reachableInns_46 rfl (lv_at hl 0 rfl) ?_
        refine m_get C hM 1 (by decide) q2339 rfl rfl dX6_reachableInns_47 ?_
        refine lv_iload_n hx hb dX6_reachableInns_50 rfl (lv_at hl 1 rfl) ?_
        refine lv_iload_n hx hb dX6_reachableInns_51 rfl (lv_at hl 3 rfl) ?_
        refine va_calli (va_runV (As := [.ref (adr 1), .int x, .int x3]) (rest := [.int x2]) C.fix (met_X6_rides l g F adr i a q 1 (by decide) x x3 hw.1) (cw_X6_267 C.ts ⟨Nat.le_of_ble_eq_true rfl, Nat.le_of_ble_eq_true rfl⟩) (preV_of C (P := (MS g F adr i a q)) (MS.recv C hM) hS hM _) rfl rfl hl.1 rfl (lv_room (Nat.le_of_ble_eq_true rfl)) dX6_reachableInns_52 ⟨Nat.le_of_ble_eq_true rfl, Nat.le_of_ble_eq_true rfl⟩) hS (fun _ _ h => h) (fun _ h => h) (fun r10 z_u t H locs ht _ hw1 hB _ _ hS => ?_)
        obtain ⟨i11, a12, q13⟩ := z_u
        have hM : MS g F adr i11 a12 q13 H := by rw [← ht]; exact hB
        have hw := hw.2 r10 i11 a12 q13 hw1
        refine lv_if_eq (tgt := 62) hx hb dX6_reachableInns_55 (by decide) (fun c14 => ?_) (fun c14 => ?_)
        · have hw := hw.1 c14
          exact wkb_X6_reachableInns_62 C post x (wpb_X6_reachableInns_26 post  x n) ih i11 a12 q13 x3 x2 hw hM hS (lv_sub hl [0, 1, 3] rfl)
        · have hw := hw.2 c14
          refine lv_iconst (v := 1) hx hb dX6_reachableInns_58 (by decide) ?_
          refine lv_goto (tgt := 63) hx hb dX6_reachableInns_59 (by decide) ?_
          exact wkb_X6_reachableInns_63 C post x (wpb_X6_reachableInns_26 post  x n) ih i11 a12 q13 x3 1 x2 hw hM hS (lv_sub hl [0, 1, 3] rfl)
set_option maxHeartbeats 4000000 in
theorem wk_X6_reachableInns (l : Launch) (g : gG) (F : nM) (adr : Nat → Nat) (i : Nat → Int32) (a : Nat → Nat → Int32) (q : Nat → Nat) (x : Int32) (post : Int32 → MSt → Prop) (hw : wp_X6_reachableInns post i a q x) : Met l yX6_reachableInns (ws_ yX6_reachableInns cX6_reachableInns 4 (some .int)) rm_X6_reachableInns (va_Pc [.ref (adr 0), .int x] (Pg g (MS g F adr i a q))) (va_Qi post (fun u t => MS g F adr u.1 u.2.1 u.2.2 t.heap) (Ag g)) 0 0 (Ag g) := by
  refine Met.ofW (cc := cX6_reachableInns) (maxL := 4) (ret := (some .int)) (by decide) rfl ?_
  intro p e s m args below meth c s₁ B hml hv
  obtain ⟨rfl, hG, hM⟩ := hv
  have C : Cx p s m _ meth c cX6_reachableInns 4 RX6 (some .int) g := Cx.of B hml hG
  have hx := C.1
  have hb := C.2.1
  have hown := C.2.2.2.1
  have hr := C.2.2.2.2.2.1
  have hlocks := C.2.2.2.2.2.2.1
  have hS : va_S (Ag g) s.heap s.heap [] := va_S.rf
  refine lv_start ([.ref (adr 0), .int x] : List Value) (L := [(0, .ref (adr 0)), (1, .int x)]) (Nat.le_of_ble_eq_true rfl) rfl (fun ls hl => ?_)
  refine lv_aload_n hx hb dX6_reachableInns_0 rfl (lv_at hl 0 rfl) ?_
  refine lv_iconst (v := 0) hx hb dX6_reachableInns_1 (by decide) ?_
  refine m_put C hM hS 0 rfl q2338 rfl rfl rfl dX6_reachableInns_2 (fun i1 H locs ei1 hM hS => ?_)
  have hw := hw i1 ei1
  refine lv_aload_n hx hb dX6_reachableInns_5 rfl (lv_at hl 0 rfl) ?_
  refine m_get C hM 1 (by decide) q2339 rfl rfl dX6_reachableInns_6 ?_
  refine lv_iload_n hx hb dX6_reachableInns_9 rfl (lv_at hl 1 rfl) ?_
  refine vp_callSi (va_runS (As := [.ref (adr 1), .int x]) (rest := []) C.fix (met_X6_hasInnAt l g F adr i1 a q 1 (by decide) x ) (cw_X6_85 C.ts ⟨Nat.le_of_ble_eq_true rfl, Nat.le_of_ble_eq_true rfl⟩) (preS_of C (P := (MS g F adr i1 a q)) hS hM _) rfl rfl hl.1 rfl (lv_room (Nat.le_of_ble_eq_true rfl)) dX6_reachableInns_10 ⟨Nat.le_of_ble_eq_true rfl, Nat.le_of_ble_eq_true rfl⟩).run (fun r2 er2 => ?_)
  have hw := hw r2 er2
  refine lv_if_ne (tgt := 22) hx hb dX6_reachableInns_13 (by decide) (fun c3 => ?_) (fun c3 => ?_)
  · have hw := hw.1 c3
    refine lv_iconst (v := 0) hx hb dX6_reachableInns_22 (by decide) ?_
    refine lv_istore_n (lv' := [(2, .int 0), (0, .ref (adr 0)), (1, .int x)]) hx hb dX6_reachableInns_23 rfl hl (by decide) rfl (fun ls hl => ?_)
    refine lv_iconst (v := 0) hx hb dX6_reachableInns_24 (by decide) ?_
    refine lv_istore_n (lv' := [(3, .int 0), (2, .int 0), (0, .ref (adr 0)), (1, .int x)]) hx hb dX6_reachableInns_25 rfl hl (by decide) rfl (fun ls hl => ?_)
    obtain ⟨n, hw⟩ := hw
    exact wkb_X6_reachableInns_26 C post x  n i1 a q 0 0 hw _ _ hM hS _ (lv_sub hl [2, 3, 1, 0] rfl)
  · have hw := hw.2 c3
    refine lv_aload_n hx hb dX6_reachableInns_16 rfl (lv_at hl 0 rfl) ?_
    refine lv_iconst (v := 1) hx hb dX6_reachableInns_17 (by decide) ?_
    refine va_calli (va_runV (As := [.int 1]) (rest := []) C.fix (met_X6_fails l g F adr i1 a q 1 ) (cw_X6_136 C.ts ⟨Nat.le_of_ble_eq_true rfl, Nat.le_of_ble_eq_true rfl⟩) (preV_of C (P := (MS g F adr i1 a q)) (MS.recv C hM) hS hM _) rfl rfl hl.1 rfl (lv_room (Nat.le_of_ble_eq_true rfl)) dX6_reachableInns_18 ⟨Nat.le_of_ble_eq_true rfl, Nat.le_of_ble_eq_true rfl⟩) hS (fun _ _ h => h) (fun _ h => h) (fun r4 z_u t H locs ht _ hw1 hB _ _ hS => ?_)
    obtain ⟨i5, a6, q7⟩ := z_u
    have hM : MS g F adr i5 a6 q7 H := by rw [← ht]; exact hB
    have hw := hw r4 i5 a6 q7 hw1
    exact W.iret (v := r4) hx hb hr (fun t ht _ => ⟨⟨r4, (i5, a6, q7), rfl, hw, hM.at ht⟩, hS.F ht⟩) hS.2.2 dX6_reachableInns_21
set_option maxHeartbeats 4000000 in
theorem met_X6_reachableInns (l : Launch) (g : gG) (F : nM) (adr : Nat → Nat) (i : Nat → Int32) (a : Nat → Nat → Int32) (q : Nat → Nat) (x : Int32) (hpre : pre_X6_reachableInns i a q x) : Met l yX6_reachableInns (ws_ yX6_reachableInns cX6_reachableInns 4 (some .int)) rm_X6_reachableInns (va_Pc [.ref (adr 0), .int x] (Pg g (MS g F adr i a q))) (va_Qi (fun r u => post_X6_reachableInns i a q x r u) (fun u t => MS g F adr u.1 u.2.1 u.2.2 t.heap) (Ag g)) 0 0 (Ag g) :=
  wk_X6_reachableInns l g F adr i a q x _ (pr_X6_reachableInns i a q x hpre)
end
