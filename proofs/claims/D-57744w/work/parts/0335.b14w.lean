set_option maxRecDepth 100000

section
variable {p : Program} {l : Launch} {e : Env} {s : State} {m : MethodId} {args : Array Value} {below : List Frame} {meth : Method} {c : Code} {g : gG} {F : nM} {adr : Nat → Nat}
abbrev rm_X6_nearestOpenInn : Room := ({ frames := 3, cells := 0, slots := 0, locals := 192 } : Room)
set_option maxHeartbeats 4000000 in
theorem wkb_X6_nearestOpenInn_130 (C : Cx p s m args meth c cX6_nearestOpenInn 5 RX6 (some .int) g) (post : Int32 → MSt → Prop)  (x : Int32)(K26 : (Nat → Int32) → (Nat → Nat → Int32) → (Nat → Nat) → Int32 → Int32 → Prop) (hK26 : ∀ (i : Nat → Int32) (a : Nat → Nat → Int32) (q : Nat → Nat) (y2 : Int32) (y3 : Int32), K26 i a q y2 y3 → ∀ (H : Heap) (locs : List Loc), MS g F adr i a q H → va_S (Ag g) s.heap H locs → ∀ ls : Array Slot, lv_has ls 5 [(0, .ref (adr 0)), (1, .int x), (2, .int y2), (3, .int y3)] → W p l e rm_X6_nearestOpenInn s m args below meth c H locs 0 0 (MQ below (va_Qi post (fun u t => MS g F adr u.1 u.2.1 u.2.2 t.heap) (Ag g)) args s 0 0 (Ag g)) (F0 m 26 ls [])) (i : Nat → Int32) (a : Nat → Nat → Int32) (q : Nat → Nat) (x2 : Int32) (x3 : Int32) (hw : wpb_X6_nearestOpenInn_130 post K26 x i a q x2 x3) {H : Heap} {locs : List Loc} (hM : MS g F adr i a q H) (hS : va_S (Ag g) s.heap H locs) {ls : Array Slot} (hl : lv_has ls 5 [(0, .ref (adr 0)), (1, .int x), (2, .int x2), (3, .int x3)]) : W p l e rm_X6_nearestOpenInn s m args below meth c H locs 0 0 (MQ below (va_Qi post (fun u t => MS g F adr u.1 u.2.1 u.2.2 t.heap) (Ag g)) args s 0 0 (Ag g)) (F0 m 130 ls []) := by
  have hx := C.1
  have hb := C.2.1
  have hown := C.2.2.2.1
  have hr := C.2.2.2.2.2.1
  have hlocks := C.2.2.2.2.2.2.1
  obtain ⟨z15, ez15⟩ : ∃ y : Int32, y = x3 + 1 := ⟨_, rfl⟩
  have hw := hw z15 ez15
  refine lv_iinc (v := z15) (lv' := [(3, .int z15), (0, .ref (adr 0)), (1, .int x), (2, .int x2)]) hx hb dX6_nearestOpenInn_130 hl (k := 3) rfl (by rw [ez15]; rfl) (by decide) rfl (fun ls hl => ?_)
  refine lv_goto (tgt := 26) hx hb dX6_nearestOpenInn_133 (by decide) ?_
  exact hK26 i a q x2 z15 hw _ _ hM hS _ (lv_sub hl [1, 2, 3, 0] rfl)
set_option maxHeartbeats 4000000 in
theorem wkb_X6_nearestOpenInn_129 (C : Cx p s m args meth c cX6_nearestOpenInn 5 RX6 (some .int) g) (post : Int32 → MSt → Prop)  (x : Int32)(K26 : (Nat → Int32) → (Nat → Nat → Int32) → (Nat → Nat) → Int32 → Int32 → Prop) (hK26 : ∀ (i : Nat → Int32) (a : Nat → Nat → Int32) (q : Nat → Nat) (y2 : Int32) (y3 : Int32), K26 i a q y2 y3 → ∀ (H : Heap) (locs : List Loc), MS g F adr i a q H → va_S (Ag g) s.heap H locs → ∀ ls : Array Slot, lv_has ls 5 [(0, .ref (adr 0)), (1, .int x), (2, .int y2), (3, .int y3)] → W p l e rm_X6_nearestOpenInn s m args below meth c H locs 0 0 (MQ below (va_Qi post (fun u t => MS g F adr u.1 u.2.1 u.2.2 t.heap) (Ag g)) args s 0 0 (Ag g)) (F0 m 26 ls [])) (i : Nat → Int32) (a : Nat → Nat → Int32) (q : Nat → Nat) (x3 : Int32) (s0 : Int32) (hw : wpb_X6_nearestOpenInn_129 post K26 x i a q x3 s0) {H : Heap} {locs : List Loc} (hM : MS g F adr i a q H) (hS : va_S (Ag g) s.heap H locs) {ls : Array Slot} (hl : lv_has ls 5 [(0, .ref (adr 0)), (1, .int x), (3, .int x3)]) : W p l e rm_X6_nearestOpenInn s m args below meth c H locs 0 0 (MQ below (va_Qi post (fun u t => MS g F adr u.1 u.2.1 u.2.2 t.heap) (Ag g)) args s 0 0 (Ag g)) (F0 m 129 ls [.int s0]) := by
  have hx := C.1
  have hb := C.2.1
  have hown := C.2.2.2.1
  have hr := C.2.2.2.2.2.1
  have hlocks := C.2.2.2.2.2.2.1
  refine lv_istore_n (lv' := [(2, .int s0), (0, .ref (adr 0)), (1, .int x), (3, .int x3)]) hx hb dX6_nearestOpenInn_129 rfl hl (by decide) rfl (fun ls hl => ?_)
  exact wkb_X6_nearestOpenInn_130 C post x K26 hK26 i a q s0 x3 hw hM hS (lv_sub hl [1, 2, 0, 3] rfl)
set_option maxHeartbeats 4000000 in
theorem wkb_X6_nearestOpenInn_128 (C : Cx p s m args meth c cX6_nearestOpenInn 5 RX6 (some .int) g) (post : Int32 → MSt → Prop)  (x : Int32)(K26 : (Nat → Int32) → (Nat → Nat → Int32) → (Nat → Nat) → Int32 → Int32 → Prop) (hK26 : ∀ (i : Nat → Int32) (a : Nat → Nat → Int32) (q : Nat → Nat) (y2 : Int32) (y3 : Int32), K26 i a q y2 y3 → ∀ (H : Heap) (locs : List Loc), MS g F adr i a q H → va_S (Ag g) s.heap H locs → ∀ ls : Array Slot, lv_has ls 5 [(0, .ref (adr 0)), (1, .int x), (2, .int y2), (3, .int y3)] → W p l e rm_X6_nearestOpenInn s m args below meth c H locs 0 0 (MQ below (va_Qi post (fun u t => MS g F adr u.1 u.2.1 u.2.2 t.heap) (Ag g)) args s 0 0 (Ag g)) (F0 m 26 ls [])) (i : Nat → Int32) (a : Nat → Nat → Int32) (q : Nat → Nat) (x2 : Int32) (x3 : Int32) (hw : wpb_X6_nearestOpenInn_128 post K26 x i a q x2 x3) {H : Heap} {locs : List Loc} (hM : MS g F adr i a q H) (hS : va_S (Ag g) s.heap H locs) {ls : Array Slot} (hl : lv_has ls 5 [(0, .ref (adr 0)), (1, .int x), (2, .int x2), (3, .int x3)]) : W p l e rm_X6_nearestOpenInn s m args below meth c H locs 0 0 (MQ below (va_Qi post (fun u t => MS g F adr u.1 u.2.1 u.2.2 t.heap) (Ag g)) args s 0 0 (Ag g)) (F0 m 128 ls []) := by
  have hx := C.1
  have hb := C.2.1
  have hown := C.2.2.2.1
  have hr := C.2.2.2.2.2.1
  have hlocks := C.2.2.2.2.2.2.1
  refine lv_iload_n hx hb dX6_nearestOpenInn_128 rfl (lv_at hl 2 rfl) ?_
  exact wkb_X6_nearestOpenInn_129 C post x K26 hK26 i a q x3 x2 hw hM hS (lv_sub hl [0, 1, 3] rfl)
set_option maxHeartbeats 4000000 in
theorem wkb_X6_nearestOpenInn_124 (C : Cx p s m args meth c cX6_nearestOpenInn 5 RX6 (some .int) g) (post : Int32 → MSt → Prop)  (x : Int32)(K26 : (Nat → Int32) → (Nat → Nat → Int32) → (Nat → Nat) → Int32 → Int32 → Prop) (hK26 : ∀ (i : Nat → Int32) (a : Nat → Nat → Int32) (q : Nat → Nat) (y2 : Int32) (y3 : Int32), K26 i a q y2 y3 → ∀ (H : Heap) (locs : List Loc), MS g F adr i a q H → va_S (Ag g) s.heap H locs → ∀ ls : Array Slot, lv_has ls 5 [(0, .ref (adr 0)), (1, .int x), (2, .int y2), (3, .int y3)] → W p l e rm_X6_nearestOpenInn s m args below meth c H locs 0 0 (MQ below (va_Qi post (fun u t => MS g F adr u.1 u.2.1 u.2.2 t.heap) (Ag g)) args s 0 0 (Ag g)) (F0 m 26 ls [])) (i : Nat → Int32) (a : Nat → Nat → Int32) (q : Nat → Nat) (x3 : Int32) (hw : wpb_X6_nearestOpenInn_124 post K26 x i a q x3) {H : Heap} {locs : List Loc} (hM : MS g F adr i a q H) (hS : va_S (Ag g) s.heap H locs) {ls : Array Slot} (hl : lv_has ls 5 [(0, .ref (adr 0)), (1, .int x), (3, .int x3)]) : W p l e rm_X6_nearestOpenInn s m args below meth c H locs 0 0 (MQ below (va_Qi post (fun u t => MS g F adr u.1 u.2.1 u.2.2 t.heap) (Ag g)) args s 0 0 (Ag g)) (F0 m 124 ls []) := by
  have hx := C.1
  have hb := C.2.1
  have hown := C.2.2.2.1
  have hr := C.2.2.2.2.2.1
  have hlocks := C.2.2.2.2.2.2.1
  refine lv_iload_n hx hb dX6_nearestOpenInn_124 rfl (lv_at hl 2 rfl) ?_
  refine lv_goto (tgt := 129) hx hb dX6_nearestOpenInn_125 (by decide) ?_
  exact wkb_X6_nearestOpenInn_129 C post x K26 hK26 i a q x3 x3 hw hM hS (lv_sub hl [0, 1, 2] rfl)
set_option maxHeartbeats 4000000 in
theorem wkb_X6_nearestOpenInn_91 (C : Cx p s m args meth c cX6_nearestOpenInn 5 RX6 (some .int) g) (post : Int32 → MSt → Prop)  (x : Int32)(K26 : (Nat → Int32) → (Nat → Nat → Int32) → (Nat → Nat) → Int32 → Int32 → Prop) (hK26 : ∀ (i : Nat → Int32) (a : Nat → Nat → Int32) (q : Nat → Nat) (y2 : Int32) (y3 : Int32), K26 i a q y2 y3 → ∀ (H : Heap) (locs : List Loc), MS g F adr i a q H → va_S (Ag g) s.heap H locs → ∀ ls : Array Slot, lv_has ls 5 [(0, .ref (adr 0)), (1, .int x), (2, .int y2), (3, .int y3)] → W p l e rm_X6_nearestOpenInn s m args below meth c H locs 0 0 (MQ below (va_Qi post (fun u t => MS g F adr u.1 u.2.1 u.2.2 t.heap) (Ag g)) args s 0 0 (Ag g)) (F0 m 26 ls [])) (i : Nat → Int32) (a : Nat → Nat → Int32) (q : Nat → Nat) (x2 : Int32) (x3 : Int32) (s0 : Int32) (hw : wpb_X6_nearestOpenInn_91 post K26 x i a q x2 x3 s0) {H : Heap} {locs : List Loc} (hM : MS g F adr i a q H) (hS : va_S (Ag g) s.heap H locs) {ls : Array Slot} (hl : lv_has ls 5 [(0, .ref (adr 0)), (1, .int x), (2, .int x2), (3, .int x3)]) : W p l e rm_X6_nearestOpenInn s m args below meth c H locs 0 0 (MQ below (va_Qi post (fun u t => MS g F adr u.1 u.2.1 u.2.2 t.heap) (Ag g)) args s 0 0 (Ag g)) (F0 m 91 ls [.int s0]) := by
  have hx := C.1
  have hb := C.2.1
  have hown := C.2.2.2.1
  have hr := C.2.2.2.2.2.1
  have hlocks := C.2.2.2.2.2.2.1
  refine lv_istore (lv' := [(4, .int s0), (0, .ref (adr 0)), (1, .int x), (2, .int x2), (3, .int x3)]) hx hb dX6_nearestOpenInn_91 hl (by decide) rfl (fun ls hl => ?_)
  refine lv_iload hx hb dX6_nearestOpenInn_93 (lv_at hl 0 rfl) ?_
  refine lv_if_gt (tgt := 124) hx hb dX6_nearestOpenInn_95 (by decide) (fun c16 => ?_) (fun c16 => ?_)
  · have hw := hw.1 c16
    exact wkb_X6_nearestOpenInn_124 C post x K26 hK26 i a q x3 hw hM hS (lv_sub hl [1, 2, 4] rfl)
  · have hw := hw.2 c16
    refine lv_iload hx hb dX6_nearestOpenInn_98 (lv_at hl 0 rfl) ?_
    refine lv_if_ne (tgt := 128) hx hb dX6_nearestOpenInn_100 (by decide) (fun c17 => ?_) (fun c17 => ?_)
    · have hw := hw.1 c17
      exact wkb_X6_nearestOpenInn_128 C post x K26 hK26 i a q x2 x3 hw hM hS (lv_sub hl [1, 2, 3, 4] rfl)
    · have hw := hw.2 c17
      refine lv_aload_n hx hb dX6_nearestOpenInn_103 rfl (lv_at hl 1 rfl) ?_
      refine m_get C hM 1 (by decide) q2339 rfl rfl dX6_nearestOpenInn_104 ?_
      refine lv_bipush (v := 15) hx hb dX6_nearestOpenInn_107 (by decide) ?_
      refine lv_iload_n hx hb dX6_nearestOpenInn_109 rfl (lv_at hl 4 rfl) ?_
      refine lv_iadd hx hb dX6_nearestOpenInn_110 ?_
      refine m_ald C hM (j := 1) rfl hw.1 dX6_nearestOpenInn_111 ?_
      have hw := hw.2
      refine lv_aload_n hx hb dX6_nearestOpenInn_112 rfl (lv_at hl 1 rfl) ?_
      refine m_get C hM 1 (by decide) q2339 rfl rfl dX6_nearestOpenInn_113 ?_
      refine lv_bipush (v := 15) hx hb dX6_nearestOpenInn_116 (by decide) ?_
      refine lv_iload_n hx hb dX6_nearestOpenInn_118 rfl (lv_at hl 3 rfl) ?_
      refine lv_iadd hx hb dX6_nearestOpenInn_119 ?_
      refine m_ald C hM (j := 1) rfl hw.1 dX6_nearestOpenInn_120 ?_
      have hw := hw.2
      refine lv_icmp_ge (tgt := 128) hx hb dX6_nearestOpenInn_121 (by decide) (fun c18 => ?_) (fun c18 => ?_)
      · have hw := hw.1 c18
        exact wkb_X6_nearestOpenInn_128 C post x K26 hK26 i a q x2 x3 hw hM hS (lv_sub hl [1, 2, 3, 4] rfl)
      · have hw := hw.2 c18
        exact wkb_X6_nearestOpenInn_124 C post x K26 hK26 i a q x3 hw hM hS (lv_sub hl [1, 2, 4] rfl)
set_option maxHeartbeats 4000000 in
theorem wkb_X6_nearestOpenInn_26 (C : Cx p s m args meth c cX6_nearestOpenInn 5 RX6 (some .int) g) (post : Int32 → MSt → Prop)  (x : Int32) : ∀ (n : Nat) (i : Nat → Int32) (a : Nat → Nat → Int32) (q : Nat → Nat) (x2 : Int32) (x3 : Int32), wpb_X6_nearestOpenInn_26 post  x n i a q x2 x3 → ∀ (H : Heap) (locs : List Loc), MS g F adr i a q H → va_S (Ag g) s.heap H locs → ∀ ls : Array Slot, lv_has ls 5 [(0, .ref (adr 0)), (1, .int x), (2, .int x2), (3, .int x3)] → W p l e rm_X6_nearestOpenInn s m args below meth c H locs 0 0 (MQ below (va_Qi post (fun u t => MS g F adr u.1 u.2.1 u.2.2 t.heap) (Ag g)) args s 0 0 (Ag g)) (F0 m 26 ls []) := by
  have hx := C.1
  have hb := C.2.1
  have hown := C.2.2.2.1
  have hr := C.2.2.2.2.2.1
  have hlocks := C.2.2.2.2.2.2.1
  intro n
  induction n with
  | zero =>
    intro i a q x2 x3 hw
    exact hw.elim
  | succ n ih =>
    intro i a q x2 x3 hw H locs hM hS ls hl
    refine lv_iload_n hx hb dX6_nearestOpenInn_26 rfl (lv_at hl 3 rfl) ?_
    refine lv_bipush (v := 12) hx hb dX6_nearestOpenInn_27 (by decide) ?_
    refine lv_icmp_ge (tgt := 136) hx hb dX6_nearestOpenInn_29 (by decide) (fun c8 => ?_) (fun c8 => ?_)
    · have hw := hw.1 c8
      refine lv_iload_n hx hb dX6_nearestOpenInn_136 rfl (lv_at hl 2 rfl) ?_
      exact W.iret (v := x2) hx hb hr (fun t ht _ => ⟨⟨x2, (i, a, q), rfl, hw, hM.at ht⟩, hS.F ht⟩) hS.2.2 dX6_nearestOpenInn_137
    · have hw := hw.2 c8
      refine lv_iload_n hx hb dX6_nearestOpenInn_32 rfl (lv_at hl 3 rfl) ?_
      refine lv_iload_n hx hb dX6_nearestOpenInn_33 rfl (lv_at hl 1 rfl) ?_
      refine lv_icmp_eq (tgt := 130) hx hb dX6_nearestOpenInn_34 (by decide) (fun c9 => ?_) (fun c9 => ?_)
      · have hw := hw.1 c9
        exact wkb_X6_nearestOpenInn_130 C post x (wpb_X6_nearestOpenInn_26 post  x n) ih i a q x2 x3 hw hM hS (lv_sub hl [0, 1, 2, 3] rfl)
      · have hw := hw.2 c9
        refine lv_aload_n hx hb dX6_nearestOpenInn_37 rfl (lv_at hl 0 rfl) ?_
        refine m_get C hM 1 (by decide) q2339 rfl rfl dX6_nearestOpenInn_38 ?_
        refine lv_iconst (v := 3) hx hb dX6_nearestOpenInn_41 (by decide) ?_
        refine lv_iload_n hx hb dX6_nearestOpenInn_42 rfl (lv_at hl 3 rfl) ?_
        refine lv_iadd hx hb dX6_nearestOpenInn_43 ?_
        refine m_ald C hM (j := 1) rfl hw.1 dX6_nearestOpenInn_44 ?_
        have hw := hw.2
        refine lv_if_eq (tgt := 130) hx hb dX6_nearestOpenInn_45 (by decide) (fun c10 => ?_) (fun c10 => ?_)
        · have hw := hw.1 c10
          exact wkb_X6_nearestOpenInn_130 C post x (wpb_X6_nearestOpenInn_26 post  x n) ih i a q x2 x3 hw hM hS (lv_sub hl [0, 1, 2, 3] rfl)
        · have hw := hw.2 c10
          refine lv_aload_n hx hb dX6_nearestOpenInn_48 rfl (lv_at hl 0 rfl) ?_
          refine m_get C hM 1 (by decide) q2339 rfl rfl dX6_nearestOpenInn_49 ?_
          refine lv_bipush (v := 27) hx hb dX6_nearestOpenInn_52 (by decide) ?_
          refine lv_iload_n hx hb dX6_nearestOpenInn_54 rfl (lv_at hl 3 rfl) ?_
          refine lv_iadd hx hb dX6_nearestOpenInn_55 ?_
          refine m_ald C hM (j := 1) rfl hw.1 dX6_nearestOpenInn_56 ?_
          have hw := hw.2
          refine lv_if_ne (tgt := 63) hx hb dX6_nearestOpenInn_57 (by decide) (fun c11 => ?_) (fun c11 => ?_)
          · have hw := hw.1 c11
            refine lv_iload_n hx hb dX6_nearestOpenInn_63 rfl (lv_at hl 2 rfl) ?_
            refine lv_iconst (v := (-1)) hx hb dX6_nearestOpenInn_64 (by decide) ?_
            refine lv_icmp_ne (tgt := 72) hx hb dX6_nearestOpenInn_65 (by decide) (fun c12 => ?_) (fun c12 => ?_)
            · have hw := hw.1 c12
              refine lv_aload_n hx hb dX6_nearestOpenInn_72 rfl (lv_at hl 0 rfl) ?_
              refine m_get C hM 1 (by decide) q2339 rfl rfl dX6_nearestOpenInn_73 ?_
              refine lv_iload_n hx hb dX6_nearestOpenInn_76 rfl (lv_at hl 1 rfl) ?_
              refine lv_iload_n hx hb dX6_nearestOpenInn_77 rfl (lv_at hl 2 rfl) ?_
              refine vp_callSi (va_runS (As := [.ref (adr 1), .int x, .int x2]) (rest := []) C.fix (met_X6_stage l g F adr i a q 1 (by decide) x x2 hw.1) (cw_X6_110 C.ts ⟨Nat.le_of_ble_eq_true rfl, Nat.le_of_ble_eq_true rfl⟩) (preS_of C (P := (MS g F adr i a q)) hS hM _) rfl rfl hl.1 rfl (lv_room (Nat.le_of_ble_eq_true rfl)) dX6_nearestOpenInn_78 ⟨Nat.le_of_ble_eq_true rfl, Nat.le_of_ble_eq_true rfl⟩).run (fun r13 er13 => ?_)
              have hw := hw.2 r13 er13
              refine lv_aload_n hx hb dX6_nearestOpenInn_81 rfl (lv_at hl 0 rfl) ?_
              refine m_get C hM 1 (by decide) q2339 rfl rfl dX6_nearestOpenInn_82 ?_
              refine lv_iload_n hx hb dX6_nearestOpenInn_85 rfl (lv_at hl 1 rfl) ?_
              refine lv_iload_n hx hb dX6_nearestOpenInn_86 rfl (lv_at hl 3 rfl) ?_
              refine vp_callSi (va_runS (As := [.ref (adr 1), .int x, .int x3]) (rest := [.int r13]) C.fix (met_X6_stage l g F adr i a q 1 (by decide) x x3 hw.1) (cw_X6_110 C.ts ⟨Nat.le_of_ble_eq_true rfl, Nat.le_of_ble_eq_true rfl⟩) (preS_of C (P := (MS g F adr i a q)) hS hM _) rfl rfl hl.1 rfl (lv_room (Nat.le_of_ble_eq_true rfl)) dX6_nearestOpenInn_87 ⟨Nat.le_of_ble_eq_true rfl, Nat.le_of_ble_eq_true rfl⟩).run (fun r14 er14 => ?_)
              have hw := hw.2 r14 er14
              refine lv_isub hx hb dX6_nearestOpenInn_90 ?_
              exact wkb_X6_nearestOpenInn_91 C post x (wpb_X6_nearestOpenInn_26 post  x n) ih i a q x2 x3 (r13 - r14) hw hM hS (lv_sub hl [0, 1, 2, 3] rfl)
            · have hw := hw.2 c12
              refine lv_iconst (v := 1) hx hb dX6_nearestOpenInn_68 (by decide) ?_
              refine lv_goto (tgt := 91) hx hb dX6_nearestOpenInn_69 (by decide) ?_
              exact wkb_X6_nearestOpenInn_91 C post x (wpb_X6_nearestOpenInn_26 post  x n) ih i a q x2 x3 1 hw hM hS (lv_sub hl [0, 1, 2, 3] rfl)
          · have hw := hw.2 c11
            refine lv_goto (tgt := 130) hx hb dX6_nearestOpenInn_60 (by decide) ?_
            exact wkb_X6_nearestOpenInn_130 C post x (wpb_X6_nearestOpenInn_26 post  x n) ih i a q x2 x3 hw hM hS (lv_sub hl [0, 1, 2, 3] rfl)
set_option maxHeartbeats 4000000 in
theorem wk_X6_nearestOpenInn (l : Launch) (g : gG) (F : nM) (adr : Nat → Nat) (i : Nat → Int32) (a : Nat → Nat → Int32) (q : Nat → Nat) (x : Int32) (post : Int32 → MSt → Prop) (hw : wp_X6_nearestOpenInn post i a q x) : Met l yX6_nearestOpenInn (ws_ yX6_nearestOpenInn cX6_nearestOpenInn 5 (some .int)) rm_X6_nearestOpenInn (va_Pc [.ref (adr 0), .int x] (Pg g (MS g F adr i a q))) (va_Qi post (fun u t => MS g F adr u.1 u.2.1 u.2.2 t.heap) (Ag g)) 0 0 (Ag g) := by
  refine Met.ofW (cc := cX6_nearestOpenInn) (maxL := 5) (ret := (some .int)) (by decide) rfl ?_
  intro p e s m args below meth c s₁ B hml hv
  obtain ⟨rfl, hG, hM⟩ := hv
  have C : Cx p s m _ meth c cX6_nearestOpenInn 5 RX6 (some .int) g := Cx.of B hml hG
  have hx := C.1
  have hb := C.2.1
  have hown := C.2.2.2.1
  have hr := C.2.2.2.2.2.1
  have hlocks := C.2.2.2.2.2.2.1
  have hS : va_S (Ag g) s.heap s.heap [] := va_S.rf
  refine lv_start ([.ref (adr 0), .int x] : List Value) (L := [(0, .ref (adr 0)), (1, .int x)]) (Nat.le_of_ble_eq_true rfl) rfl (fun ls hl => ?_)
  refine lv_aload_n hx hb dX6_nearestOpenInn_0 rfl (lv_at hl 0 rfl) ?_
  refine lv_iconst (v := 0) hx hb dX6_nearestOpenInn_1 (by decide) ?_
  refine m_put C hM hS 0 rfl q2338 rfl rfl rfl dX6_nearestOpenInn_2 (fun i1 H locs ei1 hM hS => ?_)
  have hw := hw i1 ei1
  refine lv_aload_n hx hb dX6_nearestOpenInn_5 rfl (lv_at hl 0 rfl) ?_
  refine m_get C hM 1 (by decide) q2339 rfl rfl dX6_nearestOpenInn_6 ?_
  refine lv_iload_n hx hb dX6_nearestOpenInn_9 rfl (lv_at hl 1 rfl) ?_
  refine vp_callSi (va_runS (As := [.ref (adr 1), .int x]) (rest := []) C.fix (met_X6_hasInnAt l g F adr i1 a q 1 (by decide) x ) (cw_X6_85 C.ts ⟨Nat.le_of_ble_eq_true rfl, Nat.le_of_ble_eq_true rfl⟩) (preS_of C (P := (MS g F adr i1 a q)) hS hM _) rfl rfl hl.1 rfl (lv_room (Nat.le_of_ble_eq_true rfl)) dX6_nearestOpenInn_10 ⟨Nat.le_of_ble_eq_true rfl, Nat.le_of_ble_eq_true rfl⟩).run (fun r2 er2 => ?_)
  have hw := hw r2 er2
  refine lv_if_ne (tgt := 22) hx hb dX6_nearestOpenInn_13 (by decide) (fun c3 => ?_) (fun c3 => ?_)
  · have hw := hw.1 c3
    refine lv_iconst (v := (-1)) hx hb dX6_nearestOpenInn_22 (by decide) ?_
    refine lv_istore_n (lv' := [(2, .int (-1)), (0, .ref (adr 0)), (1, .int x)]) hx hb dX6_nearestOpenInn_23 rfl hl (by decide) rfl (fun ls hl => ?_)
    refine lv_iconst (v := 0) hx hb dX6_nearestOpenInn_24 (by decide) ?_
    refine lv_istore_n (lv' := [(3, .int 0), (2, .int (-1)), (0, .ref (adr 0)), (1, .int x)]) hx hb dX6_nearestOpenInn_25 rfl hl (by decide) rfl (fun ls hl => ?_)
    obtain ⟨n, hw⟩ := hw
    exact wkb_X6_nearestOpenInn_26 C post x  n i1 a q (-1) 0 hw _ _ hM hS _ (lv_sub hl [2, 3, 1, 0] rfl)
  · have hw := hw.2 c3
    refine lv_aload_n hx hb dX6_nearestOpenInn_16 rfl (lv_at hl 0 rfl) ?_
    refine lv_iconst (v := 1) hx hb dX6_nearestOpenInn_17 (by decide) ?_
    refine va_calli (va_runV (As := [.int 1]) (rest := []) C.fix (met_X6_fails l g F adr i1 a q 1 ) (cw_X6_136 C.ts ⟨Nat.le_of_ble_eq_true rfl, Nat.le_of_ble_eq_true rfl⟩) (preV_of C (P := (MS g F adr i1 a q)) (MS.recv C hM) hS hM _) rfl rfl hl.1 rfl (lv_room (Nat.le_of_ble_eq_true rfl)) dX6_nearestOpenInn_18 ⟨Nat.le_of_ble_eq_true rfl, Nat.le_of_ble_eq_true rfl⟩) hS (fun _ _ h => h) (fun _ h => h) (fun r4 z_u t H locs ht _ hw1 hB _ _ hS => ?_)
    obtain ⟨i5, a6, q7⟩ := z_u
    have hM : MS g F adr i5 a6 q7 H := by rw [← ht]; exact hB
    have hw := hw r4 i5 a6 q7 hw1
    exact W.iret (v := r4) hx hb hr (fun t ht _ => ⟨⟨r4, (i5, a6, q7), rfl, hw, hM.at ht⟩, hS.F ht⟩) hS.2.2 dX6_nearestOpenInn_21
set_option maxHeartbeats 4000000 in
theorem met_X6_nearestOpenInn (l : Launch) (g : gG) (F : nM) (adr : Nat → Nat) (i : Nat → Int32) (a : Nat → Nat → Int32) (q : Nat → Nat) (x : Int32) (hpre : pre_X6_nearestOpenInn i a q x) : Met l yX6_nearestOpenInn (ws_ yX6_nearestOpenInn cX6_nearestOpenInn 5 (some .int)) rm_X6_nearestOpenInn (va_Pc [.ref (adr 0), .int x] (Pg g (MS g F adr i a q))) (va_Qi (fun r u => post_X6_nearestOpenInn i a q x r u) (fun u t => MS g F adr u.1 u.2.1 u.2.2 t.heap) (Ag g)) 0 0 (Ag g) :=
  wk_X6_nearestOpenInn l g F adr i a q x _ (pr_X6_nearestOpenInn i a q x hpre)

abbrev rm_X6_written : Room := ({ frames := 2, cells := 0, slots := 0, locals := 128 } : Room)
set_option maxHeartbeats 4000000 in
theorem wkb_X6_written_67 (C : Cx p s m args meth c cX6_written 4 RX6 (some .int) g) (post : Int32 → MSt → Prop)  (x : Int32)(K36 : (Nat → Int32) → (Nat → Nat → Int32) → (Nat → Nat) → Int32 → Int32 → Prop) (hK36 : ∀ (i : Nat → Int32) (a : Nat → Nat → Int32) (q : Nat → Nat) (y2 : Int32) (y3 : Int32), K36 i a q y2 y3 → ∀ (H : Heap) (locs : List Loc), MS g F adr i a q H → va_S (Ag g) s.heap H locs → ∀ ls : Array Slot, lv_has ls 4 [(0, .ref (adr 0)), (1, .int x), (2, .int y2), (3, .int y3)] → W p l e rm_X6_written s m args below meth c H locs 0 0 (MQ below (va_Qi post (fun u t => MS g F adr u.1 u.2.1 u.2.2 t.heap) (Ag g)) args s 0 0 (Ag g)) (F0 m 36 ls [])) (i : Nat → Int32) (a : Nat → Nat → Int32) (q : Nat → Nat) (x3 : Int32) (s0 : Int32) (s1 : Int32) (hw : wpb_X6_written_67 post K36 x i a q x3 s0 s1) {H : Heap} {locs : List Loc} (hM : MS g F adr i a q H) (hS : va_S (Ag g) s.heap H locs) {ls : Array Slot} (hl : lv_has ls 4 [(0, .ref (adr 0)), (1, .int x), (3, .int x3)]) : W p l e rm_X6_written s m args below meth c H locs 0 0 (MQ below (va_Qi post (fun u t => MS g F adr u.1 u.2.1 u.2.2 t.heap) (Ag g)) args s 0 0 (Ag g)) (F0 m 67 ls [.int s0, .int s1]) := by
  have hx := C.1
  have hb := C.2.1
  have hown := C.2.2.2.1
  have hr := C.2.2.2.2.2.1
  have hlocks := C.2.2.2.2.2.2.1
  refine lv_ior hx hb dX6_written_67 ?_
  refine lv_topi (fun z7 ez7 => ?_)
  have hw := hw z7 ez7
  refine lv_istore_n (lv' := [(2, .int z7), (0, .ref (adr 0)), (1, .int x), (3, .int x3)]) hx hb dX6_written_68 rfl hl (by decide) rfl (fun ls hl => ?_)
  obtain ⟨z8, ez8⟩ : ∃ y : Int32, y = x3 + 1 := ⟨_, rfl⟩
  have hw := hw z8 ez8
  refine lv_iinc (v := z8) (lv' := [(3, .int z8), (2, .int z7), (0, .ref (adr 0)), (1, .int x)]) hx hb dX6_written_69 hl (k := 3) rfl (by rw [ez8]; rfl) (by decide) rfl (fun ls hl => ?_)
  refine lv_goto (tgt := 36) hx hb dX6_written_72 (by decide) ?_
  exact hK36 i a q z7 z8 hw _ _ hM hS _ (lv_sub hl [2, 3, 1, 0] rfl)
set_option maxHeartbeats 4000000 in
theorem wkb_X6_written_36 (C : Cx p s m args meth c cX6_written 4 RX6 (some .int) g) (post : Int32 → MSt → Prop)  (x : Int32) : ∀ (n : Nat) (i : Nat → Int32) (a : Nat → Nat → Int32) (q : Nat → Nat) (x2 : Int32) (x3 : Int32), wpb_X6_written_36 post  x n i a q x2 x3 → ∀ (H : Heap) (locs : List Loc), MS g F adr i a q H → va_S (Ag g) s.heap H locs → ∀ ls : Array Slot, lv_has ls 4 [(0, .ref (adr 0)), (1, .int x), (2, .int x2), (3, .int x3)] → W p l e rm_X6_written s m args below meth c H locs 0 0 (MQ below (va_Qi post (fun u t => MS g F adr u.1 u.2.1 u.2.2 t.heap) (Ag g)) args s 0 0 (Ag g)) (F0 m 36 ls []) := by
  have hx := C.1
  have hb := C.2.1
  have hown := C.2.2.2.1
  have hr := C.2.2.2.2.2.1
  have hlocks := C.2.2.2.2.2.2.1
  intro n
  induction n with
  | zero =>
    intro i a q x2 x3 hw
    exact hw.elim
  | succ n ih =>
    intro i a q x2 x3 hw H locs hM hS ls hl
    refine lv_iload_n hx hb dX6_written_36 rfl (lv_at hl 3 rfl) ?_
    refine lv_iconst (v := 4) hx hb dX6_written_37 (by decide) ?_
    refine lv_iload_n hx hb dX6_written_38 rfl (lv_at hl 1 rfl) ?_
    refine lv_imul hx hb dX6_written_39 ?_
    refine lv_iconst (v := 4) hx hb dX6_written_40 (by decide) ?_
    refine lv_iadd hx hb dX6_written_41 ?_
    refine lv_icmp_ge (tgt := 75) hx hb dX6_written_42 (by decide) (fun c5 => ?_) (fun c5 => ?_)
    · have hw := hw.1 c5
      refine lv_iload_n hx hb dX6_written_75 rfl (lv_at hl 2 rfl) ?_
      exact W.iret (v := x2) hx hb hr (fun t ht _ => ⟨⟨x2, (i, a, q), rfl, hw, hM.at ht⟩, hS.F ht⟩) hS.2.2 dX6_written_76
    · have hw := hw.2 c5
      refine lv_iload_n hx hb dX6_written_45 rfl (lv_at hl 2 rfl) ?_
      refine lv_bipush (v := 8) hx hb dX6_written_46 (by decide) ?_
      refine lv_ishl hx hb dX6_written_48 ?_
      refine lv_iload_n hx hb dX6_written_49 rfl (lv_at hl 3 rfl) ?_
      refine lv_aload_n hx hb dX6_written_50 rfl (lv_at hl 0 rfl) ?_
      refine m_get C hM 19 (by decide) q2357 rfl rfl dX6_written_51 ?_
      refine lv_icmp_ge (tgt := 66) hx hb dX6_written_54 (by decide) (fun c6 => ?_) (fun c6 => ?_)
      · have hw := hw.1 c6
        refine lv_iconst (v := 0) hx hb dX6_written_66 (by decide) ?_
        exact wkb_X6_written_67 C post x (wpb_X6_written_36 post  x n) ih i a q x3 0 (x2 <<< (8 &&& 31)) hw hM hS (lv_sub hl [0, 1, 3] rfl)
      · have hw := hw.2 c6
        refine lv_aload_n hx hb dX6_written_57 rfl (lv_at hl 0 rfl) ?_
        refine m_get C hM 17 (by decide) q2355 rfl rfl dX6_written_58 ?_
        refine lv_iload_n hx hb dX6_written_61 rfl (lv_at hl 3 rfl) ?_
        refine m_bld C hM (j := 9) rfl hw.1 dX6_written_62 ?_
        have hw := hw.2
        refine lv_goto (tgt := 67) hx hb dX6_written_63 (by decide) ?_
        exact wkb_X6_written_67 C post x (wpb_X6_written_36 post  x n) ih i a q x3 (a 9 x3.toNatClampNeg) (x2 <<< (8 &&& 31)) hw hM hS (lv_sub hl [0, 1, 3] rfl)
set_option maxHeartbeats 4000000 in
theorem wkb_X6_written_24 (C : Cx p s m args meth c cX6_written 4 RX6 (some .int) g) (post : Int32 → MSt → Prop)  (x : Int32) (i : Nat → Int32) (a : Nat → Nat → Int32) (q : Nat → Nat)  (hw : wpb_X6_written_24 post  x i a q ) {H : Heap} {locs : List Loc} (hM : MS g F adr i a q H) (hS : va_S (Ag g) s.heap H locs) {ls : Array Slot} (hl : lv_has ls 4 [(0, .ref (adr 0))]) : W p l e rm_X6_written s m args below meth c H locs 0 0 (MQ below (va_Qi post (fun u t => MS g F adr u.1 u.2.1 u.2.2 t.heap) (Ag g)) args s 0 0 (Ag g)) (F0 m 24 ls []) := by
  have hx := C.1
  have hb := C.2.1
  have hown := C.2.2.2.1
  have hr := C.2.2.2.2.2.1
  have hlocks := C.2.2.2.2.2.2.1
  refine lv_aload_n hx hb dX6_written_24 rfl (lv_at hl 0 rfl) ?_
  refine lv_iconst (v := 1) hx hb dX6_written_25 (by decide) ?_
  refine va_calli (va_runV (As := [.int 1]) (rest := []) C.fix (met_X6_fails l g F adr i a q 1 ) (cw_X6_136 C.ts ⟨Nat.le_of_ble_eq_true rfl, Nat.le_of_ble_eq_true rfl⟩) (preV_of C (P := (MS g F adr i a q)) (MS.recv C hM) hS hM _) rfl rfl hl.1 rfl (lv_room (Nat.le_of_ble_eq_true rfl)) dX6_written_26 ⟨Nat.le_of_ble_eq_true rfl, Nat.le_of_ble_eq_true rfl⟩) hS (fun _ _ h => h) (fun _ h => h) (fun r9 z_u t H locs ht _ hw1 hB _ _ hS => ?_)
  obtain ⟨i10, a11, q12⟩ := z_u
  have hM : MS g F adr i10 a11 q12 H := by rw [← ht]; exact hB
  have hw := hw r9 i10 a11 q12 hw1
  exact W.iret (v := r9) hx hb hr (fun t ht _ => ⟨⟨r9, (i10, a11, q12), rfl, hw, hM.at ht⟩, hS.F ht⟩) hS.2.2 dX6_written_29
set_option maxHeartbeats 4000000 in
theorem wk_X6_written (l : Launch) (g : gG) (F : nM) (adr : Nat → Nat) (i : Nat → Int32) (a : Nat → Nat → Int32) (q : Nat → Nat) (x : Int32) (post : Int32 → MSt → Prop) (hw : wp_X6_written post i a q x) : Met l yX6_written (ws_ yX6_written cX6_written 4 (some .int)) rm_X6_written (va_Pc [.ref (adr 0), .int x] (Pg g (MS g F adr i a q))) (va_Qi post (fun u t => MS g F adr u.1 u.2.1 u.2.2 t.heap) (Ag g)) 0 0 (Ag g) := by
  refine Met.ofW (cc := cX6_written) (maxL := 4) (ret := (some .int)) (by decide) rfl ?_
  intro p e s m args below meth c s₁ B hml hv
  obtain ⟨rfl, hG, hM⟩ := hv
  have C : Cx p s m _ meth c cX6_written 4 RX6 (some .int) g := Cx.of B hml hG
  have hx := C.1
  have hb := C.2.1
  have hown := C.2.2.2.1
  have hr := C.2.2.2.2.2.1
  have hlocks := C.2.2.2.2.2.2.1
  have hS : va_S (Ag g) s.heap s.heap [] := va_S.rf
  refine lv_start ([.ref (adr 0), .int x] : List Value) (L := [(0, .ref (adr 0)), (1, .int x)]) (Nat.le_of_ble_eq_true rfl) rfl (fun ls hl => ?_)
  refine lv_aload_n hx hb dX6_written_0 rfl (lv_at hl 0 rfl) ?_
  refine lv_iconst (v := 0) hx hb dX6_written_1 (by decide) ?_
  refine m_put C hM hS 0 rfl q2338 rfl rfl rfl dX6_written_2 (fun i1 H locs ei1 hM hS => ?_)
  have hw := hw i1 ei1
  refine lv_iload_n hx hb dX6_written_5 rfl (lv_at hl 1 rfl) ?_
  refine lv_if_lt (tgt := 24) hx hb dX6_written_6 (by decide) (fun c2 => ?_) (fun c2 => ?_)
  · have hw := hw.1 c2
    exact wkb_X6_written_24 C post x  i1 a q hw hM hS (lv_sub hl [0] rfl)
  · have hw := hw.2 c2
    refine lv_ldc2 (v := 4) hx hb hown (C.ts _ q2885) dX6_written_9 ?_
    refine lv_iload_n hx hb dX6_written_12 rfl (lv_at hl 1 rfl) ?_
    refine lv_i2l hx hb dX6_written_13 rfl ?_
    refine lv_lmul hx hb dX6_written_14 ?_
    refine lv_aload_n hx hb dX6_written_15 rfl (lv_at hl 0 rfl) ?_
    refine m_get C hM 19 (by decide) q2357 rfl rfl dX6_written_16 ?_
    refine lv_i2l hx hb dX6_written_19 rfl ?_
    refine W.lcmp hx hb dX6_written_20 ?_
    refine lv_if_lt (tgt := 30) hx hb dX6_written_21 (by decide) (fun c3 => ?_) (fun c3 => ?_)
    · have hw := hw.1 c3
      refine lv_iconst (v := 0) hx hb dX6_written_30 (by decide) ?_
      refine lv_istore_n (lv' := [(2, .int 0), (0, .ref (adr 0)), (1, .int x)]) hx hb dX6_written_31 rfl hl (by decide) rfl (fun ls hl => ?_)
      refine lv_iconst (v := 4) hx hb dX6_written_32 (by decide) ?_
      refine lv_iload_n hx hb dX6_written_33 rfl (lv_at hl 2 rfl) ?_
      refine lv_imul hx hb dX6_written_34 ?_
      refine lv_topi (fun z4 ez4 => ?_)
      have hw := hw z4 ez4
      refine lv_istore_n (lv' := [(3, .int z4), (2, .int 0), (0, .ref (adr 0)), (1, .int x)]) hx hb dX6_written_35 rfl hl (by decide) rfl (fun ls hl => ?_)
      obtain ⟨n, hw⟩ := hw
      exact wkb_X6_written_36 C post x  n i1 a q 0 z4 hw _ _ hM hS _ (lv_sub hl [2, 3, 1, 0] rfl)
    · have hw := hw.2 c3
      exact wkb_X6_written_24 C post x  i1 a q hw hM hS (lv_sub hl [0] rfl)
set_option maxHeartbeats 4000000 in
theorem met_X6_written (l : Launch) (g : gG) (F : nM) (adr : Nat → Nat) (i : Nat → Int32) (a : Nat → Nat → Int32) (q : Nat → Nat) (x : Int32) (hpre : pre_X6_written i a q x) : Met l yX6_written (ws_ yX6_written cX6_written 4 (some .int)) rm_X6_written (va_Pc [.ref (adr 0), .int x] (Pg g (MS g F adr i a q))) (va_Qi (fun r u => post_X6_written i a q x r u) (fun u t => MS g F adr u.1 u.2.1 u.2.2 t.heap) (Ag g)) 0 0 (Ag g) :=
  wk_X6_written l g F adr i a q x _ (pr_X6_written i a q x hpre)

abbrev rm_X6_descents : Room := ({ frames := 4, cells := 0, slots := 0, locals := 256 } : Room)
set_option maxHeartbeats 4000000 in
theorem wkb_X6_descents_64 (C : Cx p s m args meth c cX6_descents 3 RX6 (some .int) g) (post : Int32 → MSt → Prop)  (K17 : (Nat → Int32) → (Nat → Nat → Int32) → (Nat → Nat) → Int32 → Int32 → Prop) (hK17 : ∀ (i : Nat → Int32) (a : Nat → Nat → Int32) (q : Nat → Nat) (y1 : Int32) (y2 : Int32), K17 i a q y1 y2 → ∀ (H : Heap) (locs : List Loc), MS g F adr i a q H → va_S (Ag g) s.heap H locs → ∀ ls : Array Slot, lv_has ls 3 [(0, .ref (adr 0)), (1, .int y1), (2, .int y2)] → W p l e rm_X6_descents s m args below meth c H locs 0 0 (MQ below (va_Qi post (fun u t => MS g F adr u.1 u.2.1 u.2.2 t.heap) (Ag g)) args s 0 0 (Ag g)) (F0 m 17 ls [])) (i : Nat → Int32) (a : Nat → Nat → Int32) (q : Nat → Nat) (x2 : Int32) (s0 : Int32) (s1 : Int32) (hw : wpb_X6_descents_64 post K17  i a q x2 s0 s1) {H : Heap} {locs : List Loc} (hM : MS g F adr i a q H) (hS : va_S (Ag g) s.heap H locs) {ls : Array Slot} (hl : lv_has ls 3 [(0, .ref (adr 0)), (2, .int x2)]) : W p l e rm_X6_descents s m args below meth c H locs 0 0 (MQ below (va_Qi post (fun u t => MS g F adr u.1 u.2.1 u.2.2 t.heap) (Ag g)) args s 0 0 (Ag g)) (F0 m 64 ls [.int s0, .int s1]) := by
  have hx := C.1
  have hb := C.2.1
  have hown := C.2.2.2.1
  have hr := C.2.2.2.2.2.1
  have hlocks := C.2.2.2.2.2.2.1
  refine lv_iadd hx hb dX6_descents_64 ?_
  refine lv_topi (fun z8 ez8 => ?_)
  have hw := hw z8 ez8
  refine lv_istore_n (lv' := [(1, .int z8), (0, .ref (adr 0)), (2, .int x2)]) hx hb dX6_descents_65 rfl hl (by decide) rfl (fun ls hl => ?_)
  obtain ⟨z9, ez9⟩ : ∃ y : Int32, y = x2 + 1 := ⟨_, rfl⟩
  have hw := hw z9 ez9
  refine lv_iinc (v := z9) (lv' := [(2, .int z9), (1, .int z8), (0, .ref (adr 0))]) hx hb dX6_descents_66 hl (k := 2) rfl (by rw [ez9]; rfl) (by decide) rfl (fun ls hl => ?_)
  refine lv_goto (tgt := 17) hx hb dX6_descents_69 (by decide) ?_
  exact hK17 i a q z8 z9 hw _ _ hM hS _ (lv_sub hl [2, 1, 0] rfl)
set_option maxHeartbeats 4000000 in
theorem wkb_X6_descents_17 (C : Cx p s m args meth c cX6_descents 3 RX6 (some .int) g) (post : Int32 → MSt → Prop)   : ∀ (n : Nat) (i : Nat → Int32) (a : Nat → Nat → Int32) (q : Nat → Nat) (x1 : Int32) (x2 : Int32), wpb_X6_descents_17 post   n i a q x1 x2 → ∀ (H : Heap) (locs : List Loc), MS g F adr i a q H → va_S (Ag g) s.heap H locs → ∀ ls : Array Slot, lv_has ls 3 [(0, .ref (adr 0)), (1, .int x1), (2, .int x2)] → W p l e rm_X6_descents s m args below meth c H locs 0 0 (MQ below (va_Qi post (fun u t => MS g F adr u.1 u.2.1 u.2.2 t.heap) (Ag g)) args s 0 0 (Ag g)) (F0 m 17 ls []) := by
  have hx := C.1
  have hb := C.2.1
  have hown := C.2.2.2.1
  have hr := C.2.2.2.2.2.1
  have hlocks := C.2.2.2.2.2.2.1
  intro n
  induction n with
  | zero =>
    intro i a q x1 x2 hw
    exact hw.elim
  | succ n ih =>
    intro i a q x1 x2 hw H locs hM hS ls hl
    refine lv_iload_n hx hb dX6_descents_17 rfl (lv_at hl 2 rfl) ?_
    refine lv_aload_n hx hb dX6_descents_18 rfl (lv_at hl 0 rfl) ?_
    refine m_get C hM 10 (by decide) q2348 rfl rfl dX6_descents_19 ?_
    refine lv_icmp_ge (tgt := 72) hx hb dX6_descents_22 (by decide) (fun c6 => ?_) (fun c6 => ?_)
    · have hw := hw.1 c6
      refine lv_iload_n hx hb dX6_descents_72 rfl (lv_at hl 1 rfl) ?_
      exact W.iret (v := x1) hx hb hr (fun t ht _ => ⟨⟨x1, (i, a, q), rfl, hw, hM.at ht⟩, hS.F ht⟩) hS.2.2 dX6_descents_73
    · have hw := hw.2 c6
      refine lv_iload_n hx hb dX6_descents_25 rfl (lv_at hl 1 rfl) ?_
      refine lv_aload_n hx hb dX6_descents_26 rfl (lv_at hl 0 rfl) ?_
      refine m_get C hM 1 (by decide) q2339 rfl rfl dX6_descents_27 ?_
      refine lv_bipush (v := 15) hx hb dX6_descents_30 (by decide) ?_
      refine lv_aload_n hx hb dX6_descents_32 rfl (lv_at hl 0 rfl) ?_
      refine m_get C hM 9 (by decide) q2347 rfl rfl dX6_descents_33 ?_
      refine lv_iload_n hx hb dX6_descents_36 rfl (lv_at hl 2 rfl) ?_
      refine m_ald C hM (j := 7) rfl hw.1 dX6_descents_37 ?_
      have hw := hw.2
      refine lv_iadd hx hb dX6_descents_38 ?_
      refine m_ald C hM (j := 1) rfl hw.1 dX6_descents_39 ?_
      have hw := hw.2
      refine lv_aload_n hx hb dX6_descents_40 rfl (lv_at hl 0 rfl) ?_
      refine m_get C hM 1 (by decide) q2339 rfl rfl dX6_descents_41 ?_
      refine lv_bipush (v := 15) hx hb dX6_descents_44 (by decide) ?_
      refine lv_aload_n hx hb dX6_descents_46 rfl (lv_at hl 0 rfl) ?_
      refine m_get C hM 9 (by decide) q2347 rfl rfl dX6_descents_47 ?_
      refine lv_iload_n hx hb dX6_descents_50 rfl (lv_at hl 2 rfl) ?_
      refine lv_iconst (v := 1) hx hb dX6_descents_51 (by decide) ?_
      refine lv_isub hx hb dX6_descents_52 ?_
      refine m_ald C hM (j := 7) rfl hw.1 dX6_descents_53 ?_
      have hw := hw.2
      refine lv_iadd hx hb dX6_descents_54 ?_
      refine m_ald C hM (j := 1) rfl hw.1 dX6_descents_55 ?_
      have hw := hw.2
      refine lv_icmp_ge (tgt := 63) hx hb dX6_descents_56 (by decide) (fun c7 => ?_) (fun c7 => ?_)
      · have hw := hw.1 c7
        refine lv_iconst (v := 0) hx hb dX6_descents_63 (by decide) ?_
        exact wkb_X6_descents_64 C post  (wpb_X6_descents_17 post   n) ih i a q x2 0 x1 hw hM hS (lv_sub hl [0, 2] rfl)
      · have hw := hw.2 c7
        refine lv_iconst (v := 1) hx hb dX6_descents_59 (by decide) ?_
        refine lv_goto (tgt := 64) hx hb dX6_descents_60 (by decide) ?_
        exact wkb_X6_descents_64 C post  (wpb_X6_descents_17 post   n) ih i a q x2 1 x1 hw hM hS (lv_sub hl [0, 2] rfl)
set_option maxHeartbeats 4000000 in
theorem wk_X6_descents (l : Launch) (g : gG) (F : nM) (adr : Nat → Nat) (i : Nat → Int32) (a : Nat → Nat → Int32) (q : Nat → Nat)  (post : Int32 → MSt → Prop) (hw : wp_X6_descents post i a q ) : Met l yX6_descents (ws_ yX6_descents cX6_descents 3 (some .int)) rm_X6_descents (va_Pc [.ref (adr 0)] (Pg g (MS g F adr i a q))) (va_Qi post (fun u t => MS g F adr u.1 u.2.1 u.2.2 t.heap) (Ag g)) 0 0 (Ag g) := by
  refine Met.ofW (cc := cX6_descents) (maxL := 3) (ret := (some .int)) (by decide) rfl ?_
  intro p e s m args below meth c s₁ B hml hv
  obtain ⟨rfl, hG, hM⟩ := hv
  have C : Cx p s m _ meth c cX6_descents 3 RX6 (some .int) g := Cx.of B hml hG
  have hx := C.1
  have hb := C.2.1
  have hown := C.2.2.2.1
  have hr := C.2.2.2.2.2.1
  have hlocks := C.2.2.2.2.2.2.1
  have hS : va_S (Ag g) s.heap s.heap [] := va_S.rf
  refine lv_start ([.ref (adr 0)] : List Value) (L := [(0, .ref (adr 0))]) (Nat.le_of_ble_eq_true rfl) rfl (fun ls hl => ?_)
  refine lv_aload_n hx hb dX6_descents_0 rfl (lv_at hl 0 rfl) ?_
  refine lv_iconst (v := 0) hx hb dX6_descents_1 (by decide) ?_
  refine m_put C hM hS 0 rfl q2338 rfl rfl rfl dX6_descents_2 (fun i1 H locs ei1 hM hS => ?_)
  have hw := hw i1 ei1
  refine lv_aload_n hx hb dX6_descents_5 rfl (lv_at hl 0 rfl) ?_
  refine lv_aload_n hx hb dX6_descents_6 rfl (lv_at hl 0 rfl) ?_
  refine m_get C hM 1 (by decide) q2339 rfl rfl dX6_descents_7 ?_
  refine va_callv (va_runV (As := [.ref (adr 1)]) (rest := []) C.fix (met_X6_laysChain l g F adr i1 a q 1 (by decide) ) (cw_X6_95 C.ts ⟨Nat.le_of_ble_eq_true rfl, Nat.le_of_ble_eq_true rfl⟩) (preV_of C (P := (MS g F adr i1 a q)) (MS.recv C hM) hS hM _) rfl rfl hl.1 rfl (lv_room (Nat.le_of_ble_eq_true rfl)) dX6_descents_10 ⟨Nat.le_of_ble_eq_true rfl, Nat.le_of_ble_eq_true rfl⟩) hS (fun _ _ h => h) (fun _ h => h) (fun z_u t H locs ht _ hw1 hB _ _ hS => ?_)
  obtain ⟨i3, a4, q5⟩ := z_u
  have hM : MS g F adr i3 a4 q5 H := by rw [← ht]; exact hB
  have hw := hw i3 a4 q5 hw1
  refine lv_iconst (v := 0) hx hb dX6_descents_13 (by decide) ?_
  refine lv_istore_n (lv' := [(1, .int 0), (0, .ref (adr 0))]) hx hb dX6_descents_14 rfl hl (by decide) rfl (fun ls hl => ?_)
  refine lv_iconst (v := 1) hx hb dX6_descents_15 (by decide) ?_
  refine lv_istore_n (lv' := [(2, .int 1), (1, .int 0), (0, .ref (adr 0))]) hx hb dX6_descents_16 rfl hl (by decide) rfl (fun ls hl => ?_)
  obtain ⟨n, hw⟩ := hw
  exact wkb_X6_descents_17 C post   n i3 a4 q5 0 1 hw _ _ hM hS _ (lv_sub hl [2, 1, 0] rfl)
set_option maxHeartbeats 4000000 in
theorem met_X6_descents (l : Launch) (g : gG) (F : nM) (adr : Nat → Nat) (i : Nat → Int32) (a : Nat → Nat → Int32) (q : Nat → Nat)  (hpre : pre_X6_descents i a q ) : Met l yX6_descents (ws_ yX6_descents cX6_descents 3 (some .int)) rm_X6_descents (va_Pc [.ref (adr 0)] (Pg g (MS g F adr i a q))) (va_Qi (fun r u => post_X6_descents i a q  r u) (fun u t => MS g F adr u.1 u.2.1 u.2.2 t.heap) (Ag g)) 0 0 (Ag g) :=
  wk_X6_descents l g F adr i a q  _ (pr_X6_descents i a q  hpre)

abbrev rm_X6_snow : Room := ({ frames := 3, cells := 0, slots := 0, locals := 192 } : Room)
set_option maxHeartbeats 4000000 in
theorem wkb_X6_snow_110 (C : Cx p s m args meth c cX6_snow 5 RX6 (some .int) g) (post : Int32 → MSt → Prop)  (x : Int32) (y : Int32)(K45 : (Nat → Int32) → (Nat → Nat → Int32) → (Nat → Nat) → Int32 → Int32 → Prop) (hK45 : ∀ (i : Nat → Int32) (a : Nat → Nat → Int32) (q : Nat → Nat) (y3 : Int32) (y4 : Int32), K45 i a q y3 y4 → ∀ (H : Heap) (locs : List Loc), MS g F adr i a q H → va_S (Ag g) s.heap H locs → ∀ ls : Array Slot, lv_has ls 5 [(0, .ref (adr 0)), (1, .int x), (2, .int y), (3, .int y3), (4, .int y4)] → W p l e rm_X6_snow s m args below meth c H locs 0 0 (MQ below (va_Qi post (fun u t => MS g F adr u.1 u.2.1 u.2.2 t.heap) (Ag g)) args s 0 0 (Ag g)) (F0 m 45 ls [])) (i : Nat → Int32) (a : Nat → Nat → Int32) (q : Nat → Nat) (x3 : Int32) (x4 : Int32) (hw : wpb_X6_snow_110 post K45 x y i a q x3 x4) {H : Heap} {locs : List Loc} (hM : MS g F adr i a q H) (hS : va_S (Ag g) s.heap H locs) {ls : Array Slot} (hl : lv_has ls 5 [(0, .ref (adr 0)), (1, .int x), (2, .int y), (3, .int x3), (4, .int x4)]) : W p l e rm_X6_snow s m args below meth c H locs 0 0 (MQ below (va_Qi post (fun u t => MS g F adr u.1 u.2.1 u.2.2 t.heap) (Ag g)) args s 0 0 (Ag g)) (F0 m 110 ls []) := by
  have hx := C.1
  have hb := C.2.1
  have hown := C.2.2.2.1
  have hr := C.2.2.2.2.2.1
  have hlocks := C.2.2.2.2.2.2.1
  obtain ⟨z16, ez16⟩ : ∃ y : Int32, y = x4 + 1 := ⟨_, rfl⟩
  have hw := hw z16 ez16
  refine lv_iinc (v := z16) (lv' := [(4, .int z16), (0, .ref (adr 0)), (1, .int x), (2, .int y), (3, .int x3)]) hx hb dX6_snow_110 hl (k := 4) rfl (by rw [ez16]; rfl) (by decide) rfl (fun ls hl => ?_)
  refine lv_goto (tgt := 45) hx hb dX6_snow_113 (by decide) ?_
  exact hK45 i a q x3 z16 hw _ _ hM hS _ (lv_sub hl [1, 2, 3, 4, 0] rfl)
set_option maxHeartbeats 4000000 in
theorem wkb_X6_snow_45 (C : Cx p s m args meth c cX6_snow 5 RX6 (some .int) g) (post : Int32 → MSt → Prop)  (x : Int32) (y : Int32) : ∀ (n : Nat) (i : Nat → Int32) (a : Nat → Nat → Int32) (q : Nat → Nat) (x3 : Int32) (x4 : Int32), wpb_X6_snow_45 post  x y n i a q x3 x4 → ∀ (H : Heap) (locs : List Loc), MS g F adr i a q H → va_S (Ag g) s.heap H locs → ∀ ls : Array Slot, lv_has ls 5 [(0, .ref (adr 0)), (1, .int x), (2, .int y), (3, .int x3), (4, .int x4)] → W p l e rm_X6_snow s m args below meth c H locs 0 0 (MQ below (va_Qi post (fun u t => MS g F adr u.1 u.2.1 u.2.2 t.heap) (Ag g)) args s 0 0 (Ag g)) (F0 m 45 ls []) := by
  have hx := C.1
  have hb := C.2.1
  have hown := C.2.2.2.1
  have hr := C.2.2.2.2.2.1
  have hlocks := C.2.2.2.2.2.2.1
  intro n
  induction n with
  | zero =>
    intro i a q x3 x4 hw
    exact hw.elim
  | succ n ih =>
    intro i a q x3 x4 hw H locs hM hS ls hl
    refine lv_iload hx hb dX6_snow_45 (lv_at hl 4 rfl) ?_
    refine lv_bipush (v := 12) hx hb dX6_snow_47 (by decide) ?_
    refine lv_icmp_ge (tgt := 116) hx hb dX6_snow_49 (by decide) (fun c10 => ?_) (fun c10 => ?_)
    · have hw := hw.1 c10
      refine lv_iload_n hx hb dX6_snow_116 rfl (lv_at hl 3 rfl) ?_
      exact W.iret (v := x3) hx hb hr (fun t ht _ => ⟨⟨x3, (i, a, q), rfl, hw, hM.at ht⟩, hS.F ht⟩) hS.2.2 dX6_snow_117
    · have hw := hw.2 c10
      refine lv_aload_n hx hb dX6_snow_52 rfl (lv_at hl 0 rfl) ?_
      refine m_get C hM 1 (by decide) q2339 rfl rfl dX6_snow_53 ?_
      refine lv_iconst (v := 3) hx hb dX6_snow_56 (by decide) ?_
      refine lv_iload hx hb dX6_snow_57 (lv_at hl 4 rfl) ?_
      refine lv_iadd hx hb dX6_snow_59 ?_
      refine m_ald C hM (j := 1) rfl hw.1 dX6_snow_60 ?_
      have hw := hw.2
      refine lv_iconst (v := 1) hx hb dX6_snow_61 (by decide) ?_
      refine lv_icmp_ne (tgt := 110) hx hb dX6_snow_62 (by decide) (fun c11 => ?_) (fun c11 => ?_)
      · have hw := hw.1 c11
        exact wkb_X6_snow_110 C post x y (wpb_X6_snow_45 post  x y n) ih i a q x3 x4 hw hM hS (lv_sub hl [0, 1, 2, 3, 4] rfl)
      · have hw := hw.2 c11
        refine lv_aload_n hx hb dX6_snow_65 rfl (lv_at hl 0 rfl) ?_
        refine m_get C hM 1 (by decide) q2339 rfl rfl dX6_snow_66 ?_
        refine lv_bipush (v := 15) hx hb dX6_snow_69 (by decide) ?_
        refine lv_iload hx hb dX6_snow_71 (lv_at hl 4 rfl) ?_
        refine lv_iadd hx hb dX6_snow_73 ?_
        refine m_ald C hM (j := 1) rfl hw.1 dX6_snow_74 ?_
        have hw := hw.2
        refine lv_i2l hx hb dX6_snow_75 rfl ?_
        refine lv_iload_n hx hb dX6_snow_76 rfl (lv_at hl 1 rfl) ?_
        refine lv_i2l hx hb dX6_snow_77 rfl ?_
        refine lv_iload_n hx hb dX6_snow_78 rfl (lv_at hl 2 rfl) ?_
        refine lv_i2l hx hb dX6_snow_79 rfl ?_
        refine vp_callSi (va_runS (As := [.long ((a 1 (15 + x4).toNatClampNeg).toInt64), .long x.toInt64, .long y.toInt64]) (rest := []) C.fix (met_X6_isIn l g  ((a 1 (15 + x4).toNatClampNeg).toInt64) x.toInt64 y.toInt64 ) (cw_X6_61 C.ts ⟨Nat.le_of_ble_eq_true rfl, Nat.le_of_ble_eq_true rfl⟩) (preS_of C (P := (fun _ => True)) hS trivial _) rfl rfl hl.1 rfl (lv_room (Nat.le_of_ble_eq_true rfl)) dX6_snow_80 ⟨Nat.le_of_ble_eq_true rfl, Nat.le_of_ble_eq_true rfl⟩).run (fun r12 er12 => ?_)
        have hw := hw r12 er12
        refine lv_if_eq (tgt := 110) hx hb dX6_snow_83 (by decide) (fun c13 => ?_) (fun c13 => ?_)
        · have hw := hw.1 c13
          exact wkb_X6_snow_110 C post x y (wpb_X6_snow_45 post  x y n) ih i a q x3 x4 hw hM hS (lv_sub hl [0, 1, 2, 3, 4] rfl)
        · have hw := hw.2 c13
          refine lv_iload_n hx hb dX6_snow_86 rfl (lv_at hl 3 rfl) ?_
          refine lv_aload_n hx hb dX6_snow_87 rfl (lv_at hl 0 rfl) ?_
          refine m_get C hM 1 (by decide) q2339 rfl rfl dX6_snow_88 ?_
          refine lv_bipush (v := 27) hx hb dX6_snow_91 (by decide) ?_
          refine lv_iload hx hb dX6_snow_93 (lv_at hl 4 rfl) ?_
          refine lv_iadd hx hb dX6_snow_95 ?_
          refine m_ald C hM (j := 1) rfl hw.1 dX6_snow_96 ?_
          have hw := hw.2
          refine lv_iadd hx hb dX6_snow_97 ?_
          refine lv_topi (fun z14 ez14 => ?_)
          have hw := hw z14 ez14
          refine lv_istore_n (lv' := [(3, .int z14), (0, .ref (adr 0)), (1, .int x), (2, .int y), (4, .int x4)]) hx hb dX6_snow_98 rfl hl (by decide) rfl (fun ls hl => ?_)
          refine lv_aload_n hx hb dX6_snow_99 rfl (lv_at hl 1 rfl) ?_
          refine m_get C hM 1 (by decide) q2339 rfl rfl dX6_snow_100 ?_
          refine lv_bipush (v := 27) hx hb dX6_snow_103 (by decide) ?_
          refine lv_iload hx hb dX6_snow_105 (lv_at hl 4 rfl) ?_
          refine lv_iadd hx hb dX6_snow_107 ?_
          refine lv_iconst (v := 0) hx hb dX6_snow_108 (by decide) ?_
          refine m_ast C hM hS (j := 1) rfl hw.1 dX6_snow_109 (fun a15 H locs ea15 hM hS => ?_)
          have hw := hw.2 a15 ea15
          exact wkb_X6_snow_110 C post x y (wpb_X6_snow_45 post  x y n) ih i a15 q z14 x4 hw hM hS (lv_sub hl [1, 2, 3, 0, 4] rfl)
set_option maxHeartbeats 4000000 in
theorem wkb_X6_snow_30 (C : Cx p s m args meth c cX6_snow 5 RX6 (some .int) g) (post : Int32 → MSt → Prop)  (x : Int32) (y : Int32) (i : Nat → Int32) (a : Nat → Nat → Int32) (q : Nat → Nat)  (hw : wpb_X6_snow_30 post  x y i a q ) {H : Heap} {locs : List Loc} (hM : MS g F adr i a q H) (hS : va_S (Ag g) s.heap H locs) {ls : Array Slot} (hl : lv_has ls 5 [(0, .ref (adr 0))]) : W p l e rm_X6_snow s m args below meth c H locs 0 0 (MQ below (va_Qi post (fun u t => MS g F adr u.1 u.2.1 u.2.2 t.heap) (Ag g)) args s 0 0 (Ag g)) (F0 m 30 ls []) := by
  have hx := C.1
  have hb := C.2.1
  have hown := C.2.2.2.1
  have hr := C.2.2.2.2.2.1
  have hlocks := C.2.2.2.2.2.2.1
  refine lv_aload_n hx hb dX6_snow_30 rfl (lv_at hl 0 rfl) ?_
  refine lv_iconst (v := 1) hx hb dX6_snow_31 (by decide) ?_
  refine va_calli (va_runV (As := [.int 1]) (rest := []) C.fix (met_X6_fails l g F adr i a q 1 ) (cw_X6_136 C.ts ⟨Nat.le_of_ble_eq_true rfl, Nat.le_of_ble_eq_true rfl⟩) (preV_of C (P := (MS g F adr i a q)) (MS.recv C hM) hS hM _) rfl rfl hl.1 rfl (lv_room (Nat.le_of_ble_eq_true rfl)) dX6_snow_32 ⟨Nat.le_of_ble_eq_true rfl, Nat.le_of_ble_eq_true rfl⟩) hS (fun _ _ h => h) (fun _ h => h) (fun r17 z_u t H locs ht _ hw1 hB _ _ hS => ?_)
  obtain ⟨i18, a19, q20⟩ := z_u
  have hM : MS g F adr i18 a19 q20 H := by rw [← ht]; exact hB
  have hw := hw r17 i18 a19 q20 hw1
  exact W.iret (v := r17) hx hb hr (fun t ht _ => ⟨⟨r17, (i18, a19, q20), rfl, hw, hM.at ht⟩, hS.F ht⟩) hS.2.2 dX6_snow_35
set_option maxHeartbeats 4000000 in
theorem wk_X6_snow (l : Launch) (g : gG) (F : nM) (adr : Nat → Nat) (i : Nat → Int32) (a : Nat → Nat → Int32) (q : Nat → Nat) (x : Int32) (y : Int32) (post : Int32 → MSt → Prop) (hw : wp_X6_snow post i a q x y) : Met l yX6_snow (ws_ yX6_snow cX6_snow 5 (some .int)) rm_X6_snow (va_Pc [.ref (adr 0), .int x, .int y] (Pg g (MS g F adr i a q))) (va_Qi post (fun u t => MS g F adr u.1 u.2.1 u.2.2 t.heap) (Ag g)) 0 0 (Ag g) := by
  refine Met.ofW (cc := cX6_snow) (maxL := 5) (ret := (some .int)) (by decide) rfl ?_
  intro p e s m args below meth c s₁ B hml hv
  obtain ⟨rfl, hG, hM⟩ := hv
  have C : Cx p s m _ meth c cX6_snow 5 RX6 (some .int) g := Cx.of B hml hG
  have hx := C.1
  have hb := C.2.1
  have hown := C.2.2.2.1
  have hr := C.2.2.2.2.2.1
  have hlocks := C.2.2.2.2.2.2.1
  have hS : va_S (Ag g) s.heap s.heap [] := va_S.rf
  refine lv_start ([.ref (adr 0), .int x, .int y] : List Value) (L := [(0, .ref (adr 0)), (1, .int x), (2, .int y)]) (Nat.le_of_ble_eq_true rfl) rfl (fun ls hl => ?_)
  refine lv_aload_n hx hb dX6_snow_0 rfl (lv_at hl 0 rfl) ?_
  refine lv_iconst (v := 0) hx hb dX6_snow_1 (by decide) ?_
  refine m_put C hM hS 0 rfl q2338 rfl rfl rfl dX6_snow_2 (fun i1 H locs ei1 hM hS => ?_)
  have hw := hw i1 ei1
  refine lv_iload_n hx hb dX6_snow_5 rfl (lv_at hl 1 rfl) ?_
  refine lv_i2l hx hb dX6_snow_6 rfl ?_
  refine lv_lconst (v := 0) hx hb dX6_snow_7 (by decide) ?_
  refine lv_ldc2 (v := 999) hx hb hown (C.ts _ q2529) dX6_snow_8 ?_
  refine vp_callSi (va_runS (As := [.long x.toInt64, .long 0, .long 999]) (rest := []) C.fix (met_X6_isIn l g  x.toInt64 0 999 ) (cw_X6_61 C.ts ⟨Nat.le_of_ble_eq_true rfl, Nat.le_of_ble_eq_true rfl⟩) (preS_of C (P := (fun _ => True)) hS trivial _) rfl rfl hl.1 rfl (lv_room (Nat.le_of_ble_eq_true rfl)) dX6_snow_11 ⟨Nat.le_of_ble_eq_true rfl, Nat.le_of_ble_eq_true rfl⟩).run (fun r2 er2 => ?_)
  have hw := hw r2 er2
  refine lv_if_eq (tgt := 30) hx hb dX6_snow_14 (by decide) (fun c3 => ?_) (fun c3 => ?_)
  · have hw := hw.1 c3
    exact wkb_X6_snow_30 C post x y  i1 a q hw hM hS (lv_sub hl [0] rfl)
  · have hw := hw.2 c3
    refine lv_iload_n hx hb dX6_snow_17 rfl (lv_at hl 2 rfl) ?_
    refine lv_i2l hx hb dX6_snow_18 rfl ?_
    refine lv_iload_n hx hb dX6_snow_19 rfl (lv_at hl 1 rfl) ?_
    refine lv_i2l hx hb dX6_snow_20 rfl ?_
    refine lv_ldc2 (v := 999) hx hb hown (C.ts _ q2529) dX6_snow_21 ?_
    refine vp_callSi (va_runS (As := [.long y.toInt64, .long x.toInt64, .long 999]) (rest := []) C.fix (met_X6_isIn l g  y.toInt64 x.toInt64 999 ) (cw_X6_61 C.ts ⟨Nat.le_of_ble_eq_true rfl, Nat.le_of_ble_eq_true rfl⟩) (preS_of C (P := (fun _ => True)) hS trivial _) rfl rfl hl.1 rfl (lv_room (Nat.le_of_ble_eq_true rfl)) dX6_snow_24 ⟨Nat.le_of_ble_eq_true rfl, Nat.le_of_ble_eq_true rfl⟩).run (fun r4 er4 => ?_)
    have hw := hw r4 er4
    refine lv_if_ne (tgt := 36) hx hb dX6_snow_27 (by decide) (fun c5 => ?_) (fun c5 => ?_)
    · have hw := hw.1 c5
      refine lv_aload_n hx hb dX6_snow_36 rfl (lv_at hl 0 rfl) ?_
      refine va_callv (va_runV (As := []) (rest := []) C.fix (met_X6_remembers l g F adr i1 a q  hw.1) (cw_X6_242 C.ts ⟨Nat.le_of_ble_eq_true rfl, Nat.le_of_ble_eq_true rfl⟩) (preV_of C (P := (MS g F adr i1 a q)) (MS.recv C hM) hS hM _) rfl rfl hl.1 rfl (lv_room (Nat.le_of_ble_eq_true rfl)) dX6_snow_37 ⟨Nat.le_of_ble_eq_true rfl, Nat.le_of_ble_eq_true rfl⟩) hS (fun _ _ h => h) (fun _ h => h) (fun z_u t H locs ht _ hw1 hB _ _ hS => ?_)
      obtain ⟨i7, a8, q9⟩ := z_u
      have hM : MS g F adr i7 a8 q9 H := by rw [← ht]; exact hB
      have hw := hw.2 i7 a8 q9 hw1
      refine lv_iconst (v := 0) hx hb dX6_snow_40 (by decide) ?_
      refine lv_istore_n (lv' := [(3, .int 0), (0, .ref (adr 0)), (1, .int x), (2, .int y)]) hx hb dX6_snow_41 rfl hl (by decide) rfl (fun ls hl => ?_)
      refine lv_iconst (v := 0) hx hb dX6_snow_42 (by decide) ?_
      refine lv_istore (lv' := [(4, .int 0), (3, .int 0), (0, .ref (adr 0)), (1, .int x), (2, .int y)]) hx hb dX6_snow_43 hl (by decide) rfl (fun ls hl => ?_)
      obtain ⟨n, hw⟩ := hw
      exact wkb_X6_snow_45 C post x y  n i7 a8 q9 0 0 hw _ _ hM hS _ (lv_sub hl [2, 3, 4, 1, 0] rfl)
    · have hw := hw.2 c5
      exact wkb_X6_snow_30 C post x y  i1 a q hw hM hS (lv_sub hl [0] rfl)
set_option maxHeartbeats 4000000 in
theorem met_X6_snow (l : Launch) (g : gG) (F : nM) (adr : Nat → Nat) (i : Nat → Int32) (a : Nat → Nat → Int32) (q : Nat → Nat) (x : Int32) (y : Int32) (hpre : pre_X6_snow i a q x y) : Met l yX6_snow (ws_ yX6_snow cX6_snow 5 (some .int)) rm_X6_snow (va_Pc [.ref (adr 0), .int x, .int y] (Pg g (MS g F adr i a q))) (va_Qi (fun r u => post_X6_snow i a q x y r u) (fun u t => MS g F adr u.1 u.2.1 u.2.2 t.heap) (Ag g)) 0 0 (Ag g) :=
  wk_X6_snow l g F adr i a q x y _ (pr_X6_snow i a q x y hpre)

abbrev rm_X6_thaw : Room := ({ frames := 3, cells := 0, slots := 0, locals := 192 } : Room)
set_option maxHeartbeats 4000000 in
theorem wkb_X6_thaw_49 (C : Cx p s m args meth c cX6_thaw 3 RX6 (some .int) g) (post : Int32 → MSt → Prop)  (K13 : (Nat → Int32) → (Nat → Nat → Int32) → (Nat → Nat) → Int32 → Int32 → Prop) (hK13 : ∀ (i : Nat → Int32) (a : Nat → Nat → Int32) (q : Nat → Nat) (y1 : Int32) (y2 : Int32), K13 i a q y1 y2 → ∀ (H : Heap) (locs : List Loc), MS g F adr i a q H → va_S (Ag g) s.heap H locs → ∀ ls : Array Slot, lv_has ls 3 [(0, .ref (adr 0)), (1, .int y1), (2, .int y2)] → W p l e rm_X6_thaw s m args below meth c H locs 0 0 (MQ below (va_Qi post (fun u t => MS g F adr u.1 u.2.1 u.2.2 t.heap) (Ag g)) args s 0 0 (Ag g)) (F0 m 13 ls [])) (i : Nat → Int32) (a : Nat → Nat → Int32) (q : Nat → Nat) (x2 : Int32) (s0 : Int32) (s1 : Int32) (hw : wpb_X6_thaw_49 post K13  i a q x2 s0 s1) {H : Heap} {locs : List Loc} (hM : MS g F adr i a q H) (hS : va_S (Ag g) s.heap H locs) {ls : Array Slot} (hl : lv_has ls 3 [(0, .ref (adr 0)), (2, .int x2)]) : W p l e rm_X6_thaw s m args below meth c H locs 0 0 (MQ below (va_Qi post (fun u t => MS g F adr u.1 u.2.1 u.2.2 t.heap) (Ag g)) args s 0 0 (Ag g)) (F0 m 49 ls [.int s0, .int s1]) := by
  have hx := C.1
  have hb := C.2.1
  have hown := C.2.2.2.1
  have hr := C.2.2.2.2.2.1
  have hlocks := C.2.2.2.2.2.2.1
  refine lv_iadd hx hb dX6_thaw_49 ?_
  refine lv_topi (fun z9 ez9 => ?_)
  have hw := hw z9 ez9
  refine lv_istore_n (lv' := [(1, .int z9), (0, .ref (adr 0)), (2, .int x2)]) hx hb dX6_thaw_50 rfl hl (by decide) rfl (fun ls hl => ?_)
  refine lv_aload_n hx hb dX6_thaw_51 rfl (lv_at hl 1 rfl) ?_
  refine m_get C hM 1 (by decide) q2339 rfl rfl dX6_thaw_52 ?_
  refine lv_bipush (v := 27) hx hb dX6_thaw_55 (by decide) ?_
  refine lv_iload_n hx hb dX6_thaw_57 rfl (lv_at hl 2 rfl) ?_
  refine lv_iadd hx hb dX6_thaw_58 ?_
  refine lv_iconst (v := 1) hx hb dX6_thaw_59 (by decide) ?_
  refine m_ast C hM hS (j := 1) rfl hw.1 dX6_thaw_60 (fun a10 H locs ea10 hM hS => ?_)
  have hw := hw.2 a10 ea10
  obtain ⟨z11, ez11⟩ : ∃ y : Int32, y = x2 + 1 := ⟨_, rfl⟩
  have hw := hw z11 ez11
  refine lv_iinc (v := z11) (lv' := [(2, .int z11), (1, .int z9), (0, .ref (adr 0))]) hx hb dX6_thaw_61 hl (k := 2) rfl (by rw [ez11]; rfl) (by decide) rfl (fun ls hl => ?_)
  refine lv_goto (tgt := 13) hx hb dX6_thaw_64 (by decide) ?_
  exact hK13 i a10 q z9 z11 hw _ _ hM hS _ (lv_sub hl [2, 1, 0] rfl)
set_option maxHeartbeats 4000000 in
theorem wkb_X6_thaw_48 (C : Cx p s m args meth c cX6_thaw 3 RX6 (some .int) g) (post : Int32 → MSt → Prop)  (K13 : (Nat → Int32) → (Nat → Nat → Int32) → (Nat → Nat) → Int32 → Int32 → Prop) (hK13 : ∀ (i : Nat → Int32) (a : Nat → Nat → Int32) (q : Nat → Nat) (y1 : Int32) (y2 : Int32), K13 i a q y1 y2 → ∀ (H : Heap) (locs : List Loc), MS g F adr i a q H → va_S (Ag g) s.heap H locs → ∀ ls : Array Slot, lv_has ls 3 [(0, .ref (adr 0)), (1, .int y1), (2, .int y2)] → W p l e rm_X6_thaw s m args below meth c H locs 0 0 (MQ below (va_Qi post (fun u t => MS g F adr u.1 u.2.1 u.2.2 t.heap) (Ag g)) args s 0 0 (Ag g)) (F0 m 13 ls [])) (i : Nat → Int32) (a : Nat → Nat → Int32) (q : Nat → Nat) (x2 : Int32) (s0 : Int32) (hw : wpb_X6_thaw_48 post K13  i a q x2 s0) {H : Heap} {locs : List Loc} (hM : MS g F adr i a q H) (hS : va_S (Ag g) s.heap H locs) {ls : Array Slot} (hl : lv_has ls 3 [(0, .ref (adr 0)), (2, .int x2)]) : W p l e rm_X6_thaw s m args below meth c H locs 0 0 (MQ below (va_Qi post (fun u t => MS g F adr u.1 u.2.1 u.2.2 t.heap) (Ag g)) args s 0 0 (Ag g)) (F0 m 48 ls [.int s0]) := by
  have hx := C.1
  have hb := C.2.1
  have hown := C.2.2.2.1
  have hr := C.2.2.2.2.2.1
  have hlocks := C.2.2.2.2.2.2.1
  refine lv_iconst (v := 0) hx hb dX6_thaw_48 (by decide) ?_
  exact wkb_X6_thaw_49 C post  K13 hK13 i a q x2 0 s0 hw hM hS (lv_sub hl [0, 1] rfl)
set_option maxHeartbeats 4000000 in
theorem wkb_X6_thaw_13 (C : Cx p s m args meth c cX6_thaw 3 RX6 (some .int) g) (post : Int32 → MSt → Prop)   : ∀ (n : Nat) (i : Nat → Int32) (a : Nat → Nat → Int32) (q : Nat → Nat) (x1 : Int32) (x2 : Int32), wpb_X6_thaw_13 post   n i a q x1 x2 → ∀ (H : Heap) (locs : List Loc), MS g F adr i a q H → va_S (Ag g) s.heap H locs → ∀ ls : Array Slot, lv_has ls 3 [(0, .ref (adr 0)), (1, .int x1), (2, .int x2)] → W p l e rm_X6_thaw s m args below meth c H locs 0 0 (MQ below (va_Qi post (fun u t => MS g F adr u.1 u.2.1 u.2.2 t.heap) (Ag g)) args s 0 0 (Ag g)) (F0 m 13 ls []) := by
  have hx := C.1
  have hb := C.2.1
  have hown := C.2.2.2.1
  have hr := C.2.2.2.2.2.1
  have hlocks := C.2.2.2.2.2.2.1
  intro n
  induction n with
  | zero =>
    intro i a q x1 x2 hw
    exact hw.elim
  | succ n ih =>
    intro i a q x1 x2 hw H locs hM hS ls hl
    refine lv_iload_n hx hb dX6_thaw_13 rfl (lv_at hl 2 rfl) ?_
    refine lv_bipush (v := 12) hx hb dX6_thaw_14 (by decide) ?_
    refine lv_icmp_ge (tgt := 67) hx hb dX6_thaw_16 (by decide) (fun c6 => ?_) (fun c6 => ?_)
    · have hw := hw.1 c6
      refine lv_iload_n hx hb dX6_thaw_67 rfl (lv_at hl 1 rfl) ?_
      exact W.iret (v := x1) hx hb hr (fun t ht _ => ⟨⟨x1, (i, a, q), rfl, hw, hM.at ht⟩, hS.F ht⟩) hS.2.2 dX6_thaw_68
    · have hw := hw.2 c6
      refine lv_iload_n hx hb dX6_thaw_19 rfl (lv_at hl 1 rfl) ?_
      refine lv_aload_n hx hb dX6_thaw_20 rfl (lv_at hl 0 rfl) ?_
      refine m_get C hM 1 (by decide) q2339 rfl rfl dX6_thaw_21 ?_
      refine lv_iconst (v := 3) hx hb dX6_thaw_24 (by decide) ?_
      refine lv_iload_n hx hb dX6_thaw_25 rfl (lv_at hl 2 rfl) ?_
      refine lv_iadd hx hb dX6_thaw_26 ?_
      refine m_ald C hM (j := 1) rfl hw.1 dX6_thaw_27 ?_
      have hw := hw.2
      refine lv_iconst (v := 1) hx hb dX6_thaw_28 (by decide) ?_
      refine lv_icmp_ne (tgt := 48) hx hb dX6_thaw_29 (by decide) (fun c7 => ?_) (fun c7 => ?_)
      · have hw := hw.1 c7
        exact wkb_X6_thaw_48 C post  (wpb_X6_thaw_13 post   n) ih i a q x2 x1 hw hM hS (lv_sub hl [0, 2] rfl)
      · have hw := hw.2 c7
        refine lv_aload_n hx hb dX6_thaw_32 rfl (lv_at hl 0 rfl) ?_
        refine m_get C hM 1 (by decide) q2339 rfl rfl dX6_thaw_33 ?_
        refine lv_bipush (v := 27) hx hb dX6_thaw_36 (by decide) ?_
        refine lv_iload_n hx hb dX6_thaw_38 rfl (lv_at hl 2 rfl) ?_
        refine lv_iadd hx hb dX6_thaw_39 ?_
        refine m_ald C hM (j := 1) rfl hw.1 dX6_thaw_40 ?_
        have hw := hw.2
        refine lv_if_ne (tgt := 48) hx hb dX6_thaw_41 (by decide) (fun c8 => ?_) (fun c8 => ?_)
        · have hw := hw.1 c8
          exact wkb_X6_thaw_48 C post  (wpb_X6_thaw_13 post   n) ih i a q x2 x1 hw hM hS (lv_sub hl [0, 2] rfl)
        · have hw := hw.2 c8
          refine lv_iconst (v := 1) hx hb dX6_thaw_44 (by decide) ?_
          refine lv_goto (tgt := 49) hx hb dX6_thaw_45 (by decide) ?_
          exact wkb_X6_thaw_49 C post  (wpb_X6_thaw_13 post   n) ih i a q x2 1 x1 hw hM hS (lv_sub hl [0, 2] rfl)
set_option maxHeartbeats 4000000 in
theorem wk_X6_thaw (l : Launch) (g : gG) (F : nM) (adr : Nat → Nat) (i : Nat → Int32) (a : Nat → Nat → Int32) (q : Nat → Nat)  (post : Int32 → MSt → Prop) (hw : wp_X6_thaw post i a q ) : Met l yX6_thaw (ws_ yX6_thaw cX6_thaw 3 (some .int)) rm_X6_thaw (va_Pc [.ref (adr 0)] (Pg g (MS g F adr i a q))) (va_Qi post (fun u t => MS g F adr u.1 u.2.1 u.2.2 t.heap) (Ag g)) 0 0 (Ag g) := by
  refine Met.ofW (cc := cX6_thaw) (maxL := 3) (ret := (some .int)) (by decide) rfl ?_
  intro p e s m args below meth c s₁ B hml hv
  obtain ⟨rfl, hG, hM⟩ := hv
  have C : Cx p s m _ meth c cX6_thaw 3 RX6 (some .int) g := Cx.of B hml hG
  have hx := C.1
  have hb := C.2.1
  have hown := C.2.2.2.1
  have hr := C.2.2.2.2.2.1
  have hlocks := C.2.2.2.2.2.2.1
  have hS : va_S (Ag g) s.heap s.heap [] := va_S.rf
  refine lv_start ([.ref (adr 0)] : List Value) (L := [(0, .ref (adr 0))]) (Nat.le_of_ble_eq_true rfl) rfl (fun ls hl => ?_)
  refine lv_aload_n hx hb dX6_thaw_0 rfl (lv_at hl 0 rfl) ?_
  refine lv_iconst (v := 0) hx hb dX6_thaw_1 (by decide) ?_
  refine m_put C hM hS 0 rfl q2338 rfl rfl rfl dX6_thaw_2 (fun i1 H locs ei1 hM hS => ?_)
  have hw := hw i1 ei1
  refine lv_aload_n hx hb dX6_thaw_5 rfl (lv_at hl 0 rfl) ?_
  refine va_callv (va_runV (As := []) (rest := []) C.fix (met_X6_remembers l g F adr i1 a q  hw.1) (cw_X6_242 C.ts ⟨Nat.le_of_ble_eq_true rfl, Nat.le_of_ble_eq_true rfl⟩) (preV_of C (P := (MS g F adr i1 a q)) (MS.recv C hM) hS hM _) rfl rfl hl.1 rfl (lv_room (Nat.le_of_ble_eq_true rfl)) dX6_thaw_6 ⟨Nat.le_of_ble_eq_true rfl, Nat.le_of_ble_eq_true rfl⟩) hS (fun _ _ h => h) (fun _ h => h) (fun z_u t H locs ht _ hw1 hB _ _ hS => ?_)
  obtain ⟨i3, a4, q5⟩ := z_u
  have hM : MS g F adr i3 a4 q5 H := by rw [← ht]; exact hB
  have hw := hw.2 i3 a4 q5 hw1
  refine lv_iconst (v := 0) hx hb dX6_thaw_9 (by decide) ?_
  refine lv_istore_n (lv' := [(1, .int 0), (0, .ref (adr 0))]) hx hb dX6_thaw_10 rfl hl (by decide) rfl (fun ls hl => ?_)
  refine lv_iconst (v := 0) hx hb dX6_thaw_11 (by decide) ?_
  refine lv_istore_n (lv' := [(2, .int 0), (1, .int 0), (0, .ref (adr 0))]) hx hb dX6_thaw_12 rfl hl (by decide) rfl (fun ls hl => ?_)
  obtain ⟨n, hw⟩ := hw
  exact wkb_X6_thaw_13 C post   n i3 a4 q5 0 0 hw _ _ hM hS _ (lv_sub hl [2, 1, 0] rfl)
set_option maxHeartbeats 4000000 in
theorem met_X6_thaw (l : Launch) (g : gG) (F : nM) (adr : Nat → Nat) (i : Nat → Int32) (a : Nat → Nat → Int32) (q : Nat → Nat)  (hpre : pre_X6_thaw i a q ) : Met l yX6_thaw (ws_ yX6_thaw cX6_thaw 3 (some .int)) rm_X6_thaw (va_Pc [.ref (adr 0)] (Pg g (MS g F adr i a q))) (va_Qi (fun r u => post_X6_thaw i a q  r u) (fun u t => MS g F adr u.1 u.2.1 u.2.2 t.heap) (Ag g)) 0 0 (Ag g) :=
  wk_X6_thaw l g F adr i a q  _ (pr_X6_thaw i a q  hpre)
end
