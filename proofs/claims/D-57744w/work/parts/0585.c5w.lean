set_option maxRecDepth 100000
theorem cw_X9_9 {R : Room} {s : State} {args : Array Value} (hts : ∀ w ∈ lw_all, w.before args s = true) {rm : Room} (hR : rm.frames + 1 ≤ R.frames ∧ 8 + (3 + 11) + rm.locals ≤ R.locals) : CallW R s args RX9 RX2 9 yX2_stageEnd cX2_stageEnd 3 (some .int) (ws_ yX2_stageEnd cX2_stageEnd 3 (some .int)) rm rm.cells rm.slots 2 := cwV 2 hts (lw_V q2035 q2036 q2037 q71 q2038) rfl rfl rfl (by decide +kernel) hR
theorem cw_X9_15 {R : Room} {s : State} {args : Array Value} (hts : ∀ w ∈ lw_all, w.before args s = true) {rm : Room} (hR : rm.frames + 1 ≤ R.frames ∧ 8 + (3 + 11) + rm.locals ≤ R.locals) : CallW R s args RX9 RX2 15 yX2_distance cX2_distance 3 (some .int) (ws_ yX2_distance cX2_distance 3 (some .int)) rm rm.cells rm.slots 2 := cwV 2 hts (lw_V q2044 q1680 q1681 q71 q1682) rfl rfl rfl (by decide +kernel) hR
section
variable {p : Program} {l : Launch} {e : Env} {s : State} {m : MethodId} {args : Array Value} {below : List Frame} {meth : Method} {c : Code} {g : gG}
set_option maxHeartbeats 4000000 in
theorem wkb_X9_init_157 (C : Cx p s m args meth c cX9_init 10 RX9 none g) (post : nM → Prop) (hin2 : meth.name = "<init>") (A : RA) (f : Row) (o : Nat) (r : Nat) (x : Int32) (y : Int32) (w : Int32)  (M : nM) (x5 : Int32) (x6 : Int32) (x7 : Int32) (x8 : Int32) (s0 : Int32) (s1 : Nat) (hw : wpb_X9_init_157 post  g A f o r x y w M x5 x6 x7 x8 s0 s1) {H : Heap} {locs : List Loc} (hM : nh g M H) (hS : va_S (Ag g) s.heap H locs) {ls : Array Slot} (hl : lv_has ls 10 [(0, .ref o), (5, .int x5), (6, .int x6), (7, .int x7), (8, .int x8)]) : W p l e ({ frames := 5, cells := 0, slots := 0, locals := 320 } : Room) s m args below meth c H locs 0 0 (MQ below (va_Qv post (fun u t => nh g u t.heap) (Ag g)) args s 0 0 (Ag g)) (F0 m 157 ls [.int s0, .ref s1]) := by
  have hx := C.1
  have hb := C.2.1
  have hown := C.2.2.2.1
  have hr := C.2.2.2.2.2.1
  have hlocks := C.2.2.2.2.2.2.1
  have hbp23 := hw.1
  replace hw := hw.2
  obtain ⟨⟨tp23, fsp23, hep23, hkp23⟩, hw⟩ := hw
  refine g_putF C in_X9 tyX9 tyX9_ok nmX9 hM hS hep23 rfl 1 (by decide) q2047 (fun _ h => h) rfl hin2 rfl (v := .int s0) hbp23 (isB_fit hbp23) hkp23 dX9_init_157 (fun H locs hM hS => ?_)
  obtain ⟨M24, eM24⟩ : ∃ N, N = nup M s1 (tp23, .inr (8, fsp23.set 1 (.int s0))) := ⟨_, rfl⟩
  rw [← eM24] at hM
  replace hw := hw M24 ⟨tp23, fsp23, hep23, eM24⟩
  refine lv_aload_n hx hb dX9_init_160 rfl (lv_at hl 0 rfl) ?_
  refine lv_iload hx hb dX9_init_161 (lv_at hl 1 rfl) ?_
  obtain ⟨⟨tp25, fsp25, hep25, hkp25⟩, hw⟩ := hw
  refine g_putF C in_X9 tyX9 tyX9_ok nmX9 hM hS hep25 rfl 2 (by decide) q2049 (fun _ h => h) rfl hin2 rfl (v := .int x5) rfl rfl hkp25 dX9_init_163 (fun H locs hM hS => ?_)
  obtain ⟨M26, eM26⟩ : ∃ N, N = nup M24 o (tp25, .inr (8, fsp25.set 2 (.int x5))) := ⟨_, rfl⟩
  rw [← eM26] at hM
  replace hw := hw M26 ⟨tp25, fsp25, hep25, eM26⟩
  refine lv_aload_n hx hb dX9_init_166 rfl (lv_at hl 0 rfl) ?_
  refine lv_iload hx hb dX9_init_167 (lv_at hl 2 rfl) ?_
  obtain ⟨⟨tp27, fsp27, hep27, hkp27⟩, hw⟩ := hw
  refine g_putF C in_X9 tyX9 tyX9_ok nmX9 hM hS hep27 rfl 3 (by decide) q2051 (fun _ h => h) rfl hin2 rfl (v := .int x6) rfl rfl hkp27 dX9_init_169 (fun H locs hM hS => ?_)
  obtain ⟨M28, eM28⟩ : ∃ N, N = nup M26 o (tp27, .inr (8, fsp27.set 3 (.int x6))) := ⟨_, rfl⟩
  rw [← eM28] at hM
  replace hw := hw M28 ⟨tp27, fsp27, hep27, eM28⟩
  refine lv_aload_n hx hb dX9_init_172 rfl (lv_at hl 0 rfl) ?_
  refine lv_iload hx hb dX9_init_173 (lv_at hl 4 rfl) ?_
  obtain ⟨⟨tp29, fsp29, hep29, hkp29⟩, hw⟩ := hw
  refine g_putF C in_X9 tyX9 tyX9_ok nmX9 hM hS hep29 rfl 4 (by decide) q2053 (fun _ h => h) rfl hin2 rfl (v := .int x8) rfl rfl hkp29 dX9_init_175 (fun H locs hM hS => ?_)
  obtain ⟨M30, eM30⟩ : ∃ N, N = nup M28 o (tp29, .inr (8, fsp29.set 4 (.int x8))) := ⟨_, rfl⟩
  rw [← eM30] at hM
  replace hw := hw M30 ⟨tp29, fsp29, hep29, eM30⟩
  refine lv_aload_n hx hb dX9_init_178 rfl (lv_at hl 0 rfl) ?_
  refine lv_iload hx hb dX9_init_179 (lv_at hl 3 rfl) ?_
  obtain ⟨⟨tp31, fsp31, hep31, hkp31⟩, hw⟩ := hw
  refine g_putF C in_X9 tyX9 tyX9_ok nmX9 hM hS hep31 rfl 5 (by decide) q2055 (fun _ h => h) rfl hin2 rfl (v := .int x7) rfl rfl hkp31 dX9_init_181 (fun H locs hM hS => ?_)
  obtain ⟨M32, eM32⟩ : ∃ N, N = nup M30 o (tp31, .inr (8, fsp31.set 5 (.int x7))) := ⟨_, rfl⟩
  rw [← eM32] at hM
  replace hw := hw M32 ⟨tp31, fsp31, hep31, eM32⟩
  exact W.vret hx hb hr (fun t ht _ => ⟨⟨M32, rfl, hw, hM.tt ht⟩, hS.F ht⟩) hS.2.2 dX9_init_184
set_option maxHeartbeats 4000000 in
theorem wkb_X9_init_156 (C : Cx p s m args meth c cX9_init 10 RX9 none g) (post : nM → Prop) (hin2 : meth.name = "<init>") (A : RA) (f : Row) (o : Nat) (r : Nat) (x : Int32) (y : Int32) (w : Int32)  (M : nM) (x5 : Int32) (x6 : Int32) (x7 : Int32) (x8 : Int32) (s0 : Nat) (hw : wpb_X9_init_156 post  g A f o r x y w M x5 x6 x7 x8 s0) {H : Heap} {locs : List Loc} (hM : nh g M H) (hS : va_S (Ag g) s.heap H locs) {ls : Array Slot} (hl : lv_has ls 10 [(0, .ref o), (5, .int x5), (6, .int x6), (7, .int x7), (8, .int x8)]) : W p l e ({ frames := 5, cells := 0, slots := 0, locals := 320 } : Room) s m args below meth c H locs 0 0 (MQ below (va_Qv post (fun u t => nh g u t.heap) (Ag g)) args s 0 0 (Ag g)) (F0 m 156 ls [.ref s0]) := by
  have hx := C.1
  have hb := C.2.1
  have hown := C.2.2.2.1
  have hr := C.2.2.2.2.2.1
  have hlocks := C.2.2.2.2.2.2.1
  refine lv_iconst (v := 0) hx hb dX9_init_156 (by decide) ?_
  exact wkb_X9_init_157 C post  hin2 A f o r x y w  M x5 x6 x7 x8 0 s0 hw hM hS (lv_sub hl [0, 1, 2, 3, 4] rfl)
set_option maxHeartbeats 4000000 in
theorem wkb_X9_init_135 (C : Cx p s m args meth c cX9_init 10 RX9 none g) (post : nM → Prop) (hin2 : meth.name = "<init>") (A : RA) (f : Row) (o : Nat) (r : Nat) (x : Int32) (y : Int32) (w : Int32)  (M : nM) (x5 : Int32) (x6 : Int32) (x7 : Int32) (x8 : Int32) (x9 : Int32) (s0 : Int32) (s1 : Nat) (hw : wpb_X9_init_135 post  g A f o r x y w M x5 x6 x7 x8 x9 s0 s1) {H : Heap} {locs : List Loc} (hM : nh g M H) (hS : va_S (Ag g) s.heap H locs) {ls : Array Slot} (hl : lv_has ls 10 [(0, .ref o), (5, .int x5), (6, .int x6), (7, .int x7), (8, .int x8), (9, .int x9)]) : W p l e ({ frames := 5, cells := 0, slots := 0, locals := 320 } : Room) s m args below meth c H locs 0 0 (MQ below (va_Qv post (fun u t => nh g u t.heap) (Ag g)) args s 0 0 (Ag g)) (F0 m 135 ls [.int s0, .ref s1]) := by
  have hx := C.1
  have hb := C.2.1
  have hown := C.2.2.2.1
  have hr := C.2.2.2.2.2.1
  have hlocks := C.2.2.2.2.2.2.1
  have hbp18 := hw.1
  replace hw := hw.2
  obtain ⟨⟨tp18, fsp18, hep18, hkp18⟩, hw⟩ := hw
  refine g_putF C in_X9 tyX9 tyX9_ok nmX9 hM hS hep18 rfl 0 (by decide) q2045 (fun _ h => h) rfl hin2 rfl (v := .int s0) hbp18 (isB_fit hbp18) hkp18 dX9_init_135 (fun H locs hM hS => ?_)
  obtain ⟨M19, eM19⟩ : ∃ N, N = nup M s1 (tp18, .inr (8, fsp18.set 0 (.int s0))) := ⟨_, rfl⟩
  rw [← eM19] at hM
  replace hw := hw M19 ⟨tp18, fsp18, hep18, eM19⟩
  refine lv_aload_n hx hb dX9_init_138 rfl (lv_at hl 0 rfl) ?_
  refine lv_aload_n hx hb dX9_init_139 rfl (lv_at hl 0 rfl) ?_
  obtain ⟨v20, ⟨tv20, fsv20, hev20, hvv20⟩, hw⟩ := hw
  refine g_get C in_X9 hM hev20 rfl 0 (by decide) q2045 (fun _ h => h) (v := .int v20) hvv20 dX9_init_140 ?_
  refine lv_if_ne (tgt := 156) hx hb dX9_init_143 (by decide) (fun c21 => ?_) (fun c21 => ?_)
  · have hw := hw.1 c21
    exact wkb_X9_init_156 C post  hin2 A f o r x y w  M19 x5 x6 x7 x8 o hw hM hS (lv_sub hl [0, 1, 2, 3, 4] rfl)
  · have hw := hw.2 c21
    refine lv_iload hx hb dX9_init_146 (lv_at hl 5 rfl) ?_
    refine lv_iconst (v := (-1)) hx hb dX9_init_148 (by decide) ?_
    refine lv_icmp_ne (tgt := 156) hx hb dX9_init_149 (by decide) (fun c22 => ?_) (fun c22 => ?_)
    · have hw := hw.1 c22
      exact wkb_X9_init_156 C post  hin2 A f o r x y w  M19 x5 x6 x7 x8 o hw hM hS (lv_sub hl [0, 1, 2, 3, 4] rfl)
    · have hw := hw.2 c22
      refine lv_iconst (v := 1) hx hb dX9_init_152 (by decide) ?_
      refine lv_goto (tgt := 157) hx hb dX9_init_153 (by decide) ?_
      exact wkb_X9_init_157 C post  hin2 A f o r x y w  M19 x5 x6 x7 x8 1 o hw hM hS (lv_sub hl [0, 1, 2, 3, 4] rfl)
set_option maxHeartbeats 4000000 in
theorem wkb_X9_init_123 (C : Cx p s m args meth c cX9_init 10 RX9 none g) (post : nM → Prop) (hin2 : meth.name = "<init>") (A : RA) (f : Row) (o : Nat) (r : Nat) (x : Int32) (y : Int32) (w : Int32)  (M : nM) (x5 : Int32) (x6 : Int32) (x7 : Int32) (x8 : Int32) (x9 : Int32) (hw : wpb_X9_init_123 post  g A f o r x y w M x5 x6 x7 x8 x9) {H : Heap} {locs : List Loc} (hM : nh g M H) (hS : va_S (Ag g) s.heap H locs) {ls : Array Slot} (hl : lv_has ls 10 [(0, .ref o), (3, .int y), (5, .int x5), (6, .int x6), (7, .int x7), (8, .int x8), (9, .int x9)]) : W p l e ({ frames := 5, cells := 0, slots := 0, locals := 320 } : Room) s m args below meth c H locs 0 0 (MQ below (va_Qv post (fun u t => nh g u t.heap) (Ag g)) args s 0 0 (Ag g)) (F0 m 123 ls []) := by
  have hx := C.1
  have hb := C.2.1
  have hown := C.2.2.2.1
  have hr := C.2.2.2.2.2.1
  have hlocks := C.2.2.2.2.2.2.1
  refine lv_aload_n hx hb dX9_init_123 rfl (lv_at hl 0 rfl) ?_
  refine lv_iload hx hb dX9_init_124 (lv_at hl 2 rfl) ?_
  refine lv_iload_n hx hb dX9_init_126 rfl (lv_at hl 1 rfl) ?_
  refine lv_icmp_ne (tgt := 134) hx hb dX9_init_127 (by decide) (fun c17 => ?_) (fun c17 => ?_)
  · have hw := hw.1 c17
    refine lv_iconst (v := 0) hx hb dX9_init_134 (by decide) ?_
    exact wkb_X9_init_135 C post  hin2 A f o r x y w  M x5 x6 x7 x8 x9 0 o hw hM hS (lv_sub hl [0, 2, 3, 4, 5, 6] rfl)
  · have hw := hw.2 c17
    refine lv_iconst (v := 1) hx hb dX9_init_130 (by decide) ?_
    refine lv_goto (tgt := 135) hx hb dX9_init_131 (by decide) ?_
    exact wkb_X9_init_135 C post  hin2 A f o r x y w  M x5 x6 x7 x8 x9 1 o hw hM hS (lv_sub hl [0, 2, 3, 4, 5, 6] rfl)
set_option maxHeartbeats 4000000 in
theorem wkb_X9_init_118 (C : Cx p s m args meth c cX9_init 10 RX9 none g) (post : nM → Prop) (hin2 : meth.name = "<init>") (A : RA) (f : Row) (o : Nat) (r : Nat) (x : Int32) (y : Int32) (w : Int32) (K36 : nM → Int32 → Int32 → Int32 → Int32 → Int32 → Prop) (hK36 : ∀ (M : nM) (y5 : Int32) (y6 : Int32) (y7 : Int32) (y8 : Int32) (y9 : Int32), K36 M y5 y6 y7 y8 y9 → ∀ (H : Heap) (locs : List Loc), nh g M H → va_S (Ag g) s.heap H locs → ∀ ls : Array Slot, lv_has ls 10 [(0, .ref o), (1, .ref r), (3, .int y), (4, .int w), (5, .int y5), (6, .int y6), (7, .int y7), (8, .int y8), (9, .int y9)] → W p l e ({ frames := 5, cells := 0, slots := 0, locals := 320 } : Room) s m args below meth c H locs 0 0 (MQ below (va_Qv post (fun u t => nh g u t.heap) (Ag g)) args s 0 0 (Ag g)) (F0 m 36 ls [])) (M : nM) (x5 : Int32) (x6 : Int32) (x7 : Int32) (x8 : Int32) (s0 : Int32) (hw : wpb_X9_init_118 post K36 g A f o r x y w M x5 x6 x7 x8 s0) {H : Heap} {locs : List Loc} (hM : nh g M H) (hS : va_S (Ag g) s.heap H locs) {ls : Array Slot} (hl : lv_has ls 10 [(0, .ref o), (1, .ref r), (3, .int y), (4, .int w), (5, .int x5), (6, .int x6), (7, .int x7), (8, .int x8)]) : W p l e ({ frames := 5, cells := 0, slots := 0, locals := 320 } : Room) s m args below meth c H locs 0 0 (MQ below (va_Qv post (fun u t => nh g u t.heap) (Ag g)) args s 0 0 (Ag g)) (F0 m 118 ls [.int s0]) := by
  have hx := C.1
  have hb := C.2.1
  have hown := C.2.2.2.1
  have hr := C.2.2.2.2.2.1
  have hlocks := C.2.2.2.2.2.2.1
  refine lv_istore (lv' := [(9, .int s0), (0, .ref o), (1, .ref r), (3, .int y), (4, .int w), (5, .int x5), (6, .int x6), (7, .int x7), (8, .int x8)]) hx hb dX9_init_118 hl (by decide) rfl (fun ls hl => ?_)
  refine lv_goto (tgt := 36) hx hb dX9_init_120 (by decide) ?_
  exact hK36 M x5 x6 x7 x8 s0 hw _ _ hM hS _ (lv_sub hl [1, 2, 3, 4, 5, 6, 7, 8, 0] rfl)
set_option maxHeartbeats 4000000 in
theorem wkb_X9_init_90 (C : Cx p s m args meth c cX9_init 10 RX9 none g) (post : nM → Prop) (hin2 : meth.name = "<init>") (A : RA) (f : Row) (o : Nat) (r : Nat) (x : Int32) (y : Int32) (w : Int32) (K36 : nM → Int32 → Int32 → Int32 → Int32 → Int32 → Prop) (hK36 : ∀ (M : nM) (y5 : Int32) (y6 : Int32) (y7 : Int32) (y8 : Int32) (y9 : Int32), K36 M y5 y6 y7 y8 y9 → ∀ (H : Heap) (locs : List Loc), nh g M H → va_S (Ag g) s.heap H locs → ∀ ls : Array Slot, lv_has ls 10 [(0, .ref o), (1, .ref r), (3, .int y), (4, .int w), (5, .int y5), (6, .int y6), (7, .int y7), (8, .int y8), (9, .int y9)] → W p l e ({ frames := 5, cells := 0, slots := 0, locals := 320 } : Room) s m args below meth c H locs 0 0 (MQ below (va_Qv post (fun u t => nh g u t.heap) (Ag g)) args s 0 0 (Ag g)) (F0 m 36 ls [])) (M : nM) (x6 : Int32) (x7 : Int32) (x9 : Int32) (s0 : Int32) (s1 : Int32) (hw : wpb_X9_init_90 post K36 g A f o r x y w M x6 x7 x9 s0 s1) {H : Heap} {locs : List Loc} (hM : nh g M H) (hS : va_S (Ag g) s.heap H locs) {ls : Array Slot} (hl : lv_has ls 10 [(0, .ref o), (1, .ref r), (3, .int y), (4, .int w), (6, .int x6), (7, .int x7), (9, .int x9)]) : W p l e ({ frames := 5, cells := 0, slots := 0, locals := 320 } : Room) s m args below meth c H locs 0 0 (MQ below (va_Qv post (fun u t => nh g u t.heap) (Ag g)) args s 0 0 (Ag g)) (F0 m 90 ls [.int s0, .int s1]) := by
  have hx := C.1
  have hb := C.2.1
  have hown := C.2.2.2.1
  have hr := C.2.2.2.2.2.1
  have hlocks := C.2.2.2.2.2.2.1
  refine lv_iadd hx hb dX9_init_90 ?_
  refine lv_topi (fun z33 ez33 => ?_)
  have hw := hw z33 ez33
  refine lv_istore (lv' := [(8, .int z33), (0, .ref o), (1, .ref r), (3, .int y), (4, .int w), (6, .int x6), (7, .int x7), (9, .int x9)]) hx hb dX9_init_91 hl (by decide) rfl (fun ls hl => ?_)
  obtain ⟨z34, ez34⟩ : ∃ y : Int32, y = x6 + 1 := ⟨_, rfl⟩
  have hw := hw z34 ez34
  refine lv_iinc (v := z34) (lv' := [(6, .int z34), (8, .int z33), (0, .ref o), (1, .ref r), (3, .int y), (4, .int w), (7, .int x7), (9, .int x9)]) hx hb dX9_init_93 hl (k := 5) rfl (by rw [ez34]; rfl) (by decide) rfl (fun ls hl => ?_)
  refine lv_iload hx hb dX9_init_96 (lv_at hl 7 rfl) ?_
  refine lv_istore (lv' := [(5, .int x9), (6, .int z34), (8, .int z33), (0, .ref o), (1, .ref r), (3, .int y), (4, .int w), (7, .int x7), (9, .int x9)]) hx hb dX9_init_98 hl (by decide) rfl (fun ls hl => ?_)
  refine lv_iload hx hb dX9_init_100 (lv_at hl 0 rfl) ?_
  refine lv_iload_n hx hb dX9_init_102 rfl (lv_at hl 5 rfl) ?_
  refine lv_icmp_ne (tgt := 110) hx hb dX9_init_103 (by decide) (fun c35 => ?_) (fun c35 => ?_)
  · have hw := hw.1 c35
    refine lv_aload_n hx hb dX9_init_110 rfl (lv_at hl 4 rfl) ?_
    refine lv_iload hx hb dX9_init_111 (lv_at hl 0 rfl) ?_
    refine lv_iload hx hb dX9_init_113 (lv_at hl 6 rfl) ?_
    obtain ⟨g_36, g_37, hw⟩ := hw
    obtain ⟨hpr38, hw⟩ := hw
    obtain ⟨⟨wr38, ur38, hrr38⟩, hw⟩ := hw
    refine vp_callSi (va_runV (As := [.int x9, .int w]) (rest := []) C.fix (met_X2_stageEnd l g g_36 g_37 M r x9 w hpr38) (cw_X9_9 C.ts ⟨Nat.le_of_ble_eq_true rfl, Nat.le_of_ble_eq_true rfl⟩) (preV_of C (P := (nh g M)) (nh.recv C hM hrr38 (q := (RX2, TX2, 5)) rfl) hS hM _) rfl rfl hl.1 rfl (lv_room (Nat.le_of_ble_eq_true rfl)) dX9_init_115 ⟨Nat.le_of_ble_eq_true rfl, Nat.le_of_ble_eq_true rfl⟩).run (fun r38 er38 => ?_)
    replace hw := hw r38 er38
    exact wkb_X9_init_118 C post  hin2 A f o r x y w K36 hK36 M x9 z34 x7 z33 r38 hw hM hS (lv_sub hl [3, 4, 5, 6, 0, 1, 7, 2] rfl)
  · have hw := hw.2 c35
    refine lv_iconst (v := (-1)) hx hb dX9_init_106 (by decide) ?_
    refine lv_goto (tgt := 118) hx hb dX9_init_107 (by decide) ?_
    exact wkb_X9_init_118 C post  hin2 A f o r x y w K36 hK36 M x9 z34 x7 z33 (-1) hw hM hS (lv_sub hl [3, 4, 5, 6, 0, 1, 7, 2] rfl)
set_option maxHeartbeats 4000000 in
theorem wkb_X9_init_36 (C : Cx p s m args meth c cX9_init 10 RX9 none g) (post : nM → Prop) (hin2 : meth.name = "<init>") (A : RA) (f : Row) (o : Nat) (r : Nat) (x : Int32) (y : Int32) (w : Int32)  : ∀ (n : Nat) (M : nM) (x5 : Int32) (x6 : Int32) (x7 : Int32) (x8 : Int32) (x9 : Int32), wpb_X9_init_36 post  g A f o r x y w n M x5 x6 x7 x8 x9 → ∀ (H : Heap) (locs : List Loc), nh g M H → va_S (Ag g) s.heap H locs → ∀ ls : Array Slot, lv_has ls 10 [(0, .ref o), (1, .ref r), (3, .int y), (4, .int w), (5, .int x5), (6, .int x6), (7, .int x7), (8, .int x8), (9, .int x9)] → W p l e ({ frames := 5, cells := 0, slots := 0, locals := 320 } : Room) s m args below meth c H locs 0 0 (MQ below (va_Qv post (fun u t => nh g u t.heap) (Ag g)) args s 0 0 (Ag g)) (F0 m 36 ls []) := by
  have hx := C.1
  have hb := C.2.1
  have hown := C.2.2.2.1
  have hr := C.2.2.2.2.2.1
  have hlocks := C.2.2.2.2.2.2.1
  intro n
  induction n with
  | zero =>
    intro M x5 x6 x7 x8 x9 hw
    exact hw.elim
  | succ n ih =>
    intro M x5 x6 x7 x8 x9 hw H locs hM hS ls hl
    refine lv_iload hx hb dX9_init_36 (lv_at hl 4 rfl) ?_
    refine lv_iload_n hx hb dX9_init_38 rfl (lv_at hl 2 rfl) ?_
    refine lv_icmp_eq (tgt := 123) hx hb dX9_init_39 (by decide) (fun c5 => ?_) (fun c5 => ?_)
    · have hw := hw.1 c5
      exact wkb_X9_init_123 C post  hin2 A f o r x y w  M x5 x6 x7 x8 x9 hw hM hS (lv_sub hl [0, 2, 4, 5, 6, 7, 8] rfl)
    · have hw := hw.2 c5
      refine lv_iload hx hb dX9_init_42 (lv_at hl 8 rfl) ?_
      refine lv_iconst (v := (-1)) hx hb dX9_init_44 (by decide) ?_
      refine lv_icmp_eq (tgt := 123) hx hb dX9_init_45 (by decide) (fun c6 => ?_) (fun c6 => ?_)
      · have hw := hw.1 c6
        exact wkb_X9_init_123 C post  hin2 A f o r x y w  M x5 x6 x7 x8 x9 hw hM hS (lv_sub hl [0, 2, 4, 5, 6, 7, 8] rfl)
      · have hw := hw.2 c6
        refine lv_iload hx hb dX9_init_48 (lv_at hl 5 rfl) ?_
        refine lv_bipush (v := 24) hx hb dX9_init_50 (by decide) ?_
        refine lv_icmp_ge (tgt := 123) hx hb dX9_init_52 (by decide) (fun c7 => ?_) (fun c7 => ?_)
        · have hw := hw.1 c7
          exact wkb_X9_init_123 C post  hin2 A f o r x y w  M x5 x6 x7 x8 x9 hw hM hS (lv_sub hl [0, 2, 4, 5, 6, 7, 8] rfl)
        · have hw := hw.2 c7
          refine lv_iload hx hb dX9_init_55 (lv_at hl 6 rfl) ?_
          refine lv_aload_n hx hb dX9_init_57 rfl (lv_at hl 1 rfl) ?_
          refine lv_iload hx hb dX9_init_58 (lv_at hl 4 rfl) ?_
          refine lv_iload hx hb dX9_init_60 (lv_at hl 8 rfl) ?_
          obtain ⟨g_8, g_9, hw⟩ := hw
          obtain ⟨hpr10, hw⟩ := hw
          obtain ⟨⟨wr10, ur10, hrr10⟩, hw⟩ := hw
          refine vp_callSi (va_runV (As := [.int x5, .int x9]) (rest := [.int x7]) C.fix (met_X2_distance l g g_8 g_9 M r x5 x9 hpr10) (cw_X9_15 C.ts ⟨Nat.le_of_ble_eq_true rfl, Nat.le_of_ble_eq_true rfl⟩) (preV_of C (P := (nh g M)) (nh.recv C hM hrr10 (q := (RX2, TX2, 5)) rfl) hS hM _) rfl rfl hl.1 rfl (lv_room (Nat.le_of_ble_eq_true rfl)) dX9_init_62 ⟨Nat.le_of_ble_eq_true rfl, Nat.le_of_ble_eq_true rfl⟩).run (fun r10 er10 => ?_)
          replace hw := hw r10 er10
          refine lv_iadd hx hb dX9_init_65 ?_
          refine lv_topi (fun z11 ez11 => ?_)
          have hw := hw z11 ez11
          refine lv_istore (lv' := [(7, .int z11), (0, .ref o), (1, .ref r), (3, .int y), (4, .int w), (5, .int x5), (6, .int x6), (8, .int x8), (9, .int x9)]) hx hb dX9_init_66 hl (by decide) rfl (fun ls hl => ?_)
          refine lv_iload hx hb dX9_init_68 (lv_at hl 7 rfl) ?_
          refine lv_iload hx hb dX9_init_70 (lv_at hl 8 rfl) ?_
          refine lv_aload_n hx hb dX9_init_72 rfl (lv_at hl 2 rfl) ?_
          obtain ⟨v12, ⟨tv12, fsv12, hev12, hvv12⟩, hw⟩ := hw
          refine g_getN C in_X2 hM hev12 rfl 1 (by decide) q175 (fun _ h => h) (v := .ref v12) hvv12 dX9_init_73 ?_
          obtain ⟨v13, ⟨tv13, fsv13, hev13, hvv13⟩, hw⟩ := hw
          refine g_getN C in_X3 hM hev13 rfl 0 (by decide) q138 (fun _ h => h) (v := .ref v13) hvv13 dX9_init_76 ?_
          refine lv_iload hx hb dX9_init_79 (lv_at hl 5 rfl) ?_
          obtain ⟨nf14, f14, ⟨tf14, hef14⟩, hif14, hw⟩ := hw
          refine g_iald C hM hef14 hif14 dX9_init_81 ?_
          obtain ⟨z15, ez15⟩ : ∃ y_, y_ = f14 x5.toNatClampNeg := ⟨_, rfl⟩
          rw [← ez15]
          replace hw := hw z15 ez15
          refine lv_icmp_ne (tgt := 89) hx hb dX9_init_82 (by decide) (fun c16 => ?_) (fun c16 => ?_)
          · have hw := hw.1 c16
            refine lv_iconst (v := 1) hx hb dX9_init_89 (by decide) ?_
            exact wkb_X9_init_90 C post  hin2 A f o r x y w (wpb_X9_init_36 post  g A f o r x y w n) ih M x6 z11 x9 1 x8 hw hM hS (lv_sub hl [1, 2, 3, 4, 6, 0, 8] rfl)
          · have hw := hw.2 c16
            refine lv_iconst (v := 0) hx hb dX9_init_85 (by decide) ?_
            refine lv_goto (tgt := 90) hx hb dX9_init_86 (by decide) ?_
            exact wkb_X9_init_90 C post  hin2 A f o r x y w (wpb_X9_init_36 post  g A f o r x y w n) ih M x6 z11 x9 0 x8 hw hM hS (lv_sub hl [1, 2, 3, 4, 6, 0, 8] rfl)
set_option maxHeartbeats 4000000 in
theorem wkb_X9_init_34 (C : Cx p s m args meth c cX9_init 10 RX9 none g) (post : nM → Prop) (hin2 : meth.name = "<init>") (A : RA) (f : Row) (o : Nat) (r : Nat) (x : Int32) (y : Int32) (w : Int32)  (M : nM) (x5 : Int32) (x6 : Int32) (x7 : Int32) (x8 : Int32) (s0 : Int32) (hw : wpb_X9_init_34 post  g A f o r x y w M x5 x6 x7 x8 s0) {H : Heap} {locs : List Loc} (hM : nh g M H) (hS : va_S (Ag g) s.heap H locs) {ls : Array Slot} (hl : lv_has ls 10 [(0, .ref o), (1, .ref r), (3, .int y), (4, .int w), (5, .int x5), (6, .int x6), (7, .int x7), (8, .int x8)]) : W p l e ({ frames := 5, cells := 0, slots := 0, locals := 320 } : Room) s m args below meth c H locs 0 0 (MQ below (va_Qv post (fun u t => nh g u t.heap) (Ag g)) args s 0 0 (Ag g)) (F0 m 34 ls [.int s0]) := by
  have hx := C.1
  have hb := C.2.1
  have hown := C.2.2.2.1
  have hr := C.2.2.2.2.2.1
  have hlocks := C.2.2.2.2.2.2.1
  refine lv_istore (lv' := [(9, .int s0), (0, .ref o), (1, .ref r), (3, .int y), (4, .int w), (5, .int x5), (6, .int x6), (7, .int x7), (8, .int x8)]) hx hb dX9_init_34 hl (by decide) rfl (fun ls hl => ?_)
  obtain ⟨n_, hw⟩ := hw
  exact wkb_X9_init_36 C post  hin2 A f o r x y w  n_ M x5 x6 x7 x8 s0 hw _ _ hM hS _ (lv_sub hl [1, 2, 3, 4, 5, 6, 7, 8, 0] rfl)
set_option maxHeartbeats 4000000 in
theorem wk_X9_init (l : Launch) (g : gG) (A : RA) (f : Row) (M : nM) (o : Nat) (r : Nat) (x : Int32) (y : Int32) (w : Int32) (post : nM → Prop) (hw : wp_X9_init g A f post M o r x y w) : Met l yX9_init (ws_ yX9_init cX9_init 10 none) ({ frames := 5, cells := 0, slots := 0, locals := 320 } : Room) (va_Pc [.ref o, .ref r, .int x, .int y, .int w] (Pg g (nh g M))) (va_Qv post (fun u t => nh g u t.heap) (Ag g)) 0 0 (Ag g) := by
  refine Met.ofW (cc := cX9_init) (maxL := 10) (ret := none) (by decide) rfl ?_
  intro p e s m args below meth c s₁ B hml hv
  obtain ⟨rfl, hG, hM⟩ := hv
  have C : Cx p s m _ meth c cX9_init 10 RX9 none g := Cx.of B hml hG
  have hin2 : meth.name = "<init>" := (name_of_methodNamed B.named B.method).1
  have hx := C.1
  have hb := C.2.1
  have hown := C.2.2.2.1
  have hr := C.2.2.2.2.2.1
  have hlocks := C.2.2.2.2.2.2.1
  have hS : va_S (Ag g) s.heap s.heap [] := va_S.rf
  refine lv_start ([.ref o, .ref r, .int x, .int y, .int w] : List Value) (L := [(0, .ref o), (1, .ref r), (2, .int x), (3, .int y), (4, .int w)]) (Nat.le_of_ble_eq_true rfl) rfl (fun ls hl => ?_)
  refine lv_aload_n hx hb dX9_init_0 rfl (lv_at hl 0 rfl) ?_
  refine g_obj0 C hl.1.symm q2034 dX9_init_1 (Nat.le_of_ble_eq_true rfl) (Nat.le_of_ble_eq_true rfl) ?_
  refine lv_iload_n hx hb dX9_init_4 rfl (lv_at hl 2 rfl) ?_
  refine lv_istore (lv' := [(5, .int x), (0, .ref o), (1, .ref r), (2, .int x), (3, .int y), (4, .int w)]) hx hb dX9_init_5 hl (by decide) rfl (fun ls hl => ?_)
  refine lv_iconst (v := 0) hx hb dX9_init_7 (by decide) ?_
  refine lv_istore (lv' := [(6, .int 0), (5, .int x), (0, .ref o), (1, .ref r), (2, .int x), (3, .int y), (4, .int w)]) hx hb dX9_init_8 hl (by decide) rfl (fun ls hl => ?_)
  refine lv_iconst (v := 0) hx hb dX9_init_10 (by decide) ?_
  refine lv_istore (lv' := [(7, .int 0), (6, .int 0), (5, .int x), (0, .ref o), (1, .ref r), (2, .int x), (3, .int y), (4, .int w)]) hx hb dX9_init_11 hl (by decide) rfl (fun ls hl => ?_)
  refine lv_iconst (v := 0) hx hb dX9_init_13 (by decide) ?_
  refine lv_istore (lv' := [(8, .int 0), (7, .int 0), (6, .int 0), (5, .int x), (0, .ref o), (1, .ref r), (2, .int x), (3, .int y), (4, .int w)]) hx hb dX9_init_14 hl (by decide) rfl (fun ls hl => ?_)
  refine lv_iload hx hb dX9_init_16 (lv_at hl 3 rfl) ?_
  refine lv_iload_n hx hb dX9_init_18 rfl (lv_at hl 7 rfl) ?_
  refine lv_icmp_ne (tgt := 26) hx hb dX9_init_19 (by decide) (fun c1 => ?_) (fun c1 => ?_)
  · have hw := hw.1 c1
    refine lv_aload_n hx hb dX9_init_26 rfl (lv_at hl 5 rfl) ?_
    refine lv_iload hx hb dX9_init_27 (lv_at hl 3 rfl) ?_
    refine lv_iload hx hb dX9_init_29 (lv_at hl 8 rfl) ?_
    obtain ⟨g_2, g_3, hw⟩ := hw
    obtain ⟨hpr4, hw⟩ := hw
    obtain ⟨⟨wr4, ur4, hrr4⟩, hw⟩ := hw
    refine vp_callSi (va_runV (As := [.int x, .int w]) (rest := []) C.fix (met_X2_stageEnd l g g_2 g_3 M r x w hpr4) (cw_X9_9 C.ts ⟨Nat.le_of_ble_eq_true rfl, Nat.le_of_ble_eq_true rfl⟩) (preV_of C (P := (nh g M)) (nh.recv C hM hrr4 (q := (RX2, TX2, 5)) rfl) hS hM _) rfl rfl hl.1 rfl (lv_room (Nat.le_of_ble_eq_true rfl)) dX9_init_31 ⟨Nat.le_of_ble_eq_true rfl, Nat.le_of_ble_eq_true rfl⟩).run (fun r4 er4 => ?_)
    replace hw := hw r4 er4
    exact wkb_X9_init_34 C post  hin2 A f o r x y w  M x 0 0 0 r4 hw hM hS (lv_sub hl [4, 5, 7, 8, 3, 2, 1, 0] rfl)
  · have hw := hw.2 c1
    refine lv_iconst (v := (-1)) hx hb dX9_init_22 (by decide) ?_
    refine lv_goto (tgt := 34) hx hb dX9_init_23 (by decide) ?_
    exact wkb_X9_init_34 C post  hin2 A f o r x y w  M x 0 0 0 (-1) hw hM hS (lv_sub hl [4, 5, 7, 8, 3, 2, 1, 0] rfl)
set_option maxHeartbeats 4000000 in
theorem met_X9_init (l : Launch) (g : gG) (A : RA) (f : Row) (M : nM) (o : Nat) (r : Nat) (x : Int32) (y : Int32) (w : Int32) (hpre : pre_X9_init g A f M o r x y w) : Met l yX9_init (ws_ yX9_init cX9_init 10 none) ({ frames := 5, cells := 0, slots := 0, locals := 320 } : Room) (va_Pc [.ref o, .ref r, .int x, .int y, .int w] (Pg g (nh g M))) (va_Qv (fun M' => post_X9_init g A f M o r x y w M') (fun u t => nh g u t.heap) (Ag g)) 0 0 (Ag g) :=
  wk_X9_init l g A f M o r x y w _ (pr_X9_init g A f M o r x y w hpre)
end
