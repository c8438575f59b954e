set_option maxRecDepth 100000
theorem cw_X6_232 {R : Room} {s : State} {args : Array Value} (hts : ∀ w ∈ lw_all, w.before args s = true) {rm : Room} (hR : rm.frames + 1 ≤ R.frames ∧ 8 + (1 + 11) + rm.locals ≤ R.locals) : CallW R s args RX6 RX6 232 yX6_partAt cX6_partAt 1 (some .int) (ws_ yX6_partAt cX6_partAt 1 (some .int)) rm rm.cells rm.slots 0 := cwV 0 hts (lw_V q2483 q2485 qs42 q98 q2486) rfl rfl rfl (by decide +kernel) hR
theorem cw_X6_235 {R : Room} {s : State} {args : Array Value} (hts : ∀ w ∈ lw_all, w.before args s = true) {rm : Room} (hR : rm.frames + 1 ≤ R.frames ∧ 8 + (4 + 11) + rm.locals ≤ R.locals) : CallW R s args RX6 RX6 235 yX6_readsPart cX6_readsPart 4 (some .boolean) (ws_ yX6_readsPart cX6_readsPart 4 (some .boolean)) rm rm.cells rm.slots 2 := cwV 2 hts (lw_V q2493 q2495 qs43 q98 q2496) rfl rfl rfl (by decide +kernel) hR
section
variable {p : Program} {l : Launch} {e : Env} {s : State} {m : MethodId} {args : Array Value} {below : List Frame} {meth : Method} {c : Code} {g : gG} {F : nM} {adr : Nat → Nat}
abbrev rm_X6_reads : Room := ({ frames := 11, cells := 0, slots := 0, locals := 704 } : Room)
set_option maxHeartbeats 4000000 in
theorem wkb_X6_reads_179 (C : Cx p s m args meth c cX6_reads 6 RX6 (some .boolean) g) (post : Int32 → MSt → Prop)  (K71 : (Nat → Int32) → (Nat → Nat → Int32) → (Nat → Nat) → Int32 → Int32 → Prop) (hK71 : ∀ (i : Nat → Int32) (a : Nat → Nat → Int32) (q : Nat → Nat) (y1 : Int32) (y2 : Int32), K71 i a q y1 y2 → ∀ (H : Heap) (locs : List Loc), MS g F adr i a q H → va_S (Ag g) s.heap H locs → ∀ ls : Array Slot, lv_has ls 6 [(0, .ref (adr 0)), (1, .int y1), (2, .int y2)] → W p l e rm_X6_reads s m args below meth c H locs 0 0 (MQ below (va_Qi post (fun u t => MS g F adr u.1 u.2.1 u.2.2 t.heap) (Ag g)) args s 0 0 (Ag g)) (F0 m 71 ls [])) (i : Nat → Int32) (a : Nat → Nat → Int32) (q : Nat → Nat) (x2 : Int32) (x3 : Int32) (s0 : Int32) (hw : wpb_X6_reads_179 post K71  i a q x2 x3 s0) {H : Heap} {locs : List Loc} (hM : MS g F adr i a q H) (hS : va_S (Ag g) s.heap H locs) {ls : Array Slot} (hl : lv_has ls 6 [(0, .ref (adr 0)), (2, .int x2), (3, .int x3)]) : W p l e rm_X6_reads s m args below meth c H locs 0 0 (MQ below (va_Qi post (fun u t => MS g F adr u.1 u.2.1 u.2.2 t.heap) (Ag g)) args s 0 0 (Ag g)) (F0 m 179 ls [.int s0, .ref (adr 0)]) := by
  have hx := C.1
  have hb := C.2.1
  have hown := C.2.2.2.1
  have hr := C.2.2.2.2.2.1
  have hlocks := C.2.2.2.2.2.2.1
  refine m_put C hM hS 24 rfl q2362 rfl rfl rfl dX6_reads_179 (fun i49 H locs ei49 hM hS => ?_)
  have hw := hw i49 ei49
  refine lv_iload_n hx hb dX6_reads_182 rfl (lv_at hl 2 rfl) ?_
  refine lv_istore_n (lv' := [(1, .int x3), (0, .ref (adr 0)), (2, .int x2), (3, .int x3)]) hx hb dX6_reads_183 rfl hl (by decide) rfl (fun ls hl => ?_)
  refine lv_aload_n hx hb dX6_reads_184 rfl (lv_at hl 1 rfl) ?_
  refine va_callv (va_runV (As := []) (rest := []) C.fix (met_X6_advances l g F adr i49 a q  hw.1) (cw_X6_180 C.ts ⟨Nat.le_of_ble_eq_true rfl, Nat.le_of_ble_eq_true rfl⟩) (preV_of C (P := (MS g F adr i49 a q)) (MS.recv C hM) hS hM _) rfl rfl hl.1 rfl (lv_room (Nat.le_of_ble_eq_true rfl)) dX6_reads_185 ⟨Nat.le_of_ble_eq_true rfl, Nat.le_of_ble_eq_true rfl⟩) hS (fun _ _ h => h) (fun _ h => h) (fun z_u t H locs ht _ hw1 hB _ _ hS => ?_)
  obtain ⟨i51, a52, q53⟩ := z_u
  have hM : MS g F adr i51 a52 q53 H := by rw [← ht]; exact hB
  have hw := hw.2 i51 a52 q53 hw1
  refine lv_aload_n hx hb dX6_reads_188 rfl (lv_at hl 1 rfl) ?_
  refine lv_iload_n hx hb dX6_reads_189 rfl (lv_at hl 0 rfl) ?_
  refine lv_aload_n hx hb dX6_reads_190 rfl (lv_at hl 1 rfl) ?_
  refine m_get C hM 24 (by decide) q2362 rfl rfl dX6_reads_191 ?_
  refine va_calli (va_runV (As := [.int x3, .int (i51 24)]) (rest := []) C.fix (met_X6_readsPart l g F adr i51 a52 q53 x3 (i51 24) hw.1) (cw_X6_235 C.ts ⟨Nat.le_of_ble_eq_true rfl, Nat.le_of_ble_eq_true rfl⟩) (preV_of C (P := (MS g F adr i51 a52 q53)) (MS.recv C hM) hS hM _) rfl rfl hl.1 rfl (lv_room (Nat.le_of_ble_eq_true rfl)) dX6_reads_194 ⟨Nat.le_of_ble_eq_true rfl, Nat.le_of_ble_eq_true rfl⟩) hS (fun _ _ h => h) (fun _ h => h) (fun r54 z_u t H locs ht _ hw1 hB _ _ hS => ?_)
  obtain ⟨i55, a56, q57⟩ := z_u
  have hM : MS g F adr i55 a56 q57 H := by rw [← ht]; exact hB
  have hw := hw.2 r54 i55 a56 q57 hw1
  refine lv_if_ne (tgt := 202) hx hb dX6_reads_197 (by decide) (fun c58 => ?_) (fun c58 => ?_)
  · have hw := hw.1 c58
    refine lv_goto (tgt := 71) hx hb dX6_reads_202 (by decide) ?_
    exact hK71 i55 a56 q57 x3 x2 hw _ _ hM hS _ (lv_sub hl [1, 0, 2] rfl)
  · have hw := hw.2 c58
    refine lv_iconst (v := 0) hx hb dX6_reads_200 (by decide) ?_
    exact W.zret (v := 0) hx hb hr hw.1 (fun t ht _ => ⟨⟨0, (i55, a56, q57), rfl, hw.2, hM.at ht⟩, hS.F ht⟩) hS.2.2 dX6_reads_201
set_option maxHeartbeats 4000000 in
theorem wkb_X6_reads_165 (C : Cx p s m args meth c cX6_reads 6 RX6 (some .boolean) g) (post : Int32 → MSt → Prop)  (K71 : (Nat → Int32) → (Nat → Nat → Int32) → (Nat → Nat) → Int32 → Int32 → Prop) (hK71 : ∀ (i : Nat → Int32) (a : Nat → Nat → Int32) (q : Nat → Nat) (y1 : Int32) (y2 : Int32), K71 i a q y1 y2 → ∀ (H : Heap) (locs : List Loc), MS g F adr i a q H → va_S (Ag g) s.heap H locs → ∀ ls : Array Slot, lv_has ls 6 [(0, .ref (adr 0)), (1, .int y1), (2, .int y2)] → W p l e rm_X6_reads s m args below meth c H locs 0 0 (MQ below (va_Qi post (fun u t => MS g F adr u.1 u.2.1 u.2.2 t.heap) (Ag g)) args s 0 0 (Ag g)) (F0 m 71 ls [])) (i : Nat → Int32) (a : Nat → Nat → Int32) (q : Nat → Nat) (x1 : Int32) (x2 : Int32) (x3 : Int32) (hw : wpb_X6_reads_165 post K71  i a q x1 x2 x3) {H : Heap} {locs : List Loc} (hM : MS g F adr i a q H) (hS : va_S (Ag g) s.heap H locs) {ls : Array Slot} (hl : lv_has ls 6 [(0, .ref (adr 0)), (1, .int x1), (2, .int x2), (3, .int x3)]) : W p l e rm_X6_reads s m args below meth c H locs 0 0 (MQ below (va_Qi post (fun u t => MS g F adr u.1 u.2.1 u.2.2 t.heap) (Ag g)) args s 0 0 (Ag g)) (F0 m 165 ls []) := by
  have hx := C.1
  have hb := C.2.1
  have hown := C.2.2.2.1
  have hr := C.2.2.2.2.2.1
  have hlocks := C.2.2.2.2.2.2.1
  refine lv_aload_n hx hb dX6_reads_165 rfl (lv_at hl 0 rfl) ?_
  refine lv_iload_n hx hb dX6_reads_166 rfl (lv_at hl 3 rfl) ?_
  refine lv_iload_n hx hb dX6_reads_167 rfl (lv_at hl 1 rfl) ?_
  refine lv_icmp_ne (tgt := 178) hx hb dX6_reads_168 (by decide) (fun c48 => ?_) (fun c48 => ?_)
  · have hw := hw.1 c48
    refine lv_iconst (v := (-1)) hx hb dX6_reads_178 (by decide) ?_
    exact wkb_X6_reads_179 C post  K71 hK71 i a q x2 x3 (-1) hw hM hS (lv_sub hl [0, 2, 3] rfl)
  · have hw := hw.2 c48
    refine lv_aload_n hx hb dX6_reads_171 rfl (lv_at hl 0 rfl) ?_
    refine m_get C hM 24 (by decide) q2362 rfl rfl dX6_reads_172 ?_
    refine lv_goto (tgt := 179) hx hb dX6_reads_175 (by decide) ?_
    exact wkb_X6_reads_179 C post  K71 hK71 i a q x2 x3 (i 24) hw hM hS (lv_sub hl [0, 2, 3] rfl)
set_option maxHeartbeats 4000000 in
theorem wkb_X6_reads_139 (C : Cx p s m args meth c cX6_reads 6 RX6 (some .boolean) g) (post : Int32 → MSt → Prop)  (K71 : (Nat → Int32) → (Nat → Nat → Int32) → (Nat → Nat) → Int32 → Int32 → Prop) (hK71 : ∀ (i : Nat → Int32) (a : Nat → Nat → Int32) (q : Nat → Nat) (y1 : Int32) (y2 : Int32), K71 i a q y1 y2 → ∀ (H : Heap) (locs : List Loc), MS g F adr i a q H → va_S (Ag g) s.heap H locs → ∀ ls : Array Slot, lv_has ls 6 [(0, .ref (adr 0)), (1, .int y1), (2, .int y2)] → W p l e rm_X6_reads s m args below meth c H locs 0 0 (MQ below (va_Qi post (fun u t => MS g F adr u.1 u.2.1 u.2.2 t.heap) (Ag g)) args s 0 0 (Ag g)) (F0 m 71 ls [])) (i : Nat → Int32) (a : Nat → Nat → Int32) (q : Nat → Nat) (x1 : Int32) (x2 : Int32) (x3 : Int32) (s0 : Int32) (hw : wpb_X6_reads_139 post K71  i a q x1 x2 x3 s0) {H : Heap} {locs : List Loc} (hM : MS g F adr i a q H) (hS : va_S (Ag g) s.heap H locs) {ls : Array Slot} (hl : lv_has ls 6 [(0, .ref (adr 0)), (1, .int x1), (2, .int x2), (3, .int x3)]) : W p l e rm_X6_reads s m args below meth c H locs 0 0 (MQ below (va_Qi post (fun u t => MS g F adr u.1 u.2.1 u.2.2 t.heap) (Ag g)) args s 0 0 (Ag g)) (F0 m 139 ls [.int s0]) := by
  have hx := C.1
  have hb := C.2.1
  have hown := C.2.2.2.1
  have hr := C.2.2.2.2.2.1
  have hlocks := C.2.2.2.2.2.2.1
  refine lv_istore (lv' := [(5, .int s0), (0, .ref (adr 0)), (1, .int x1), (2, .int x2), (3, .int x3)]) hx hb dX6_reads_139 hl (by decide) rfl (fun ls hl => ?_)
  refine lv_iload hx hb dX6_reads_141 (lv_at hl 0 rfl) ?_
  refine lv_if_ne (tgt := 148) hx hb dX6_reads_143 (by decide) (fun c41 => ?_) (fun c41 => ?_)
  · have hw := hw.1 c41
    refine lv_iload_n hx hb dX6_reads_148 rfl (lv_at hl 4 rfl) ?_
    refine lv_if_le (tgt := 165) hx hb dX6_reads_149 (by decide) (fun c42 => ?_) (fun c42 => ?_)
    · have hw := hw.1 c42
      exact wkb_X6_reads_165 C post  K71 hK71 i a q x1 x2 x3 hw hM hS (lv_sub hl [1, 2, 3, 4] rfl)
    · have hw := hw.2 c42
      refine lv_iload_n hx hb dX6_reads_152 rfl (lv_at hl 3 rfl) ?_
      refine lv_if_ne (tgt := 165) hx hb dX6_reads_153 (by decide) (fun c43 => ?_) (fun c43 => ?_)
      · have hw := hw.1 c43
        exact wkb_X6_reads_165 C post  K71 hK71 i a q x1 x2 x3 hw hM hS (lv_sub hl [1, 2, 3, 4] rfl)
      · have hw := hw.2 c43
        refine lv_aload_n hx hb dX6_reads_156 rfl (lv_at hl 1 rfl) ?_
        refine m_get C hM 3 (by decide) q2341 rfl rfl dX6_reads_157 ?_
        refine va_callv (va_runS (As := [.ref (adr 3)]) (rest := []) C.fix (met_X6_rebuilds l g F adr i a q 3 (by decide) ) (cw_X6_48 C.ts ⟨Nat.le_of_ble_eq_true rfl, Nat.le_of_ble_eq_true rfl⟩) (preS_of C (P := (MS g F adr i a q)) hS hM _) rfl rfl hl.1 rfl (lv_room (Nat.le_of_ble_eq_true rfl)) dX6_reads_160 ⟨Nat.le_of_ble_eq_true rfl, Nat.le_of_ble_eq_true rfl⟩) hS (fun _ _ h => h) (fun _ h => h) (fun z_u t H locs ht _ hw1 hB _ _ hS => ?_)
        obtain ⟨i45, a46, q47⟩ := z_u
        have hM : MS g F adr i45 a46 q47 H := by rw [← ht]; exact hB
        have hw := hw i45 a46 q47 hw1
        refine lv_iconst (v := 1) hx hb dX6_reads_163 (by decide) ?_
        refine lv_istore_n (lv' := [(2, .int 1), (5, .int s0), (0, .ref (adr 0)), (1, .int x1), (3, .int x3)]) hx hb dX6_reads_164 rfl hl (by decide) rfl (fun ls hl => ?_)
        exact wkb_X6_reads_165 C post  K71 hK71 i45 a46 q47 x1 1 x3 hw hM hS (lv_sub hl [2, 3, 0, 4] rfl)
  · have hw := hw.2 c41
    refine lv_iconst (v := 0) hx hb dX6_reads_146 (by decide) ?_
    exact W.zret (v := 0) hx hb hr hw.1 (fun t ht _ => ⟨⟨0, (i, a, q), rfl, hw.2, hM.at ht⟩, hS.F ht⟩) hS.2.2 dX6_reads_147
set_option maxHeartbeats 4000000 in
theorem wkb_X6_reads_138 (C : Cx p s m args meth c cX6_reads 6 RX6 (some .boolean) g) (post : Int32 → MSt → Prop)  (K71 : (Nat → Int32) → (Nat → Nat → Int32) → (Nat → Nat) → Int32 → Int32 → Prop) (hK71 : ∀ (i : Nat → Int32) (a : Nat → Nat → Int32) (q : Nat → Nat) (y1 : Int32) (y2 : Int32), K71 i a q y1 y2 → ∀ (H : Heap) (locs : List Loc), MS g F adr i a q H → va_S (Ag g) s.heap H locs → ∀ ls : Array Slot, lv_has ls 6 [(0, .ref (adr 0)), (1, .int y1), (2, .int y2)] → W p l e rm_X6_reads s m args below meth c H locs 0 0 (MQ below (va_Qi post (fun u t => MS g F adr u.1 u.2.1 u.2.2 t.heap) (Ag g)) args s 0 0 (Ag g)) (F0 m 71 ls [])) (i : Nat → Int32) (a : Nat → Nat → Int32) (q : Nat → Nat) (x1 : Int32) (x2 : Int32) (x3 : Int32) (hw : wpb_X6_reads_138 post K71  i a q x1 x2 x3) {H : Heap} {locs : List Loc} (hM : MS g F adr i a q H) (hS : va_S (Ag g) s.heap H locs) {ls : Array Slot} (hl : lv_has ls 6 [(0, .ref (adr 0)), (1, .int x1), (2, .int x2), (3, .int x3)]) : W p l e rm_X6_reads s m args below meth c H locs 0 0 (MQ below (va_Qi post (fun u t => MS g F adr u.1 u.2.1 u.2.2 t.heap) (Ag g)) args s 0 0 (Ag g)) (F0 m 138 ls []) := by
  have hx := C.1
  have hb := C.2.1
  have hown := C.2.2.2.1
  have hr := C.2.2.2.2.2.1
  have hlocks := C.2.2.2.2.2.2.1
  refine lv_iconst (v := 0) hx hb dX6_reads_138 (by decide) ?_
  exact wkb_X6_reads_139 C post  K71 hK71 i a q x1 x2 x3 0 hw hM hS (lv_sub hl [0, 1, 2, 3] rfl)
set_option maxHeartbeats 4000000 in
theorem wkb_X6_reads_134 (C : Cx p s m args meth c cX6_reads 6 RX6 (some .boolean) g) (post : Int32 → MSt → Prop)  (K71 : (Nat → Int32) → (Nat → Nat → Int32) → (Nat → Nat) → Int32 → Int32 → Prop) (hK71 : ∀ (i : Nat → Int32) (a : Nat → Nat → Int32) (q : Nat → Nat) (y1 : Int32) (y2 : Int32), K71 i a q y1 y2 → ∀ (H : Heap) (locs : List Loc), MS g F adr i a q H → va_S (Ag g) s.heap H locs → ∀ ls : Array Slot, lv_has ls 6 [(0, .ref (adr 0)), (1, .int y1), (2, .int y2)] → W p l e rm_X6_reads s m args below meth c H locs 0 0 (MQ below (va_Qi post (fun u t => MS g F adr u.1 u.2.1 u.2.2 t.heap) (Ag g)) args s 0 0 (Ag g)) (F0 m 71 ls [])) (i : Nat → Int32) (a : Nat → Nat → Int32) (q : Nat → Nat) (x1 : Int32) (x2 : Int32) (x3 : Int32) (hw : wpb_X6_reads_134 post K71  i a q x1 x2 x3) {H : Heap} {locs : List Loc} (hM : MS g F adr i a q H) (hS : va_S (Ag g) s.heap H locs) {ls : Array Slot} (hl : lv_has ls 6 [(0, .ref (adr 0)), (1, .int x1), (2, .int x2), (3, .int x3)]) : W p l e rm_X6_reads s m args below meth c H locs 0 0 (MQ below (va_Qi post (fun u t => MS g F adr u.1 u.2.1 u.2.2 t.heap) (Ag g)) args s 0 0 (Ag g)) (F0 m 134 ls []) := by
  have hx := C.1
  have hb := C.2.1
  have hown := C.2.2.2.1
  have hr := C.2.2.2.2.2.1
  have hlocks := C.2.2.2.2.2.2.1
  refine lv_iconst (v := 1) hx hb dX6_reads_134 (by decide) ?_
  refine lv_goto (tgt := 139) hx hb dX6_reads_135 (by decide) ?_
  exact wkb_X6_reads_139 C post  K71 hK71 i a q x1 x2 x3 1 hw hM hS (lv_sub hl [0, 1, 2, 3] rfl)
set_option maxHeartbeats 4000000 in
theorem wkb_X6_reads_112 (C : Cx p s m args meth c cX6_reads 6 RX6 (some .boolean) g) (post : Int32 → MSt → Prop)  (K71 : (Nat → Int32) → (Nat → Nat → Int32) → (Nat → Nat) → Int32 → Int32 → Prop) (hK71 : ∀ (i : Nat → Int32) (a : Nat → Nat → Int32) (q : Nat → Nat) (y1 : Int32) (y2 : Int32), K71 i a q y1 y2 → ∀ (H : Heap) (locs : List Loc), MS g F adr i a q H → va_S (Ag g) s.heap H locs → ∀ ls : Array Slot, lv_has ls 6 [(0, .ref (adr 0)), (1, .int y1), (2, .int y2)] → W p l e rm_X6_reads s m args below meth c H locs 0 0 (MQ below (va_Qi post (fun u t => MS g F adr u.1 u.2.1 u.2.2 t.heap) (Ag g)) args s 0 0 (Ag g)) (F0 m 71 ls [])) (i : Nat → Int32) (a : Nat → Nat → Int32) (q : Nat → Nat) (x1 : Int32) (x2 : Int32) (x3 : Int32) (s0 : Int32) (hw : wpb_X6_reads_112 post K71  i a q x1 x2 x3 s0) {H : Heap} {locs : List Loc} (hM : MS g F adr i a q H) (hS : va_S (Ag g) s.heap H locs) {ls : Array Slot} (hl : lv_has ls 6 [(0, .ref (adr 0)), (1, .int x1), (2, .int x2), (3, .int x3)]) : W p l e rm_X6_reads s m args below meth c H locs 0 0 (MQ below (va_Qi post (fun u t => MS g F adr u.1 u.2.1 u.2.2 t.heap) (Ag g)) args s 0 0 (Ag g)) (F0 m 112 ls [.int s0]) := by
  have hx := C.1
  have hb := C.2.1
  have hown := C.2.2.2.1
  have hr := C.2.2.2.2.2.1
  have hlocks := C.2.2.2.2.2.2.1
  refine lv_istore (lv' := [(4, .int s0), (0, .ref (adr 0)), (1, .int x1), (2, .int x2), (3, .int x3)]) hx hb dX6_reads_112 hl (by decide) rfl (fun ls hl => ?_)
  refine lv_iload_n hx hb dX6_reads_114 rfl (lv_at hl 4 rfl) ?_
  refine lv_iconst (v := (-1)) hx hb dX6_reads_115 (by decide) ?_
  refine lv_icmp_eq (tgt := 138) hx hb dX6_reads_116 (by decide) (fun c37 => ?_) (fun c37 => ?_)
  · have hw := hw.1 c37
    exact wkb_X6_reads_138 C post  K71 hK71 i a q x1 x2 x3 hw hM hS (lv_sub hl [1, 2, 3, 4] rfl)
  · have hw := hw.2 c37
    refine lv_iload_n hx hb dX6_reads_119 rfl (lv_at hl 4 rfl) ?_
    refine lv_iload_n hx hb dX6_reads_120 rfl (lv_at hl 2 rfl) ?_
    refine lv_icmp_gt (tgt := 134) hx hb dX6_reads_121 (by decide) (fun c38 => ?_) (fun c38 => ?_)
    · have hw := hw.1 c38
      exact wkb_X6_reads_134 C post  K71 hK71 i a q x1 x2 x3 hw hM hS (lv_sub hl [1, 2, 3, 4] rfl)
    · have hw := hw.2 c38
      refine lv_iload_n hx hb dX6_reads_124 rfl (lv_at hl 4 rfl) ?_
      refine lv_iload_n hx hb dX6_reads_125 rfl (lv_at hl 2 rfl) ?_
      refine lv_icmp_ne (tgt := 138) hx hb dX6_reads_126 (by decide) (fun c39 => ?_) (fun c39 => ?_)
      · have hw := hw.1 c39
        exact wkb_X6_reads_138 C post  K71 hK71 i a q x1 x2 x3 hw hM hS (lv_sub hl [1, 2, 3, 4] rfl)
      · have hw := hw.2 c39
        refine lv_iload hx hb dX6_reads_129 (lv_at hl 0 rfl) ?_
        refine lv_if_eq (tgt := 138) hx hb dX6_reads_131 (by decide) (fun c40 => ?_) (fun c40 => ?_)
        · have hw := hw.1 c40
          exact wkb_X6_reads_138 C post  K71 hK71 i a q x1 x2 x3 hw hM hS (lv_sub hl [1, 2, 3, 4] rfl)
        · have hw := hw.2 c40
          exact wkb_X6_reads_134 C post  K71 hK71 i a q x1 x2 x3 hw hM hS (lv_sub hl [1, 2, 3, 4] rfl)
set_option maxHeartbeats 4000000 in
theorem wkb_X6_reads_107 (C : Cx p s m args meth c cX6_reads 6 RX6 (some .boolean) g) (post : Int32 → MSt → Prop)  (K71 : (Nat → Int32) → (Nat → Nat → Int32) → (Nat → Nat) → Int32 → Int32 → Prop) (hK71 : ∀ (i : Nat → Int32) (a : Nat → Nat → Int32) (q : Nat → Nat) (y1 : Int32) (y2 : Int32), K71 i a q y1 y2 → ∀ (H : Heap) (locs : List Loc), MS g F adr i a q H → va_S (Ag g) s.heap H locs → ∀ ls : Array Slot, lv_has ls 6 [(0, .ref (adr 0)), (1, .int y1), (2, .int y2)] → W p l e rm_X6_reads s m args below meth c H locs 0 0 (MQ below (va_Qi post (fun u t => MS g F adr u.1 u.2.1 u.2.2 t.heap) (Ag g)) args s 0 0 (Ag g)) (F0 m 71 ls [])) (i : Nat → Int32) (a : Nat → Nat → Int32) (q : Nat → Nat) (x1 : Int32) (x2 : Int32) (x3 : Int32) (hw : wpb_X6_reads_107 post K71  i a q x1 x2 x3) {H : Heap} {locs : List Loc} (hM : MS g F adr i a q H) (hS : va_S (Ag g) s.heap H locs) {ls : Array Slot} (hl : lv_has ls 6 [(0, .ref (adr 0)), (1, .int x1), (2, .int x2), (3, .int x3)]) : W p l e rm_X6_reads s m args below meth c H locs 0 0 (MQ below (va_Qi post (fun u t => MS g F adr u.1 u.2.1 u.2.2 t.heap) (Ag g)) args s 0 0 (Ag g)) (F0 m 107 ls []) := by
  have hx := C.1
  have hb := C.2.1
  have hown := C.2.2.2.1
  have hr := C.2.2.2.2.2.1
  have hlocks := C.2.2.2.2.2.2.1
  refine lv_iconst (v := 1) hx hb dX6_reads_107 (by decide) ?_
  refine lv_goto (tgt := 112) hx hb dX6_reads_108 (by decide) ?_
  exact wkb_X6_reads_112 C post  K71 hK71 i a q x1 x2 x3 1 hw hM hS (lv_sub hl [0, 1, 2, 3] rfl)
set_option maxHeartbeats 4000000 in
theorem wkb_X6_reads_71 (C : Cx p s m args meth c cX6_reads 6 RX6 (some .boolean) g) (post : Int32 → MSt → Prop)   : ∀ (n : Nat) (i : Nat → Int32) (a : Nat → Nat → Int32) (q : Nat → Nat) (x1 : Int32) (x2 : Int32), wpb_X6_reads_71 post   n i a q x1 x2 → ∀ (H : Heap) (locs : List Loc), MS g F adr i a q H → va_S (Ag g) s.heap H locs → ∀ ls : Array Slot, lv_has ls 6 [(0, .ref (adr 0)), (1, .int x1), (2, .int x2)] → W p l e rm_X6_reads s m args below meth c H locs 0 0 (MQ below (va_Qi post (fun u t => MS g F adr u.1 u.2.1 u.2.2 t.heap) (Ag g)) args s 0 0 (Ag g)) (F0 m 71 ls []) := by
  have hx := C.1
  have hb := C.2.1
  have hown := C.2.2.2.1
  have hr := C.2.2.2.2.2.1
  have hlocks := C.2.2.2.2.2.2.1
  intro n
  induction n with
  | zero =>
    intro i a q x1 x2 hw
    exact hw.elim
  | succ n ih =>
    intro i a q x1 x2 hw H locs hM hS ls hl
    refine lv_aload_n hx hb dX6_reads_71 rfl (lv_at hl 0 rfl) ?_
    refine m_get C hM 22 (by decide) q2360 rfl rfl dX6_reads_72 ?_
    refine lv_if_eq (tgt := 205) hx hb dX6_reads_75 (by decide) (fun c22 => ?_) (fun c22 => ?_)
    · have hw := hw.1 c22
      refine lv_iload_n hx hb dX6_reads_205 rfl (lv_at hl 2 rfl) ?_
      refine lv_if_ne (tgt := 216) hx hb dX6_reads_206 (by decide) (fun c23 => ?_) (fun c23 => ?_)
      · have hw := hw.1 c23
        refine lv_iconst (v := 1) hx hb dX6_reads_216 (by decide) ?_
        exact W.zret (v := 1) hx hb hr hw.1 (fun t ht _ => ⟨⟨1, (i, a, q), rfl, hw.2, hM.at ht⟩, hS.F ht⟩) hS.2.2 dX6_reads_217
      · have hw := hw.2 c23
        refine lv_aload_n hx hb dX6_reads_209 rfl (lv_at hl 0 rfl) ?_
        refine m_get C hM 3 (by decide) q2341 rfl rfl dX6_reads_210 ?_
        refine va_callv (va_runS (As := [.ref (adr 3)]) (rest := []) C.fix (met_X6_rebuilds l g F adr i a q 3 (by decide) ) (cw_X6_48 C.ts ⟨Nat.le_of_ble_eq_true rfl, Nat.le_of_ble_eq_true rfl⟩) (preS_of C (P := (MS g F adr i a q)) hS hM _) rfl rfl hl.1 rfl (lv_room (Nat.le_of_ble_eq_true rfl)) dX6_reads_213 ⟨Nat.le_of_ble_eq_true rfl, Nat.le_of_ble_eq_true rfl⟩) hS (fun _ _ h => h) (fun _ h => h) (fun z_u t H locs ht _ hw1 hB _ _ hS => ?_)
        obtain ⟨i25, a26, q27⟩ := z_u
        have hM : MS g F adr i25 a26 q27 H := by rw [← ht]; exact hB
        have hw := hw i25 a26 q27 hw1
        refine lv_iconst (v := 1) hx hb dX6_reads_216 (by decide) ?_
        exact W.zret (v := 1) hx hb hr hw.1 (fun t ht _ => ⟨⟨1, (i25, a26, q27), rfl, hw.2, hM.at ht⟩, hS.F ht⟩) hS.2.2 dX6_reads_217
    · have hw := hw.2 c22
      refine lv_aload_n hx hb dX6_reads_78 rfl (lv_at hl 0 rfl) ?_
      refine lv_bipush (v := 59) hx hb dX6_reads_79 (by decide) ?_
      refine vp_callSi (va_runV (As := [.int 59]) (rest := []) C.fix (met_X6_isSign l g F adr i a q 59 hw.1) (cw_X6_190 C.ts ⟨Nat.le_of_ble_eq_true rfl, Nat.le_of_ble_eq_true rfl⟩) (preV_of C (P := (MS g F adr i a q)) (MS.recv C hM) hS hM _) rfl rfl hl.1 rfl (lv_room (Nat.le_of_ble_eq_true rfl)) dX6_reads_81 ⟨Nat.le_of_ble_eq_true rfl, Nat.le_of_ble_eq_true rfl⟩).run (fun r28 er28 => ?_)
      have hw := hw.2 r28 er28
      refine lv_if_ne (tgt := 89) hx hb dX6_reads_84 (by decide) (fun c29 => ?_) (fun c29 => ?_)
      · have hw := hw.1 c29
        refine lv_aload_n hx hb dX6_reads_89 rfl (lv_at hl 0 rfl) ?_
        refine va_callv (va_runV (As := []) (rest := []) C.fix (met_X6_advances l g F adr i a q  hw.1) (cw_X6_180 C.ts ⟨Nat.le_of_ble_eq_true rfl, Nat.le_of_ble_eq_true rfl⟩) (preV_of C (P := (MS g F adr i a q)) (MS.recv C hM) hS hM _) rfl rfl hl.1 rfl (lv_room (Nat.le_of_ble_eq_true rfl)) dX6_reads_90 ⟨Nat.le_of_ble_eq_true rfl, Nat.le_of_ble_eq_true rfl⟩) hS (fun _ _ h => h) (fun _ h => h) (fun z_u t H locs ht _ hw1 hB _ _ hS => ?_)
        obtain ⟨i31, a32, q33⟩ := z_u
        have hM : MS g F adr i31 a32 q33 H := by rw [← ht]; exact hB
        have hw := hw.2 i31 a32 q33 hw1
        refine lv_aload_n hx hb dX6_reads_93 rfl (lv_at hl 0 rfl) ?_
        refine vp_callSi (va_runV (As := []) (rest := []) C.fix (met_X6_partAt l g F adr i31 a32 q33  hw.1) (cw_X6_232 C.ts ⟨Nat.le_of_ble_eq_true rfl, Nat.le_of_ble_eq_true rfl⟩) (preV_of C (P := (MS g F adr i31 a32 q33)) (MS.recv C hM) hS hM _) rfl rfl hl.1 rfl (lv_room (Nat.le_of_ble_eq_true rfl)) dX6_reads_94 ⟨Nat.le_of_ble_eq_true rfl, Nat.le_of_ble_eq_true rfl⟩).run (fun r34 er34 => ?_)
        have hw := hw.2 r34 er34
        refine lv_istore_n (lv' := [(3, .int r34), (0, .ref (adr 0)), (1, .int x1), (2, .int x2)]) hx hb dX6_reads_97 rfl hl (by decide) rfl (fun ls hl => ?_)
        refine lv_iload_n hx hb dX6_reads_98 rfl (lv_at hl 0 rfl) ?_
        refine lv_if_eq (tgt := 107) hx hb dX6_reads_99 (by decide) (fun c35 => ?_) (fun c35 => ?_)
        · have hw := hw.1 c35
          exact wkb_X6_reads_107 C post  (wpb_X6_reads_71 post   n) ih i31 a32 q33 x1 x2 r34 hw hM hS (lv_sub hl [1, 2, 3, 0] rfl)
        · have hw := hw.2 c35
          refine lv_iload_n hx hb dX6_reads_102 rfl (lv_at hl 0 rfl) ?_
          refine lv_iconst (v := 3) hx hb dX6_reads_103 (by decide) ?_
          refine lv_icmp_le (tgt := 111) hx hb dX6_reads_104 (by decide) (fun c36 => ?_) (fun c36 => ?_)
          · have hw := hw.1 c36
            refine lv_iconst (v := 0) hx hb dX6_reads_111 (by decide) ?_
            exact wkb_X6_reads_112 C post  (wpb_X6_reads_71 post   n) ih i31 a32 q33 x1 x2 r34 0 hw hM hS (lv_sub hl [1, 2, 3, 0] rfl)
          · have hw := hw.2 c36
            exact wkb_X6_reads_107 C post  (wpb_X6_reads_71 post   n) ih i31 a32 q33 x1 x2 r34 hw hM hS (lv_sub hl [1, 2, 3, 0] rfl)
      · have hw := hw.2 c29
        refine lv_iconst (v := 0) hx hb dX6_reads_87 (by decide) ?_
        exact W.zret (v := 0) hx hb hr hw.1 (fun t ht _ => ⟨⟨0, (i, a, q), rfl, hw.2, hM.at ht⟩, hS.F ht⟩) hS.2.2 dX6_reads_88
set_option maxHeartbeats 4000000 in
theorem wkb_X6_reads_2 (C : Cx p s m args meth c cX6_reads 6 RX6 (some .boolean) g) (post : Int32 → MSt → Prop)   : ∀ (n : Nat) (i : Nat → Int32) (a : Nat → Nat → Int32) (q : Nat → Nat) (x1 : Int32), wpb_X6_reads_2 post   n i a q x1 → ∀ (H : Heap) (locs : List Loc), MS g F adr i a q H → va_S (Ag g) s.heap H locs → ∀ ls : Array Slot, lv_has ls 6 [(0, .ref (adr 0)), (1, .int x1)] → W p l e rm_X6_reads s m args below meth c H locs 0 0 (MQ below (va_Qi post (fun u t => MS g F adr u.1 u.2.1 u.2.2 t.heap) (Ag g)) args s 0 0 (Ag g)) (F0 m 2 ls []) := by
  have hx := C.1
  have hb := C.2.1
  have hown := C.2.2.2.1
  have hr := C.2.2.2.2.2.1
  have hlocks := C.2.2.2.2.2.2.1
  intro n
  induction n with
  | zero =>
    intro i a q x1 hw
    exact hw.elim
  | succ n ih =>
    intro i a q x1 hw H locs hM hS ls hl
    refine lv_iload_n hx hb dX6_reads_2 rfl (lv_at hl 1 rfl) ?_
    refine lv_bipush (v := 78) hx hb dX6_reads_3 (by decide) ?_
    refine lv_icmp_ge (tgt := 21) hx hb dX6_reads_5 (by decide) (fun c1 => ?_) (fun c1 => ?_)
    · have hw := hw.1 c1
      refine lv_aload_n hx hb dX6_reads_21 rfl (lv_at hl 0 rfl) ?_
      refine lv_iconst (v := 0) hx hb dX6_reads_22 (by decide) ?_
      refine m_put C hM hS 20 rfl q2358 rfl rfl rfl dX6_reads_23 (fun i2 H locs ei2 hM hS => ?_)
      have hw := hw i2 ei2
      refine lv_aload_n hx hb dX6_reads_26 rfl (lv_at hl 0 rfl) ?_
      refine va_callv (va_runV (As := []) (rest := []) C.fix (met_X6_advances l g F adr i2 a q  hw.1) (cw_X6_180 C.ts ⟨Nat.le_of_ble_eq_true rfl, Nat.le_of_ble_eq_true rfl⟩) (preV_of C (P := (MS g F adr i2 a q)) (MS.recv C hM) hS hM _) rfl rfl hl.1 rfl (lv_room (Nat.le_of_ble_eq_true rfl)) dX6_reads_27 ⟨Nat.le_of_ble_eq_true rfl, Nat.le_of_ble_eq_true rfl⟩) hS (fun _ _ h => h) (fun _ h => h) (fun z_u t H locs ht _ hw1 hB _ _ hS => ?_)
      obtain ⟨i4, a5, q6⟩ := z_u
      have hM : MS g F adr i4 a5 q6 H := by rw [← ht]; exact hB
      have hw := hw.2 i4 a5 q6 hw1
      refine lv_aload_n hx hb dX6_reads_30 rfl (lv_at hl 0 rfl) ?_
      obtain ⟨sa7, hvsa7, hsa7⟩ := stX6_230 C
      refine va_ldcS hx hb hown hvsa7 dX6_reads_31 ?_
      refine va_calli (va_runV (As := [.ref sa7]) (rest := []) C.fix (met_X6_readsWord l g F adr i4 a5 q6 tx_road sa7 hsa7 hw.1) (cw_X6_206 C.ts ⟨Nat.le_of_ble_eq_true rfl, Nat.le_of_ble_eq_true rfl⟩) (preV_of C (P := (MS g F adr i4 a5 q6)) (MS.recv C hM) hS hM _) rfl rfl hl.1 rfl (lv_room (Nat.le_of_ble_eq_true rfl)) dX6_reads_33 ⟨Nat.le_of_ble_eq_true rfl, Nat.le_of_ble_eq_true rfl⟩) hS (fun _ _ h => h) (fun _ h => h) (fun r8 z_u t H locs ht _ hw1 hB _ _ hS => ?_)
      obtain ⟨i9, a10, q11⟩ := z_u
      have hM : MS g F adr i9 a10 q11 H := by rw [← ht]; exact hB
      have hw := hw.2 r8 i9 a10 q11 hw1
      refine lv_if_eq (tgt := 50) hx hb dX6_reads_36 (by decide) (fun c12 => ?_) (fun c12 => ?_)
      · have hw := hw.1 c12
        refine lv_iconst (v := 0) hx hb dX6_reads_50 (by decide) ?_
        exact W.zret (v := 0) hx hb hr hw.1 (fun t ht _ => ⟨⟨0, (i9, a10, q11), rfl, hw.2, hM.at ht⟩, hS.F ht⟩) hS.2.2 dX6_reads_51
      · have hw := hw.2 c12
        refine lv_aload_n hx hb dX6_reads_39 rfl (lv_at hl 0 rfl) ?_
        refine lv_iconst (v := 1) hx hb dX6_reads_40 (by decide) ?_
        refine lv_sipush (v := 999) hx hb dX6_reads_41 (by decide) ?_
        refine va_calli (va_runV (As := [.int 1, .int 999]) (rest := []) C.fix (met_X6_readsNumber l g F adr i9 a10 q11 1 999 hw.1) (cw_X6_193 C.ts ⟨Nat.le_of_ble_eq_true rfl, Nat.le_of_ble_eq_true rfl⟩) (preV_of C (P := (MS g F adr i9 a10 q11)) (MS.recv C hM) hS hM _) rfl rfl hl.1 rfl (lv_room (Nat.le_of_ble_eq_true rfl)) dX6_reads_44 ⟨Nat.le_of_ble_eq_true rfl, Nat.le_of_ble_eq_true rfl⟩) hS (fun _ _ h => h) (fun _ h => h) (fun r13 z_u t H locs ht _ hw1 hB _ _ hS => ?_)
        obtain ⟨i14, a15, q16⟩ := z_u
        have hM : MS g F adr i14 a15 q16 H := by rw [← ht]; exact hB
        have hw := hw.2 r13 i14 a15 q16 hw1
        refine lv_if_ne (tgt := 52) hx hb dX6_reads_47 (by decide) (fun c17 => ?_) (fun c17 => ?_)
        · have hw := hw.1 c17
          refine lv_aload_n hx hb dX6_reads_52 rfl (lv_at hl 0 rfl) ?_
          refine m_get C hM 3 (by decide) q2341 rfl rfl dX6_reads_53 ?_
          refine lv_iconst (v := 0) hx hb dX6_reads_56 (by decide) ?_
          refine lv_aload_n hx hb dX6_reads_57 rfl (lv_at hl 0 rfl) ?_
          refine m_get C hM 23 (by decide) q2361 rfl rfl dX6_reads_58 ?_
          refine m_ast C hM hS (j := 3) rfl hw.1 dX6_reads_61 (fun a18 H locs ea18 hM hS => ?_)
          have hw := hw.2 a18 ea18
          refine lv_iconst (v := 0) hx hb dX6_reads_62 (by decide) ?_
          refine lv_istore_n (lv' := [(1, .int 0), (0, .ref (adr 0))]) hx hb dX6_reads_63 rfl hl (by decide) rfl (fun ls hl => ?_)
          refine lv_aload_n hx hb dX6_reads_64 rfl (lv_at hl 1 rfl) ?_
          refine lv_iconst (v := (-1)) hx hb dX6_reads_65 (by decide) ?_
          refine m_put C hM hS 24 rfl q2362 rfl rfl rfl dX6_reads_66 (fun i19 H locs ei19 hM hS => ?_)
          have hw := hw i19 ei19
          refine lv_iconst (v := 0) hx hb dX6_reads_69 (by decide) ?_
          refine lv_istore_n (lv' := [(2, .int 0), (1, .int 0), (0, .ref (adr 0))]) hx hb dX6_reads_70 rfl hl (by decide) rfl (fun ls hl => ?_)
          obtain ⟨n, hw⟩ := hw
          exact wkb_X6_reads_71 C post   n i19 a18 q16 0 0 hw _ _ hM hS _ (lv_sub hl [2, 1, 0] rfl)
        · have hw := hw.2 c17
          refine lv_iconst (v := 0) hx hb dX6_reads_50 (by decide) ?_
          exact W.zret (v := 0) hx hb hr hw.1 (fun t ht _ => ⟨⟨0, (i14, a15, q16), rfl, hw.2, hM.at ht⟩, hS.F ht⟩) hS.2.2 dX6_reads_51
    · have hw := hw.2 c1
      refine lv_aload_n hx hb dX6_reads_8 rfl (lv_at hl 0 rfl) ?_
      refine m_get C hM 3 (by decide) q2341 rfl rfl dX6_reads_9 ?_
      refine lv_iload_n hx hb dX6_reads_12 rfl (lv_at hl 1 rfl) ?_
      refine lv_iconst (v := 0) hx hb dX6_reads_13 (by decide) ?_
      refine m_ast C hM hS (j := 3) rfl hw.1 dX6_reads_14 (fun a20 H locs ea20 hM hS => ?_)
      have hw := hw.2 a20 ea20
      obtain ⟨z21, ez21⟩ : ∃ y : Int32, y = x1 + 1 := ⟨_, rfl⟩
      have hw := hw z21 ez21
      refine lv_iinc (v := z21) (lv' := [(1, .int z21), (0, .ref (adr 0))]) hx hb dX6_reads_15 hl (k := 1) rfl (by rw [ez21]; rfl) (by decide) rfl (fun ls hl => ?_)
      refine lv_goto (tgt := 2) hx hb dX6_reads_18 (by decide) ?_
      exact ih i a20 q z21 hw _ _ hM hS _ (lv_sub hl [1, 0] rfl)
set_option maxHeartbeats 4000000 in
theorem wk_X6_reads (l : Launch) (g : gG) (F : nM) (adr : Nat → Nat) (i : Nat → Int32) (a : Nat → Nat → Int32) (q : Nat → Nat)  (post : Int32 → MSt → Prop) (hw : wp_X6_reads post i a q ) : Met l yX6_reads (ws_ yX6_reads cX6_reads 6 (some .boolean)) rm_X6_reads (va_Pc [.ref (adr 0)] (Pg g (MS g F adr i a q))) (va_Qi post (fun u t => MS g F adr u.1 u.2.1 u.2.2 t.heap) (Ag g)) 0 0 (Ag g) := by
  refine Met.ofW (cc := cX6_reads) (maxL := 6) (ret := (some .boolean)) (by decide) rfl ?_
  intro p e s m args below meth c s₁ B hml hv
  obtain ⟨rfl, hG, hM⟩ := hv
  have C : Cx p s m _ meth c cX6_reads 6 RX6 (some .boolean) g := Cx.of B hml hG
  have hx := C.1
  have hb := C.2.1
  have hown := C.2.2.2.1
  have hr := C.2.2.2.2.2.1
  have hlocks := C.2.2.2.2.2.2.1
  have hS : va_S (Ag g) s.heap s.heap [] := va_S.rf
  refine lv_start ([.ref (adr 0)] : List Value) (L := [(0, .ref (adr 0))]) (Nat.le_of_ble_eq_true rfl) rfl (fun ls hl => ?_)
  refine lv_iconst (v := 0) hx hb dX6_reads_0 (by decide) ?_
  refine lv_istore_n (lv' := [(1, .int 0), (0, .ref (adr 0))]) hx hb dX6_reads_1 rfl hl (by decide) rfl (fun ls hl => ?_)
  obtain ⟨n, hw⟩ := hw
  exact wkb_X6_reads_2 C post   n i a q 0 hw _ _ hM hS _ (lv_sub hl [1, 0] rfl)
theorem met_X6_reads (l : Launch) (g : gG) (F : nM) (adr : Nat → Nat) (i : Nat → Int32) (a : Nat → Nat → Int32) (q : Nat → Nat) (hpre : pre_X6_reads i a q) : Met l yX6_reads (ws_ yX6_reads cX6_reads 6 (some .boolean)) rm_X6_reads (va_Pc [.ref (adr 0)] (Pg g (MS g F adr i a q))) (va_Qi (fun r u => post_X6_reads i a q r u) (fun u t => MS g F adr u.1 u.2.1 u.2.2 t.heap) (Ag g)) 0 0 (Ag g) := by
  have h := wk_X6_reads l g F adr i (setR a 3 (trn78 (a 3))) q _ (prz_X6_reads i (setR a 3 (trn78 (a 3))) q hpre (fun k hk => by rw [setR_self]; exact if_neg (by omega)))
  refine MetFree.mono h (fun _ _ hp => ⟨hp.1, hp.2.1, MS.row hp.2.2 (m78_int (by decide)) (fun x hx => if_pos hx)⟩) (fun _ _ _ _ _ h => h) ?_
  rintro args s o t - ⟨⟨⟨r, u, h1, h2, h3⟩, h4⟩, h5⟩
  refine ⟨⟨⟨r, u, h1, ?_, h3⟩, h4⟩, h5⟩
  obtain ⟨e1, v, la, f, e2, e3⟩ := h2
  exact ⟨e1, v, la, f, by rw [e2, setR_setR]; rfl, e3⟩

end
