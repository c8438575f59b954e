set_option maxRecDepth 100000
theorem cw_X6_295 {R : Room} {s : State} {args : Array Value} (hts : ∀ w ∈ lw_all, w.before args s = true) {rm : Room} (hR : rm.frames + 1 ≤ R.frames ∧ 8 + (2 + 11) + rm.locals ≤ R.locals) : CallW R s args RX6 RX6 295 yX6_writesByte cX6_writesByte 2 none (ws_ yX6_writesByte cX6_writesByte 2 none) rm rm.cells rm.slots 1 := cwV 1 hts (lw_V q2843 q2845 qs62 q98 q2846) rfl rfl rfl (by decide +kernel) hR
theorem cw_X6_298 {R : Room} {s : State} {args : Array Value} (hts : ∀ w ∈ lw_all, w.before args s = true) {rm : Room} (hR : rm.frames + 1 ≤ R.frames ∧ 8 + (2 + 11) + rm.locals ≤ R.locals) : CallW R s args RX6 RX6 298 yX6_writesDigits cX6_writesDigits 2 none (ws_ yX6_writesDigits cX6_writesDigits 2 none) rm rm.cells rm.slots 1 := cwV 1 hts (lw_V q2851 q2853 qs64 q98 q2854) rfl rfl rfl (by decide +kernel) hR
theorem cw_X6_303 {R : Room} {s : State} {args : Array Value} (hts : ∀ w ∈ lw_all, w.before args s = true) {rm : Room} (hR : rm.frames + 1 ≤ R.frames ∧ 8 + (3 + 11) + rm.locals ≤ R.locals) : CallW R s args RX6 RX6 303 yX6_writes cX6_writes 3 none (ws_ yX6_writes cX6_writes 3 none) rm rm.cells rm.slots 1 := cwV 1 hts (lw_V q2839 q2841 qs61 q98 q2842) rfl rfl rfl (by decide +kernel) hR
theorem cw_X6_307 {R : Room} {s : State} {args : Array Value} (hts : ∀ w ∈ lw_all, w.before args s = true) {rm : Room} (hR : rm.frames + 1 ≤ R.frames ∧ 8 + (2 + 11) + rm.locals ≤ R.locals) : CallW R s args RX6 RX6 307 yX6_writesNumber cX6_writesNumber 2 none (ws_ yX6_writesNumber cX6_writesNumber 2 none) rm rm.cells rm.slots 1 := cwV 1 hts (lw_V q2847 q2849 qs63 q98 q2850) rfl rfl rfl (by decide +kernel) hR
section
variable {p : Program} {l : Launch} {e : Env} {s : State} {m : MethodId} {args : Array Value} {below : List Frame} {meth : Method} {c : Code} {g : gG} {F : nM} {adr : Nat → Nat}
abbrev rm_X6_writesByte : Room := ({ frames := 1, cells := 0, slots := 0, locals := 64 } : Room)
set_option maxHeartbeats 4000000 in
theorem wk_X6_writesByte (l : Launch) (g : gG) (F : nM) (adr : Nat → Nat) (i : Nat → Int32) (a : Nat → Nat → Int32) (q : Nat → Nat) (x : Int32) (post : MSt → Prop) (hw : wp_X6_writesByte post i a q x) : Met l yX6_writesByte (ws_ yX6_writesByte cX6_writesByte 2 none) rm_X6_writesByte (va_Pc [.ref (adr 0), .int x] (Pg g (MS g F adr i a q))) (va_Qv post (fun u t => MS g F adr u.1 u.2.1 u.2.2 t.heap) (Ag g)) 0 0 (Ag g) := by
  refine Met.ofW (cc := cX6_writesByte) (maxL := 2) (ret := none) (by decide) rfl ?_
  intro p e s m args below meth c s₁ B hml hv
  obtain ⟨rfl, hG, hM⟩ := hv
  have C : Cx p s m _ meth c cX6_writesByte 2 RX6 none g := Cx.of B hml hG
  have hx := C.1
  have hb := C.2.1
  have hown := C.2.2.2.1
  have hr := C.2.2.2.2.2.1
  have hlocks := C.2.2.2.2.2.2.1
  have hS : va_S (Ag g) s.heap s.heap [] := va_S.rf
  refine lv_start ([.ref (adr 0), .int x] : List Value) (L := [(0, .ref (adr 0)), (1, .int x)]) (Nat.le_of_ble_eq_true rfl) rfl (fun ls hl => ?_)
  refine lv_aload_n hx hb dX6_writesByte_0 rfl (lv_at hl 0 rfl) ?_
  refine m_get C hM 17 (by decide) q2355 rfl rfl dX6_writesByte_1 ?_
  refine lv_aload_n hx hb dX6_writesByte_4 rfl (lv_at hl 0 rfl) ?_
  refine m_get C hM 19 (by decide) q2357 rfl rfl dX6_writesByte_5 ?_
  refine lv_iload_n hx hb dX6_writesByte_8 rfl (lv_at hl 1 rfl) ?_
  refine lv_i2b hx hb dX6_writesByte_9 rfl ?_
  refine m_bst C hM hS (j := 9) rfl hw.1 dX6_writesByte_10 (fun a1 H locs ea1 hM hS => ?_)
  have hw := hw.2 a1 ea1
  refine lv_aload_n hx hb dX6_writesByte_11 rfl (lv_at hl 0 rfl) ?_
  refine lv_dup hx hb dX6_writesByte_12 rfl ?_
  refine m_get C hM 19 (by decide) q2357 rfl rfl dX6_writesByte_13 ?_
  refine lv_iconst (v := 1) hx hb dX6_writesByte_16 (by decide) ?_
  refine lv_iadd hx hb dX6_writesByte_17 ?_
  refine m_put C hM hS 19 rfl q2357 rfl rfl rfl dX6_writesByte_18 (fun i2 H locs ei2 hM hS => ?_)
  have hw := hw i2 ei2
  exact W.vret hx hb hr (fun t ht _ => ⟨⟨(i2, a1, q), rfl, hw, hM.at ht⟩, hS.F ht⟩) hS.2.2 dX6_writesByte_21
set_option maxHeartbeats 4000000 in
theorem met_X6_writesByte (l : Launch) (g : gG) (F : nM) (adr : Nat → Nat) (i : Nat → Int32) (a : Nat → Nat → Int32) (q : Nat → Nat) (x : Int32) (hpre : pre_X6_writesByte i a q x) : Met l yX6_writesByte (ws_ yX6_writesByte cX6_writesByte 2 none) rm_X6_writesByte (va_Pc [.ref (adr 0), .int x] (Pg g (MS g F adr i a q))) (va_Qv (fun u => post_X6_writesByte i a q x u) (fun u t => MS g F adr u.1 u.2.1 u.2.2 t.heap) (Ag g)) 0 0 (Ag g) :=
  wk_X6_writesByte l g F adr i a q x _ (pr_X6_writesByte i a q x hpre)

abbrev rm_X6_writes : Room := ({ frames := 7, cells := 0, slots := 0, locals := 448 } : Room)
set_option maxHeartbeats 4000000 in
theorem wkb_X6_writes_2 (C : Cx p s m args meth c cX6_writes 3 RX6 none g) (post : MSt → Prop)  (w : List Int32) (sa_w : Nat) (hs_w : StrAt g sa_w w) : ∀ (n : Nat) (i : Nat → Int32) (a : Nat → Nat → Int32) (q : Nat → Nat) (x2 : Int32), wpb_X6_writes_2 post  w n i a q x2 → ∀ (H : Heap) (locs : List Loc), MS g F adr i a q H → va_S (Ag g) s.heap H locs → ∀ ls : Array Slot, lv_has ls 3 [(0, .ref (adr 0)), (1, .ref sa_w), (2, .int x2)] → W p l e rm_X6_writes s m args below meth c H locs 0 0 (MQ below (va_Qv post (fun u t => MS g F adr u.1 u.2.1 u.2.2 t.heap) (Ag g)) args s 0 0 (Ag g)) (F0 m 2 ls []) := by
  have hx := C.1
  have hb := C.2.1
  have hown := C.2.2.2.1
  have hr := C.2.2.2.2.2.1
  have hlocks := C.2.2.2.2.2.2.1
  intro n
  induction n with
  | zero =>
    intro i a q x2 hw
    exact hw.elim
  | succ n ih =>
    intro i a q x2 hw H locs hM hS ls hl
    refine lv_iload_n hx hb dX6_writes_2 rfl (lv_at hl 2 rfl) ?_
    refine lv_aload_n hx hb dX6_writes_3 rfl (lv_at hl 1 rfl) ?_
    refine vp_callSi (va_runV (As := []) (rest := [.int x2]) C.fix (met_J14_length l g sa_w w) (cw_X6_167 C.ts ⟨Nat.le_of_ble_eq_true rfl, Nat.le_of_ble_eq_true rfl⟩) (hs_w.pre C hS _) rfl rfl hl.1 rfl (lv_room (Nat.le_of_ble_eq_true rfl)) dX6_writes_4 ⟨Nat.le_of_ble_eq_true rfl, Nat.le_of_ble_eq_true rfl⟩).run (fun r1 er1 => ?_)
    have hw := hw r1 er1
    refine lv_icmp_ge (tgt := 25) hx hb dX6_writes_7 (by decide) (fun c2 => ?_) (fun c2 => ?_)
    · have hw := hw.1 c2
      exact W.vret hx hb hr (fun t ht _ => ⟨⟨(i, a, q), rfl, hw, hM.at ht⟩, hS.F ht⟩) hS.2.2 dX6_writes_25
    · have hw := hw.2 c2
      refine lv_aload_n hx hb dX6_writes_10 rfl (lv_at hl 0 rfl) ?_
      refine lv_aload_n hx hb dX6_writes_11 rfl (lv_at hl 1 rfl) ?_
      refine lv_iload_n hx hb dX6_writes_12 rfl (lv_at hl 2 rfl) ?_
      refine vp_callSi (va_runV (As := [.int x2]) (rest := [.ref (adr 0)]) C.fix (met_J14_charAt l g sa_w w x2 hw.1) (cw_X6_172 C.ts ⟨Nat.le_of_ble_eq_true rfl, Nat.le_of_ble_eq_true rfl⟩) (hs_w.pre C hS _) rfl rfl hl.1 rfl (lv_room (Nat.le_of_ble_eq_true rfl)) dX6_writes_13 ⟨Nat.le_of_ble_eq_true rfl, Nat.le_of_ble_eq_true rfl⟩).run (fun r3 er3 => ?_)
      have hw := hw.2 r3 er3
      refine va_callv (va_runV (As := [.int r3]) (rest := []) C.fix (met_X6_writesByte l g F adr i a q r3 hw.1) (cw_X6_295 C.ts ⟨Nat.le_of_ble_eq_true rfl, Nat.le_of_ble_eq_true rfl⟩) (preV_of C (P := (MS g F adr i a q)) (MS.recv C hM) hS hM _) rfl rfl hl.1 rfl (lv_room (Nat.le_of_ble_eq_true rfl)) dX6_writes_16 ⟨Nat.le_of_ble_eq_true rfl, Nat.le_of_ble_eq_true rfl⟩) hS (fun _ _ h => h) (fun _ h => h) (fun z_u t H locs ht _ hw1 hB _ _ hS => ?_)
      obtain ⟨i5, a6, q7⟩ := z_u
      have hM : MS g F adr i5 a6 q7 H := by rw [← ht]; exact hB
      have hw := hw.2 i5 a6 q7 hw1
      obtain ⟨z8, ez8⟩ : ∃ y : Int32, y = x2 + 1 := ⟨_, rfl⟩
      have hw := hw z8 ez8
      refine lv_iinc (v := z8) (lv' := [(2, .int z8), (0, .ref (adr 0)), (1, .ref sa_w)]) hx hb dX6_writes_19 hl (k := 2) rfl (by rw [ez8]; rfl) (by decide) rfl (fun ls hl => ?_)
      refine lv_goto (tgt := 2) hx hb dX6_writes_22 (by decide) ?_
      exact ih i5 a6 q7 z8 hw _ _ hM hS _ (lv_sub hl [1, 2, 0] rfl)
set_option maxHeartbeats 4000000 in
theorem wk_X6_writes (l : Launch) (g : gG) (F : nM) (adr : Nat → Nat) (i : Nat → Int32) (a : Nat → Nat → Int32) (q : Nat → Nat) (w : List Int32) (sa_w : Nat) (hs_w : StrAt g sa_w w) (post : MSt → Prop) (hw : wp_X6_writes post i a q w) : Met l yX6_writes (ws_ yX6_writes cX6_writes 3 none) rm_X6_writes (va_Pc [.ref (adr 0), .ref sa_w] (Pg g (MS g F adr i a q))) (va_Qv post (fun u t => MS g F adr u.1 u.2.1 u.2.2 t.heap) (Ag g)) 0 0 (Ag g) := by
  refine Met.ofW (cc := cX6_writes) (maxL := 3) (ret := none) (by decide) rfl ?_
  intro p e s m args below meth c s₁ B hml hv
  obtain ⟨rfl, hG, hM⟩ := hv
  have C : Cx p s m _ meth c cX6_writes 3 RX6 none g := Cx.of B hml hG
  have hx := C.1
  have hb := C.2.1
  have hown := C.2.2.2.1
  have hr := C.2.2.2.2.2.1
  have hlocks := C.2.2.2.2.2.2.1
  have hS : va_S (Ag g) s.heap s.heap [] := va_S.rf
  refine lv_start ([.ref (adr 0), .ref sa_w] : List Value) (L := [(0, .ref (adr 0)), (1, .ref sa_w)]) (Nat.le_of_ble_eq_true rfl) rfl (fun ls hl => ?_)
  refine lv_iconst (v := 0) hx hb dX6_writes_0 (by decide) ?_
  refine lv_istore_n (lv' := [(2, .int 0), (0, .ref (adr 0)), (1, .ref sa_w)]) hx hb dX6_writes_1 rfl hl (by decide) rfl (fun ls hl => ?_)
  obtain ⟨n, hw⟩ := hw
  exact wkb_X6_writes_2 C post w sa_w hs_w  n i a q 0 hw _ _ hM hS _ (lv_sub hl [1, 2, 0] rfl)
set_option maxHeartbeats 4000000 in
theorem met_X6_writes (l : Launch) (g : gG) (F : nM) (adr : Nat → Nat) (i : Nat → Int32) (a : Nat → Nat → Int32) (q : Nat → Nat) (w : List Int32) (sa_w : Nat) (hs_w : StrAt g sa_w w) (hpre : pre_X6_writes i a q w) : Met l yX6_writes (ws_ yX6_writes cX6_writes 3 none) rm_X6_writes (va_Pc [.ref (adr 0), .ref sa_w] (Pg g (MS g F adr i a q))) (va_Qv (fun u => post_X6_writes i a q w u) (fun u t => MS g F adr u.1 u.2.1 u.2.2 t.heap) (Ag g)) 0 0 (Ag g) :=
  wk_X6_writes l g F adr i a q w sa_w hs_w _ (pr_X6_writes i a q w hpre)

abbrev rm_X6_writesDigits_m : Room := ({ frames := 1, cells := 0, slots := 0, locals := 64 } : Room)
theorem met_X6_writesDigits_m (l : Launch) (g : gG) (F : nM) (adr : Nat → Nat) (i : Nat → Int32) (a : Nat → Nat → Int32) (q : Nat → Nat) (x : Int32) (hpre : pre_X6_writesDigits_m i a q x) : Met l yX6_writesDigits (ws_ yX6_writesDigits cX6_writesDigits 2 none) rm_X6_writesDigits_m (va_Pc [.ref (adr 0), .int x] (Pg g (MS g F adr i a q))) (va_Qv (fun u => post_X6_writesDigits i a q x u) (fun u t => MS g F adr u.1 u.2.1 u.2.2 t.heap) (Ag g)) 0 0 (Ag g) := hpre.elim

abbrev rm_X6_writesDigits_0 : Room := ({ frames := 2, cells := 0, slots := 0, locals := 128 } : Room)
set_option maxHeartbeats 4000000 in
theorem wkb_X6_writesDigits_0_14 (C : Cx p s m args meth c cX6_writesDigits 2 RX6 none g) (post : MSt → Prop)  (x : Int32) (i : Nat → Int32) (a : Nat → Nat → Int32) (q : Nat → Nat)  (hw : wpb_X6_writesDigits_0_14 post  x i a q ) {H : Heap} {locs : List Loc} (hM : MS g F adr i a q H) (hS : va_S (Ag g) s.heap H locs) {ls : Array Slot} (hl : lv_has ls 2 [(0, .ref (adr 0)), (1, .int x)]) : W p l e rm_X6_writesDigits_0 s m args below meth c H locs 0 0 (MQ below (va_Qv post (fun u t => MS g F adr u.1 u.2.1 u.2.2 t.heap) (Ag g)) args s 0 0 (Ag g)) (F0 m 14 ls []) := by
  have hx := C.1
  have hb := C.2.1
  have hown := C.2.2.2.1
  have hr := C.2.2.2.2.2.1
  have hlocks := C.2.2.2.2.2.2.1
  refine lv_aload_n hx hb dX6_writesDigits_14 rfl (lv_at hl 0 rfl) ?_
  refine lv_bipush (v := 48) hx hb dX6_writesDigits_15 (by decide) ?_
  refine lv_iload_n hx hb dX6_writesDigits_17 rfl (lv_at hl 1 rfl) ?_
  refine lv_bipush (v := 10) hx hb dX6_writesDigits_18 (by decide) ?_
  refine lv_irem hx hb dX6_writesDigits_20 (by decide) ?_
  refine lv_iadd hx hb dX6_writesDigits_21 ?_
  refine va_callv (va_runV (As := [.int (48 + (x - x / 10 * 10))]) (rest := []) C.fix (met_X6_writesByte l g F adr i a q (48 + (x - x / 10 * 10)) hw.1) (cw_X6_295 C.ts ⟨Nat.le_of_ble_eq_true rfl, Nat.le_of_ble_eq_true rfl⟩) (preV_of C (P := (MS g F adr i a q)) (MS.recv C hM) hS hM _) rfl rfl hl.1 rfl (lv_room (Nat.le_of_ble_eq_true rfl)) dX6_writesDigits_22 ⟨Nat.le_of_ble_eq_true rfl, Nat.le_of_ble_eq_true rfl⟩) hS (fun _ _ h => h) (fun _ h => h) (fun z_u t H locs ht _ hw1 hB _ _ hS => ?_)
  obtain ⟨i7, a8, q9⟩ := z_u
  have hM : MS g F adr i7 a8 q9 H := by rw [← ht]; exact hB
  have hw := hw.2 i7 a8 q9 hw1
  exact W.vret hx hb hr (fun t ht _ => ⟨⟨(i7, a8, q9), rfl, hw, hM.at ht⟩, hS.F ht⟩) hS.2.2 dX6_writesDigits_25
set_option maxHeartbeats 4000000 in
theorem wk_X6_writesDigits_0 (l : Launch) (g : gG) (F : nM) (adr : Nat → Nat) (i : Nat → Int32) (a : Nat → Nat → Int32) (q : Nat → Nat) (x : Int32) (post : MSt → Prop) (hw : wp_X6_writesDigits_0 post i a q x) : Met l yX6_writesDigits (ws_ yX6_writesDigits cX6_writesDigits 2 none) rm_X6_writesDigits_0 (va_Pc [.ref (adr 0), .int x] (Pg g (MS g F adr i a q))) (va_Qv post (fun u t => MS g F adr u.1 u.2.1 u.2.2 t.heap) (Ag g)) 0 0 (Ag g) := by
  refine Met.ofW (cc := cX6_writesDigits) (maxL := 2) (ret := none) (by decide) rfl ?_
  intro p e s m args below meth c s₁ B hml hv
  obtain ⟨rfl, hG, hM⟩ := hv
  have C : Cx p s m _ meth c cX6_writesDigits 2 RX6 none g := Cx.of B hml hG
  have hx := C.1
  have hb := C.2.1
  have hown := C.2.2.2.1
  have hr := C.2.2.2.2.2.1
  have hlocks := C.2.2.2.2.2.2.1
  have hS : va_S (Ag g) s.heap s.heap [] := va_S.rf
  refine lv_start ([.ref (adr 0), .int x] : List Value) (L := [(0, .ref (adr 0)), (1, .int x)]) (Nat.le_of_ble_eq_true rfl) rfl (fun ls hl => ?_)
  refine lv_iload_n hx hb dX6_writesDigits_0 rfl (lv_at hl 1 rfl) ?_
  refine lv_bipush (v := 9) hx hb dX6_writesDigits_1 (by decide) ?_
  refine lv_icmp_le (tgt := 14) hx hb dX6_writesDigits_3 (by decide) (fun c1 => ?_) (fun c1 => ?_)
  · have hw := hw.1 c1
    exact wkb_X6_writesDigits_0_14 C post x  i a q hw hM hS (lv_sub hl [0, 1] rfl)
  · have hw := hw.2 c1
    refine lv_aload_n hx hb dX6_writesDigits_6 rfl (lv_at hl 0 rfl) ?_
    refine lv_iload_n hx hb dX6_writesDigits_7 rfl (lv_at hl 1 rfl) ?_
    refine lv_bipush (v := 10) hx hb dX6_writesDigits_8 (by decide) ?_
    refine lv_idiv hx hb dX6_writesDigits_10 (by decide) ?_
    refine va_callv (va_runV (As := [.int (x / 10)]) (rest := []) C.fix (met_X6_writesDigits_m l g F adr i a q (x / 10) hw.1) (cw_X6_298 C.ts ⟨Nat.le_of_ble_eq_true rfl, Nat.le_of_ble_eq_true rfl⟩) (preV_of C (P := (MS g F adr i a q)) (MS.recv C hM) hS hM _) rfl rfl hl.1 rfl (lv_room (Nat.le_of_ble_eq_true rfl)) dX6_writesDigits_11 ⟨Nat.le_of_ble_eq_true rfl, Nat.le_of_ble_eq_true rfl⟩) hS (fun _ _ h => h) (fun _ h => h) (fun z_u t H locs ht _ hw1 hB _ _ hS => ?_)
    obtain ⟨i3, a4, q5⟩ := z_u
    have hM : MS g F adr i3 a4 q5 H := by rw [← ht]; exact hB
    have hw := hw.2 i3 a4 q5 hw1
    exact wkb_X6_writesDigits_0_14 C post x  i3 a4 q5 hw hM hS (lv_sub hl [0, 1] rfl)
set_option maxHeartbeats 4000000 in
theorem met_X6_writesDigits_0 (l : Launch) (g : gG) (F : nM) (adr : Nat → Nat) (i : Nat → Int32) (a : Nat → Nat → Int32) (q : Nat → Nat) (x : Int32) (hpre : pre_X6_writesDigits_0 i a q x) : Met l yX6_writesDigits (ws_ yX6_writesDigits cX6_writesDigits 2 none) rm_X6_writesDigits_0 (va_Pc [.ref (adr 0), .int x] (Pg g (MS g F adr i a q))) (va_Qv (fun u => post_X6_writesDigits i a q x u) (fun u t => MS g F adr u.1 u.2.1 u.2.2 t.heap) (Ag g)) 0 0 (Ag g) :=
  wk_X6_writesDigits_0 l g F adr i a q x _ (pr_X6_writesDigits_0 i a q x hpre)

abbrev rm_X6_writesDigits_1 : Room := ({ frames := 3, cells := 0, slots := 0, locals := 192 } : Room)
set_option maxHeartbeats 4000000 in
theorem wkb_X6_writesDigits_1_14 (C : Cx p s m args meth c cX6_writesDigits 2 RX6 none g) (post : MSt → Prop)  (x : Int32) (i : Nat → Int32) (a : Nat → Nat → Int32) (q : Nat → Nat)  (hw : wpb_X6_writesDigits_1_14 post  x i a q ) {H : Heap} {locs : List Loc} (hM : MS g F adr i a q H) (hS : va_S (Ag g) s.heap H locs) {ls : Array Slot} (hl : lv_has ls 2 [(0, .ref (adr 0)), (1, .int x)]) : W p l e rm_X6_writesDigits_1 s m args below meth c H locs 0 0 (MQ below (va_Qv post (fun u t => MS g F adr u.1 u.2.1 u.2.2 t.heap) (Ag g)) args s 0 0 (Ag g)) (F0 m 14 ls []) := by
  have hx := C.1
  have hb := C.2.1
  have hown := C.2.2.2.1
  have hr := C.2.2.2.2.2.1
  have hlocks := C.2.2.2.2.2.2.1
  refine lv_aload_n hx hb dX6_writesDigits_14 rfl (lv_at hl 0 rfl) ?_
  refine lv_bipush (v := 48) hx hb dX6_writesDigits_15 (by decide) ?_
  refine lv_iload_n hx hb dX6_writesDigits_17 rfl (lv_at hl 1 rfl) ?_
  refine lv_bipush (v := 10) hx hb dX6_writesDigits_18 (by decide) ?_
  refine lv_irem hx hb dX6_writesDigits_20 (by decide) ?_
  refine lv_iadd hx hb dX6_writesDigits_21 ?_
  refine va_callv (va_runV (As := [.int (48 + (x - x / 10 * 10))]) (rest := []) C.fix (met_X6_writesByte l g F adr i a q (48 + (x - x / 10 * 10)) hw.1) (cw_X6_295 C.ts ⟨Nat.le_of_ble_eq_true rfl, Nat.le_of_ble_eq_true rfl⟩) (preV_of C (P := (MS g F adr i a q)) (MS.recv C hM) hS hM _) rfl rfl hl.1 rfl (lv_room (Nat.le_of_ble_eq_true rfl)) dX6_writesDigits_22 ⟨Nat.le_of_ble_eq_true rfl, Nat.le_of_ble_eq_true rfl⟩) hS (fun _ _ h => h) (fun _ h => h) (fun z_u t H locs ht _ hw1 hB _ _ hS => ?_)
  obtain ⟨i7, a8, q9⟩ := z_u
  have hM : MS g F adr i7 a8 q9 H := by rw [← ht]; exact hB
  have hw := hw.2 i7 a8 q9 hw1
  exact W.vret hx hb hr (fun t ht _ => ⟨⟨(i7, a8, q9), rfl, hw, hM.at ht⟩, hS.F ht⟩) hS.2.2 dX6_writesDigits_25
set_option maxHeartbeats 4000000 in
theorem wk_X6_writesDigits_1 (l : Launch) (g : gG) (F : nM) (adr : Nat → Nat) (i : Nat → Int32) (a : Nat → Nat → Int32) (q : Nat → Nat) (x : Int32) (post : MSt → Prop) (hw : wp_X6_writesDigits_1 post i a q x) : Met l yX6_writesDigits (ws_ yX6_writesDigits cX6_writesDigits 2 none) rm_X6_writesDigits_1 (va_Pc [.ref (adr 0), .int x] (Pg g (MS g F adr i a q))) (va_Qv post (fun u t => MS g F adr u.1 u.2.1 u.2.2 t.heap) (Ag g)) 0 0 (Ag g) := by
  refine Met.ofW (cc := cX6_writesDigits) (maxL := 2) (ret := none) (by decide) rfl ?_
  intro p e s m args below meth c s₁ B hml hv
  obtain ⟨rfl, hG, hM⟩ := hv
  have C : Cx p s m _ meth c cX6_writesDigits 2 RX6 none g := Cx.of B hml hG
  have hx := C.1
  have hb := C.2.1
  have hown := C.2.2.2.1
  have hr := C.2.2.2.2.2.1
  have hlocks := C.2.2.2.2.2.2.1
  have hS : va_S (Ag g) s.heap s.heap [] := va_S.rf
  refine lv_start ([.ref (adr 0), .int x] : List Value) (L := [(0, .ref (adr 0)), (1, .int x)]) (Nat.le_of_ble_eq_true rfl) rfl (fun ls hl => ?_)
  refine lv_iload_n hx hb dX6_writesDigits_0 rfl (lv_at hl 1 rfl) ?_
  refine lv_bipush (v := 9) hx hb dX6_writesDigits_1 (by decide) ?_
  refine lv_icmp_le (tgt := 14) hx hb dX6_writesDigits_3 (by decide) (fun c1 => ?_) (fun c1 => ?_)
  · have hw := hw.1 c1
    exact wkb_X6_writesDigits_1_14 C post x  i a q hw hM hS (lv_sub hl [0, 1] rfl)
  · have hw := hw.2 c1
    refine lv_aload_n hx hb dX6_writesDigits_6 rfl (lv_at hl 0 rfl) ?_
    refine lv_iload_n hx hb dX6_writesDigits_7 rfl (lv_at hl 1 rfl) ?_
    refine lv_bipush (v := 10) hx hb dX6_writesDigits_8 (by decide) ?_
    refine lv_idiv hx hb dX6_writesDigits_10 (by decide) ?_
    refine va_callv (va_runV (As := [.int (x / 10)]) (rest := []) C.fix (met_X6_writesDigits_0 l g F adr i a q (x / 10) hw.1) (cw_X6_298 C.ts ⟨Nat.le_of_ble_eq_true rfl, Nat.le_of_ble_eq_true rfl⟩) (preV_of C (P := (MS g F adr i a q)) (MS.recv C hM) hS hM _) rfl rfl hl.1 rfl (lv_room (Nat.le_of_ble_eq_true rfl)) dX6_writesDigits_11 ⟨Nat.le_of_ble_eq_true rfl, Nat.le_of_ble_eq_true rfl⟩) hS (fun _ _ h => h) (fun _ h => h) (fun z_u t H locs ht _ hw1 hB _ _ hS => ?_)
    obtain ⟨i3, a4, q5⟩ := z_u
    have hM : MS g F adr i3 a4 q5 H := by rw [← ht]; exact hB
    have hw := hw.2 i3 a4 q5 hw1
    exact wkb_X6_writesDigits_1_14 C post x  i3 a4 q5 hw hM hS (lv_sub hl [0, 1] rfl)
set_option maxHeartbeats 4000000 in
theorem met_X6_writesDigits_1 (l : Launch) (g : gG) (F : nM) (adr : Nat → Nat) (i : Nat → Int32) (a : Nat → Nat → Int32) (q : Nat → Nat) (x : Int32) (hpre : pre_X6_writesDigits_1 i a q x) : Met l yX6_writesDigits (ws_ yX6_writesDigits cX6_writesDigits 2 none) rm_X6_writesDigits_1 (va_Pc [.ref (adr 0), .int x] (Pg g (MS g F adr i a q))) (va_Qv (fun u => post_X6_writesDigits i a q x u) (fun u t => MS g F adr u.1 u.2.1 u.2.2 t.heap) (Ag g)) 0 0 (Ag g) :=
  wk_X6_writesDigits_1 l g F adr i a q x _ (pr_X6_writesDigits_1 i a q x hpre)

abbrev rm_X6_writesDigits : Room := ({ frames := 4, cells := 0, slots := 0, locals := 256 } : Room)
set_option maxHeartbeats 4000000 in
theorem wkb_X6_writesDigits_14 (C : Cx p s m args meth c cX6_writesDigits 2 RX6 none g) (post : MSt → Prop)  (x : Int32) (i : Nat → Int32) (a : Nat → Nat → Int32) (q : Nat → Nat)  (hw : wpb_X6_writesDigits_14 post  x i a q ) {H : Heap} {locs : List Loc} (hM : MS g F adr i a q H) (hS : va_S (Ag g) s.heap H locs) {ls : Array Slot} (hl : lv_has ls 2 [(0, .ref (adr 0)), (1, .int x)]) : W p l e rm_X6_writesDigits s m args below meth c H locs 0 0 (MQ below (va_Qv post (fun u t => MS g F adr u.1 u.2.1 u.2.2 t.heap) (Ag g)) args s 0 0 (Ag g)) (F0 m 14 ls []) := by
  have hx := C.1
  have hb := C.2.1
  have hown := C.2.2.2.1
  have hr := C.2.2.2.2.2.1
  have hlocks := C.2.2.2.2.2.2.1
  refine lv_aload_n hx hb dX6_writesDigits_14 rfl (lv_at hl 0 rfl) ?_
  refine lv_bipush (v := 48) hx hb dX6_writesDigits_15 (by decide) ?_
  refine lv_iload_n hx hb dX6_writesDigits_17 rfl (lv_at hl 1 rfl) ?_
  refine lv_bipush (v := 10) hx hb dX6_writesDigits_18 (by decide) ?_
  refine lv_irem hx hb dX6_writesDigits_20 (by decide) ?_
  refine lv_iadd hx hb dX6_writesDigits_21 ?_
  refine va_callv (va_runV (As := [.int (48 + (x - x / 10 * 10))]) (rest := []) C.fix (met_X6_writesByte l g F adr i a q (48 + (x - x / 10 * 10)) hw.1) (cw_X6_295 C.ts ⟨Nat.le_of_ble_eq_true rfl, Nat.le_of_ble_eq_true rfl⟩) (preV_of C (P := (MS g F adr i a q)) (MS.recv C hM) hS hM _) rfl rfl hl.1 rfl (lv_room (Nat.le_of_ble_eq_true rfl)) dX6_writesDigits_22 ⟨Nat.le_of_ble_eq_true rfl, Nat.le_of_ble_eq_true rfl⟩) hS (fun _ _ h => h) (fun _ h => h) (fun z_u t H locs ht _ hw1 hB _ _ hS => ?_)
  obtain ⟨i7, a8, q9⟩ := z_u
  have hM : MS g F adr i7 a8 q9 H := by rw [← ht]; exact hB
  have hw := hw.2 i7 a8 q9 hw1
  exact W.vret hx hb hr (fun t ht _ => ⟨⟨(i7, a8, q9), rfl, hw, hM.at ht⟩, hS.F ht⟩) hS.2.2 dX6_writesDigits_25
set_option maxHeartbeats 4000000 in
theorem wk_X6_writesDigits (l : Launch) (g : gG) (F : nM) (adr : Nat → Nat) (i : Nat → Int32) (a : Nat → Nat → Int32) (q : Nat → Nat) (x : Int32) (post : MSt → Prop) (hw : wp_X6_writesDigits post i a q x) : Met l yX6_writesDigits (ws_ yX6_writesDigits cX6_writesDigits 2 none) rm_X6_writesDigits (va_Pc [.ref (adr 0), .int x] (Pg g (MS g F adr i a q))) (va_Qv post (fun u t => MS g F adr u.1 u.2.1 u.2.2 t.heap) (Ag g)) 0 0 (Ag g) := by
  refine Met.ofW (cc := cX6_writesDigits) (maxL := 2) (ret := none) (by decide) rfl ?_
  intro p e s m args below meth c s₁ B hml hv
  obtain ⟨rfl, hG, hM⟩ := hv
  have C : Cx p s m _ meth c cX6_writesDigits 2 RX6 none g := Cx.of B hml hG
  have hx := C.1
  have hb := C.2.1
  have hown := C.2.2.2.1
  have hr := C.2.2.2.2.2.1
  have hlocks := C.2.2.2.2.2.2.1
  have hS : va_S (Ag g) s.heap s.heap [] := va_S.rf
  refine lv_start ([.ref (adr 0), .int x] : List Value) (L := [(0, .ref (adr 0)), (1, .int x)]) (Nat.le_of_ble_eq_true rfl) rfl (fun ls hl => ?_)
  refine lv_iload_n hx hb dX6_writesDigits_0 rfl (lv_at hl 1 rfl) ?_
  refine lv_bipush (v := 9) hx hb dX6_writesDigits_1 (by decide) ?_
  refine lv_icmp_le (tgt := 14) hx hb dX6_writesDigits_3 (by decide) (fun c1 => ?_) (fun c1 => ?_)
  · have hw := hw.1 c1
    exact wkb_X6_writesDigits_14 C post x  i a q hw hM hS (lv_sub hl [0, 1] rfl)
  · have hw := hw.2 c1
    refine lv_aload_n hx hb dX6_writesDigits_6 rfl (lv_at hl 0 rfl) ?_
    refine lv_iload_n hx hb dX6_writesDigits_7 rfl (lv_at hl 1 rfl) ?_
    refine lv_bipush (v := 10) hx hb dX6_writesDigits_8 (by decide) ?_
    refine lv_idiv hx hb dX6_writesDigits_10 (by decide) ?_
    refine va_callv (va_runV (As := [.int (x / 10)]) (rest := []) C.fix (met_X6_writesDigits_1 l g F adr i a q (x / 10) hw.1) (cw_X6_298 C.ts ⟨Nat.le_of_ble_eq_true rfl, Nat.le_of_ble_eq_true rfl⟩) (preV_of C (P := (MS g F adr i a q)) (MS.recv C hM) hS hM _) rfl rfl hl.1 rfl (lv_room (Nat.le_of_ble_eq_true rfl)) dX6_writesDigits_11 ⟨Nat.le_of_ble_eq_true rfl, Nat.le_of_ble_eq_true rfl⟩) hS (fun _ _ h => h) (fun _ h => h) (fun z_u t H locs ht _ hw1 hB _ _ hS => ?_)
    obtain ⟨i3, a4, q5⟩ := z_u
    have hM : MS g F adr i3 a4 q5 H := by rw [← ht]; exact hB
    have hw := hw.2 i3 a4 q5 hw1
    exact wkb_X6_writesDigits_14 C post x  i3 a4 q5 hw hM hS (lv_sub hl [0, 1] rfl)
set_option maxHeartbeats 4000000 in
theorem met_X6_writesDigits (l : Launch) (g : gG) (F : nM) (adr : Nat → Nat) (i : Nat → Int32) (a : Nat → Nat → Int32) (q : Nat → Nat) (x : Int32) (hpre : pre_X6_writesDigits i a q x) : Met l yX6_writesDigits (ws_ yX6_writesDigits cX6_writesDigits 2 none) rm_X6_writesDigits (va_Pc [.ref (adr 0), .int x] (Pg g (MS g F adr i a q))) (va_Qv (fun u => post_X6_writesDigits i a q x u) (fun u t => MS g F adr u.1 u.2.1 u.2.2 t.heap) (Ag g)) 0 0 (Ag g) :=
  wk_X6_writesDigits l g F adr i a q x _ (pr_X6_writesDigits i a q x hpre)

abbrev rm_X6_writesNumber : Room := ({ frames := 5, cells := 0, slots := 0, locals := 320 } : Room)
set_option maxHeartbeats 4000000 in
theorem wk_X6_writesNumber (l : Launch) (g : gG) (F : nM) (adr : Nat → Nat) (i : Nat → Int32) (a : Nat → Nat → Int32) (q : Nat → Nat) (x : Int32) (post : MSt → Prop) (hw : wp_X6_writesNumber post i a q x) : Met l yX6_writesNumber (ws_ yX6_writesNumber cX6_writesNumber 2 none) rm_X6_writesNumber (va_Pc [.ref (adr 0), .int x] (Pg g (MS g F adr i a q))) (va_Qv post (fun u t => MS g F adr u.1 u.2.1 u.2.2 t.heap) (Ag g)) 0 0 (Ag g) := by
  refine Met.ofW (cc := cX6_writesNumber) (maxL := 2) (ret := none) (by decide) rfl ?_
  intro p e s m args below meth c s₁ B hml hv
  obtain ⟨rfl, hG, hM⟩ := hv
  have C : Cx p s m _ meth c cX6_writesNumber 2 RX6 none g := Cx.of B hml hG
  have hx := C.1
  have hb := C.2.1
  have hown := C.2.2.2.1
  have hr := C.2.2.2.2.2.1
  have hlocks := C.2.2.2.2.2.2.1
  have hS : va_S (Ag g) s.heap s.heap [] := va_S.rf
  refine lv_start ([.ref (adr 0), .int x] : List Value) (L := [(0, .ref (adr 0)), (1, .int x)]) (Nat.le_of_ble_eq_true rfl) rfl (fun ls hl => ?_)
  refine lv_aload_n hx hb dX6_writesNumber_0 rfl (lv_at hl 0 rfl) ?_
  refine lv_bipush (v := 32) hx hb dX6_writesNumber_1 (by decide) ?_
  refine va_callv (va_runV (As := [.int 32]) (rest := []) C.fix (met_X6_writesByte l g F adr i a q 32 hw.1) (cw_X6_295 C.ts ⟨Nat.le_of_ble_eq_true rfl, Nat.le_of_ble_eq_true rfl⟩) (preV_of C (P := (MS g F adr i a q)) (MS.recv C hM) hS hM _) rfl rfl hl.1 rfl (lv_room (Nat.le_of_ble_eq_true rfl)) dX6_writesNumber_3 ⟨Nat.le_of_ble_eq_true rfl, Nat.le_of_ble_eq_true rfl⟩) hS (fun _ _ h => h) (fun _ h => h) (fun z_u t H locs ht _ hw1 hB _ _ hS => ?_)
  obtain ⟨i2, a3, q4⟩ := z_u
  have hM : MS g F adr i2 a3 q4 H := by rw [← ht]; exact hB
  have hw := hw.2 i2 a3 q4 hw1
  refine lv_aload_n hx hb dX6_writesNumber_6 rfl (lv_at hl 0 rfl) ?_
  refine lv_iload_n hx hb dX6_writesNumber_7 rfl (lv_at hl 1 rfl) ?_
  refine va_callv (va_runV (As := [.int x]) (rest := []) C.fix (met_X6_writesDigits l g F adr i2 a3 q4 x hw.1) (cw_X6_298 C.ts ⟨Nat.le_of_ble_eq_true rfl, Nat.le_of_ble_eq_true rfl⟩) (preV_of C (P := (MS g F adr i2 a3 q4)) (MS.recv C hM) hS hM _) rfl rfl hl.1 rfl (lv_room (Nat.le_of_ble_eq_true rfl)) dX6_writesNumber_8 ⟨Nat.le_of_ble_eq_true rfl, Nat.le_of_ble_eq_true rfl⟩) hS (fun _ _ h => h) (fun _ h => h) (fun z_u t H locs ht _ hw1 hB _ _ hS => ?_)
  obtain ⟨i6, a7, q8⟩ := z_u
  have hM : MS g F adr i6 a7 q8 H := by rw [← ht]; exact hB
  have hw := hw.2 i6 a7 q8 hw1
  exact W.vret hx hb hr (fun t ht _ => ⟨⟨(i6, a7, q8), rfl, hw, hM.at ht⟩, hS.F ht⟩) hS.2.2 dX6_writesNumber_11
set_option maxHeartbeats 4000000 in
theorem met_X6_writesNumber (l : Launch) (g : gG) (F : nM) (adr : Nat → Nat) (i : Nat → Int32) (a : Nat → Nat → Int32) (q : Nat → Nat) (x : Int32) (hpre : pre_X6_writesNumber i a q x) : Met l yX6_writesNumber (ws_ yX6_writesNumber cX6_writesNumber 2 none) rm_X6_writesNumber (va_Pc [.ref (adr 0), .int x] (Pg g (MS g F adr i a q))) (va_Qv (fun u => post_X6_writesNumber i a q x u) (fun u t => MS g F adr u.1 u.2.1 u.2.2 t.heap) (Ag g)) 0 0 (Ag g) :=
  wk_X6_writesNumber l g F adr i a q x _ (pr_X6_writesNumber i a q x hpre)

abbrev rm_X6_writesPointer : Room := ({ frames := 8, cells := 0, slots := 0, locals := 512 } : Room)
set_option maxHeartbeats 4000000 in
theorem wk_X6_writesPointer (l : Launch) (g : gG) (F : nM) (adr : Nat → Nat) (i : Nat → Int32) (a : Nat → Nat → Int32) (q : Nat → Nat) (x : Int32) (post : MSt → Prop) (hw : wp_X6_writesPointer post i a q x) : Met l yX6_writesPointer (ws_ yX6_writesPointer cX6_writesPointer 2 none) rm_X6_writesPointer (va_Pc [.ref (adr 0), .int x] (Pg g (MS g F adr i a q))) (va_Qv post (fun u t => MS g F adr u.1 u.2.1 u.2.2 t.heap) (Ag g)) 0 0 (Ag g) := by
  refine Met.ofW (cc := cX6_writesPointer) (maxL := 2) (ret := none) (by decide) rfl ?_
  intro p e s m args below meth c s₁ B hml hv
  obtain ⟨rfl, hG, hM⟩ := hv
  have C : Cx p s m _ meth c cX6_writesPointer 2 RX6 none g := Cx.of B hml hG
  have hx := C.1
  have hb := C.2.1
  have hown := C.2.2.2.1
  have hr := C.2.2.2.2.2.1
  have hlocks := C.2.2.2.2.2.2.1
  have hS : va_S (Ag g) s.heap s.heap [] := va_S.rf
  refine lv_start ([.ref (adr 0), .int x] : List Value) (L := [(0, .ref (adr 0)), (1, .int x)]) (Nat.le_of_ble_eq_true rfl) rfl (fun ls hl => ?_)
  refine lv_iload_n hx hb dX6_writesPointer_0 rfl (lv_at hl 1 rfl) ?_
  refine lv_iconst (v := (-1)) hx hb dX6_writesPointer_1 (by decide) ?_
  refine lv_icmp_ne (tgt := 15) hx hb dX6_writesPointer_2 (by decide) (fun c1 => ?_) (fun c1 => ?_)
  · have hw := hw.1 c1
    refine lv_aload_n hx hb dX6_writesPointer_15 rfl (lv_at hl 0 rfl) ?_
    refine lv_iload_n hx hb dX6_writesPointer_16 rfl (lv_at hl 1 rfl) ?_
    refine va_callv (va_runV (As := [.int x]) (rest := []) C.fix (met_X6_writesNumber l g F adr i a q x hw.1) (cw_X6_307 C.ts ⟨Nat.le_of_ble_eq_true rfl, Nat.le_of_ble_eq_true rfl⟩) (preV_of C (P := (MS g F adr i a q)) (MS.recv C hM) hS hM _) rfl rfl hl.1 rfl (lv_room (Nat.le_of_ble_eq_true rfl)) dX6_writesPointer_17 ⟨Nat.le_of_ble_eq_true rfl, Nat.le_of_ble_eq_true rfl⟩) hS (fun _ _ h => h) (fun _ h => h) (fun z_u t H locs ht _ hw1 hB _ _ hS => ?_)
    obtain ⟨i3, a4, q5⟩ := z_u
    have hM : MS g F adr i3 a4 q5 H := by rw [← ht]; exact hB
    have hw := hw.2 i3 a4 q5 hw1
    exact W.vret hx hb hr (fun t ht _ => ⟨⟨(i3, a4, q5), rfl, hw, hM.at ht⟩, hS.F ht⟩) hS.2.2 dX6_writesPointer_20
  · have hw := hw.2 c1
    refine lv_aload_n hx hb dX6_writesPointer_5 rfl (lv_at hl 0 rfl) ?_
    obtain ⟨sa6, hvsa6, hsa6⟩ := stX6_301 C
    refine va_ldcSw hx hb hown hvsa6 dX6_writesPointer_6 ?_
    refine va_callv (va_runV (As := [.ref sa6]) (rest := []) C.fix (met_X6_writes l g F adr i a q tx__20__2d_ sa6 hsa6 hw.1) (cw_X6_303 C.ts ⟨Nat.le_of_ble_eq_true rfl, Nat.le_of_ble_eq_true rfl⟩) (preV_of C (P := (MS g F adr i a q)) (MS.recv C hM) hS hM _) rfl rfl hl.1 rfl (lv_room (Nat.le_of_ble_eq_true rfl)) dX6_writesPointer_9 ⟨Nat.le_of_ble_eq_true rfl, Nat.le_of_ble_eq_true rfl⟩) hS (fun _ _ h => h) (fun _ h => h) (fun z_u t H locs ht _ hw1 hB _ _ hS => ?_)
    obtain ⟨i8, a9, q10⟩ := z_u
    have hM : MS g F adr i8 a9 q10 H := by rw [← ht]; exact hB
    have hw := hw.2 i8 a9 q10 hw1
    refine lv_goto (tgt := 20) hx hb dX6_writesPointer_12 (by decide) ?_
    exact W.vret hx hb hr (fun t ht _ => ⟨⟨(i8, a9, q10), rfl, hw, hM.at ht⟩, hS.F ht⟩) hS.2.2 dX6_writesPointer_20
set_option maxHeartbeats 4000000 in
theorem met_X6_writesPointer (l : Launch) (g : gG) (F : nM) (adr : Nat → Nat) (i : Nat → Int32) (a : Nat → Nat → Int32) (q : Nat → Nat) (x : Int32) (hpre : pre_X6_writesPointer i a q x) : Met l yX6_writesPointer (ws_ yX6_writesPointer cX6_writesPointer 2 none) rm_X6_writesPointer (va_Pc [.ref (adr 0), .int x] (Pg g (MS g F adr i a q))) (va_Qv (fun u => post_X6_writesPointer i a q x u) (fun u t => MS g F adr u.1 u.2.1 u.2.2 t.heap) (Ag g)) 0 0 (Ag g) :=
  wk_X6_writesPointer l g F adr i a q x _ (pr_X6_writesPointer i a q x hpre)
end
