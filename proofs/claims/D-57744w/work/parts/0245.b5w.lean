set_option maxRecDepth 100000
theorem cw_X6_167 {R : Room} {s : State} {args : Array Value} (hts : ∀ w ∈ lw_all, w.before args s = true) {rm : Room} (hR : rm.frames + 1 ≤ R.frames ∧ 8 + (1 + 11) + rm.locals ≤ R.locals) : CallW R s args RX6 RJ14 167 yJ14_length cJ14_length 1 (some .int) (ws_ yJ14_length cJ14_length 1 (some .int)) rm rm.cells rm.slots 0 := cwV 0 hts (lw_V q2469 q518 q519 q90 q520) rfl rfl rfl (by decide +kernel) hR
theorem cw_X6_172 {R : Room} {s : State} {args : Array Value} (hts : ∀ w ∈ lw_all, w.before args s = true) {rm : Room} (hR : rm.frames + 1 ≤ R.frames ∧ 8 + (2 + 11) + rm.locals ≤ R.locals) : CallW R s args RX6 RJ14 172 yJ14_charAt cJ14_charAt 2 (some .char) (ws_ yJ14_charAt cJ14_charAt 2 (some .char)) rm rm.cells rm.slots 1 := cwV 1 hts (lw_V q2470 q2304 q2305 q90 q2306) rfl rfl rfl (by decide +kernel) hR
theorem cw_X6_176 {R : Room} {s : State} {args : Array Value} (hts : ∀ w ∈ lw_all, w.before args s = true) {rm : Room} (hR : rm.frames + 1 ≤ R.frames ∧ 8 + (3 + 11) + rm.locals ≤ R.locals) : CallW R s args RX6 RX6 176 yX6_isWord cX6_isWord 3 (some .boolean) (ws_ yX6_isWord cX6_isWord 3 (some .boolean)) rm rm.cells rm.slots 1 := cwV 1 hts (lw_V q2465 q2467 qs38 q98 q2468) rfl rfl rfl (by decide +kernel) hR
theorem cw_X6_180 {R : Room} {s : State} {args : Array Value} (hts : ∀ w ∈ lw_all, w.before args s = true) {rm : Room} (hR : rm.frames + 1 ≤ R.frames ∧ 8 + (1 + 11) + rm.locals ≤ R.locals) : CallW R s args RX6 RX6 180 yX6_advances cX6_advances 1 none (ws_ yX6_advances cX6_advances 1 none) rm rm.cells rm.slots 0 := cwV 0 hts (lw_V q2444 q2446 qs34 q98 q2447) rfl rfl rfl (by decide +kernel) hR
theorem cw_X6_186 {R : Room} {s : State} {args : Array Value} (hts : ∀ w ∈ lw_all, w.before args s = true) {rm : Room} (hR : rm.frames + 1 ≤ R.frames ∧ 8 + (4 + 11) + rm.locals ≤ R.locals) : CallW R s args RX6 RX6 186 yX6_isNumber cX6_isNumber 4 (some .boolean) (ws_ yX6_isNumber cX6_isNumber 4 (some .boolean)) rm rm.cells rm.slots 2 := cwV 2 hts (lw_V q2475 q2477 qs40 q98 q2478) rfl rfl rfl (by decide +kernel) hR
section
variable {p : Program} {l : Launch} {e : Env} {s : State} {m : MethodId} {args : Array Value} {below : List Frame} {meth : Method} {c : Code} {g : gG} {F : nM} {adr : Nat → Nat}
abbrev rm_X6_isWord : Room := ({ frames := 7, cells := 0, slots := 0, locals := 448 } : Room)
set_option maxHeartbeats 4000000 in
theorem wkb_X6_isWord_28 (C : Cx p s m args meth c cX6_isWord 3 RX6 (some .boolean) g) (post : Int32 → Prop) (i : Nat → Int32) (a : Nat → Nat → Int32) (q : Nat → Nat) (hM : MS g F adr i a q s.heap)  (w : List Int32) (sa_w : Nat) (hs_w : StrAt g sa_w w) : ∀ (n : Nat) (x2 : Int32), wpb_X6_isWord_28 post  i a q w n x2 → ∀ ls : Array Slot, lv_has ls 3 [(0, .ref (adr 0)), (1, .ref sa_w), (2, .int x2)] → W p l e rm_X6_isWord s m args below meth c s.heap [] 0 0 (MQ below (vp_Si post) args s 0 0 (fun _ => False)) (F0 m 28 ls []) := by
  have hx := C.1
  have hb := C.2.1
  have hown := C.2.2.2.1
  have hr := C.2.2.2.2.2.1
  have hlocks := C.2.2.2.2.2.2.1
  intro n
  induction n with
  | zero =>
    intro x2 hw
    exact hw.elim
  | succ n ih =>
    intro x2 hw  ls hl
    refine lv_iload_n hx hb dX6_isWord_28 rfl (lv_at hl 2 rfl) ?_
    refine lv_aload_n hx hb dX6_isWord_29 rfl (lv_at hl 1 rfl) ?_
    refine vp_callSi (va_runV (As := []) (rest := [.int x2]) C.fix (met_J14_length l g sa_w w) (cw_X6_167 C.ts ⟨Nat.le_of_ble_eq_true rfl, Nat.le_of_ble_eq_true rfl⟩) (hs_w.pre C va_S.rf _) rfl rfl hl.1 rfl (lv_room (Nat.le_of_ble_eq_true rfl)) dX6_isWord_30 ⟨Nat.le_of_ble_eq_true rfl, Nat.le_of_ble_eq_true rfl⟩).run (fun r4 er4 => ?_)
    have hw := hw r4 er4
    refine lv_icmp_ge (tgt := 63) hx hb dX6_isWord_33 (by decide) (fun c5 => ?_) (fun c5 => ?_)
    · have hw := hw.1 c5
      refine lv_iconst (v := 1) hx hb dX6_isWord_63 (by decide) ?_
      exact W.zret (v := 1) hx hb hr hw.1 (fun t ht _ => ⟨1, rfl, hw.2, ht⟩) (fun _ h => by cases h) dX6_isWord_64
    · have hw := hw.2 c5
      refine lv_aload_n hx hb dX6_isWord_36 rfl (lv_at hl 0 rfl) ?_
      refine m_get C hM 16 (by decide) q2354 rfl rfl dX6_isWord_37 ?_
      refine lv_aload_n hx hb dX6_isWord_40 rfl (lv_at hl 0 rfl) ?_
      refine m_get C hM 21 (by decide) q2359 rfl rfl dX6_isWord_41 ?_
      refine lv_iload_n hx hb dX6_isWord_44 rfl (lv_at hl 2 rfl) ?_
      refine lv_iadd hx hb dX6_isWord_45 ?_
      refine m_bld C hM (j := 8) rfl hw.1 dX6_isWord_46 ?_
      have hw := hw.2
      refine lv_aload_n hx hb dX6_isWord_47 rfl (lv_at hl 1 rfl) ?_
      refine lv_iload_n hx hb dX6_isWord_48 rfl (lv_at hl 2 rfl) ?_
      refine vp_callSi (va_runV (As := [.int x2]) (rest := [.int (a 8 ((i 21) + x2).toNatClampNeg)]) C.fix (met_J14_charAt l g sa_w w x2 hw.1) (cw_X6_172 C.ts ⟨Nat.le_of_ble_eq_true rfl, Nat.le_of_ble_eq_true rfl⟩) (hs_w.pre C va_S.rf _) rfl rfl hl.1 rfl (lv_room (Nat.le_of_ble_eq_true rfl)) dX6_isWord_49 ⟨Nat.le_of_ble_eq_true rfl, Nat.le_of_ble_eq_true rfl⟩).run (fun r6 er6 => ?_)
      have hw := hw.2 r6 er6
      refine lv_icmp_eq (tgt := 57) hx hb dX6_isWord_52 (by decide) (fun c7 => ?_) (fun c7 => ?_)
      · have hw := hw.1 c7
        obtain ⟨z8, ez8⟩ : ∃ y : Int32, y = x2 + 1 := ⟨_, rfl⟩
        have hw := hw z8 ez8
        refine lv_iinc (v := z8) (lv' := [(2, .int z8), (0, .ref (adr 0)), (1, .ref sa_w)]) hx hb dX6_isWord_57 hl (k := 2) rfl (by rw [ez8]; rfl) (by decide) rfl (fun ls hl => ?_)
        refine lv_goto (tgt := 28) hx hb dX6_isWord_60 (by decide) ?_
        exact ih z8 hw  _ (lv_sub hl [1, 2, 0] rfl)
      · have hw := hw.2 c7
        refine lv_iconst (v := 0) hx hb dX6_isWord_55 (by decide) ?_
        exact W.zret (v := 0) hx hb hr hw.1 (fun t ht _ => ⟨0, rfl, hw.2, ht⟩) (fun _ h => by cases h) dX6_isWord_56
set_option maxHeartbeats 4000000 in
theorem wk_X6_isWord (l : Launch) (g : gG) (F : nM) (adr : Nat → Nat) (i : Nat → Int32) (a : Nat → Nat → Int32) (q : Nat → Nat) (w : List Int32) (sa_w : Nat) (hs_w : StrAt g sa_w w) (post : Int32 → Prop) (hw : wp_X6_isWord post i a q w) : Met l yX6_isWord (ws_ yX6_isWord cX6_isWord 3 (some .boolean)) rm_X6_isWord (va_Pc [.ref (adr 0), .ref sa_w] (Pg g (MS g F adr i a q))) (vp_Si post) 0 0 (fun _ => False) := by
  refine Met.ofW (cc := cX6_isWord) (maxL := 3) (ret := (some .boolean)) (by decide) rfl ?_
  intro p e s m args below meth c s₁ B hml hv
  obtain ⟨rfl, hG, hM⟩ := hv
  have C : Cx p s m _ meth c cX6_isWord 3 RX6 (some .boolean) g := Cx.of B hml hG
  have hx := C.1
  have hb := C.2.1
  have hown := C.2.2.2.1
  have hr := C.2.2.2.2.2.1
  have hlocks := C.2.2.2.2.2.2.1
  refine lv_start ([.ref (adr 0), .ref sa_w] : List Value) (L := [(0, .ref (adr 0)), (1, .ref sa_w)]) (Nat.le_of_ble_eq_true rfl) rfl (fun ls hl => ?_)
  refine lv_aload_n hx hb dX6_isWord_0 rfl (lv_at hl 0 rfl) ?_
  refine m_get C hM 22 (by decide) q2360 rfl rfl dX6_isWord_1 ?_
  refine lv_iconst (v := 1) hx hb dX6_isWord_4 (by decide) ?_
  refine lv_icmp_ne (tgt := 24) hx hb dX6_isWord_5 (by decide) (fun c1 => ?_) (fun c1 => ?_)
  · have hw := hw.1 c1
    refine lv_iconst (v := 0) hx hb dX6_isWord_24 (by decide) ?_
    exact W.zret (v := 0) hx hb hr hw.1 (fun t ht _ => ⟨0, rfl, hw.2, ht⟩) (fun _ h => by cases h) dX6_isWord_25
  · have hw := hw.2 c1
    refine lv_aload_n hx hb dX6_isWord_8 rfl (lv_at hl 0 rfl) ?_
    refine m_get C hM 20 (by decide) q2358 rfl rfl dX6_isWord_9 ?_
    refine lv_aload_n hx hb dX6_isWord_12 rfl (lv_at hl 0 rfl) ?_
    refine m_get C hM 21 (by decide) q2359 rfl rfl dX6_isWord_13 ?_
    refine lv_isub hx hb dX6_isWord_16 ?_
    refine lv_aload_n hx hb dX6_isWord_17 rfl (lv_at hl 1 rfl) ?_
    refine vp_callSi (va_runV (As := []) (rest := [.int ((i 20) - (i 21))]) C.fix (met_J14_length l g sa_w w) (cw_X6_167 C.ts ⟨Nat.le_of_ble_eq_true rfl, Nat.le_of_ble_eq_true rfl⟩) (hs_w.pre C va_S.rf _) rfl rfl hl.1 rfl (lv_room (Nat.le_of_ble_eq_true rfl)) dX6_isWord_18 ⟨Nat.le_of_ble_eq_true rfl, Nat.le_of_ble_eq_true rfl⟩).run (fun r2 er2 => ?_)
    have hw := hw r2 er2
    refine lv_icmp_eq (tgt := 26) hx hb dX6_isWord_21 (by decide) (fun c3 => ?_) (fun c3 => ?_)
    · have hw := hw.1 c3
      refine lv_iconst (v := 0) hx hb dX6_isWord_26 (by decide) ?_
      refine lv_istore_n (lv' := [(2, .int 0), (0, .ref (adr 0)), (1, .ref sa_w)]) hx hb dX6_isWord_27 rfl hl (by decide) rfl (fun ls hl => ?_)
      obtain ⟨n, hw⟩ := hw
      exact wkb_X6_isWord_28 C post i a q hM w sa_w hs_w  n 0 hw  _ (lv_sub hl [1, 2, 0] rfl)
    · have hw := hw.2 c3
      refine lv_iconst (v := 0) hx hb dX6_isWord_24 (by decide) ?_
      exact W.zret (v := 0) hx hb hr hw.1 (fun t ht _ => ⟨0, rfl, hw.2, ht⟩) (fun _ h => by cases h) dX6_isWord_25
set_option maxHeartbeats 4000000 in
theorem met_X6_isWord (l : Launch) (g : gG) (F : nM) (adr : Nat → Nat) (i : Nat → Int32) (a : Nat → Nat → Int32) (q : Nat → Nat) (w : List Int32) (sa_w : Nat) (hs_w : StrAt g sa_w w) (hpre : pre_X6_isWord i a q w) : Met l yX6_isWord (ws_ yX6_isWord cX6_isWord 3 (some .boolean)) rm_X6_isWord (va_Pc [.ref (adr 0), .ref sa_w] (Pg g (MS g F adr i a q))) (vp_Si (fun r => post_X6_isWord i a q w r)) 0 0 (fun _ => False) :=
  wk_X6_isWord l g F adr i a q w sa_w hs_w _ (pr_X6_isWord i a q w hpre)

abbrev rm_X6_readsWord : Room := ({ frames := 8, cells := 0, slots := 0, locals := 512 } : Room)
set_option maxHeartbeats 4000000 in
theorem wk_X6_readsWord (l : Launch) (g : gG) (F : nM) (adr : Nat → Nat) (i : Nat → Int32) (a : Nat → Nat → Int32) (q : Nat → Nat) (w : List Int32) (sa_w : Nat) (hs_w : StrAt g sa_w w) (post : Int32 → MSt → Prop) (hw : wp_X6_readsWord post i a q w) : Met l yX6_readsWord (ws_ yX6_readsWord cX6_readsWord 2 (some .boolean)) rm_X6_readsWord (va_Pc [.ref (adr 0), .ref sa_w] (Pg g (MS g F adr i a q))) (va_Qi post (fun u t => MS g F adr u.1 u.2.1 u.2.2 t.heap) (Ag g)) 0 0 (Ag g) := by
  refine Met.ofW (cc := cX6_readsWord) (maxL := 2) (ret := (some .boolean)) (by decide) rfl ?_
  intro p e s m args below meth c s₁ B hml hv
  obtain ⟨rfl, hG, hM⟩ := hv
  have C : Cx p s m _ meth c cX6_readsWord 2 RX6 (some .boolean) g := Cx.of B hml hG
  have hx := C.1
  have hb := C.2.1
  have hown := C.2.2.2.1
  have hr := C.2.2.2.2.2.1
  have hlocks := C.2.2.2.2.2.2.1
  have hS : va_S (Ag g) s.heap s.heap [] := va_S.rf
  refine lv_start ([.ref (adr 0), .ref sa_w] : List Value) (L := [(0, .ref (adr 0)), (1, .ref sa_w)]) (Nat.le_of_ble_eq_true rfl) rfl (fun ls hl => ?_)
  refine lv_aload_n hx hb dX6_readsWord_0 rfl (lv_at hl 0 rfl) ?_
  refine lv_aload_n hx hb dX6_readsWord_1 rfl (lv_at hl 1 rfl) ?_
  refine vp_callSi (va_runV (As := [.ref sa_w]) (rest := []) C.fix (met_X6_isWord l g F adr i a q w sa_w hs_w hw.1) (cw_X6_176 C.ts ⟨Nat.le_of_ble_eq_true rfl, Nat.le_of_ble_eq_true rfl⟩) (preV_of C (P := (MS g F adr i a q)) (MS.recv C hM) hS hM _) rfl rfl hl.1 rfl (lv_room (Nat.le_of_ble_eq_true rfl)) dX6_readsWord_2 ⟨Nat.le_of_ble_eq_true rfl, Nat.le_of_ble_eq_true rfl⟩).run (fun r1 er1 => ?_)
  have hw := hw.2 r1 er1
  refine lv_if_ne (tgt := 10) hx hb dX6_readsWord_5 (by decide) (fun c2 => ?_) (fun c2 => ?_)
  · have hw := hw.1 c2
    refine lv_aload_n hx hb dX6_readsWord_10 rfl (lv_at hl 0 rfl) ?_
    refine va_callv (va_runV (As := []) (rest := []) C.fix (met_X6_advances l g F adr i a q  hw.1) (cw_X6_180 C.ts ⟨Nat.le_of_ble_eq_true rfl, Nat.le_of_ble_eq_true rfl⟩) (preV_of C (P := (MS g F adr i a q)) (MS.recv C hM) hS hM _) rfl rfl hl.1 rfl (lv_room (Nat.le_of_ble_eq_true rfl)) dX6_readsWord_11 ⟨Nat.le_of_ble_eq_true rfl, Nat.le_of_ble_eq_true rfl⟩) hS (fun _ _ h => h) (fun _ h => h) (fun z_u t H locs ht _ hw1 hB _ _ hS => ?_)
    obtain ⟨i4, a5, q6⟩ := z_u
    have hM : MS g F adr i4 a5 q6 H := by rw [← ht]; exact hB
    have hw := hw.2 i4 a5 q6 hw1
    refine lv_iconst (v := 1) hx hb dX6_readsWord_14 (by decide) ?_
    exact W.zret (v := 1) hx hb hr hw.1 (fun t ht _ => ⟨⟨1, (i4, a5, q6), rfl, hw.2, hM.at ht⟩, hS.F ht⟩) hS.2.2 dX6_readsWord_15
  · have hw := hw.2 c2
    refine lv_iconst (v := 0) hx hb dX6_readsWord_8 (by decide) ?_
    exact W.zret (v := 0) hx hb hr hw.1 (fun t ht _ => ⟨⟨0, (i, a, q), rfl, hw.2, hM.at ht⟩, hS.F ht⟩) hS.2.2 dX6_readsWord_9
set_option maxHeartbeats 4000000 in
theorem met_X6_readsWord (l : Launch) (g : gG) (F : nM) (adr : Nat → Nat) (i : Nat → Int32) (a : Nat → Nat → Int32) (q : Nat → Nat) (w : List Int32) (sa_w : Nat) (hs_w : StrAt g sa_w w) (hpre : pre_X6_readsWord i a q w) : Met l yX6_readsWord (ws_ yX6_readsWord cX6_readsWord 2 (some .boolean)) rm_X6_readsWord (va_Pc [.ref (adr 0), .ref sa_w] (Pg g (MS g F adr i a q))) (va_Qi (fun r u => post_X6_readsWord i a q w r u) (fun u t => MS g F adr u.1 u.2.1 u.2.2 t.heap) (Ag g)) 0 0 (Ag g) :=
  wk_X6_readsWord l g F adr i a q w sa_w hs_w _ (pr_X6_readsWord i a q w hpre)

abbrev rm_X6_isSign : Room := ({ frames := 1, cells := 0, slots := 0, locals := 64 } : Room)
set_option maxHeartbeats 4000000 in
theorem wk_X6_isSign (l : Launch) (g : gG) (F : nM) (adr : Nat → Nat) (i : Nat → Int32) (a : Nat → Nat → Int32) (q : Nat → Nat) (x : Int32) (post : Int32 → Prop) (hw : wp_X6_isSign post i a q x) : Met l yX6_isSign (ws_ yX6_isSign cX6_isSign 2 (some .boolean)) rm_X6_isSign (va_Pc [.ref (adr 0), .int x] (Pg g (MS g F adr i a q))) (vp_Si post) 0 0 (fun _ => False) := by
  refine Met.ofW (cc := cX6_isSign) (maxL := 2) (ret := (some .boolean)) (by decide) rfl ?_
  intro p e s m args below meth c s₁ B hml hv
  obtain ⟨rfl, hG, hM⟩ := hv
  have C : Cx p s m _ meth c cX6_isSign 2 RX6 (some .boolean) g := Cx.of B hml hG
  have hx := C.1
  have hb := C.2.1
  have hown := C.2.2.2.1
  have hr := C.2.2.2.2.2.1
  have hlocks := C.2.2.2.2.2.2.1
  refine lv_start ([.ref (adr 0), .int x] : List Value) (L := [(0, .ref (adr 0)), (1, .int x)]) (Nat.le_of_ble_eq_true rfl) rfl (fun ls hl => ?_)
  refine lv_aload_n hx hb dX6_isSign_0 rfl (lv_at hl 0 rfl) ?_
  refine m_get C hM 22 (by decide) q2360 rfl rfl dX6_isSign_1 ?_
  refine lv_iconst (v := 3) hx hb dX6_isSign_4 (by decide) ?_
  refine lv_icmp_ne (tgt := 25) hx hb dX6_isSign_5 (by decide) (fun c1 => ?_) (fun c1 => ?_)
  · have hw := hw.1 c1
    refine lv_iconst (v := 0) hx hb dX6_isSign_25 (by decide) ?_
    exact W.zret (v := 0) hx hb hr hw.1 (fun t ht _ => ⟨0, rfl, hw.2, ht⟩) (fun _ h => by cases h) dX6_isSign_26
  · have hw := hw.2 c1
    refine lv_aload_n hx hb dX6_isSign_8 rfl (lv_at hl 0 rfl) ?_
    refine m_get C hM 16 (by decide) q2354 rfl rfl dX6_isSign_9 ?_
    refine lv_aload_n hx hb dX6_isSign_12 rfl (lv_at hl 0 rfl) ?_
    refine m_get C hM 21 (by decide) q2359 rfl rfl dX6_isSign_13 ?_
    refine m_bld C hM (j := 8) rfl hw.1 dX6_isSign_16 ?_
    have hw := hw.2
    refine lv_iload_n hx hb dX6_isSign_17 rfl (lv_at hl 1 rfl) ?_
    refine lv_icmp_ne (tgt := 25) hx hb dX6_isSign_18 (by decide) (fun c2 => ?_) (fun c2 => ?_)
    · have hw := hw.1 c2
      refine lv_iconst (v := 0) hx hb dX6_isSign_25 (by decide) ?_
      exact W.zret (v := 0) hx hb hr hw.1 (fun t ht _ => ⟨0, rfl, hw.2, ht⟩) (fun _ h => by cases h) dX6_isSign_26
    · have hw := hw.2 c2
      refine lv_iconst (v := 1) hx hb dX6_isSign_21 (by decide) ?_
      refine lv_goto (tgt := 26) hx hb dX6_isSign_22 (by decide) ?_
      exact W.zret (v := 1) hx hb hr hw.1 (fun t ht _ => ⟨1, rfl, hw.2, ht⟩) (fun _ h => by cases h) dX6_isSign_26
set_option maxHeartbeats 4000000 in
theorem met_X6_isSign (l : Launch) (g : gG) (F : nM) (adr : Nat → Nat) (i : Nat → Int32) (a : Nat → Nat → Int32) (q : Nat → Nat) (x : Int32) (hpre : pre_X6_isSign i a q x) : Met l yX6_isSign (ws_ yX6_isSign cX6_isSign 2 (some .boolean)) rm_X6_isSign (va_Pc [.ref (adr 0), .int x] (Pg g (MS g F adr i a q))) (vp_Si (fun r => post_X6_isSign i a q x r)) 0 0 (fun _ => False) :=
  wk_X6_isSign l g F adr i a q x _ (pr_X6_isSign i a q x hpre)

abbrev rm_X6_isNumber : Room := ({ frames := 2, cells := 0, slots := 0, locals := 128 } : Room)
set_option maxHeartbeats 4000000 in
theorem wkb_X6_isNumber_33 (C : Cx p s m args meth c cX6_isNumber 4 RX6 (some .boolean) g) (post : Int32 → MSt → Prop)  (x : Int32) (y : Int32) : ∀ (n : Nat) (i : Nat → Int32) (a : Nat → Nat → Int32) (q : Nat → Nat) (x3 : Int32), wpb_X6_isNumber_33 post  x y n i a q x3 → ∀ (H : Heap) (locs : List Loc), MS g F adr i a q H → va_S (Ag g) s.heap H locs → ∀ ls : Array Slot, lv_has ls 4 [(0, .ref (adr 0)), (1, .int x), (2, .int y), (3, .int x3)] → W p l e rm_X6_isNumber s m args below meth c H locs 0 0 (MQ below (va_Qi post (fun u t => MS g F adr u.1 u.2.1 u.2.2 t.heap) (Ag g)) args s 0 0 (Ag g)) (F0 m 33 ls []) := by
  have hx := C.1
  have hb := C.2.1
  have hown := C.2.2.2.1
  have hr := C.2.2.2.2.2.1
  have hlocks := C.2.2.2.2.2.2.1
  intro n
  induction n with
  | zero =>
    intro i a q x3 hw
    exact hw.elim
  | succ n ih =>
    intro i a q x3 hw H locs hM hS ls hl
    refine lv_iload_n hx hb dX6_isNumber_33 rfl (lv_at hl 3 rfl) ?_
    refine lv_aload_n hx hb dX6_isNumber_34 rfl (lv_at hl 0 rfl) ?_
    refine m_get C hM 20 (by decide) q2358 rfl rfl dX6_isNumber_35 ?_
    refine lv_icmp_ge (tgt := 68) hx hb dX6_isNumber_38 (by decide) (fun c5 => ?_) (fun c5 => ?_)
    · have hw := hw.1 c5
      refine lv_aload_n hx hb dX6_isNumber_68 rfl (lv_at hl 0 rfl) ?_
      refine m_get C hM 23 (by decide) q2361 rfl rfl dX6_isNumber_69 ?_
      refine lv_i2l hx hb dX6_isNumber_72 rfl ?_
      refine lv_iload_n hx hb dX6_isNumber_73 rfl (lv_at hl 1 rfl) ?_
      refine lv_i2l hx hb dX6_isNumber_74 rfl ?_
      refine lv_iload_n hx hb dX6_isNumber_75 rfl (lv_at hl 2 rfl) ?_
      refine lv_i2l hx hb dX6_isNumber_76 rfl ?_
      refine vp_callSi (va_runS (As := [.long ((i 23).toInt64), .long x.toInt64, .long y.toInt64]) (rest := []) C.fix (met_X6_isIn l g  ((i 23).toInt64) x.toInt64 y.toInt64 ) (cw_X6_61 C.ts ⟨Nat.le_of_ble_eq_true rfl, Nat.le_of_ble_eq_true rfl⟩) (preS_of C (P := (fun _ => True)) hS trivial _) rfl rfl hl.1 rfl (lv_room (Nat.le_of_ble_eq_true rfl)) dX6_isNumber_77 ⟨Nat.le_of_ble_eq_true rfl, Nat.le_of_ble_eq_true rfl⟩).run (fun r6 er6 => ?_)
      have hw := hw r6 er6
      exact W.zret (v := r6) hx hb hr hw.1 (fun t ht _ => ⟨⟨r6, (i, a, q), rfl, hw.2, hM.at ht⟩, hS.F ht⟩) hS.2.2 dX6_isNumber_80
    · have hw := hw.2 c5
      refine lv_aload_n hx hb dX6_isNumber_41 rfl (lv_at hl 0 rfl) ?_
      refine lv_bipush (v := 10) hx hb dX6_isNumber_42 (by decide) ?_
      refine lv_aload_n hx hb dX6_isNumber_44 rfl (lv_at hl 0 rfl) ?_
      refine m_get C hM 23 (by decide) q2361 rfl rfl dX6_isNumber_45 ?_
      refine lv_imul hx hb dX6_isNumber_48 ?_
      refine lv_aload_n hx hb dX6_isNumber_49 rfl (lv_at hl 0 rfl) ?_
      refine m_get C hM 16 (by decide) q2354 rfl rfl dX6_isNumber_50 ?_
      refine lv_iload_n hx hb dX6_isNumber_53 rfl (lv_at hl 3 rfl) ?_
      refine m_bld C hM (j := 8) rfl hw.1 dX6_isNumber_54 ?_
      have hw := hw.2
      refine lv_iadd hx hb dX6_isNumber_55 ?_
      refine lv_bipush (v := 48) hx hb dX6_isNumber_56 (by decide) ?_
      refine lv_isub hx hb dX6_isNumber_58 ?_
      refine m_put C hM hS 23 rfl q2361 rfl rfl rfl dX6_isNumber_59 (fun i7 H locs ei7 hM hS => ?_)
      have hw := hw i7 ei7
      obtain ⟨z8, ez8⟩ : ∃ y : Int32, y = x3 + 1 := ⟨_, rfl⟩
      have hw := hw z8 ez8
      refine lv_iinc (v := z8) (lv' := [(3, .int z8), (0, .ref (adr 0)), (1, .int x), (2, .int y)]) hx hb dX6_isNumber_62 hl (k := 3) rfl (by rw [ez8]; rfl) (by decide) rfl (fun ls hl => ?_)
      refine lv_goto (tgt := 33) hx hb dX6_isNumber_65 (by decide) ?_
      exact ih i7 a q z8 hw _ _ hM hS _ (lv_sub hl [1, 2, 3, 0] rfl)
set_option maxHeartbeats 4000000 in
theorem wk_X6_isNumber (l : Launch) (g : gG) (F : nM) (adr : Nat → Nat) (i : Nat → Int32) (a : Nat → Nat → Int32) (q : Nat → Nat) (x : Int32) (y : Int32) (post : Int32 → MSt → Prop) (hw : wp_X6_isNumber post i a q x y) : Met l yX6_isNumber (ws_ yX6_isNumber cX6_isNumber 4 (some .boolean)) rm_X6_isNumber (va_Pc [.ref (adr 0), .int x, .int y] (Pg g (MS g F adr i a q))) (va_Qi post (fun u t => MS g F adr u.1 u.2.1 u.2.2 t.heap) (Ag g)) 0 0 (Ag g) := by
  refine Met.ofW (cc := cX6_isNumber) (maxL := 4) (ret := (some .boolean)) (by decide) rfl ?_
  intro p e s m args below meth c s₁ B hml hv
  obtain ⟨rfl, hG, hM⟩ := hv
  have C : Cx p s m _ meth c cX6_isNumber 4 RX6 (some .boolean) g := Cx.of B hml hG
  have hx := C.1
  have hb := C.2.1
  have hown := C.2.2.2.1
  have hr := C.2.2.2.2.2.1
  have hlocks := C.2.2.2.2.2.2.1
  have hS : va_S (Ag g) s.heap s.heap [] := va_S.rf
  refine lv_start ([.ref (adr 0), .int x, .int y] : List Value) (L := [(0, .ref (adr 0)), (1, .int x), (2, .int y)]) (Nat.le_of_ble_eq_true rfl) rfl (fun ls hl => ?_)
  refine lv_aload_n hx hb dX6_isNumber_0 rfl (lv_at hl 0 rfl) ?_
  refine m_get C hM 22 (by decide) q2360 rfl rfl dX6_isNumber_1 ?_
  refine lv_iconst (v := 2) hx hb dX6_isNumber_4 (by decide) ?_
  refine lv_icmp_ne (tgt := 21) hx hb dX6_isNumber_5 (by decide) (fun c1 => ?_) (fun c1 => ?_)
  · have hw := hw.1 c1
    refine lv_iconst (v := 0) hx hb dX6_isNumber_21 (by decide) ?_
    exact W.zret (v := 0) hx hb hr hw.1 (fun t ht _ => ⟨⟨0, (i, a, q), rfl, hw.2, hM.at ht⟩, hS.F ht⟩) hS.2.2 dX6_isNumber_22
  · have hw := hw.2 c1
    refine lv_aload_n hx hb dX6_isNumber_8 rfl (lv_at hl 0 rfl) ?_
    refine m_get C hM 20 (by decide) q2358 rfl rfl dX6_isNumber_9 ?_
    refine lv_aload_n hx hb dX6_isNumber_12 rfl (lv_at hl 0 rfl) ?_
    refine m_get C hM 21 (by decide) q2359 rfl rfl dX6_isNumber_13 ?_
    refine lv_isub hx hb dX6_isNumber_16 ?_
    refine lv_iconst (v := 3) hx hb dX6_isNumber_17 (by decide) ?_
    refine lv_icmp_le (tgt := 23) hx hb dX6_isNumber_18 (by decide) (fun c2 => ?_) (fun c2 => ?_)
    · have hw := hw.1 c2
      refine lv_aload_n hx hb dX6_isNumber_23 rfl (lv_at hl 0 rfl) ?_
      refine lv_iconst (v := 0) hx hb dX6_isNumber_24 (by decide) ?_
      refine m_put C hM hS 23 rfl q2361 rfl rfl rfl dX6_isNumber_25 (fun i3 H locs ei3 hM hS => ?_)
      have hw := hw i3 ei3
      refine lv_aload_n hx hb dX6_isNumber_28 rfl (lv_at hl 0 rfl) ?_
      refine m_get C hM 21 (by decide) q2359 rfl rfl dX6_isNumber_29 ?_
      refine lv_topi (fun z4 ez4 => ?_)
      have hw := hw z4 ez4
      refine lv_istore_n (lv' := [(3, .int z4), (0, .ref (adr 0)), (1, .int x), (2, .int y)]) hx hb dX6_isNumber_32 rfl hl (by decide) rfl (fun ls hl => ?_)
      obtain ⟨n, hw⟩ := hw
      exact wkb_X6_isNumber_33 C post x y  n i3 a q z4 hw _ _ hM hS _ (lv_sub hl [1, 2, 3, 0] rfl)
    · have hw := hw.2 c2
      refine lv_iconst (v := 0) hx hb dX6_isNumber_21 (by decide) ?_
      exact W.zret (v := 0) hx hb hr hw.1 (fun t ht _ => ⟨⟨0, (i, a, q), rfl, hw.2, hM.at ht⟩, hS.F ht⟩) hS.2.2 dX6_isNumber_22
set_option maxHeartbeats 4000000 in
theorem met_X6_isNumber (l : Launch) (g : gG) (F : nM) (adr : Nat → Nat) (i : Nat → Int32) (a : Nat → Nat → Int32) (q : Nat → Nat) (x : Int32) (y : Int32) (hpre : pre_X6_isNumber i a q x y) : Met l yX6_isNumber (ws_ yX6_isNumber cX6_isNumber 4 (some .boolean)) rm_X6_isNumber (va_Pc [.ref (adr 0), .int x, .int y] (Pg g (MS g F adr i a q))) (va_Qi (fun r u => post_X6_isNumber i a q x y r u) (fun u t => MS g F adr u.1 u.2.1 u.2.2 t.heap) (Ag g)) 0 0 (Ag g) :=
  wk_X6_isNumber l g F adr i a q x y _ (pr_X6_isNumber i a q x y hpre)

abbrev rm_X6_readsNumber : Room := ({ frames := 4, cells := 0, slots := 0, locals := 256 } : Room)
set_option maxHeartbeats 4000000 in
theorem wk_X6_readsNumber (l : Launch) (g : gG) (F : nM) (adr : Nat → Nat) (i : Nat → Int32) (a : Nat → Nat → Int32) (q : Nat → Nat) (x : Int32) (y : Int32) (post : Int32 → MSt → Prop) (hw : wp_X6_readsNumber post i a q x y) : Met l yX6_readsNumber (ws_ yX6_readsNumber cX6_readsNumber 3 (some .boolean)) rm_X6_readsNumber (va_Pc [.ref (adr 0), .int x, .int y] (Pg g (MS g F adr i a q))) (va_Qi post (fun u t => MS g F adr u.1 u.2.1 u.2.2 t.heap) (Ag g)) 0 0 (Ag g) := by
  refine Met.ofW (cc := cX6_readsNumber) (maxL := 3) (ret := (some .boolean)) (by decide) rfl ?_
  intro p e s m args below meth c s₁ B hml hv
  obtain ⟨rfl, hG, hM⟩ := hv
  have C : Cx p s m _ meth c cX6_readsNumber 3 RX6 (some .boolean) g := Cx.of B hml hG
  have hx := C.1
  have hb := C.2.1
  have hown := C.2.2.2.1
  have hr := C.2.2.2.2.2.1
  have hlocks := C.2.2.2.2.2.2.1
  have hS : va_S (Ag g) s.heap s.heap [] := va_S.rf
  refine lv_start ([.ref (adr 0), .int x, .int y] : List Value) (L := [(0, .ref (adr 0)), (1, .int x), (2, .int y)]) (Nat.le_of_ble_eq_true rfl) rfl (fun ls hl => ?_)
  refine lv_aload_n hx hb dX6_readsNumber_0 rfl (lv_at hl 0 rfl) ?_
  refine lv_iload_n hx hb dX6_readsNumber_1 rfl (lv_at hl 1 rfl) ?_
  refine lv_iload_n hx hb dX6_readsNumber_2 rfl (lv_at hl 2 rfl) ?_
  refine va_calli (va_runV (As := [.int x, .int y]) (rest := []) C.fix (met_X6_isNumber l g F adr i a q x y hw.1) (cw_X6_186 C.ts ⟨Nat.le_of_ble_eq_true rfl, Nat.le_of_ble_eq_true rfl⟩) (preV_of C (P := (MS g F adr i a q)) (MS.recv C hM) hS hM _) rfl rfl hl.1 rfl (lv_room (Nat.le_of_ble_eq_true rfl)) dX6_readsNumber_3 ⟨Nat.le_of_ble_eq_true rfl, Nat.le_of_ble_eq_true rfl⟩) hS (fun _ _ h => h) (fun _ h => h) (fun r1 z_u t H locs ht _ hw1 hB _ _ hS => ?_)
  obtain ⟨i2, a3, q4⟩ := z_u
  have hM : MS g F adr i2 a3 q4 H := by rw [← ht]; exact hB
  have hw := hw.2 r1 i2 a3 q4 hw1
  refine lv_if_ne (tgt := 11) hx hb dX6_readsNumber_6 (by decide) (fun c5 => ?_) (fun c5 => ?_)
  · have hw := hw.1 c5
    refine lv_aload_n hx hb dX6_readsNumber_11 rfl (lv_at hl 0 rfl) ?_
    refine va_callv (va_runV (As := []) (rest := []) C.fix (met_X6_advances l g F adr i2 a3 q4  hw.1) (cw_X6_180 C.ts ⟨Nat.le_of_ble_eq_true rfl, Nat.le_of_ble_eq_true rfl⟩) (preV_of C (P := (MS g F adr i2 a3 q4)) (MS.recv C hM) hS hM _) rfl rfl hl.1 rfl (lv_room (Nat.le_of_ble_eq_true rfl)) dX6_readsNumber_12 ⟨Nat.le_of_ble_eq_true rfl, Nat.le_of_ble_eq_true rfl⟩) hS (fun _ _ h => h) (fun _ h => h) (fun z_u t H locs ht _ hw1 hB _ _ hS => ?_)
    obtain ⟨i7, a8, q9⟩ := z_u
    have hM : MS g F adr i7 a8 q9 H := by rw [← ht]; exact hB
    have hw := hw.2 i7 a8 q9 hw1
    refine lv_iconst (v := 1) hx hb dX6_readsNumber_15 (by decide) ?_
    exact W.zret (v := 1) hx hb hr hw.1 (fun t ht _ => ⟨⟨1, (i7, a8, q9), rfl, hw.2, hM.at ht⟩, hS.F ht⟩) hS.2.2 dX6_readsNumber_16
  · have hw := hw.2 c5
    refine lv_iconst (v := 0) hx hb dX6_readsNumber_9 (by decide) ?_
    exact W.zret (v := 0) hx hb hr hw.1 (fun t ht _ => ⟨⟨0, (i2, a3, q4), rfl, hw.2, hM.at ht⟩, hS.F ht⟩) hS.2.2 dX6_readsNumber_10
set_option maxHeartbeats 4000000 in
theorem met_X6_readsNumber (l : Launch) (g : gG) (F : nM) (adr : Nat → Nat) (i : Nat → Int32) (a : Nat → Nat → Int32) (q : Nat → Nat) (x : Int32) (y : Int32) (hpre : pre_X6_readsNumber i a q x y) : Met l yX6_readsNumber (ws_ yX6_readsNumber cX6_readsNumber 3 (some .boolean)) rm_X6_readsNumber (va_Pc [.ref (adr 0), .int x, .int y] (Pg g (MS g F adr i a q))) (va_Qi (fun r u => post_X6_readsNumber i a q x y r u) (fun u t => MS g F adr u.1 u.2.1 u.2.2 t.heap) (Ag g)) 0 0 (Ag g) :=
  wk_X6_readsNumber l g F adr i a q x y _ (pr_X6_readsNumber i a q x y hpre)
end
