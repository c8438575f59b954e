set_option maxRecDepth 100000
theorem cw_J1_42 {R : Room} {s : State} {args : Array Value} (hts : ∀ w ∈ lw_all, w.before args s = true) {rm : Room} (hR : rm.frames + 1 ≤ R.frames ∧ 8 + (1 + 11) + rm.locals ≤ R.locals) : CallB R s args RJ1 42 yJ0_init cJ0_init 1 none (ws_ yJ0_init cJ0_init 1 none) rm rm.cells rm.slots 0 ∧ yJ0_init.name = "<init>" ∧ (Cond.instanceMethod yJ0_init).before args s = true := cwI 0 hts (lw_meth q209) rfl rfl rfl (hts _ q74) (hts _ q207) (hts _ q208) rfl (by decide +kernel) hR
theorem cw_J1_127 {R : Room} {s : State} {args : Array Value} (hts : ∀ w ∈ lw_all, w.before args s = true) {rm : Room} (hR : rm.frames + 1 ≤ R.frames ∧ 8 + (3 + 11) + rm.locals ≤ R.locals) : CallB R s args RJ1 127 yJ1_sub cJ1_sub 3 (some .int) (ws_ yJ1_sub cJ1_sub 3 (some .int)) rm rm.cells rm.slots 3 ∧ (Cond.static yJ1_sub).before args s = true := va_cwS 3 hts (lw_S q1550 q1551 q75 q1552) rfl rfl rfl (by decide +kernel) hR
theorem cw_J1_103 {R : Room} {s : State} {args : Array Value} (hts : ∀ w ∈ lw_all, w.before args s = true) {rm : Room} (hR : rm.frames + 1 ≤ R.frames ∧ 8 + (2 + 11) + rm.locals ≤ R.locals) : CallB R s args RJ1 103 yJ1_elementAt cJ1_elementAt 2 (some (.object "java/lang/Object")) (ws_ yJ1_elementAt cJ1_elementAt 2 (some (.object "java/lang/Object"))) rm rm.cells rm.slots 2 ∧ (Cond.static yJ1_elementAt).before args s = true := va_cwS 2 hts (lw_S q1561 q1562 q75 q1563) rfl rfl rfl (by decide +kernel) hR
theorem cw_J1_74 {R : Room} {s : State} {args : Array Value} (hts : ∀ w ∈ lw_all, w.before args s = true) {rm : Room} (hR : rm.frames + 1 ≤ R.frames ∧ 8 + (2 + 11) + rm.locals ≤ R.locals) : CallB R s args RJ1 74 yJ1_inc cJ1_inc 2 (some .int) (ws_ yJ1_inc cJ1_inc 2 (some .int)) rm rm.cells rm.slots 2 ∧ (Cond.static yJ1_inc).before args s = true := va_cwS 2 hts (lw_S q1564 q1565 q75 q1566) rfl rfl rfl (by decide +kernel) hR
theorem cw_J1_93 {R : Room} {s : State} {args : Array Value} (hts : ∀ w ∈ lw_all, w.before args s = true) {rm : Room} (hR : rm.frames + 1 ≤ R.frames ∧ 8 + (4 + 11) + rm.locals ≤ R.locals) : CallW R s args RJ1 RJ1 93 yJ1_pollFirst cJ1_pollFirst 4 (some (.object "java/lang/Object")) (ws_ yJ1_pollFirst cJ1_pollFirst 4 (some (.object "java/lang/Object"))) rm rm.cells rm.slots 0 := cwV 0 hts (lw_V q1557 q1558 q1559 q75 q1560) rfl rfl rfl (by decide +kernel) hR
theorem cw_J1_68 {R : Room} {s : State} {args : Array Value} (hts : ∀ w ∈ lw_all, w.before args s = true) {rm : Room} (hR : rm.frames + 1 ≤ R.frames ∧ 8 + (2 + 11) + rm.locals ≤ R.locals) : CallB R s args RJ1 68 yJ1_dec cJ1_dec 2 (some .int) (ws_ yJ1_dec cJ1_dec 2 (some .int)) rm rm.cells rm.slots 2 ∧ (Cond.static yJ1_dec).before args s = true := va_cwS 2 hts (lw_S q2096 q2097 q75 q2098) rfl rfl rfl (by decide +kernel) hR
theorem cw_J1_100 {R : Room} {s : State} {args : Array Value} (hts : ∀ w ∈ lw_all, w.before args s = true) {rm : Room} (hR : rm.frames + 1 ≤ R.frames ∧ 8 + (4 + 11) + rm.locals ≤ R.locals) : CallW R s args RJ1 RJ1 100 yJ1_pollLast cJ1_pollLast 4 (some (.object "java/lang/Object")) (ws_ yJ1_pollLast cJ1_pollLast 4 (some (.object "java/lang/Object"))) rm rm.cells rm.slots 0 := cwV 0 hts (lw_V q2092 q2093 q2094 q75 q2095) rfl rfl rfl (by decide +kernel) hR
theorem cw_X4_9 {R : Room} {s : State} {args : Array Value} (hts : ∀ w ∈ lw_all, w.before args s = true) {rm : Room} (hR : rm.frames + 1 ≤ R.frames ∧ 8 + (1 + 11) + rm.locals ≤ R.locals) : CallB R s args RX4 9 yJ1_init cJ1_init 1 none (ws_ yJ1_init cJ1_init 1 none) rm rm.cells rm.slots 0 ∧ yJ1_init.name = "<init>" ∧ (Cond.instanceMethod yJ1_init).before args s = true := cwI 0 hts (lw_meth q206) rfl rfl rfl (hts _ q75) (hts _ q204) (hts _ q205) rfl (by decide +kernel) hR
theorem cw_X4_20 {R : Room} {s : State} {args : Array Value} (hts : ∀ w ∈ lw_all, w.before args s = true) {rm : Room} (hR : rm.frames + 1 ≤ R.frames ∧ 8 + (1 + 11) + rm.locals ≤ R.locals) : CallW R s args RX4 RJ1 20 yJ1_size cJ1_size 1 (some .int) (ws_ yJ1_size cJ1_size 1 (some .int)) rm rm.cells rm.slots 0 := cwV 0 hts (lw_V q1546 q1547 q1548 q75 q1549) rfl rfl rfl (by decide +kernel) hR
theorem cw_X4_24 {R : Room} {s : State} {args : Array Value} (hts : ∀ w ∈ lw_all, w.before args s = true) {rm : Room} (hR : rm.frames + 1 ≤ R.frames ∧ 8 + (2 + 11) + rm.locals ≤ R.locals) : CallW R s args RX4 RJ1 24 yJ1_removeFirst cJ1_removeFirst 2 (some (.object "java/lang/Object")) (ws_ yJ1_removeFirst cJ1_removeFirst 2 (some (.object "java/lang/Object"))) rm rm.cells rm.slots 0 := cwV 0 hts (lw_V q1553 q1554 q1555 q75 q1556) rfl rfl rfl (by decide +kernel) hR
theorem cw_X4_30 {R : Room} {s : State} {args : Array Value} (hts : ∀ w ∈ lw_all, w.before args s = true) {rm : Room} (hR : rm.frames + 1 ≤ R.frames ∧ 8 + (3 + 11) + rm.locals ≤ R.locals) : CallW R s args RX4 RJ1 30 yJ1_addLast cJ1_addLast 3 none (ws_ yJ1_addLast cJ1_addLast 3 none) rm rm.cells rm.slots 1 := cwV 1 hts (lw_V q1568 q1569 q1570 q75 q1571) rfl rfl rfl (by decide +kernel) hR
theorem cw_X4_34 {R : Room} {s : State} {args : Array Value} (hts : ∀ w ∈ lw_all, w.before args s = true) {rm : Room} (hR : rm.frames + 1 ≤ R.frames ∧ 8 + (2 + 11) + rm.locals ≤ R.locals) : CallW R s args RX4 RJ1 34 yJ1_removeLast cJ1_removeLast 2 (some (.object "java/lang/Object")) (ws_ yJ1_removeLast cJ1_removeLast 2 (some (.object "java/lang/Object"))) rm rm.cells rm.slots 0 := cwV 0 hts (lw_V q2088 q2089 q2090 q75 q2091) rfl rfl rfl (by decide +kernel) hR
section
variable {p : Program} {l : Launch} {e : Env} {s : State} {m : MethodId} {args : Array Value} {below : List Frame} {meth : Method} {c : Code} {g : gG}
set_option maxHeartbeats 4000000 in
theorem wk_J1_init (l : Launch) (g : gG) (ow : Nat) (M : nM) (o : Nat) (post : nM → Prop) (hw : wp_J1_init g ow post M o) : Met l yJ1_init (ws_ yJ1_init cJ1_init 1 none) ({ frames := 3, cells := 1, slots := 17, locals := 192 } : Room) (va_Pc [.ref o] (Pg g (nh g M))) (va_Qv post (fun u t => nh g u t.heap) (Ag g)) 1 17 (Ag g) := by
  refine Met.ofW (cc := cJ1_init) (maxL := 1) (ret := none) (by decide) rfl ?_
  intro p e s m args below meth c s₁ B hml hv
  obtain ⟨rfl, hG, hM⟩ := hv
  have C : Cx p s m _ meth c cJ1_init 1 RJ1 none g := Cx.of B hml hG
  have hin2 : meth.name = "<init>" := (name_of_methodNamed B.named B.method).1
  have hx := C.1
  have hb := C.2.1
  have hown := C.2.2.2.1
  have hr := C.2.2.2.2.2.1
  have hlocks := C.2.2.2.2.2.2.1
  have hS : va_S (Ag g) s.heap s.heap [] := va_S.rf
  refine lv_start ([.ref o] : List Value) (L := [(0, .ref o)]) (Nat.le_of_ble_eq_true rfl) rfl (fun ls hl => ?_)
  refine lv_aload_n hx hb dJ1_init_0 rfl (lv_at hl 0 rfl) ?_
  refine vp_callSvP (va_runI (As := []) (rest := []) C.fix (met_J0_init l g  M o) (cw_J1_42 C.ts ⟨Nat.le_of_ble_eq_true rfl, Nat.le_of_ble_eq_true rfl⟩) (preS_of C (P := (nh g M)) hS hM _) rfl rfl hl.1 rfl (lv_room (Nat.le_of_ble_eq_true rfl)) dJ1_init_1 ⟨Nat.le_of_ble_eq_true rfl, Nat.le_of_ble_eq_true rfl⟩).run (fun er1 => ?_)
  replace hw := hw er1
  refine lv_aload_n hx hb dJ1_init_4 rfl (lv_at hl 0 rfl) ?_
  refine lv_bipush (v := 17) hx hb dJ1_init_5 (by decide) ?_
  refine g_newq C 4 q211 q212 rfl hM hS (N' := 17) (by decide) rfl (by decide) (Nat.le_of_ble_eq_true rfl) (Nat.le_of_ble_eq_true rfl) dJ1_init_7 (fun _ => (ow, 7)) (fun q2 H hqq2 hM hS => ?_)
  obtain ⟨M3, eM3⟩ : ∃ N, N = nup M q2 ((fun _ => (ow, 7)) q2, .inl (g.2.2.2 4, 17, .inr (.inr (.inr (.inr (fun _ => none)))))) := ⟨_, rfl⟩
  rw [← eM3] at hM
  replace hw := hw q2 M3 hqq2 eM3
  obtain ⟨⟨tp4, fsp4, hep4, hkp4⟩, hw⟩ := hw
  refine g_put C in_J1 tyJ1 tyJ1_ok nmJ1 hM hS hep4 rfl 0 (by decide) q213 (fun _ h => h) rfl (v := .ref q2) rfl rfl hkp4 dJ1_init_10 (fun H locs hM hS => ?_)
  obtain ⟨M5, eM5⟩ : ∃ N, N = nup M3 o (tp4, .inr (9, fsp4.set 0 (.ref q2))) := ⟨_, rfl⟩
  rw [← eM5] at hM
  replace hw := hw M5 ⟨tp4, fsp4, hep4, eM5⟩
  exact W.vret hx hb hr (fun t ht _ => ⟨⟨M5, rfl, hw, hM.tt ht⟩, hS.F ht⟩) hS.2.2 dJ1_init_13
set_option maxHeartbeats 4000000 in
theorem met_J1_init (l : Launch) (g : gG) (ow : Nat) (M : nM) (o : Nat) (hpre : pre_J1_init g ow M o) : Met l yJ1_init (ws_ yJ1_init cJ1_init 1 none) ({ frames := 3, cells := 1, slots := 17, locals := 192 } : Room) (va_Pc [.ref o] (Pg g (nh g M))) (va_Qv (fun M' => post_J1_init g ow M o M') (fun u t => nh g u t.heap) (Ag g)) 1 17 (Ag g) :=
  wk_J1_init l g ow M o _ (pr_J1_init g ow M o hpre)

set_option maxHeartbeats 4000000 in
theorem wk_J1_sub (l : Launch) (g : gG) (M : nM) (x : Int32) (y : Int32) (z : Int32) (post : Int32 → Prop) (hw : wp_J1_sub g post M x y z) : Met l yJ1_sub (ws_ yJ1_sub cJ1_sub 3 (some .int)) ({ frames := 1, cells := 0, slots := 0, locals := 64 } : Room) (va_Pc [.int x, .int y, .int z] (Pg g (nh g M))) (vp_Si post) 0 0 (fun _ => False) := by
  refine Met.ofW (cc := cJ1_sub) (maxL := 3) (ret := (some .int)) (by decide) rfl ?_
  intro p e s m args below meth c s₁ B hml hv
  obtain ⟨rfl, hG, hM⟩ := hv
  have C : Cx p s m _ meth c cJ1_sub 3 RJ1 (some .int) g := Cx.of B hml hG
  have hx := C.1
  have hb := C.2.1
  have hown := C.2.2.2.1
  have hr := C.2.2.2.2.2.1
  have hlocks := C.2.2.2.2.2.2.1
  refine lv_start ([.int x, .int y, .int z] : List Value) (L := [(0, .int x), (1, .int y), (2, .int z)]) (Nat.le_of_ble_eq_true rfl) rfl (fun ls hl => ?_)
  refine lv_iload_n hx hb dJ1_sub_0 rfl (lv_at hl 0 rfl) ?_
  refine lv_iload_n hx hb dJ1_sub_1 rfl (lv_at hl 1 rfl) ?_
  refine lv_isub hx hb dJ1_sub_2 ?_
  refine lv_dup hx hb dJ1_sub_3 rfl ?_
  refine lv_topi (fun z1 ez1 => ?_)
  have hw := hw z1 ez1
  refine lv_istore_n (lv' := [(0, .int z1), (1, .int y), (2, .int z)]) hx hb dJ1_sub_4 rfl hl (by decide) rfl (fun ls hl => ?_)
  refine lv_if_ge (tgt := 12) hx hb dJ1_sub_5 (by decide) (fun c2 => ?_) (fun c2 => ?_)
  · have hw := hw.1 c2
    refine lv_iload_n hx hb dJ1_sub_12 rfl (lv_at hl 0 rfl) ?_
    exact W.iret (v := z1) hx hb hr (fun t ht _ => ⟨z1, rfl, hw, ht⟩) (fun _ h => by cases h) dJ1_sub_13
  · have hw := hw.2 c2
    refine lv_iload_n hx hb dJ1_sub_8 rfl (lv_at hl 0 rfl) ?_
    refine lv_iload_n hx hb dJ1_sub_9 rfl (lv_at hl 2 rfl) ?_
    refine lv_iadd hx hb dJ1_sub_10 ?_
    refine lv_topi (fun z3 ez3 => ?_)
    have hw := hw z3 ez3
    refine lv_istore_n (lv' := [(0, .int z3), (1, .int y), (2, .int z)]) hx hb dJ1_sub_11 rfl hl (by decide) rfl (fun ls hl => ?_)
    refine lv_iload_n hx hb dJ1_sub_12 rfl (lv_at hl 0 rfl) ?_
    exact W.iret (v := z3) hx hb hr (fun t ht _ => ⟨z3, rfl, hw, ht⟩) (fun _ h => by cases h) dJ1_sub_13
set_option maxHeartbeats 4000000 in
theorem met_J1_sub (l : Launch) (g : gG) (M : nM) (x : Int32) (y : Int32) (z : Int32) (hpre : pre_J1_sub g M x y z) : Met l yJ1_sub (ws_ yJ1_sub cJ1_sub 3 (some .int)) ({ frames := 1, cells := 0, slots := 0, locals := 64 } : Room) (va_Pc [.int x, .int y, .int z] (Pg g (nh g M))) (vp_Si (fun r => post_J1_sub g M x y z r)) 0 0 (fun _ => False) :=
  wk_J1_sub l g M x y z _ (pr_J1_sub g M x y z hpre)

set_option maxHeartbeats 4000000 in
theorem wk_J1_inc (l : Launch) (g : gG) (M : nM) (x : Int32) (y : Int32) (post : Int32 → Prop) (hw : wp_J1_inc g post M x y) : Met l yJ1_inc (ws_ yJ1_inc cJ1_inc 2 (some .int)) ({ frames := 1, cells := 0, slots := 0, locals := 64 } : Room) (va_Pc [.int x, .int y] (Pg g (nh g M))) (vp_Si post) 0 0 (fun _ => False) := by
  refine Met.ofW (cc := cJ1_inc) (maxL := 2) (ret := (some .int)) (by decide) rfl ?_
  intro p e s m args below meth c s₁ B hml hv
  obtain ⟨rfl, hG, hM⟩ := hv
  have C : Cx p s m _ meth c cJ1_inc 2 RJ1 (some .int) g := Cx.of B hml hG
  have hx := C.1
  have hb := C.2.1
  have hown := C.2.2.2.1
  have hr := C.2.2.2.2.2.1
  have hlocks := C.2.2.2.2.2.2.1
  refine lv_start ([.int x, .int y] : List Value) (L := [(0, .int x), (1, .int y)]) (Nat.le_of_ble_eq_true rfl) rfl (fun ls hl => ?_)
  obtain ⟨z1, ez1⟩ : ∃ y : Int32, y = x + 1 := ⟨_, rfl⟩
  have hw := hw z1 ez1
  refine lv_iinc (v := z1) (lv' := [(0, .int z1), (1, .int y)]) hx hb dJ1_inc_0 hl (k := 0) rfl (by rw [ez1]; rfl) (by decide) rfl (fun ls hl => ?_)
  refine lv_iload_n hx hb dJ1_inc_3 rfl (lv_at hl 0 rfl) ?_
  refine lv_iload_n hx hb dJ1_inc_4 rfl (lv_at hl 1 rfl) ?_
  refine lv_icmp_lt (tgt := 10) hx hb dJ1_inc_5 (by decide) (fun c2 => ?_) (fun c2 => ?_)
  · have hw := hw.1 c2
    refine lv_iload_n hx hb dJ1_inc_10 rfl (lv_at hl 0 rfl) ?_
    exact W.iret (v := z1) hx hb hr (fun t ht _ => ⟨z1, rfl, hw, ht⟩) (fun _ h => by cases h) dJ1_inc_11
  · have hw := hw.2 c2
    refine lv_iconst (v := 0) hx hb dJ1_inc_8 (by decide) ?_
    refine lv_istore_n (lv' := [(0, .int 0), (1, .int y)]) hx hb dJ1_inc_9 rfl hl (by decide) rfl (fun ls hl => ?_)
    refine lv_iload_n hx hb dJ1_inc_10 rfl (lv_at hl 0 rfl) ?_
    exact W.iret (v := 0) hx hb hr (fun t ht _ => ⟨0, rfl, hw, ht⟩) (fun _ h => by cases h) dJ1_inc_11
set_option maxHeartbeats 4000000 in
theorem met_J1_inc (l : Launch) (g : gG) (M : nM) (x : Int32) (y : Int32) (hpre : pre_J1_inc g M x y) : Met l yJ1_inc (ws_ yJ1_inc cJ1_inc 2 (some .int)) ({ frames := 1, cells := 0, slots := 0, locals := 64 } : Room) (va_Pc [.int x, .int y] (Pg g (nh g M))) (vp_Si (fun r => post_J1_inc g M x y r)) 0 0 (fun _ => False) :=
  wk_J1_inc l g M x y _ (pr_J1_inc g M x y hpre)

set_option maxHeartbeats 4000000 in
theorem wk_J1_dec (l : Launch) (g : gG) (M : nM) (x : Int32) (y : Int32) (post : Int32 → Prop) (hw : wp_J1_dec g post M x y) : Met l yJ1_dec (ws_ yJ1_dec cJ1_dec 2 (some .int)) ({ frames := 1, cells := 0, slots := 0, locals := 64 } : Room) (va_Pc [.int x, .int y] (Pg g (nh g M))) (vp_Si post) 0 0 (fun _ => False) := by
  refine Met.ofW (cc := cJ1_dec) (maxL := 2) (ret := (some .int)) (by decide) rfl ?_
  intro p e s m args below meth c s₁ B hml hv
  obtain ⟨rfl, hG, hM⟩ := hv
  have C : Cx p s m _ meth c cJ1_dec 2 RJ1 (some .int) g := Cx.of B hml hG
  have hx := C.1
  have hb := C.2.1
  have hown := C.2.2.2.1
  have hr := C.2.2.2.2.2.1
  have hlocks := C.2.2.2.2.2.2.1
  refine lv_start ([.int x, .int y] : List Value) (L := [(0, .int x), (1, .int y)]) (Nat.le_of_ble_eq_true rfl) rfl (fun ls hl => ?_)
  obtain ⟨z1, ez1⟩ : ∃ y : Int32, y = x + (-1) := ⟨_, rfl⟩
  have hw := hw z1 ez1
  refine lv_iinc (v := z1) (lv' := [(0, .int z1), (1, .int y)]) hx hb dJ1_dec_0 hl (k := 0) rfl (by rw [ez1]; rfl) (by decide) rfl (fun ls hl => ?_)
  refine lv_iload_n hx hb dJ1_dec_3 rfl (lv_at hl 0 rfl) ?_
  refine lv_if_ge (tgt := 11) hx hb dJ1_dec_4 (by decide) (fun c2 => ?_) (fun c2 => ?_)
  · have hw := hw.1 c2
    refine lv_iload_n hx hb dJ1_dec_11 rfl (lv_at hl 0 rfl) ?_
    exact W.iret (v := z1) hx hb hr (fun t ht _ => ⟨z1, rfl, hw, ht⟩) (fun _ h => by cases h) dJ1_dec_12
  · have hw := hw.2 c2
    refine lv_iload_n hx hb dJ1_dec_7 rfl (lv_at hl 1 rfl) ?_
    refine lv_iconst (v := 1) hx hb dJ1_dec_8 (by decide) ?_
    refine lv_isub hx hb dJ1_dec_9 ?_
    refine lv_topi (fun z3 ez3 => ?_)
    have hw := hw z3 ez3
    refine lv_istore_n (lv' := [(0, .int z3), (1, .int y)]) hx hb dJ1_dec_10 rfl hl (by decide) rfl (fun ls hl => ?_)
    refine lv_iload_n hx hb dJ1_dec_11 rfl (lv_at hl 0 rfl) ?_
    exact W.iret (v := z3) hx hb hr (fun t ht _ => ⟨z3, rfl, hw, ht⟩) (fun _ h => by cases h) dJ1_dec_12
set_option maxHeartbeats 4000000 in
theorem met_J1_dec (l : Launch) (g : gG) (M : nM) (x : Int32) (y : Int32) (hpre : pre_J1_dec g M x y) : Met l yJ1_dec (ws_ yJ1_dec cJ1_dec 2 (some .int)) ({ frames := 1, cells := 0, slots := 0, locals := 64 } : Room) (va_Pc [.int x, .int y] (Pg g (nh g M))) (vp_Si (fun r => post_J1_dec g M x y r)) 0 0 (fun _ => False) :=
  wk_J1_dec l g M x y _ (pr_J1_dec g M x y hpre)

set_option maxHeartbeats 4000000 in
theorem wk_J1_elementAt (l : Launch) (g : gG) (pp : Nat → Option Nat) (M : nM) (u : Nat) (x : Int32) (post : Option Nat → Prop) (hw : wp_J1_elementAt g pp post M u x) : Met l yJ1_elementAt (ws_ yJ1_elementAt cJ1_elementAt 2 (some (.object "java/lang/Object"))) ({ frames := 1, cells := 0, slots := 0, locals := 64 } : Room) (va_Pc [.ref u, .int x] (Pg g (nh g M))) (va_Sq post) 0 0 (fun _ => False) := by
  refine Met.ofW (cc := cJ1_elementAt) (maxL := 2) (ret := (some (.object "java/lang/Object"))) (by decide) rfl ?_
  intro p e s m args below meth c s₁ B hml hv
  obtain ⟨rfl, hG, hM⟩ := hv
  have C : Cx p s m _ meth c cJ1_elementAt 2 RJ1 (some (.object "java/lang/Object")) g := Cx.of B hml hG
  have hx := C.1
  have hb := C.2.1
  have hown := C.2.2.2.1
  have hr := C.2.2.2.2.2.1
  have hlocks := C.2.2.2.2.2.2.1
  refine lv_start ([.ref u, .int x] : List Value) (L := [(0, .ref u), (1, .int x)]) (Nat.le_of_ble_eq_true rfl) rfl (fun ls hl => ?_)
  refine lv_aload_n hx hb dJ1_elementAt_0 rfl (lv_at hl 0 rfl) ?_
  refine lv_iload_n hx hb dJ1_elementAt_1 rfl (lv_at hl 1 rfl) ?_
  obtain ⟨nf1, f1, ⟨tf1, hef1⟩, hif1, hw⟩ := hw
  refine g_aald C hM 4 hef1 rfl rfl hif1 dJ1_elementAt_2 ?_
  obtain ⟨z2, ez2⟩ : ∃ y_, y_ = f1 x.toNatClampNeg := ⟨_, rfl⟩
  rw [← ez2]
  replace hw := hw z2 ez2
  exact W.aret (v := va_rf z2) hx hb hr (Or.inl ⟨_, rfl⟩) (va_rf_or z2) (fun t ht _ => ⟨z2, rfl, hw, ht⟩) (fun _ h => by cases h) dJ1_elementAt_3
set_option maxHeartbeats 4000000 in
theorem met_J1_elementAt (l : Launch) (g : gG) (pp : Nat → Option Nat) (M : nM) (u : Nat) (x : Int32) (hpre : pre_J1_elementAt g pp M u x) : Met l yJ1_elementAt (ws_ yJ1_elementAt cJ1_elementAt 2 (some (.object "java/lang/Object"))) ({ frames := 1, cells := 0, slots := 0, locals := 64 } : Room) (va_Pc [.ref u, .int x] (Pg g (nh g M))) (va_Sq (fun r => post_J1_elementAt g pp M u x r)) 0 0 (fun _ => False) :=
  wk_J1_elementAt l g pp M u x _ (pr_J1_elementAt g pp M u x hpre)

set_option maxHeartbeats 4000000 in
theorem wk_J1_size (l : Launch) (g : gG) (ow : Nat) (L : List Nat) (M : nM) (o : Nat) (post : Int32 → Prop) (hw : wp_J1_size g ow L post M o) : Met l yJ1_size (ws_ yJ1_size cJ1_size 1 (some .int)) ({ frames := 2, cells := 0, slots := 0, locals := 128 } : Room) (va_Pc [.ref o] (Pg g (nh g M))) (vp_Si post) 0 0 (fun _ => False) := by
  refine Met.ofW (cc := cJ1_size) (maxL := 1) (ret := (some .int)) (by decide) rfl ?_
  intro p e s m args below meth c s₁ B hml hv
  obtain ⟨rfl, hG, hM⟩ := hv
  have C : Cx p s m _ meth c cJ1_size 1 RJ1 (some .int) g := Cx.of B hml hG
  have hx := C.1
  have hb := C.2.1
  have hown := C.2.2.2.1
  have hr := C.2.2.2.2.2.1
  have hlocks := C.2.2.2.2.2.2.1
  refine lv_start ([.ref o] : List Value) (L := [(0, .ref o)]) (Nat.le_of_ble_eq_true rfl) rfl (fun ls hl => ?_)
  refine lv_aload_n hx hb dJ1_size_0 rfl (lv_at hl 0 rfl) ?_
  obtain ⟨v1, ⟨tv1, fsv1, hev1, hvv1⟩, hw⟩ := hw
  refine g_get C in_J1 hM hev1 rfl 2 (by decide) q215 (fun _ h => h) (v := .int v1) hvv1 dJ1_size_1 ?_
  refine lv_aload_n hx hb dJ1_size_4 rfl (lv_at hl 0 rfl) ?_
  obtain ⟨v2, ⟨tv2, fsv2, hev2, hvv2⟩, hw⟩ := hw
  refine g_get C in_J1 hM hev2 rfl 1 (by decide) q214 (fun _ h => h) (v := .int v2) hvv2 dJ1_size_5 ?_
  refine lv_aload_n hx hb dJ1_size_8 rfl (lv_at hl 0 rfl) ?_
  obtain ⟨v3, ⟨tv3, fsv3, hev3, hvv3⟩, hw⟩ := hw
  refine g_get C in_J1 hM hev3 rfl 0 (by decide) q213 (fun _ h => h) (v := .ref v3) hvv3 dJ1_size_9 ?_
  obtain ⟨nf4, f4, ⟨tf4, hef4⟩, hw⟩ := hw
  refine g_alen C hM 4 hef4 rfl dJ1_size_12 ?_
  obtain ⟨hpr5, hw⟩ := hw
  refine vp_callSi (va_runS (As := [.int v1, .int v2, .int (Int32.ofNat nf4)]) (rest := []) C.fix (met_J1_sub l g  M v1 v2 (Int32.ofNat nf4) hpr5) (cw_J1_127 C.ts ⟨Nat.le_of_ble_eq_true rfl, Nat.le_of_ble_eq_true rfl⟩) (preS_of C (P := (nh g M)) va_S.rf hM _) rfl rfl hl.1 rfl (lv_room (Nat.le_of_ble_eq_true rfl)) dJ1_size_13 ⟨Nat.le_of_ble_eq_true rfl, Nat.le_of_ble_eq_true rfl⟩).run (fun r5 er5 => ?_)
  replace hw := hw r5 er5
  exact W.iret (v := r5) hx hb hr (fun t ht _ => ⟨r5, rfl, hw, ht⟩) (fun _ h => by cases h) dJ1_size_16
set_option maxHeartbeats 4000000 in
theorem met_J1_size (l : Launch) (g : gG) (ow : Nat) (L : List Nat) (M : nM) (o : Nat) (hpre : pre_J1_size g ow L M o) : Met l yJ1_size (ws_ yJ1_size cJ1_size 1 (some .int)) ({ frames := 2, cells := 0, slots := 0, locals := 128 } : Room) (va_Pc [.ref o] (Pg g (nh g M))) (vp_Si (fun r => post_J1_size g ow L M o r)) 0 0 (fun _ => False) :=
  wk_J1_size l g ow L M o _ (pr_J1_size g ow L M o hpre)

set_option maxHeartbeats 4000000 in
theorem wk_J1_pollFirst (l : Launch) (g : gG) (ow : Nat) (L : List Nat) (M : nM) (o : Nat) (post : Option Nat → nM → Prop) (hw : wp_J1_pollFirst g ow L post M o) : Met l yJ1_pollFirst (ws_ yJ1_pollFirst cJ1_pollFirst 4 (some (.object "java/lang/Object"))) ({ frames := 2, cells := 0, slots := 0, locals := 128 } : Room) (va_Pc [.ref o] (Pg g (nh g M))) (va_Qq post (fun u t => nh g u t.heap) (Ag g)) 0 0 (Ag g) := by
  refine Met.ofW (cc := cJ1_pollFirst) (maxL := 4) (ret := (some (.object "java/lang/Object"))) (by decide) rfl ?_
  intro p e s m args below meth c s₁ B hml hv
  obtain ⟨rfl, hG, hM⟩ := hv
  have C : Cx p s m _ meth c cJ1_pollFirst 4 RJ1 (some (.object "java/lang/Object")) g := Cx.of B hml hG
  have hx := C.1
  have hb := C.2.1
  have hown := C.2.2.2.1
  have hr := C.2.2.2.2.2.1
  have hlocks := C.2.2.2.2.2.2.1
  have hS : va_S (Ag g) s.heap s.heap [] := va_S.rf
  refine lv_start ([.ref o] : List Value) (L := [(0, .ref o)]) (Nat.le_of_ble_eq_true rfl) rfl (fun ls hl => ?_)
  refine lv_aload_n hx hb dJ1_pollFirst_0 rfl (lv_at hl 0 rfl) ?_
  obtain ⟨v1, ⟨tv1, fsv1, hev1, hvv1⟩, hw⟩ := hw
  refine g_get C in_J1 hM hev1 rfl 0 (by decide) q213 (fun _ h => h) (v := .ref v1) hvv1 dJ1_pollFirst_1 ?_
  refine lv_dup hx hb dJ1_pollFirst_4 rfl ?_
  refine lv_astore_n (lv' := [(1, .ref v1), (0, .ref o)]) hx hb dJ1_pollFirst_5 rfl hl (by decide) rfl (fun ls hl => ?_)
  refine lv_aload_n hx hb dJ1_pollFirst_6 rfl (lv_at hl 1 rfl) ?_
  obtain ⟨v2, ⟨tv2, fsv2, hev2, hvv2⟩, hw⟩ := hw
  refine g_get C in_J1 hM hev2 rfl 1 (by decide) q214 (fun _ h => h) (v := .int v2) hvv2 dJ1_pollFirst_7 ?_
  refine lv_dup hx hb dJ1_pollFirst_10 rfl ?_
  refine lv_istore_n (lv' := [(2, .int v2), (1, .ref v1), (0, .ref o)]) hx hb dJ1_pollFirst_11 rfl hl (by decide) rfl (fun ls hl => ?_)
  obtain ⟨g_3, hw⟩ := hw
  obtain ⟨hpr4, hw⟩ := hw
  refine va_csq (va_runS (As := [.ref v1, .int v2]) (rest := []) C.fix (met_J1_elementAt l g g_3 M v1 v2 hpr4) (cw_J1_103 C.ts ⟨Nat.le_of_ble_eq_true rfl, Nat.le_of_ble_eq_true rfl⟩) (preS_of C (P := (nh g M)) hS hM _) rfl rfl hl.1 rfl (lv_room (Nat.le_of_ble_eq_true rfl)) dJ1_pollFirst_12 ⟨Nat.le_of_ble_eq_true rfl, Nat.le_of_ble_eq_true rfl⟩).run (fun r4 er4 => ?_)
  replace hw := hw r4 er4
  obtain ⟨b5, eb5, hw⟩ := hw
  subst eb5
  refine lv_astore_n (lv' := [(3, .ref b5), (2, .int v2), (1, .ref v1), (0, .ref o)]) hx hb dJ1_pollFirst_15 rfl hl (by decide) rfl (fun ls hl => ?_)
  refine lv_aload_n hx hb dJ1_pollFirst_16 rfl (lv_at hl 0 rfl) ?_
  refine lv_ifnull hx hb dJ1_pollFirst_17 ?_
  refine lv_aload_n hx hb dJ1_pollFirst_20 rfl (lv_at hl 2 rfl) ?_
  refine lv_iload_n hx hb dJ1_pollFirst_21 rfl (lv_at hl 1 rfl) ?_
  refine lv_null hx hb dJ1_pollFirst_22 ?_
  obtain ⟨nf6, f6, ⟨tf6, hef6⟩, hif6, hw⟩ := hw
  refine g_aastN C hM hS 4 hef6 rfl hif6 dJ1_pollFirst_23 (fun H locs hM hS => ?_)
  obtain ⟨M7, eM7⟩ : ∃ N, N = nup M v1 (tf6, .inl (g.2.2.2 4, nf6, .inr (.inr (.inr (.inr (va_up f6 v2.toNatClampNeg none)))))) := ⟨_, rfl⟩
  rw [← eM7] at hM
  replace hw := hw M7 ⟨tf6, f6, hef6, eM7⟩
  refine lv_aload_n hx hb dJ1_pollFirst_24 rfl (lv_at hl 3 rfl) ?_
  refine lv_iload_n hx hb dJ1_pollFirst_25 rfl (lv_at hl 1 rfl) ?_
  refine lv_aload_n hx hb dJ1_pollFirst_26 rfl (lv_at hl 2 rfl) ?_
  obtain ⟨nf8, f8, ⟨tf8, hef8⟩, hw⟩ := hw
  refine g_alen C hM 4 hef8 rfl dJ1_pollFirst_27 ?_
  obtain ⟨hpr9, hw⟩ := hw
  refine vp_callSi (va_runS (As := [.int v2, .int (Int32.ofNat nf8)]) (rest := [.ref o]) C.fix (met_J1_inc l g  M7 v2 (Int32.ofNat nf8) hpr9) (cw_J1_74 C.ts ⟨Nat.le_of_ble_eq_true rfl, Nat.le_of_ble_eq_true rfl⟩) (preS_of C (P := (nh g M7)) hS hM _) rfl rfl hl.1 rfl (lv_room (Nat.le_of_ble_eq_true rfl)) dJ1_pollFirst_28 ⟨Nat.le_of_ble_eq_true rfl, Nat.le_of_ble_eq_true rfl⟩).run (fun r9 er9 => ?_)
  replace hw := hw r9 er9
  obtain ⟨⟨tp10, fsp10, hep10, hkp10⟩, hw⟩ := hw
  refine g_put C in_J1 tyJ1 tyJ1_ok nmJ1 hM hS hep10 rfl 1 (by decide) q214 (fun _ h => h) rfl (v := .int r9) rfl rfl hkp10 dJ1_pollFirst_31 (fun H locs hM hS => ?_)
  obtain ⟨M11, eM11⟩ : ∃ N, N = nup M7 o (tp10, .inr (9, fsp10.set 1 (.int r9))) := ⟨_, rfl⟩
  rw [← eM11] at hM
  replace hw := hw M11 ⟨tp10, fsp10, hep10, eM11⟩
  refine lv_aload_n hx hb dJ1_pollFirst_34 rfl (lv_at hl 0 rfl) ?_
  exact W.aret (v := va_rf (some b5)) hx hb hr (Or.inl ⟨_, rfl⟩) (va_rf_or (some b5)) (fun t ht _ => ⟨⟨(some b5), M11, rfl, hw, hM.tt ht⟩, hS.F ht⟩) hS.2.2 dJ1_pollFirst_35
set_option maxHeartbeats 4000000 in
theorem met_J1_pollFirst (l : Launch) (g : gG) (ow : Nat) (L : List Nat) (M : nM) (o : Nat) (hpre : pre_J1_pollFirst g ow L M o) : Met l yJ1_pollFirst (ws_ yJ1_pollFirst cJ1_pollFirst 4 (some (.object "java/lang/Object"))) ({ frames := 2, cells := 0, slots := 0, locals := 128 } : Room) (va_Pc [.ref o] (Pg g (nh g M))) (va_Qq (fun r M' => post_J1_pollFirst g ow L M o r M') (fun u t => nh g u t.heap) (Ag g)) 0 0 (Ag g) :=
  wk_J1_pollFirst l g ow L M o _ (pr_J1_pollFirst g ow L M o hpre)

set_option maxHeartbeats 4000000 in
theorem wk_J1_removeFirst (l : Launch) (g : gG) (ow : Nat) (L : List Nat) (M : nM) (o : Nat) (post : Option Nat → nM → Prop) (hw : wp_J1_removeFirst g ow L post M o) : Met l yJ1_removeFirst (ws_ yJ1_removeFirst cJ1_removeFirst 2 (some (.object "java/lang/Object"))) ({ frames := 3, cells := 0, slots := 0, locals := 192 } : Room) (va_Pc [.ref o] (Pg g (nh g M))) (va_Qq post (fun u t => nh g u t.heap) (Ag g)) 0 0 (Ag g) := by
  refine Met.ofW (cc := cJ1_removeFirst) (maxL := 2) (ret := (some (.object "java/lang/Object"))) (by decide) rfl ?_
  intro p e s m args below meth c s₁ B hml hv
  obtain ⟨rfl, hG, hM⟩ := hv
  have C : Cx p s m _ meth c cJ1_removeFirst 2 RJ1 (some (.object "java/lang/Object")) g := Cx.of B hml hG
  have hx := C.1
  have hb := C.2.1
  have hown := C.2.2.2.1
  have hr := C.2.2.2.2.2.1
  have hlocks := C.2.2.2.2.2.2.1
  have hS : va_S (Ag g) s.heap s.heap [] := va_S.rf
  refine lv_start ([.ref o] : List Value) (L := [(0, .ref o)]) (Nat.le_of_ble_eq_true rfl) rfl (fun ls hl => ?_)
  refine lv_aload_n hx hb dJ1_removeFirst_0 rfl (lv_at hl 0 rfl) ?_
  obtain ⟨g_1, g_2, hw⟩ := hw
  obtain ⟨hpr3, hw⟩ := hw
  obtain ⟨⟨wr3, ur3, hrr3⟩, hw⟩ := hw
  refine va_callq (va_runV (As := []) (rest := []) C.fix (met_J1_pollFirst l g g_1 g_2 M o hpr3) (cw_J1_93 C.ts ⟨Nat.le_of_ble_eq_true rfl, Nat.le_of_ble_eq_true rfl⟩) (preV_of C (P := (nh g M)) (nh.recv C hM hrr3 (q := (RJ1, TJ1, 3)) rfl) hS hM _) rfl rfl hl.1 rfl (lv_room (Nat.le_of_ble_eq_true rfl)) dJ1_removeFirst_1 ⟨Nat.le_of_ble_eq_true rfl, Nat.le_of_ble_eq_true rfl⟩) hS (fun _ _ h => h) (fun _ h => h) (fun r3 M4 t H locs ht _ hw1 hB _ _ hS => ?_)
  have hM : nh g M4 H := by rw [← ht]; exact hB
  replace hw := hw r3 M4 hw1
  obtain ⟨b5, eb5, hw⟩ := hw
  subst eb5
  refine lv_astore_n (lv' := [(1, .ref b5), (0, .ref o)]) hx hb dJ1_removeFirst_4 rfl hl (by decide) rfl (fun ls hl => ?_)
  refine lv_aload_n hx hb dJ1_removeFirst_5 rfl (lv_at hl 0 rfl) ?_
  refine lv_ifnonnull (tgt := 17) hx hb dJ1_removeFirst_6 (by decide) ?_
  refine lv_aload_n hx hb dJ1_removeFirst_17 rfl (lv_at hl 0 rfl) ?_
  exact W.aret (v := va_rf (some b5)) hx hb hr (Or.inl ⟨_, rfl⟩) (va_rf_or (some b5)) (fun t ht _ => ⟨⟨(some b5), M4, rfl, hw, hM.tt ht⟩, hS.F ht⟩) hS.2.2 dJ1_removeFirst_18
set_option maxHeartbeats 4000000 in
theorem met_J1_removeFirst (l : Launch) (g : gG) (ow : Nat) (L : List Nat) (M : nM) (o : Nat) (hpre : pre_J1_removeFirst g ow L M o) : Met l yJ1_removeFirst (ws_ yJ1_removeFirst cJ1_removeFirst 2 (some (.object "java/lang/Object"))) ({ frames := 3, cells := 0, slots := 0, locals := 192 } : Room) (va_Pc [.ref o] (Pg g (nh g M))) (va_Qq (fun r M' => post_J1_removeFirst g ow L M o r M') (fun u t => nh g u t.heap) (Ag g)) 0 0 (Ag g) :=
  wk_J1_removeFirst l g ow L M o _ (pr_J1_removeFirst g ow L M o hpre)

set_option maxHeartbeats 4000000 in
theorem wk_J1_addLast (l : Launch) (g : gG) (ow : Nat) (L : List Nat) (M : nM) (o : Nat) (b : Nat) (post : nM → Prop) (hw : wp_J1_addLast g ow L post M o b) : Met l yJ1_addLast (ws_ yJ1_addLast cJ1_addLast 3 none) ({ frames := 2, cells := 0, slots := 0, locals := 128 } : Room) (va_Pc [.ref o, .ref b] (Pg g (nh g M))) (va_Qv post (fun u t => nh g u t.heap) (Ag g)) 0 0 (Ag g) := by
  refine Met.ofW (cc := cJ1_addLast) (maxL := 3) (ret := none) (by decide) rfl ?_
  intro p e s m args below meth c s₁ B hml hv
  obtain ⟨rfl, hG, hM⟩ := hv
  have C : Cx p s m _ meth c cJ1_addLast 3 RJ1 none g := Cx.of B hml hG
  have hx := C.1
  have hb := C.2.1
  have hown := C.2.2.2.1
  have hr := C.2.2.2.2.2.1
  have hlocks := C.2.2.2.2.2.2.1
  have hS : va_S (Ag g) s.heap s.heap [] := va_S.rf
  refine lv_start ([.ref o, .ref b] : List Value) (L := [(0, .ref o), (1, .ref b)]) (Nat.le_of_ble_eq_true rfl) rfl (fun ls hl => ?_)
  refine lv_aload_n hx hb dJ1_addLast_0 rfl (lv_at hl 1 rfl) ?_
  refine lv_ifnonnull (tgt := 12) hx hb dJ1_addLast_1 (by decide) ?_
  refine lv_aload_n hx hb dJ1_addLast_12 rfl (lv_at hl 0 rfl) ?_
  obtain ⟨v1, ⟨tv1, fsv1, hev1, hvv1⟩, hw⟩ := hw
  refine g_get C in_J1 hM hev1 rfl 0 (by decide) q213 (fun _ h => h) (v := .ref v1) hvv1 dJ1_addLast_13 ?_
  refine lv_astore_n (lv' := [(2, .ref v1), (0, .ref o), (1, .ref b)]) hx hb dJ1_addLast_16 rfl hl (by decide) rfl (fun ls hl => ?_)
  refine lv_aload_n hx hb dJ1_addLast_17 rfl (lv_at hl 0 rfl) ?_
  refine lv_aload_n hx hb dJ1_addLast_18 rfl (lv_at hl 1 rfl) ?_
  obtain ⟨v2, ⟨tv2, fsv2, hev2, hvv2⟩, hw⟩ := hw
  refine g_get C in_J1 hM hev2 rfl 2 (by decide) q215 (fun _ h => h) (v := .int v2) hvv2 dJ1_addLast_19 ?_
  refine lv_aload_n hx hb dJ1_addLast_22 rfl (lv_at hl 2 rfl) ?_
  obtain ⟨⟨wf3, uf3, haf3⟩, hw⟩ := hw
  obtain ⟨nf3, f3, ⟨tf3, hef3⟩, hif3, hw⟩ := hw
  refine g_aastM C hM hS 4 hef3 rfl (nh.anyC C hM haf3 rfl q2907) hif3 dJ1_addLast_23 (fun H locs hM hS => ?_)
  obtain ⟨M4, eM4⟩ : ∃ N, N = nup M v1 (tf3, .inl (g.2.2.2 4, nf3, .inr (.inr (.inr (.inr (va_up f3 v2.toNatClampNeg (some b))))))) := ⟨_, rfl⟩
  rw [← eM4] at hM
  replace hw := hw M4 ⟨tf3, f3, hef3, eM4⟩
  refine lv_aload_n hx hb dJ1_addLast_24 rfl (lv_at hl 1 rfl) ?_
  obtain ⟨v5, ⟨tv5, fsv5, hev5, hvv5⟩, hw⟩ := hw
  refine g_get C in_J1 hM hev5 rfl 1 (by decide) q214 (fun _ h => h) (v := .int v5) hvv5 dJ1_addLast_25 ?_
  refine lv_aload_n hx hb dJ1_addLast_28 rfl (lv_at hl 1 rfl) ?_
  refine lv_aload_n hx hb dJ1_addLast_29 rfl (lv_at hl 1 rfl) ?_
  obtain ⟨v6, ⟨tv6, fsv6, hev6, hvv6⟩, hw⟩ := hw
  refine g_get C in_J1 hM hev6 rfl 2 (by decide) q215 (fun _ h => h) (v := .int v6) hvv6 dJ1_addLast_30 ?_
  refine lv_aload_n hx hb dJ1_addLast_33 rfl (lv_at hl 0 rfl) ?_
  obtain ⟨nf7, f7, ⟨tf7, hef7⟩, hw⟩ := hw
  refine g_alen C hM 4 hef7 rfl dJ1_addLast_34 ?_
  obtain ⟨hpr8, hw⟩ := hw
  refine vp_callSi (va_runS (As := [.int v6, .int (Int32.ofNat nf7)]) (rest := [.ref o, .int v5]) C.fix (met_J1_inc l g  M4 v6 (Int32.ofNat nf7) hpr8) (cw_J1_74 C.ts ⟨Nat.le_of_ble_eq_true rfl, Nat.le_of_ble_eq_true rfl⟩) (preS_of C (P := (nh g M4)) hS hM _) rfl rfl hl.1 rfl (lv_room (Nat.le_of_ble_eq_true rfl)) dJ1_addLast_35 ⟨Nat.le_of_ble_eq_true rfl, Nat.le_of_ble_eq_true rfl⟩).run (fun r8 er8 => ?_)
  replace hw := hw r8 er8
  refine lv_dup_x1 hx hb dJ1_addLast_38 rfl rfl ?_
  obtain ⟨⟨tp9, fsp9, hep9, hkp9⟩, hw⟩ := hw
  refine g_put C in_J1 tyJ1 tyJ1_ok nmJ1 hM hS hep9 rfl 2 (by decide) q215 (fun _ h => h) rfl (v := .int r8) rfl rfl hkp9 dJ1_addLast_39 (fun H locs hM hS => ?_)
  obtain ⟨M10, eM10⟩ : ∃ N, N = nup M4 o (tp9, .inr (9, fsp9.set 2 (.int r8))) := ⟨_, rfl⟩
  rw [← eM10] at hM
  replace hw := hw M10 ⟨tp9, fsp9, hep9, eM10⟩
  refine lv_icmp_ne (tgt := 50) hx hb dJ1_addLast_42 (by decide) (fun c11 => ?_) (fun c11 => ?_)
  · have hw := hw.1 c11
    exact W.vret hx hb hr (fun t ht _ => ⟨⟨M10, rfl, hw, hM.tt ht⟩, hS.F ht⟩) hS.2.2 dJ1_addLast_50
  · have hw := hw.2 c11
    exact hw.elim
set_option maxHeartbeats 4000000 in
theorem met_J1_addLast (l : Launch) (g : gG) (ow : Nat) (L : List Nat) (M : nM) (o : Nat) (b : Nat) (hpre : pre_J1_addLast g ow L M o b) : Met l yJ1_addLast (ws_ yJ1_addLast cJ1_addLast 3 none) ({ frames := 2, cells := 0, slots := 0, locals := 128 } : Room) (va_Pc [.ref o, .ref b] (Pg g (nh g M))) (va_Qv (fun M' => post_J1_addLast g ow L M o b M') (fun u t => nh g u t.heap) (Ag g)) 0 0 (Ag g) :=
  wk_J1_addLast l g ow L M o b _ (pr_J1_addLast g ow L M o b hpre)

set_option maxHeartbeats 4000000 in
theorem wk_J1_pollLast (l : Launch) (g : gG) (ow : Nat) (L : List Nat) (M : nM) (o : Nat) (post : Option Nat → nM → Prop) (hw : wp_J1_pollLast g ow L post M o) : Met l yJ1_pollLast (ws_ yJ1_pollLast cJ1_pollLast 4 (some (.object "java/lang/Object"))) ({ frames := 2, cells := 0, slots := 0, locals := 128 } : Room) (va_Pc [.ref o] (Pg g (nh g M))) (va_Qq post (fun u t => nh g u t.heap) (Ag g)) 0 0 (Ag g) := by
  refine Met.ofW (cc := cJ1_pollLast) (maxL := 4) (ret := (some (.object "java/lang/Object"))) (by decide) rfl ?_
  intro p e s m args below meth c s₁ B hml hv
  obtain ⟨rfl, hG, hM⟩ := hv
  have C : Cx p s m _ meth c cJ1_pollLast 4 RJ1 (some (.object "java/lang/Object")) g := Cx.of B hml hG
  have hx := C.1
  have hb := C.2.1
  have hown := C.2.2.2.1
  have hr := C.2.2.2.2.2.1
  have hlocks := C.2.2.2.2.2.2.1
  have hS : va_S (Ag g) s.heap s.heap [] := va_S.rf
  refine lv_start ([.ref o] : List Value) (L := [(0, .ref o)]) (Nat.le_of_ble_eq_true rfl) rfl (fun ls hl => ?_)
  refine lv_aload_n hx hb dJ1_pollLast_0 rfl (lv_at hl 0 rfl) ?_
  obtain ⟨v1, ⟨tv1, fsv1, hev1, hvv1⟩, hw⟩ := hw
  refine g_get C in_J1 hM hev1 rfl 0 (by decide) q213 (fun _ h => h) (v := .ref v1) hvv1 dJ1_pollLast_1 ?_
  refine lv_dup hx hb dJ1_pollLast_4 rfl ?_
  refine lv_astore_n (lv' := [(1, .ref v1), (0, .ref o)]) hx hb dJ1_pollLast_5 rfl hl (by decide) rfl (fun ls hl => ?_)
  refine lv_aload_n hx hb dJ1_pollLast_6 rfl (lv_at hl 1 rfl) ?_
  obtain ⟨v2, ⟨tv2, fsv2, hev2, hvv2⟩, hw⟩ := hw
  refine g_get C in_J1 hM hev2 rfl 2 (by decide) q215 (fun _ h => h) (v := .int v2) hvv2 dJ1_pollLast_7 ?_
  refine lv_aload_n hx hb dJ1_pollLast_10 rfl (lv_at hl 0 rfl) ?_
  obtain ⟨nf3, f3, ⟨tf3, hef3⟩, hw⟩ := hw
  refine g_alen C hM 4 hef3 rfl dJ1_pollLast_11 ?_
  obtain ⟨hpr4, hw⟩ := hw
  refine vp_callSi (va_runS (As := [.int v2, .int (Int32.ofNat nf3)]) (rest := [.ref v1]) C.fix (met_J1_dec l g  M v2 (Int32.ofNat nf3) hpr4) (cw_J1_68 C.ts ⟨Nat.le_of_ble_eq_true rfl, Nat.le_of_ble_eq_true rfl⟩) (preS_of C (P := (nh g M)) hS hM _) rfl rfl hl.1 rfl (lv_room (Nat.le_of_ble_eq_true rfl)) dJ1_pollLast_12 ⟨Nat.le_of_ble_eq_true rfl, Nat.le_of_ble_eq_true rfl⟩).run (fun r4 er4 => ?_)
  replace hw := hw r4 er4
  refine lv_dup hx hb dJ1_pollLast_15 rfl ?_
  refine lv_istore_n (lv' := [(2, .int r4), (1, .ref v1), (0, .ref o)]) hx hb dJ1_pollLast_16 rfl hl (by decide) rfl (fun ls hl => ?_)
  obtain ⟨g_5, hw⟩ := hw
  obtain ⟨hpr6, hw⟩ := hw
  refine va_csq (va_runS (As := [.ref v1, .int r4]) (rest := []) C.fix (met_J1_elementAt l g g_5 M v1 r4 hpr6) (cw_J1_103 C.ts ⟨Nat.le_of_ble_eq_true rfl, Nat.le_of_ble_eq_true rfl⟩) (preS_of C (P := (nh g M)) hS hM _) rfl rfl hl.1 rfl (lv_room (Nat.le_of_ble_eq_true rfl)) dJ1_pollLast_17 ⟨Nat.le_of_ble_eq_true rfl, Nat.le_of_ble_eq_true rfl⟩).run (fun r6 er6 => ?_)
  replace hw := hw r6 er6
  obtain ⟨b7, eb7, hw⟩ := hw
  subst eb7
  refine lv_astore_n (lv' := [(3, .ref b7), (2, .int r4), (1, .ref v1), (0, .ref o)]) hx hb dJ1_pollLast_20 rfl hl (by decide) rfl (fun ls hl => ?_)
  refine lv_aload_n hx hb dJ1_pollLast_21 rfl (lv_at hl 0 rfl) ?_
  refine lv_ifnull hx hb dJ1_pollLast_22 ?_
  refine lv_aload_n hx hb dJ1_pollLast_25 rfl (lv_at hl 2 rfl) ?_
  refine lv_aload_n hx hb dJ1_pollLast_26 rfl (lv_at hl 3 rfl) ?_
  refine lv_iload_n hx hb dJ1_pollLast_27 rfl (lv_at hl 1 rfl) ?_
  refine lv_dup_x1 hx hb dJ1_pollLast_28 rfl rfl ?_
  obtain ⟨⟨tp8, fsp8, hep8, hkp8⟩, hw⟩ := hw
  refine g_put C in_J1 tyJ1 tyJ1_ok nmJ1 hM hS hep8 rfl 2 (by decide) q215 (fun _ h => h) rfl (v := .int r4) rfl rfl hkp8 dJ1_pollLast_29 (fun H locs hM hS => ?_)
  obtain ⟨M9, eM9⟩ : ∃ N, N = nup M o (tp8, .inr (9, fsp8.set 2 (.int r4))) := ⟨_, rfl⟩
  rw [← eM9] at hM
  replace hw := hw M9 ⟨tp8, fsp8, hep8, eM9⟩
  refine lv_null hx hb dJ1_pollLast_32 ?_
  obtain ⟨nf10, f10, ⟨tf10, hef10⟩, hif10, hw⟩ := hw
  refine g_aastN C hM hS 4 hef10 rfl hif10 dJ1_pollLast_33 (fun H locs hM hS => ?_)
  obtain ⟨M11, eM11⟩ : ∃ N, N = nup M9 v1 (tf10, .inl (g.2.2.2 4, nf10, .inr (.inr (.inr (.inr (va_up f10 r4.toNatClampNeg none)))))) := ⟨_, rfl⟩
  rw [← eM11] at hM
  replace hw := hw M11 ⟨tf10, f10, hef10, eM11⟩
  refine lv_aload_n hx hb dJ1_pollLast_34 rfl (lv_at hl 0 rfl) ?_
  exact W.aret (v := va_rf (some b7)) hx hb hr (Or.inl ⟨_, rfl⟩) (va_rf_or (some b7)) (fun t ht _ => ⟨⟨(some b7), M11, rfl, hw, hM.tt ht⟩, hS.F ht⟩) hS.2.2 dJ1_pollLast_35
set_option maxHeartbeats 4000000 in
theorem met_J1_pollLast (l : Launch) (g : gG) (ow : Nat) (L : List Nat) (M : nM) (o : Nat) (hpre : pre_J1_pollLast g ow L M o) : Met l yJ1_pollLast (ws_ yJ1_pollLast cJ1_pollLast 4 (some (.object "java/lang/Object"))) ({ frames := 2, cells := 0, slots := 0, locals := 128 } : Room) (va_Pc [.ref o] (Pg g (nh g M))) (va_Qq (fun r M' => post_J1_pollLast g ow L M o r M') (fun u t => nh g u t.heap) (Ag g)) 0 0 (Ag g) :=
  wk_J1_pollLast l g ow L M o _ (pr_J1_pollLast g ow L M o hpre)

set_option maxHeartbeats 4000000 in
theorem wk_J1_removeLast (l : Launch) (g : gG) (ow : Nat) (L : List Nat) (M : nM) (o : Nat) (post : Option Nat → nM → Prop) (hw : wp_J1_removeLast g ow L post M o) : Met l yJ1_removeLast (ws_ yJ1_removeLast cJ1_removeLast 2 (some (.object "java/lang/Object"))) ({ frames := 3, cells := 0, slots := 0, locals := 192 } : Room) (va_Pc [.ref o] (Pg g (nh g M))) (va_Qq post (fun u t => nh g u t.heap) (Ag g)) 0 0 (Ag g) := by
  refine Met.ofW (cc := cJ1_removeLast) (maxL := 2) (ret := (some (.object "java/lang/Object"))) (by decide) rfl ?_
  intro p e s m args below meth c s₁ B hml hv
  obtain ⟨rfl, hG, hM⟩ := hv
  have C : Cx p s m _ meth c cJ1_removeLast 2 RJ1 (some (.object "java/lang/Object")) g := Cx.of B hml hG
  have hx := C.1
  have hb := C.2.1
  have hown := C.2.2.2.1
  have hr := C.2.2.2.2.2.1
  have hlocks := C.2.2.2.2.2.2.1
  have hS : va_S (Ag g) s.heap s.heap [] := va_S.rf
  refine lv_start ([.ref o] : List Value) (L := [(0, .ref o)]) (Nat.le_of_ble_eq_true rfl) rfl (fun ls hl => ?_)
  refine lv_aload_n hx hb dJ1_removeLast_0 rfl (lv_at hl 0 rfl) ?_
  obtain ⟨g_1, g_2, hw⟩ := hw
  obtain ⟨hpr3, hw⟩ := hw
  obtain ⟨⟨wr3, ur3, hrr3⟩, hw⟩ := hw
  refine va_callq (va_runV (As := []) (rest := []) C.fix (met_J1_pollLast l g g_1 g_2 M o hpr3) (cw_J1_100 C.ts ⟨Nat.le_of_ble_eq_true rfl, Nat.le_of_ble_eq_true rfl⟩) (preV_of C (P := (nh g M)) (nh.recv C hM hrr3 (q := (RJ1, TJ1, 3)) rfl) hS hM _) rfl rfl hl.1 rfl (lv_room (Nat.le_of_ble_eq_true rfl)) dJ1_removeLast_1 ⟨Nat.le_of_ble_eq_true rfl, Nat.le_of_ble_eq_true rfl⟩) hS (fun _ _ h => h) (fun _ h => h) (fun r3 M4 t H locs ht _ hw1 hB _ _ hS => ?_)
  have hM : nh g M4 H := by rw [← ht]; exact hB
  replace hw := hw r3 M4 hw1
  obtain ⟨b5, eb5, hw⟩ := hw
  subst eb5
  refine lv_astore_n (lv' := [(1, .ref b5), (0, .ref o)]) hx hb dJ1_removeLast_4 rfl hl (by decide) rfl (fun ls hl => ?_)
  refine lv_aload_n hx hb dJ1_removeLast_5 rfl (lv_at hl 0 rfl) ?_
  refine lv_ifnonnull (tgt := 17) hx hb dJ1_removeLast_6 (by decide) ?_
  refine lv_aload_n hx hb dJ1_removeLast_17 rfl (lv_at hl 0 rfl) ?_
  exact W.aret (v := va_rf (some b5)) hx hb hr (Or.inl ⟨_, rfl⟩) (va_rf_or (some b5)) (fun t ht _ => ⟨⟨(some b5), M4, rfl, hw, hM.tt ht⟩, hS.F ht⟩) hS.2.2 dJ1_removeLast_18
set_option maxHeartbeats 4000000 in
theorem met_J1_removeLast (l : Launch) (g : gG) (ow : Nat) (L : List Nat) (M : nM) (o : Nat) (hpre : pre_J1_removeLast g ow L M o) : Met l yJ1_removeLast (ws_ yJ1_removeLast cJ1_removeLast 2 (some (.object "java/lang/Object"))) ({ frames := 3, cells := 0, slots := 0, locals := 192 } : Room) (va_Pc [.ref o] (Pg g (nh g M))) (va_Qq (fun r M' => post_J1_removeLast g ow L M o r M') (fun u t => nh g u t.heap) (Ag g)) 0 0 (Ag g) :=
  wk_J1_removeLast l g ow L M o _ (pr_J1_removeLast g ow L M o hpre)

set_option maxHeartbeats 4000000 in
theorem wk_X4_init (l : Launch) (g : gG) (ow : Nat) (M : nM) (o : Nat) (x : Int32) (post : nM → Prop) (hw : wp_X4_init g ow post M o x) : Met l yX4_init (ws_ yX4_init cX4_init 2 none) ({ frames := 4, cells := 2, slots := 20, locals := 256 } : Room) (va_Pc [.ref o, .int x] (Pg g (nh g M))) (va_Qv post (fun u t => nh g u t.heap) (Ag g)) 2 20 (Ag g) := by
  refine Met.ofW (cc := cX4_init) (maxL := 2) (ret := none) (by decide) rfl ?_
  intro p e s m args below meth c s₁ B hml hv
  obtain ⟨rfl, hG, hM⟩ := hv
  have C : Cx p s m _ meth c cX4_init 2 RX4 none g := Cx.of B hml hG
  have hin2 : meth.name = "<init>" := (name_of_methodNamed B.named B.method).1
  have hx := C.1
  have hb := C.2.1
  have hown := C.2.2.2.1
  have hr := C.2.2.2.2.2.1
  have hlocks := C.2.2.2.2.2.2.1
  have hS : va_S (Ag g) s.heap s.heap [] := va_S.rf
  refine lv_start ([.ref o, .int x] : List Value) (L := [(0, .ref o), (1, .int x)]) (Nat.le_of_ble_eq_true rfl) rfl (fun ls hl => ?_)
  refine lv_aload_n hx hb dX4_init_0 rfl (lv_at hl 0 rfl) ?_
  refine g_obj0 C hl.1.symm q201 dX4_init_1 (Nat.le_of_ble_eq_true rfl) (Nat.le_of_ble_eq_true rfl) ?_
  refine lv_aload_n hx hb dX4_init_4 rfl (lv_at hl 0 rfl) ?_
  refine g_new C (ci := 9) in_J1 tyJ1 tyJ1_ok q202 q203 q75 hM hS rfl (fs := [.null, .int 0, .int 0]) (fun j hj => by match j, hj with | 0, _ => rfl | 1, _ => rfl | 2, _ => rfl) (Nat.le_of_ble_eq_true rfl) (Nat.le_of_ble_eq_true rfl) dX4_init_5 (fun _ => (ow, 6)) (fun q1 H hqq1 hM hS => ?_)
  obtain ⟨M2, eM2⟩ : ∃ N, N = nup M q1 ((fun _ => (ow, 6)) q1, .inr (9, [.null, .int 0, .int 0])) := ⟨_, rfl⟩
  rw [← eM2] at hM
  replace hw := hw q1 M2 hqq1 eM2
  refine lv_dup hx hb dX4_init_8 rfl ?_
  obtain ⟨g_3, hw⟩ := hw
  obtain ⟨hpr4, hw⟩ := hw
  refine va_callv (va_runI (As := []) (rest := [.ref q1, .ref o]) C.fix (met_J1_init l g g_3 M2 q1 hpr4) (cw_X4_9 C.ts ⟨Nat.le_of_ble_eq_true rfl, Nat.le_of_ble_eq_true rfl⟩) (preS_of C (P := (nh g M2)) hS hM _) rfl rfl hl.1 rfl (lv_room (Nat.le_of_ble_eq_true rfl)) dX4_init_9 ⟨(Nat.le_of_ble_eq_true rfl), (Nat.le_of_ble_eq_true rfl)⟩) hS (fun _ _ h => h) (fun _ h => h) (fun M5 t H locs ht _ hw1 hB _ _ hS => ?_)
  have hM : nh g M5 H := by rw [← ht]; exact hB
  replace hw := hw M5 hw1
  obtain ⟨⟨tp6, fsp6, hep6, hkp6⟩, hw⟩ := hw
  refine g_putF C in_X4 tyX4 tyX4_ok nmX4 hM hS hep6 rfl 0 (by decide) q223 (fun _ h => h) rfl hin2 rfl (v := .ref q1) rfl rfl hkp6 dX4_init_12 (fun H locs hM hS => ?_)
  obtain ⟨M7, eM7⟩ : ∃ N, N = nup M5 o (tp6, .inr (3, fsp6.set 0 (.ref q1))) := ⟨_, rfl⟩
  rw [← eM7] at hM
  replace hw := hw M7 ⟨tp6, fsp6, hep6, eM7⟩
  refine lv_aload_n hx hb dX4_init_15 rfl (lv_at hl 0 rfl) ?_
  refine lv_iload_n hx hb dX4_init_16 rfl (lv_at hl 1 rfl) ?_
  obtain ⟨⟨tp8, fsp8, hep8, hkp8⟩, hw⟩ := hw
  refine g_putF C in_X4 tyX4 tyX4_ok nmX4 hM hS hep8 rfl 1 (by decide) q224 (fun _ h => h) rfl hin2 rfl (v := .int x) rfl rfl hkp8 dX4_init_17 (fun H locs hM hS => ?_)
  obtain ⟨M9, eM9⟩ : ∃ N, N = nup M7 o (tp8, .inr (3, fsp8.set 1 (.int x))) := ⟨_, rfl⟩
  rw [← eM9] at hM
  replace hw := hw M9 ⟨tp8, fsp8, hep8, eM9⟩
  exact W.vret hx hb hr (fun t ht _ => ⟨⟨M9, rfl, hw, hM.tt ht⟩, hS.F ht⟩) hS.2.2 dX4_init_20
set_option maxHeartbeats 4000000 in
theorem met_X4_init (l : Launch) (g : gG) (ow : Nat) (M : nM) (o : Nat) (x : Int32) (hpre : pre_X4_init g ow M o x) : Met l yX4_init (ws_ yX4_init cX4_init 2 none) ({ frames := 4, cells := 2, slots := 20, locals := 256 } : Room) (va_Pc [.ref o, .int x] (Pg g (nh g M))) (va_Qv (fun M' => post_X4_init g ow M o x M') (fun u t => nh g u t.heap) (Ag g)) 2 20 (Ag g) :=
  wk_X4_init l g ow M o x _ (pr_X4_init g ow M o x hpre)

set_option maxHeartbeats 4000000 in
theorem wk_X4_size (l : Launch) (g : gG) (ow : Nat) (L : List Nat) (M : nM) (o : Nat) (post : Int32 → Prop) (hw : wp_X4_size g ow L post M o) : Met l yX4_size (ws_ yX4_size cX4_size 1 (some .int)) ({ frames := 3, cells := 0, slots := 0, locals := 192 } : Room) (va_Pc [.ref o] (Pg g (nh g M))) (vp_Si post) 0 0 (fun _ => False) := by
  refine Met.ofW (cc := cX4_size) (maxL := 1) (ret := (some .int)) (by decide) rfl ?_
  intro p e s m args below meth c s₁ B hml hv
  obtain ⟨rfl, hG, hM⟩ := hv
  have C : Cx p s m _ meth c cX4_size 1 RX4 (some .int) g := Cx.of B hml hG
  have hx := C.1
  have hb := C.2.1
  have hown := C.2.2.2.1
  have hr := C.2.2.2.2.2.1
  have hlocks := C.2.2.2.2.2.2.1
  refine lv_start ([.ref o] : List Value) (L := [(0, .ref o)]) (Nat.le_of_ble_eq_true rfl) rfl (fun ls hl => ?_)
  refine lv_aload_n hx hb dX4_size_0 rfl (lv_at hl 0 rfl) ?_
  obtain ⟨v1, ⟨tv1, fsv1, hev1, hvv1⟩, hw⟩ := hw
  refine g_get C in_X4 hM hev1 rfl 0 (by decide) q223 (fun _ h => h) (v := .ref v1) hvv1 dX4_size_1 ?_
  obtain ⟨g_2, g_3, hw⟩ := hw
  obtain ⟨hpr4, hw⟩ := hw
  obtain ⟨⟨wr4, ur4, hrr4⟩, hw⟩ := hw
  refine vp_callSi (va_runV (As := []) (rest := []) C.fix (met_J1_size l g g_2 g_3 M v1 hpr4) (cw_X4_20 C.ts ⟨Nat.le_of_ble_eq_true rfl, Nat.le_of_ble_eq_true rfl⟩) (preV_of C (P := (nh g M)) (nh.recv C hM hrr4 (q := (RJ1, TJ1, 3)) rfl) va_S.rf hM _) rfl rfl hl.1 rfl (lv_room (Nat.le_of_ble_eq_true rfl)) dX4_size_4 ⟨Nat.le_of_ble_eq_true rfl, Nat.le_of_ble_eq_true rfl⟩).run (fun r4 er4 => ?_)
  replace hw := hw r4 er4
  exact W.iret (v := r4) hx hb hr (fun t ht _ => ⟨r4, rfl, hw, ht⟩) (fun _ h => by cases h) dX4_size_7
set_option maxHeartbeats 4000000 in
theorem met_X4_size (l : Launch) (g : gG) (ow : Nat) (L : List Nat) (M : nM) (o : Nat) (hpre : pre_X4_size g ow L M o) : Met l yX4_size (ws_ yX4_size cX4_size 1 (some .int)) ({ frames := 3, cells := 0, slots := 0, locals := 192 } : Room) (va_Pc [.ref o] (Pg g (nh g M))) (vp_Si (fun r => post_X4_size g ow L M o r)) 0 0 (fun _ => False) :=
  wk_X4_size l g ow L M o _ (pr_X4_size g ow L M o hpre)

set_option maxHeartbeats 4000000 in
theorem wkb_X4_add_25 (C : Cx p s m args meth c cX4_add 3 RX4 none g) (post : nM → Prop) (ow : Nat) (L : List Nat) (o : Nat) (b : Nat)  (M : nM)  (hw : wpb_X4_add_25 post  g ow L o b M) {H : Heap} {locs : List Loc} (hM : nh g M H) (hS : va_S (Ag g) s.heap H locs) {ls : Array Slot} (hl : lv_has ls 3 [(0, .ref o), (1, .ref b)]) : W p l e ({ frames := 4, cells := 0, slots := 0, locals := 256 } : Room) s m args below meth c H locs 0 0 (MQ below (va_Qv post (fun u t => nh g u t.heap) (Ag g)) args s 0 0 (Ag g)) (F0 m 25 ls []) := by
  have hx := C.1
  have hb := C.2.1
  have hown := C.2.2.2.1
  have hr := C.2.2.2.2.2.1
  have hlocks := C.2.2.2.2.2.2.1
  refine lv_aload_n hx hb dX4_add_25 rfl (lv_at hl 0 rfl) ?_
  obtain ⟨v14, ⟨tv14, fsv14, hev14, hvv14⟩, hw⟩ := hw
  refine g_get C in_X4 hM hev14 rfl 0 (by decide) q223 (fun _ h => h) (v := .ref v14) hvv14 dX4_add_26 ?_
  refine lv_aload_n hx hb dX4_add_29 rfl (lv_at hl 1 rfl) ?_
  obtain ⟨g_15, g_16, hw⟩ := hw
  obtain ⟨hpr17, hw⟩ := hw
  obtain ⟨⟨wr17, ur17, hrr17⟩, hw⟩ := hw
  refine va_callv (va_runV (As := [.ref b]) (rest := []) C.fix (met_J1_addLast l g g_15 g_16 M v14 b hpr17) (cw_X4_30 C.ts ⟨Nat.le_of_ble_eq_true rfl, Nat.le_of_ble_eq_true rfl⟩) (preV_of C (P := (nh g M)) (nh.recv C hM hrr17 (q := (RJ1, TJ1, 3)) rfl) hS hM _) rfl rfl hl.1 rfl (lv_room (Nat.le_of_ble_eq_true rfl)) dX4_add_30 ⟨Nat.le_of_ble_eq_true rfl, Nat.le_of_ble_eq_true rfl⟩) hS (fun _ _ h => h) (fun _ h => h) (fun M18 t H locs ht _ hw1 hB _ _ hS => ?_)
  have hM : nh g M18 H := by rw [← ht]; exact hB
  replace hw := hw M18 hw1
  exact W.vret hx hb hr (fun t ht _ => ⟨⟨M18, rfl, hw, hM.tt ht⟩, hS.F ht⟩) hS.2.2 dX4_add_33
set_option maxHeartbeats 4000000 in
theorem wk_X4_add (l : Launch) (g : gG) (ow : Nat) (L : List Nat) (M : nM) (o : Nat) (b : Nat) (post : nM → Prop) (hw : wp_X4_add g ow L post M o b) : Met l yX4_add (ws_ yX4_add cX4_add 3 none) ({ frames := 4, cells := 0, slots := 0, locals := 256 } : Room) (va_Pc [.ref o, .ref b] (Pg g (nh g M))) (va_Qv post (fun u t => nh g u t.heap) (Ag g)) 0 0 (Ag g) := by
  refine Met.ofW (cc := cX4_add) (maxL := 3) (ret := none) (by decide) rfl ?_
  intro p e s m args below meth c s₁ B hml hv
  obtain ⟨rfl, hG, hM⟩ := hv
  have C : Cx p s m _ meth c cX4_add 3 RX4 none g := Cx.of B hml hG
  have hx := C.1
  have hb := C.2.1
  have hown := C.2.2.2.1
  have hr := C.2.2.2.2.2.1
  have hlocks := C.2.2.2.2.2.2.1
  have hS : va_S (Ag g) s.heap s.heap [] := va_S.rf
  refine lv_start ([.ref o, .ref b] : List Value) (L := [(0, .ref o), (1, .ref b)]) (Nat.le_of_ble_eq_true rfl) rfl (fun ls hl => ?_)
  refine lv_aload_n hx hb dX4_add_0 rfl (lv_at hl 0 rfl) ?_
  obtain ⟨v1, ⟨tv1, fsv1, hev1, hvv1⟩, hw⟩ := hw
  refine g_get C in_X4 hM hev1 rfl 0 (by decide) q223 (fun _ h => h) (v := .ref v1) hvv1 dX4_add_1 ?_
  obtain ⟨g_2, g_3, hw⟩ := hw
  obtain ⟨hpr4, hw⟩ := hw
  obtain ⟨⟨wr4, ur4, hrr4⟩, hw⟩ := hw
  refine vp_callSi (va_runV (As := []) (rest := []) C.fix (met_J1_size l g g_2 g_3 M v1 hpr4) (cw_X4_20 C.ts ⟨Nat.le_of_ble_eq_true rfl, Nat.le_of_ble_eq_true rfl⟩) (preV_of C (P := (nh g M)) (nh.recv C hM hrr4 (q := (RJ1, TJ1, 3)) rfl) hS hM _) rfl rfl hl.1 rfl (lv_room (Nat.le_of_ble_eq_true rfl)) dX4_add_4 ⟨Nat.le_of_ble_eq_true rfl, Nat.le_of_ble_eq_true rfl⟩).run (fun r4 er4 => ?_)
  replace hw := hw r4 er4
  refine lv_aload_n hx hb dX4_add_7 rfl (lv_at hl 0 rfl) ?_
  obtain ⟨v5, ⟨tv5, fsv5, hev5, hvv5⟩, hw⟩ := hw
  refine g_get C in_X4 hM hev5 rfl 1 (by decide) q224 (fun _ h => h) (v := .int v5) hvv5 dX4_add_8 ?_
  refine lv_icmp_ne (tgt := 25) hx hb dX4_add_11 (by decide) (fun c6 => ?_) (fun c6 => ?_)
  · have hw := hw.1 c6
    exact wkb_X4_add_25 C post  ow L o b  M hw hM hS (lv_sub hl [0, 1] rfl)
  · have hw := hw.2 c6
    refine lv_aload_n hx hb dX4_add_14 rfl (lv_at hl 0 rfl) ?_
    obtain ⟨v7, ⟨tv7, fsv7, hev7, hvv7⟩, hw⟩ := hw
    refine g_get C in_X4 hM hev7 rfl 0 (by decide) q223 (fun _ h => h) (v := .ref v7) hvv7 dX4_add_15 ?_
    obtain ⟨g_8, g_9, hw⟩ := hw
    obtain ⟨hpr10, hw⟩ := hw
    obtain ⟨⟨wr10, ur10, hrr10⟩, hw⟩ := hw
    refine va_callq (va_runV (As := []) (rest := []) C.fix (met_J1_removeFirst l g g_8 g_9 M v7 hpr10) (cw_X4_24 C.ts ⟨Nat.le_of_ble_eq_true rfl, Nat.le_of_ble_eq_true rfl⟩) (preV_of C (P := (nh g M)) (nh.recv C hM hrr10 (q := (RJ1, TJ1, 3)) rfl) hS hM _) rfl rfl hl.1 rfl (lv_room (Nat.le_of_ble_eq_true rfl)) dX4_add_18 ⟨Nat.le_of_ble_eq_true rfl, Nat.le_of_ble_eq_true rfl⟩) hS (fun _ _ h => h) (fun _ h => h) (fun r10 M11 t H locs ht _ hw1 hB _ _ hS => ?_)
    have hM : nh g M11 H := by rw [← ht]; exact hB
    replace hw := hw r10 M11 hw1
    obtain ⟨b12, eb12, hw⟩ := hw
    subst eb12
    obtain ⟨⟨wt13, ut13, hat13⟩, hw⟩ := hw
    refine va_castY hx hb hown (C.ts _ q1567) (C.wC q2903) (nh.recv C hM hat13 (q := (RX2, TX2, 5)) rfl) dX4_add_21 ?_
    refine lv_astore_n (lv' := [(2, .ref b12), (0, .ref o), (1, .ref b)]) hx hb dX4_add_24 rfl hl (by decide) rfl (fun ls hl => ?_)
    exact wkb_X4_add_25 C post  ow L o b  M11 hw hM hS (lv_sub hl [1, 2] rfl)
set_option maxHeartbeats 4000000 in
theorem met_X4_add (l : Launch) (g : gG) (ow : Nat) (L : List Nat) (M : nM) (o : Nat) (b : Nat) (hpre : pre_X4_add g ow L M o b) : Met l yX4_add (ws_ yX4_add cX4_add 3 none) ({ frames := 4, cells := 0, slots := 0, locals := 256 } : Room) (va_Pc [.ref o, .ref b] (Pg g (nh g M))) (va_Qv (fun M' => post_X4_add g ow L M o b M') (fun u t => nh g u t.heap) (Ag g)) 0 0 (Ag g) :=
  wk_X4_add l g ow L M o b _ (pr_X4_add g ow L M o b hpre)

set_option maxHeartbeats 4000000 in
theorem wk_X4_takeLatest (l : Launch) (g : gG) (ow : Nat) (L : List Nat) (M : nM) (o : Nat) (post : Option Nat → nM → Prop) (hw : wp_X4_takeLatest g ow L post M o) : Met l yX4_takeLatest (ws_ yX4_takeLatest cX4_takeLatest 1 (some (.object "InnRoad$Copyable"))) ({ frames := 4, cells := 0, slots := 0, locals := 256 } : Room) (va_Pc [.ref o] (Pg g (nh g M))) (va_Qq post (fun u t => nh g u t.heap) (Ag g)) 0 0 (Ag g) := by
  refine Met.ofW (cc := cX4_takeLatest) (maxL := 1) (ret := (some (.object "InnRoad$Copyable"))) (by decide) rfl ?_
  intro p e s m args below meth c s₁ B hml hv
  obtain ⟨rfl, hG, hM⟩ := hv
  have C : Cx p s m _ meth c cX4_takeLatest 1 RX4 (some (.object "InnRoad$Copyable")) g := Cx.of B hml hG
  have hx := C.1
  have hb := C.2.1
  have hown := C.2.2.2.1
  have hr := C.2.2.2.2.2.1
  have hlocks := C.2.2.2.2.2.2.1
  have hS : va_S (Ag g) s.heap s.heap [] := va_S.rf
  refine lv_start ([.ref o] : List Value) (L := [(0, .ref o)]) (Nat.le_of_ble_eq_true rfl) rfl (fun ls hl => ?_)
  refine lv_aload_n hx hb dX4_takeLatest_0 rfl (lv_at hl 0 rfl) ?_
  obtain ⟨v1, ⟨tv1, fsv1, hev1, hvv1⟩, hw⟩ := hw
  refine g_get C in_X4 hM hev1 rfl 0 (by decide) q223 (fun _ h => h) (v := .ref v1) hvv1 dX4_takeLatest_1 ?_
  obtain ⟨g_2, g_3, hw⟩ := hw
  obtain ⟨hpr4, hw⟩ := hw
  obtain ⟨⟨wr4, ur4, hrr4⟩, hw⟩ := hw
  refine va_callq (va_runV (As := []) (rest := []) C.fix (met_J1_removeLast l g g_2 g_3 M v1 hpr4) (cw_X4_34 C.ts ⟨Nat.le_of_ble_eq_true rfl, Nat.le_of_ble_eq_true rfl⟩) (preV_of C (P := (nh g M)) (nh.recv C hM hrr4 (q := (RJ1, TJ1, 3)) rfl) hS hM _) rfl rfl hl.1 rfl (lv_room (Nat.le_of_ble_eq_true rfl)) dX4_takeLatest_4 ⟨Nat.le_of_ble_eq_true rfl, Nat.le_of_ble_eq_true rfl⟩) hS (fun _ _ h => h) (fun _ h => h) (fun r4 M5 t H locs ht _ hw1 hB _ _ hS => ?_)
  have hM : nh g M5 H := by rw [← ht]; exact hB
  replace hw := hw r4 M5 hw1
  obtain ⟨b6, eb6, hw⟩ := hw
  subst eb6
  obtain ⟨⟨wt7, ut7, hat7⟩, hw⟩ := hw
  refine va_castY hx hb hown (C.ts _ q1567) (C.wC q2903) (nh.recv C hM hat7 (q := (RX2, TX2, 5)) rfl) dX4_takeLatest_7 ?_
  exact W.aret (v := va_rf (some b6)) hx hb hr (Or.inl ⟨_, rfl⟩) (va_rf_or (some b6)) (fun t ht _ => ⟨⟨(some b6), M5, rfl, hw, hM.tt ht⟩, hS.F ht⟩) hS.2.2 dX4_takeLatest_10
set_option maxHeartbeats 4000000 in
theorem met_X4_takeLatest (l : Launch) (g : gG) (ow : Nat) (L : List Nat) (M : nM) (o : Nat) (hpre : pre_X4_takeLatest g ow L M o) : Met l yX4_takeLatest (ws_ yX4_takeLatest cX4_takeLatest 1 (some (.object "InnRoad$Copyable"))) ({ frames := 4, cells := 0, slots := 0, locals := 256 } : Room) (va_Pc [.ref o] (Pg g (nh g M))) (va_Qq (fun r M' => post_X4_takeLatest g ow L M o r M') (fun u t => nh g u t.heap) (Ag g)) 0 0 (Ag g) :=
  wk_X4_takeLatest l g ow L M o _ (pr_X4_takeLatest g ow L M o hpre)
end
