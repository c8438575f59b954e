set_option maxRecDepth 100000
theorem cw_J2_1 {R : Room} {s : State} {args : Array Value} (hts : ∀ w ∈ lw_all, w.before args s = true) {rm : Room} (hR : rm.frames + 1 ≤ R.frames ∧ 8 + (1 + 11) + rm.locals ≤ R.locals) : CallB R s args RJ2 1 yJ0_init cJ0_init 1 none (ws_ yJ0_init cJ0_init 1 none) rm rm.cells rm.slots 0 ∧ yJ0_init.name = "<init>" ∧ (Cond.instanceMethod yJ0_init).before args s = true := cwI 0 hts (lw_meth q209) rfl rfl rfl (hts _ q74) (hts _ q272) (hts _ q208) rfl (by decide +kernel) hR
theorem cw_J3_1 {R : Room} {s : State} {args : Array Value} (hts : ∀ w ∈ lw_all, w.before args s = true) {rm : Room} (hR : rm.frames + 1 ≤ R.frames ∧ 8 + (1 + 11) + rm.locals ≤ R.locals) : CallB R s args RJ3 1 yJ2_init cJ2_init 1 none (ws_ yJ2_init cJ2_init 1 none) rm rm.cells rm.slots 0 ∧ yJ2_init.name = "<init>" ∧ (Cond.instanceMethod yJ2_init).before args s = true := cwI 0 hts (lw_meth q271) rfl rfl rfl (hts _ q77) (hts _ q269) (hts _ q270) rfl (by decide +kernel) hR
theorem cw_J4_105 {R : Room} {s : State} {args : Array Value} (hts : ∀ w ∈ lw_all, w.before args s = true) {rm : Room} (hR : rm.frames + 1 ≤ R.frames ∧ 8 + (3 + 11) + rm.locals ≤ R.locals) : CallB R s args RJ4 105 yJ5_checkIndex cJ5_checkIndex 3 (some .int) (ws_ yJ5_checkIndex cJ5_checkIndex 3 (some .int)) rm rm.cells rm.slots 3 ∧ (Cond.static yJ5_checkIndex).before args s = true := va_cwS 3 hts (lw_S q316 q317 q80 q318) rfl rfl rfl (by decide +kernel) hR
theorem cw_J3_118 {R : Room} {s : State} {args : Array Value} (hts : ∀ w ∈ lw_all, w.before args s = true) {rm : Room} (hR : rm.frames + 1 ≤ R.frames ∧ 8 + (2 + 11) + rm.locals ≤ R.locals) : CallB R s args RJ3 118 yJ4_checkIndex cJ4_checkIndex 2 (some .int) (ws_ yJ4_checkIndex cJ4_checkIndex 2 (some .int)) rm rm.cells rm.slots 2 ∧ (Cond.static yJ4_checkIndex).before args s = true := va_cwS 2 hts (lw_S q313 q314 q79 q315) rfl rfl rfl (by decide +kernel) hR
theorem cw_J3_123 {R : Room} {s : State} {args : Array Value} (hts : ∀ w ∈ lw_all, w.before args s = true) {rm : Room} (hR : rm.frames + 1 ≤ R.frames ∧ 8 + (2 + 11) + rm.locals ≤ R.locals) : CallW R s args RJ3 RJ3 123 yJ3_elementData cJ3_elementData 2 (some (.object "java/lang/Object")) (ws_ yJ3_elementData cJ3_elementData 2 (some (.object "java/lang/Object"))) rm rm.cells rm.slots 1 := cwV 1 hts (lw_V q319 q320 q321 q78 q322) rfl rfl rfl (by decide +kernel) hR
theorem cw_J18_300 {R : Room} {s : State} {args : Array Value} (hts : ∀ w ∈ lw_all, w.before args s = true) {rm : Room} (hR : rm.frames + 1 ≤ R.frames ∧ 8 + (4 + 11) + rm.locals ≤ R.locals) : CallB R s args RJ18 300 yJ18_copyOf_3 cJ18_copyOf_3 4 (some (.array (.object "java/lang/Object"))) (ws_ yJ18_copyOf_3 cJ18_copyOf_3 4 (some (.array (.object "java/lang/Object")))) rm rm.cells rm.slots 3 ∧ (Cond.static yJ18_copyOf_3).before args s = true := va_cwS 3 hts (lw_S q735 q736 q94 q737) rfl rfl rfl (by decide +kernel) hR
theorem cw_J3_73 {R : Room} {s : State} {args : Array Value} (hts : ∀ w ∈ lw_all, w.before args s = true) {rm : Room} (hR : rm.frames + 1 ≤ R.frames ∧ 8 + (4 + 11) + rm.locals ≤ R.locals) : CallB R s args RJ3 73 yJ16_newLength cJ16_newLength 4 (some .int) (ws_ yJ16_newLength cJ16_newLength 4 (some .int)) rm rm.cells rm.slots 3 ∧ (Cond.static yJ16_newLength).before args s = true := va_cwS 3 hts (lw_S q702 q460 q92 q461) rfl rfl rfl (by decide +kernel) hR
theorem cw_J3_66 {R : Room} {s : State} {args : Array Value} (hts : ∀ w ∈ lw_all, w.before args s = true) {rm : Room} (hR : rm.frames + 1 ≤ R.frames ∧ 8 + (2 + 11) + rm.locals ≤ R.locals) : CallB R s args RJ3 66 yJ18_copyOf_2 cJ18_copyOf_2 2 (some (.array (.object "java/lang/Object"))) (ws_ yJ18_copyOf_2 cJ18_copyOf_2 2 (some (.array (.object "java/lang/Object")))) rm rm.cells rm.slots 2 ∧ (Cond.static yJ18_copyOf_2).before args s = true := va_cwS 2 hts (lw_S q703 q704 q94 q705) rfl rfl rfl (by decide +kernel) hR
theorem cw_J3_69 {R : Room} {s : State} {args : Array Value} (hts : ∀ w ∈ lw_all, w.before args s = true) {rm : Room} (hR : rm.frames + 1 ≤ R.frames ∧ 8 + (4 + 11) + rm.locals ≤ R.locals) : CallW R s args RJ3 RJ3 69 yJ3_grow_2 cJ3_grow_2 4 (some (.array (.object "java/lang/Object"))) (ws_ yJ3_grow_2 cJ3_grow_2 4 (some (.array (.object "java/lang/Object")))) rm rm.cells rm.slots 1 := cwV 1 hts (lw_V q698 q700 qs5 q78 q701) rfl rfl rfl (by decide +kernel) hR
theorem cw_J3_129 {R : Room} {s : State} {args : Array Value} (hts : ∀ w ∈ lw_all, w.before args s = true) {rm : Room} (hR : rm.frames + 1 ≤ R.frames ∧ 8 + (1 + 11) + rm.locals ≤ R.locals) : CallW R s args RJ3 RJ3 129 yJ3_grow cJ3_grow 1 (some (.array (.object "java/lang/Object"))) (ws_ yJ3_grow cJ3_grow 1 (some (.array (.object "java/lang/Object")))) rm rm.cells rm.slots 0 := cwV 0 hts (lw_V q694 q696 qs4 q78 q697) rfl rfl rfl (by decide +kernel) hR
theorem cw_J3_131 {R : Room} {s : State} {args : Array Value} (hts : ∀ w ∈ lw_all, w.before args s = true) {rm : Room} (hR : rm.frames + 1 ≤ R.frames ∧ 8 + (4 + 11) + rm.locals ≤ R.locals) : CallW R s args RJ3 RJ3 131 yJ3_add_3 cJ3_add_3 4 none (ws_ yJ3_add_3 cJ3_add_3 4 none) rm rm.cells rm.slots 3 := cwV 3 hts (lw_V q1733 q1735 qs23 q78 q1736) rfl rfl rfl (by decide +kernel) hR
theorem cw_J3_135 {R : Room} {s : State} {args : Array Value} (hts : ∀ w ∈ lw_all, w.before args s = true) {rm : Room} (hR : rm.frames + 1 ≤ R.frames ∧ 8 + (2 + 11) + rm.locals ≤ R.locals) : CallW R s args RJ3 RJ3 135 yJ3_rangeCheckForAdd cJ3_rangeCheckForAdd 2 none (ws_ yJ3_rangeCheckForAdd cJ3_rangeCheckForAdd 2 none) rm rm.cells rm.slots 1 := cwV 1 hts (lw_V q357 q359 qs1 q78 q360) rfl rfl rfl (by decide +kernel) hR
theorem cwo_J3_93 {R : Room} {s : State} {args : Array Value} (hts : ∀ w ∈ lw_all, w.before args s = true) {rm : Room} (hR : rm.frames + 1 ≤ R.frames ∧ 8 + (2 + 11) + rm.locals ≤ R.locals) : va_CU R s args RJ3 "java/lang/Integer" "java/lang/Object" 93 ⟨"java/lang/Object", "equals", "(Ljava/lang/Object;)Z"⟩ yJ7_equals cJ7_equals 2 (some .boolean) (ws_ yJ7_equals cJ7_equals 2 (some .boolean)) rm rm.cells rm.slots 1 := by
  refine va_cwO 1 hts (lw_app (fun w hw => ?_) (lw_meth q1092)) rfl rfl rfl q1098 (by decide +kernel) hR
  simp only [List.mem_cons, List.not_mem_nil, or_false] at hw
  rcases hw with e | e | e | e | e | e
  · rw [e]; exact q1723
  · rw [e]; exact q1073
  · rw [e]; exact q1072
  · rw [e]; exact q1090
  · rw [e]; exact q1091
  · rw [e]; exact q82
theorem cw_J3_89 {R : Room} {s : State} {args : Array Value} (hts : ∀ w ∈ lw_all, w.before args s = true) {rm : Room} (hR : rm.frames + 1 ≤ R.frames ∧ 8 + (6 + 11) + rm.locals ≤ R.locals) : CallW R s args RJ3 RJ3 89 yJ3_indexOfRange cJ3_indexOfRange 6 (some .int) (ws_ yJ3_indexOfRange cJ3_indexOfRange 6 (some .int)) rm rm.cells rm.slots 3 := cwV 3 hts (lw_V q1719 q1720 q1721 q78 q1722) rfl rfl rfl (by decide +kernel) hR
theorem cw_J3_85 {R : Room} {s : State} {args : Array Value} (hts : ∀ w ∈ lw_all, w.before args s = true) {rm : Room} (hR : rm.frames + 1 ≤ R.frames ∧ 8 + (2 + 11) + rm.locals ≤ R.locals) : CallW R s args RJ3 RJ3 85 yJ3_indexOf cJ3_indexOf 2 (some .int) (ws_ yJ3_indexOf cJ3_indexOf 2 (some .int)) rm rm.cells rm.slots 1 := cwV 1 hts (lw_V q1715 q1716 q1717 q78 q1718) rfl rfl rfl (by decide +kernel) hR
section
variable {p : Program} {l : Launch} {e : Env} {s : State} {m : MethodId} {args : Array Value} {below : List Frame} {meth : Method} {c : Code} {g : gG}
set_option maxHeartbeats 4000000 in
theorem wk_J0_init (l : Launch) (g : gG) (M : nM) (o : Nat) (post : Prop) (hw : wp_J0_init g post M o) : Met l yJ0_init (ws_ yJ0_init cJ0_init 1 none) ({ frames := 2, cells := 0, slots := 0, locals := 128 } : Room) (va_Pc [.ref o] (Pg g (nh g M))) (vp_SvP post) 0 0 (fun _ => False) := by
  refine Met.ofW (cc := cJ0_init) (maxL := 1) (ret := none) (by decide) rfl ?_
  intro p e s m args below meth c s₁ B hml hv
  obtain ⟨rfl, hG, hM⟩ := hv
  have C : Cx p s m _ meth c cJ0_init 1 RJ0 none g := Cx.of B hml hG
  have hin2 : meth.name = "<init>" := (name_of_methodNamed B.named B.method).1
  have hx := C.1
  have hb := C.2.1
  have hown := C.2.2.2.1
  have hr := C.2.2.2.2.2.1
  have hlocks := C.2.2.2.2.2.2.1
  refine lv_start ([.ref o] : List Value) (L := [(0, .ref o)]) (Nat.le_of_ble_eq_true rfl) rfl (fun ls hl => ?_)
  refine lv_aload_n hx hb dJ0_init_0 rfl (lv_at hl 0 rfl) ?_
  refine g_obj0 C hl.1.symm q210 dJ0_init_1 (Nat.le_of_ble_eq_true rfl) (Nat.le_of_ble_eq_true rfl) ?_
  exact W.vret hx hb hr (fun t ht _ => ⟨rfl, ht, hw⟩) (fun _ h => by cases h) dJ0_init_4
set_option maxHeartbeats 4000000 in
theorem met_J0_init (l : Launch) (g : gG) (M : nM) (o : Nat) : Met l yJ0_init (ws_ yJ0_init cJ0_init 1 none) ({ frames := 2, cells := 0, slots := 0, locals := 128 } : Room) (va_Pc [.ref o] (Pg g (nh g M))) (vp_SvP (post_J0_init g M o)) 0 0 (fun _ => False) :=
  wk_J0_init l g M o _ (pr_J0_init g M o)

set_option maxHeartbeats 4000000 in
theorem wk_J2_init (l : Launch) (g : gG) (M : nM) (o : Nat) (post : nM → Prop) (hw : wp_J2_init g post M o) : Met l yJ2_init (ws_ yJ2_init cJ2_init 1 none) ({ frames := 3, cells := 0, slots := 0, locals := 192 } : Room) (va_Pc [.ref o] (Pg g (nh g M))) (va_Qv post (fun u t => nh g u t.heap) (Ag g)) 0 0 (Ag g) := by
  refine Met.ofW (cc := cJ2_init) (maxL := 1) (ret := none) (by decide) rfl ?_
  intro p e s m args below meth c s₁ B hml hv
  obtain ⟨rfl, hG, hM⟩ := hv
  have C : Cx p s m _ meth c cJ2_init 1 RJ2 none g := Cx.of B hml hG
  have hin2 : meth.name = "<init>" := (name_of_methodNamed B.named B.method).1
  have hx := C.1
  have hb := C.2.1
  have hown := C.2.2.2.1
  have hr := C.2.2.2.2.2.1
  have hlocks := C.2.2.2.2.2.2.1
  have hS : va_S (Ag g) s.heap s.heap [] := va_S.rf
  refine lv_start ([.ref o] : List Value) (L := [(0, .ref o)]) (Nat.le_of_ble_eq_true rfl) rfl (fun ls hl => ?_)
  refine lv_aload_n hx hb dJ2_init_0 rfl (lv_at hl 0 rfl) ?_
  refine vp_callSvP (va_runI (As := []) (rest := []) C.fix (met_J0_init l g  M o) (cw_J2_1 C.ts ⟨Nat.le_of_ble_eq_true rfl, Nat.le_of_ble_eq_true rfl⟩) (preS_of C (P := (nh g M)) hS hM _) rfl rfl hl.1 rfl (lv_room (Nat.le_of_ble_eq_true rfl)) dJ2_init_1 ⟨Nat.le_of_ble_eq_true rfl, Nat.le_of_ble_eq_true rfl⟩).run (fun er1 => ?_)
  replace hw := hw er1
  refine lv_aload_n hx hb dJ2_init_4 rfl (lv_at hl 0 rfl) ?_
  refine lv_iconst (v := 0) hx hb dJ2_init_5 (by decide) ?_
  obtain ⟨⟨tp2, fsp2, hep2, hkp2⟩, hw⟩ := hw
  refine g_put C in_J3 tyJ3 tyJ3_ok nmJ3 hM hS hep2 rfl 0 (by decide) q279 (fun _ h => h) rfl (v := .int 0) rfl rfl hkp2 dJ2_init_6 (fun H locs hM hS => ?_)
  obtain ⟨M3, eM3⟩ : ∃ N, N = nup M o (tp2, .inr (10, fsp2.set 0 (.int 0))) := ⟨_, rfl⟩
  rw [← eM3] at hM
  replace hw := hw M3 ⟨tp2, fsp2, hep2, eM3⟩
  exact W.vret hx hb hr (fun t ht _ => ⟨⟨M3, rfl, hw, hM.tt ht⟩, hS.F ht⟩) hS.2.2 dJ2_init_9
set_option maxHeartbeats 4000000 in
theorem met_J2_init (l : Launch) (g : gG) (M : nM) (o : Nat) (hpre : pre_J2_init g M o) : Met l yJ2_init (ws_ yJ2_init cJ2_init 1 none) ({ frames := 3, cells := 0, slots := 0, locals := 192 } : Room) (va_Pc [.ref o] (Pg g (nh g M))) (va_Qv (fun M' => post_J2_init g M o M') (fun u t => nh g u t.heap) (Ag g)) 0 0 (Ag g) :=
  wk_J2_init l g M o _ (pr_J2_init g M o hpre)

set_option maxHeartbeats 4000000 in
theorem wk_J3_init (l : Launch) (g : gG) (M : nM) (o : Nat) (post : nM → Prop) (hw : wp_J3_init g post M o) : Met l yJ3_init (ws_ yJ3_init cJ3_init 1 none) ({ frames := 4, cells := 0, slots := 0, locals := 256 } : Room) (va_Pc [.ref o] (Pg g (nh g M))) (va_Qv post (fun u t => nh g u t.heap) (Ag g)) 0 0 (Ag g) := by
  refine Met.ofW (cc := cJ3_init) (maxL := 1) (ret := none) (by decide) rfl ?_
  intro p e s m args below meth c s₁ B hml hv
  obtain ⟨rfl, hG, hM⟩ := hv
  have C : Cx p s m _ meth c cJ3_init 1 RJ3 none g := Cx.of B hml hG
  have hin2 : meth.name = "<init>" := (name_of_methodNamed B.named B.method).1
  have hx := C.1
  have hb := C.2.1
  have hown := C.2.2.2.1
  have hr := C.2.2.2.2.2.1
  have hlocks := C.2.2.2.2.2.2.1
  have hS : va_S (Ag g) s.heap s.heap [] := va_S.rf
  refine lv_start ([.ref o] : List Value) (L := [(0, .ref o)]) (Nat.le_of_ble_eq_true rfl) rfl (fun ls hl => ?_)
  refine lv_aload_n hx hb dJ3_init_0 rfl (lv_at hl 0 rfl) ?_
  obtain ⟨hpr1, hw⟩ := hw
  refine va_callv (va_runI (As := []) (rest := []) C.fix (met_J2_init l g  M o hpr1) (cw_J3_1 C.ts ⟨Nat.le_of_ble_eq_true rfl, Nat.le_of_ble_eq_true rfl⟩) (preS_of C (P := (nh g M)) hS hM _) rfl rfl hl.1 rfl (lv_room (Nat.le_of_ble_eq_true rfl)) dJ3_init_1 ⟨Nat.le_of_ble_eq_true rfl, Nat.le_of_ble_eq_true rfl⟩) hS (fun _ _ h => h) (fun _ h => h) (fun M2 t H locs ht _ hw1 hB _ _ hS => ?_)
  have hM : nh g M2 H := by rw [← ht]; exact hB
  replace hw := hw M2 hw1
  refine lv_aload_n hx hb dJ3_init_4 rfl (lv_at hl 0 rfl) ?_
  obtain ⟨q3, hzq3⟩ := emp_of C.G.1
  refine va_gets hx hb (hzq3.1.at C.G) (hS) hown (C.ts _ q273) (fun _ h => h) dJ3_init_5 ?_
  replace hw := hw q3 hzq3
  obtain ⟨⟨tp4, fsp4, hep4, hkp4⟩, hw⟩ := hw
  refine g_put C in_J3 tyJ3 tyJ3_ok nmJ3 hM hS hep4 rfl 1 (by decide) q275 (fun _ h => h) rfl (v := .ref q3) rfl rfl hkp4 dJ3_init_8 (fun H locs hM hS => ?_)
  obtain ⟨M5, eM5⟩ : ∃ N, N = nup M2 o (tp4, .inr (10, fsp4.set 1 (.ref q3))) := ⟨_, rfl⟩
  rw [← eM5] at hM
  replace hw := hw M5 ⟨tp4, fsp4, hep4, eM5⟩
  exact W.vret hx hb hr (fun t ht _ => ⟨⟨M5, rfl, hw, hM.tt ht⟩, hS.F ht⟩) hS.2.2 dJ3_init_11
set_option maxHeartbeats 4000000 in
theorem met_J3_init (l : Launch) (g : gG) (M : nM) (o : Nat) (hpre : pre_J3_init g M o) : Met l yJ3_init (ws_ yJ3_init cJ3_init 1 none) ({ frames := 4, cells := 0, slots := 0, locals := 256 } : Room) (va_Pc [.ref o] (Pg g (nh g M))) (va_Qv (fun M' => post_J3_init g M o M') (fun u t => nh g u t.heap) (Ag g)) 0 0 (Ag g) :=
  wk_J3_init l g M o _ (pr_J3_init g M o hpre)

set_option maxHeartbeats 4000000 in
theorem wk_J3_size (l : Launch) (g : gG) (L : List Int32) (M : nM) (o : Nat) (post : Int32 → Prop) (hw : wp_J3_size g L post M o) : Met l yJ3_size (ws_ yJ3_size cJ3_size 1 (some .int)) ({ frames := 1, cells := 0, slots := 0, locals := 64 } : Room) (va_Pc [.ref o] (Pg g (nh g M))) (vp_Si post) 0 0 (fun _ => False) := by
  refine Met.ofW (cc := cJ3_size) (maxL := 1) (ret := (some .int)) (by decide) rfl ?_
  intro p e s m args below meth c s₁ B hml hv
  obtain ⟨rfl, hG, hM⟩ := hv
  have C : Cx p s m _ meth c cJ3_size 1 RJ3 (some .int) g := Cx.of B hml hG
  have hx := C.1
  have hb := C.2.1
  have hown := C.2.2.2.1
  have hr := C.2.2.2.2.2.1
  have hlocks := C.2.2.2.2.2.2.1
  refine lv_start ([.ref o] : List Value) (L := [(0, .ref o)]) (Nat.le_of_ble_eq_true rfl) rfl (fun ls hl => ?_)
  refine lv_aload_n hx hb dJ3_size_0 rfl (lv_at hl 0 rfl) ?_
  obtain ⟨v1, ⟨tv1, fsv1, hev1, hvv1⟩, hw⟩ := hw
  refine g_get C in_J3 hM hev1 rfl 2 (by decide) q278 (fun _ h => h) (v := .int v1) hvv1 dJ3_size_1 ?_
  exact W.iret (v := v1) hx hb hr (fun t ht _ => ⟨v1, rfl, hw, ht⟩) (fun _ h => by cases h) dJ3_size_4
set_option maxHeartbeats 4000000 in
theorem met_J3_size (l : Launch) (g : gG) (L : List Int32) (M : nM) (o : Nat) (hpre : pre_J3_size g L M o) : Met l yJ3_size (ws_ yJ3_size cJ3_size 1 (some .int)) ({ frames := 1, cells := 0, slots := 0, locals := 64 } : Room) (va_Pc [.ref o] (Pg g (nh g M))) (vp_Si (fun r => post_J3_size g L M o r)) 0 0 (fun _ => False) :=
  wk_J3_size l g L M o _ (pr_J3_size g L M o hpre)

set_option maxHeartbeats 4000000 in
theorem wk_J3_isEmpty (l : Launch) (g : gG) (L : List Int32) (M : nM) (o : Nat) (post : Int32 → Prop) (hw : wp_J3_isEmpty g L post M o) : Met l yJ3_isEmpty (ws_ yJ3_isEmpty cJ3_isEmpty 1 (some .boolean)) ({ frames := 1, cells := 0, slots := 0, locals := 64 } : Room) (va_Pc [.ref o] (Pg g (nh g M))) (vp_Si post) 0 0 (fun _ => False) := by
  refine Met.ofW (cc := cJ3_isEmpty) (maxL := 1) (ret := (some .boolean)) (by decide) rfl ?_
  intro p e s m args below meth c s₁ B hml hv
  obtain ⟨rfl, hG, hM⟩ := hv
  have C : Cx p s m _ meth c cJ3_isEmpty 1 RJ3 (some .boolean) g := Cx.of B hml hG
  have hx := C.1
  have hb := C.2.1
  have hown := C.2.2.2.1
  have hr := C.2.2.2.2.2.1
  have hlocks := C.2.2.2.2.2.2.1
  refine lv_start ([.ref o] : List Value) (L := [(0, .ref o)]) (Nat.le_of_ble_eq_true rfl) rfl (fun ls hl => ?_)
  refine lv_aload_n hx hb dJ3_isEmpty_0 rfl (lv_at hl 0 rfl) ?_
  obtain ⟨v1, ⟨tv1, fsv1, hev1, hvv1⟩, hw⟩ := hw
  refine g_get C in_J3 hM hev1 rfl 2 (by decide) q278 (fun _ h => h) (v := .int v1) hvv1 dJ3_isEmpty_1 ?_
  refine lv_if_ne (tgt := 11) hx hb dJ3_isEmpty_4 (by decide) (fun c2 => ?_) (fun c2 => ?_)
  · have hw := hw.1 c2
    refine lv_iconst (v := 0) hx hb dJ3_isEmpty_11 (by decide) ?_
    exact W.zret (v := 0) hx hb hr hw.1 (fun t ht _ => ⟨0, rfl, hw.2, ht⟩) (fun _ h => by cases h) dJ3_isEmpty_12
  · have hw := hw.2 c2
    refine lv_iconst (v := 1) hx hb dJ3_isEmpty_7 (by decide) ?_
    refine lv_goto (tgt := 12) hx hb dJ3_isEmpty_8 (by decide) ?_
    exact W.zret (v := 1) hx hb hr hw.1 (fun t ht _ => ⟨1, rfl, hw.2, ht⟩) (fun _ h => by cases h) dJ3_isEmpty_12
set_option maxHeartbeats 4000000 in
theorem met_J3_isEmpty (l : Launch) (g : gG) (L : List Int32) (M : nM) (o : Nat) (hpre : pre_J3_isEmpty g L M o) : Met l yJ3_isEmpty (ws_ yJ3_isEmpty cJ3_isEmpty 1 (some .boolean)) ({ frames := 1, cells := 0, slots := 0, locals := 64 } : Room) (va_Pc [.ref o] (Pg g (nh g M))) (vp_Si (fun r => post_J3_isEmpty g L M o r)) 0 0 (fun _ => False) :=
  wk_J3_isEmpty l g L M o _ (pr_J3_isEmpty g L M o hpre)

set_option maxHeartbeats 4000000 in
theorem wk_J3_elementData (l : Launch) (g : gG) (L : List Int32) (M : nM) (o : Nat) (x : Int32) (post : Option Nat → Prop) (hw : wp_J3_elementData g L post M o x) : Met l yJ3_elementData (ws_ yJ3_elementData cJ3_elementData 2 (some (.object "java/lang/Object"))) ({ frames := 1, cells := 0, slots := 0, locals := 64 } : Room) (va_Pc [.ref o, .int x] (Pg g (nh g M))) (va_Sq post) 0 0 (fun _ => False) := by
  refine Met.ofW (cc := cJ3_elementData) (maxL := 2) (ret := (some (.object "java/lang/Object"))) (by decide) rfl ?_
  intro p e s m args below meth c s₁ B hml hv
  obtain ⟨rfl, hG, hM⟩ := hv
  have C : Cx p s m _ meth c cJ3_elementData 2 RJ3 (some (.object "java/lang/Object")) g := Cx.of B hml hG
  have hx := C.1
  have hb := C.2.1
  have hown := C.2.2.2.1
  have hr := C.2.2.2.2.2.1
  have hlocks := C.2.2.2.2.2.2.1
  refine lv_start ([.ref o, .int x] : List Value) (L := [(0, .ref o), (1, .int x)]) (Nat.le_of_ble_eq_true rfl) rfl (fun ls hl => ?_)
  refine lv_aload_n hx hb dJ3_elementData_0 rfl (lv_at hl 0 rfl) ?_
  obtain ⟨v1, ⟨tv1, fsv1, hev1, hvv1⟩, hw⟩ := hw
  refine g_get C in_J3 hM hev1 rfl 1 (by decide) q275 (fun _ h => h) (v := .ref v1) hvv1 dJ3_elementData_1 ?_
  refine lv_iload_n hx hb dJ3_elementData_4 rfl (lv_at hl 1 rfl) ?_
  obtain ⟨nf2, f2, ⟨tf2, hef2⟩, hif2, hw⟩ := hw
  refine g_aald C hM 4 hef2 rfl rfl hif2 dJ3_elementData_5 ?_
  obtain ⟨z3, ez3⟩ : ∃ y_, y_ = f2 x.toNatClampNeg := ⟨_, rfl⟩
  rw [← ez3]
  replace hw := hw z3 ez3
  exact W.aret (v := va_rf z3) hx hb hr (Or.inl ⟨_, rfl⟩) (va_rf_or z3) (fun t ht _ => ⟨z3, rfl, hw, ht⟩) (fun _ h => by cases h) dJ3_elementData_6
set_option maxHeartbeats 4000000 in
theorem met_J3_elementData (l : Launch) (g : gG) (L : List Int32) (M : nM) (o : Nat) (x : Int32) (hpre : pre_J3_elementData g L M o x) : Met l yJ3_elementData (ws_ yJ3_elementData cJ3_elementData 2 (some (.object "java/lang/Object"))) ({ frames := 1, cells := 0, slots := 0, locals := 64 } : Room) (va_Pc [.ref o, .int x] (Pg g (nh g M))) (va_Sq (fun r => post_J3_elementData g L M o x r)) 0 0 (fun _ => False) :=
  wk_J3_elementData l g L M o x _ (pr_J3_elementData g L M o x hpre)

set_option maxHeartbeats 4000000 in
theorem wk_J5_checkIndex (l : Launch) (g : gG) (M : nM) (x : Int32) (y : Int32) (post : Int32 → Prop) (hw : wp_J5_checkIndex g post M x y) : Met l yJ5_checkIndex (ws_ yJ5_checkIndex cJ5_checkIndex 3 (some .int)) ({ frames := 1, cells := 0, slots := 0, locals := 64 } : Room) (va_Pc [.int x, .int y, .null] (Pg g (nh g M))) (vp_Si post) 0 0 (fun _ => False) := by
  refine Met.ofW (cc := cJ5_checkIndex) (maxL := 3) (ret := (some .int)) (by decide) rfl ?_
  intro p e s m args below meth c s₁ B hml hv
  obtain ⟨rfl, hG, hM⟩ := hv
  have C : Cx p s m _ meth c cJ5_checkIndex 3 RJ5 (some .int) g := Cx.of B hml hG
  have hx := C.1
  have hb := C.2.1
  have hown := C.2.2.2.1
  have hr := C.2.2.2.2.2.1
  have hlocks := C.2.2.2.2.2.2.1
  refine lv_start ([.int x, .int y, .null] : List Value) (L := [(0, .int x), (1, .int y), (2, .null)]) (Nat.le_of_ble_eq_true rfl) rfl (fun ls hl => ?_)
  refine lv_iload_n hx hb dJ5_checkIndex_0 rfl (lv_at hl 0 rfl) ?_
  refine lv_if_lt (tgt := 9) hx hb dJ5_checkIndex_1 (by decide) (fun c1 => ?_) (fun c1 => ?_)
  · have hw := hw.1 c1
    exact hw.elim
  · have hw := hw.2 c1
    refine lv_iload_n hx hb dJ5_checkIndex_4 rfl (lv_at hl 0 rfl) ?_
    refine lv_iload_n hx hb dJ5_checkIndex_5 rfl (lv_at hl 1 rfl) ?_
    refine lv_icmp_lt (tgt := 16) hx hb dJ5_checkIndex_6 (by decide) (fun c2 => ?_) (fun c2 => ?_)
    · have hw := hw.1 c2
      refine lv_iload_n hx hb dJ5_checkIndex_16 rfl (lv_at hl 0 rfl) ?_
      exact W.iret (v := x) hx hb hr (fun t ht _ => ⟨x, rfl, hw, ht⟩) (fun _ h => by cases h) dJ5_checkIndex_17
    · have hw := hw.2 c2
      exact hw.elim
set_option maxHeartbeats 4000000 in
theorem met_J5_checkIndex (l : Launch) (g : gG) (M : nM) (x : Int32) (y : Int32) (hpre : pre_J5_checkIndex g M x y) : Met l yJ5_checkIndex (ws_ yJ5_checkIndex cJ5_checkIndex 3 (some .int)) ({ frames := 1, cells := 0, slots := 0, locals := 64 } : Room) (va_Pc [.int x, .int y, .null] (Pg g (nh g M))) (vp_Si (fun r => post_J5_checkIndex g M x y r)) 0 0 (fun _ => False) :=
  wk_J5_checkIndex l g M x y _ (pr_J5_checkIndex g M x y hpre)

set_option maxHeartbeats 4000000 in
theorem wk_J4_checkIndex (l : Launch) (g : gG) (M : nM) (x : Int32) (y : Int32) (post : Int32 → Prop) (hw : wp_J4_checkIndex g post M x y) : Met l yJ4_checkIndex (ws_ yJ4_checkIndex cJ4_checkIndex 2 (some .int)) ({ frames := 2, cells := 0, slots := 0, locals := 128 } : Room) (va_Pc [.int x, .int y] (Pg g (nh g M))) (vp_Si post) 0 0 (fun _ => False) := by
  refine Met.ofW (cc := cJ4_checkIndex) (maxL := 2) (ret := (some .int)) (by decide) rfl ?_
  intro p e s m args below meth c s₁ B hml hv
  obtain ⟨rfl, hG, hM⟩ := hv
  have C : Cx p s m _ meth c cJ4_checkIndex 2 RJ4 (some .int) g := Cx.of B hml hG
  have hx := C.1
  have hb := C.2.1
  have hown := C.2.2.2.1
  have hr := C.2.2.2.2.2.1
  have hlocks := C.2.2.2.2.2.2.1
  refine lv_start ([.int x, .int y] : List Value) (L := [(0, .int x), (1, .int y)]) (Nat.le_of_ble_eq_true rfl) rfl (fun ls hl => ?_)
  refine lv_iload_n hx hb dJ4_checkIndex_0 rfl (lv_at hl 0 rfl) ?_
  refine lv_iload_n hx hb dJ4_checkIndex_1 rfl (lv_at hl 1 rfl) ?_
  refine lv_null hx hb dJ4_checkIndex_2 ?_
  obtain ⟨hpr1, hw⟩ := hw
  refine vp_callSi (va_runS (As := [.int x, .int y, .null]) (rest := []) C.fix (met_J5_checkIndex l g  M x y hpr1) (cw_J4_105 C.ts ⟨Nat.le_of_ble_eq_true rfl, Nat.le_of_ble_eq_true rfl⟩) (preS_of C (P := (nh g M)) va_S.rf hM _) rfl rfl hl.1 rfl (lv_room (Nat.le_of_ble_eq_true rfl)) dJ4_checkIndex_3 ⟨Nat.le_of_ble_eq_true rfl, Nat.le_of_ble_eq_true rfl⟩).run (fun r1 er1 => ?_)
  replace hw := hw r1 er1
  exact W.iret (v := r1) hx hb hr (fun t ht _ => ⟨r1, rfl, hw, ht⟩) (fun _ h => by cases h) dJ4_checkIndex_6
set_option maxHeartbeats 4000000 in
theorem met_J4_checkIndex (l : Launch) (g : gG) (M : nM) (x : Int32) (y : Int32) (hpre : pre_J4_checkIndex g M x y) : Met l yJ4_checkIndex (ws_ yJ4_checkIndex cJ4_checkIndex 2 (some .int)) ({ frames := 2, cells := 0, slots := 0, locals := 128 } : Room) (va_Pc [.int x, .int y] (Pg g (nh g M))) (vp_Si (fun r => post_J4_checkIndex g M x y r)) 0 0 (fun _ => False) :=
  wk_J4_checkIndex l g M x y _ (pr_J4_checkIndex g M x y hpre)

set_option maxHeartbeats 4000000 in
theorem wk_J3_get (l : Launch) (g : gG) (L : List Int32) (M : nM) (o : Nat) (x : Int32) (post : Option Nat → Prop) (hw : wp_J3_get g L post M o x) : Met l yJ3_get (ws_ yJ3_get cJ3_get 2 (some (.object "java/lang/Object"))) ({ frames := 3, cells := 0, slots := 0, locals := 192 } : Room) (va_Pc [.ref o, .int x] (Pg g (nh g M))) (va_Sq post) 0 0 (fun _ => False) := by
  refine Met.ofW (cc := cJ3_get) (maxL := 2) (ret := (some (.object "java/lang/Object"))) (by decide) rfl ?_
  intro p e s m args below meth c s₁ B hml hv
  obtain ⟨rfl, hG, hM⟩ := hv
  have C : Cx p s m _ meth c cJ3_get 2 RJ3 (some (.object "java/lang/Object")) g := Cx.of B hml hG
  have hx := C.1
  have hb := C.2.1
  have hown := C.2.2.2.1
  have hr := C.2.2.2.2.2.1
  have hlocks := C.2.2.2.2.2.2.1
  refine lv_start ([.ref o, .int x] : List Value) (L := [(0, .ref o), (1, .int x)]) (Nat.le_of_ble_eq_true rfl) rfl (fun ls hl => ?_)
  refine lv_iload_n hx hb dJ3_get_0 rfl (lv_at hl 1 rfl) ?_
  refine lv_aload_n hx hb dJ3_get_1 rfl (lv_at hl 0 rfl) ?_
  obtain ⟨v1, ⟨tv1, fsv1, hev1, hvv1⟩, hw⟩ := hw
  refine g_get C in_J3 hM hev1 rfl 2 (by decide) q278 (fun _ h => h) (v := .int v1) hvv1 dJ3_get_2 ?_
  obtain ⟨hpr2, hw⟩ := hw
  refine vp_callSi (va_runS (As := [.int x, .int v1]) (rest := []) C.fix (met_J4_checkIndex l g  M x v1 hpr2) (cw_J3_118 C.ts ⟨Nat.le_of_ble_eq_true rfl, Nat.le_of_ble_eq_true rfl⟩) (preS_of C (P := (nh g M)) va_S.rf hM _) rfl rfl hl.1 rfl (lv_room (Nat.le_of_ble_eq_true rfl)) dJ3_get_5 ⟨Nat.le_of_ble_eq_true rfl, Nat.le_of_ble_eq_true rfl⟩).run (fun r2 er2 => ?_)
  replace hw := hw r2 er2
  refine lv_pop hx hb dJ3_get_8 rfl ?_
  refine lv_aload_n hx hb dJ3_get_9 rfl (lv_at hl 0 rfl) ?_
  refine lv_iload_n hx hb dJ3_get_10 rfl (lv_at hl 1 rfl) ?_
  obtain ⟨g_3, hw⟩ := hw
  obtain ⟨hpr4, hw⟩ := hw
  obtain ⟨⟨wr4, ur4, hrr4⟩, hw⟩ := hw
  refine va_csq (va_runV (As := [.int x]) (rest := []) C.fix (met_J3_elementData l g g_3 M o x hpr4) (cw_J3_123 C.ts ⟨Nat.le_of_ble_eq_true rfl, Nat.le_of_ble_eq_true rfl⟩) (preV_of C (P := (nh g M)) (nh.recv C hM hrr4 (q := (RJ3, TJ3, 3)) rfl) va_S.rf hM _) rfl rfl hl.1 rfl (lv_room (Nat.le_of_ble_eq_true rfl)) dJ3_get_11 ⟨Nat.le_of_ble_eq_true rfl, Nat.le_of_ble_eq_true rfl⟩).run (fun r4 er4 => ?_)
  replace hw := hw r4 er4
  exact W.aret (v := va_rf r4) hx hb hr (Or.inl ⟨_, rfl⟩) (va_rf_or r4) (fun t ht _ => ⟨r4, rfl, hw, ht⟩) (fun _ h => by cases h) dJ3_get_14
set_option maxHeartbeats 4000000 in
theorem met_J3_get (l : Launch) (g : gG) (L : List Int32) (M : nM) (o : Nat) (x : Int32) (hpre : pre_J3_get g L M o x) : Met l yJ3_get (ws_ yJ3_get cJ3_get 2 (some (.object "java/lang/Object"))) ({ frames := 3, cells := 0, slots := 0, locals := 192 } : Room) (va_Pc [.ref o, .int x] (Pg g (nh g M))) (va_Sq (fun r => post_J3_get g L M o x r)) 0 0 (fun _ => False) :=
  wk_J3_get l g L M o x _ (pr_J3_get g L M o x hpre)

set_option maxHeartbeats 4000000 in
theorem wk_J3_rangeCheckForAdd (l : Launch) (g : gG) (L : List Int32) (M : nM) (o : Nat) (x : Int32) (post : Prop) (hw : wp_J3_rangeCheckForAdd g L post M o x) : Met l yJ3_rangeCheckForAdd (ws_ yJ3_rangeCheckForAdd cJ3_rangeCheckForAdd 2 none) ({ frames := 1, cells := 0, slots := 0, locals := 64 } : Room) (va_Pc [.ref o, .int x] (Pg g (nh g M))) (vp_SvP post) 0 0 (fun _ => False) := by
  refine Met.ofW (cc := cJ3_rangeCheckForAdd) (maxL := 2) (ret := none) (by decide) rfl ?_
  intro p e s m args below meth c s₁ B hml hv
  obtain ⟨rfl, hG, hM⟩ := hv
  have C : Cx p s m _ meth c cJ3_rangeCheckForAdd 2 RJ3 none g := Cx.of B hml hG
  have hx := C.1
  have hb := C.2.1
  have hown := C.2.2.2.1
  have hr := C.2.2.2.2.2.1
  have hlocks := C.2.2.2.2.2.2.1
  refine lv_start ([.ref o, .int x] : List Value) (L := [(0, .ref o), (1, .int x)]) (Nat.le_of_ble_eq_true rfl) rfl (fun ls hl => ?_)
  refine lv_iload_n hx hb dJ3_rangeCheckForAdd_0 rfl (lv_at hl 1 rfl) ?_
  refine lv_aload_n hx hb dJ3_rangeCheckForAdd_1 rfl (lv_at hl 0 rfl) ?_
  obtain ⟨v1, ⟨tv1, fsv1, hev1, hvv1⟩, hw⟩ := hw
  refine g_get C in_J3 hM hev1 rfl 2 (by decide) q278 (fun _ h => h) (v := .int v1) hvv1 dJ3_rangeCheckForAdd_2 ?_
  refine lv_icmp_gt (tgt := 12) hx hb dJ3_rangeCheckForAdd_5 (by decide) (fun c2 => ?_) (fun c2 => ?_)
  · have hw := hw.1 c2
    exact hw.elim
  · have hw := hw.2 c2
    refine lv_iload_n hx hb dJ3_rangeCheckForAdd_8 rfl (lv_at hl 1 rfl) ?_
    refine lv_if_ge (tgt := 25) hx hb dJ3_rangeCheckForAdd_9 (by decide) (fun c3 => ?_) (fun c3 => ?_)
    · have hw := hw.1 c3
      exact W.vret hx hb hr (fun t ht _ => ⟨rfl, ht, hw⟩) (fun _ h => by cases h) dJ3_rangeCheckForAdd_25
    · have hw := hw.2 c3
      exact hw.elim
set_option maxHeartbeats 4000000 in
theorem met_J3_rangeCheckForAdd (l : Launch) (g : gG) (L : List Int32) (M : nM) (o : Nat) (x : Int32) (hpre : pre_J3_rangeCheckForAdd g L M o x) : Met l yJ3_rangeCheckForAdd (ws_ yJ3_rangeCheckForAdd cJ3_rangeCheckForAdd 2 none) ({ frames := 1, cells := 0, slots := 0, locals := 64 } : Room) (va_Pc [.ref o, .int x] (Pg g (nh g M))) (vp_SvP (post_J3_rangeCheckForAdd g L M o x)) 0 0 (fun _ => False) :=
  wk_J3_rangeCheckForAdd l g L M o x _ (pr_J3_rangeCheckForAdd g L M o x hpre)

set_option maxHeartbeats 4000000 in
theorem wk_J16_newLength (l : Launch) (g : gG) (M : nM) (x : Int32) (y : Int32) (z : Int32) (post : Int32 → Prop) (hw : wp_J16_newLength g post M x y z) : Met l yJ16_newLength (ws_ yJ16_newLength cJ16_newLength 4 (some .int)) ({ frames := 2, cells := 0, slots := 0, locals := 128 } : Room) (va_Pc [.int x, .int y, .int z] (Pg g (nh g M))) (vp_Si post) 0 0 (fun _ => False) := by
  refine Met.ofW (cc := cJ16_newLength) (maxL := 4) (ret := (some .int)) (by decide) rfl ?_
  intro p e s m args below meth c s₁ B hml hv
  obtain ⟨rfl, hG, hM⟩ := hv
  have C : Cx p s m _ meth c cJ16_newLength 4 RJ16 (some .int) g := Cx.of B hml hG
  have hx := C.1
  have hb := C.2.1
  have hown := C.2.2.2.1
  have hr := C.2.2.2.2.2.1
  have hlocks := C.2.2.2.2.2.2.1
  refine lv_start ([.int x, .int y, .int z] : List Value) (L := [(0, .int x), (1, .int y), (2, .int z)]) (Nat.le_of_ble_eq_true rfl) rfl (fun ls hl => ?_)
  refine lv_iload_n hx hb dJ16_newLength_0 rfl (lv_at hl 0 rfl) ?_
  refine lv_iload_n hx hb dJ16_newLength_1 rfl (lv_at hl 1 rfl) ?_
  refine lv_iload_n hx hb dJ16_newLength_2 rfl (lv_at hl 2 rfl) ?_
  refine va_mmax hx hb (C.2.2.1.trans hl.1.symm) hown (C.ts _ q462) (C.ts _ q463) (C.ts _ q93) (C.ts _ q464) (Nat.le_of_ble_eq_true rfl) (Nat.le_of_ble_eq_true rfl) (Nat.zero_le _) (Nat.zero_le _) dJ16_newLength_3 ?_
  refine lv_iadd hx hb dJ16_newLength_6 ?_
  refine lv_topi (fun z1 ez1 => ?_)
  have hw := hw z1 ez1
  refine lv_istore_n (lv' := [(3, .int z1), (0, .int x), (1, .int y), (2, .int z)]) hx hb dJ16_newLength_7 rfl hl (by decide) rfl (fun ls hl => ?_)
  refine lv_iconst (v := 0) hx hb dJ16_newLength_8 (by decide) ?_
  refine lv_iload_n hx hb dJ16_newLength_9 rfl (lv_at hl 0 rfl) ?_
  refine lv_icmp_ge (tgt := 21) hx hb dJ16_newLength_10 (by decide) (fun c2 => ?_) (fun c2 => ?_)
  · have hw := hw.1 c2
    exact hw.elim
  · have hw := hw.2 c2
    refine lv_iload_n hx hb dJ16_newLength_13 rfl (lv_at hl 0 rfl) ?_
    refine lv_ldc (v := 2147483639) hx hb hown (C.ts _ q465) dJ16_newLength_14 ?_
    refine lv_icmp_gt (tgt := 21) hx hb dJ16_newLength_16 (by decide) (fun c3 => ?_) (fun c3 => ?_)
    · have hw := hw.1 c3
      exact hw.elim
    · have hw := hw.2 c3
      refine lv_iload_n hx hb dJ16_newLength_19 rfl (lv_at hl 0 rfl) ?_
      exact W.iret (v := z1) hx hb hr (fun t ht _ => ⟨z1, rfl, hw, ht⟩) (fun _ h => by cases h) dJ16_newLength_20
set_option maxHeartbeats 4000000 in
theorem met_J16_newLength (l : Launch) (g : gG) (M : nM) (x : Int32) (y : Int32) (z : Int32) (hpre : pre_J16_newLength g M x y z) : Met l yJ16_newLength (ws_ yJ16_newLength cJ16_newLength 4 (some .int)) ({ frames := 2, cells := 0, slots := 0, locals := 128 } : Room) (va_Pc [.int x, .int y, .int z] (Pg g (nh g M))) (vp_Si (fun r => post_J16_newLength g M x y z r)) 0 0 (fun _ => False) :=
  wk_J16_newLength l g M x y z _ (pr_J16_newLength g M x y z hpre)

set_option maxHeartbeats 4000000 in
theorem wk_J18_copyOf_3 (l : Launch) (g : gG) (NN : Nat) (pp : Nat → Option Nat) (tg : Nat × Nat) (M : nM) (u : Nat) (x : Int32) (z : Nat) (post : Option Nat → nM → Prop) (hw : wp_J18_copyOf_3 g NN pp tg post M u x z) : Met l yJ18_copyOf_3 (ws_ yJ18_copyOf_3 cJ18_copyOf_3 4 (some (.array (.object "java/lang/Object")))) ({ frames := 2, cells := 1, slots := 15, locals := 128 } : Room) (va_Pc [.ref u, .int x, .ref z] (Pg g (nh g M))) (va_Qq post (fun u t => nh g u t.heap) (Ag g)) 1 15 (Ag g) := by
  refine Met.ofW (cc := cJ18_copyOf_3) (maxL := 4) (ret := (some (.array (.object "java/lang/Object")))) (by decide) rfl ?_
  intro p e s m args below meth c s₁ B hml hv
  obtain ⟨rfl, hG, hM⟩ := hv
  have C : Cx p s m _ meth c cJ18_copyOf_3 4 RJ18 (some (.array (.object "java/lang/Object"))) g := Cx.of B hml hG
  have hx := C.1
  have hb := C.2.1
  have hown := C.2.2.2.1
  have hr := C.2.2.2.2.2.1
  have hlocks := C.2.2.2.2.2.2.1
  have hS : va_S (Ag g) s.heap s.heap [] := va_S.rf
  refine lv_start ([.ref u, .int x, .ref z] : List Value) (L := [(0, .ref u), (1, .int x), (2, .ref z)]) (Nat.le_of_ble_eq_true rfl) rfl (fun ls hl => ?_)
  refine lv_aload_n hx hb dJ18_copyOf_3_0 rfl (lv_at hl 2 rfl) ?_
  obtain ⟨q1, hzq1⟩ := miro_of C.G.1
  refine va_ldcM hx hb hown (C.ts _ q738) (hzq1.at C.G) dJ18_copyOf_3_1 ?_
  replace hw := hw q1 hzq1
  refine lv_acmp_ne (rx := (some z)) (ry := (some q1)) (tgt := 13) hx hb dJ18_copyOf_3_3 (by decide) (fun c2 => ?_) (fun c2 => ?_)
  · replace hw := hw.1 c2
    exact hw.elim
  · replace hw := hw.2 c2
    refine lv_iload_n hx hb dJ18_copyOf_3_6 rfl (lv_at hl 1 rfl) ?_
    obtain ⟨hnq3, hw⟩ := hw
    refine g_newq C 4 q739 q212 rfl hM hS (N' := 15) (by rw [hnq3]; decide) (by rw [hnq3]; rfl) (by decide) (Nat.le_of_ble_eq_true rfl) (Nat.le_of_ble_eq_true rfl) dJ18_copyOf_3_7 (fun _ => tg) (fun q3 H hqq3 hM hS => ?_)
    obtain ⟨M4, eM4⟩ : ∃ N, N = nup M q3 ((fun _ => tg) q3, .inl (g.2.2.2 4, 15, .inr (.inr (.inr (.inr (fun _ => none)))))) := ⟨_, rfl⟩
    rw [← eM4] at hM
    replace hw := hw q3 M4 hqq3 eM4
    refine lv_goto (tgt := 24) hx hb dJ18_copyOf_3_10 (by decide) ?_
    refine lv_astore_n (lv' := [(3, .ref q3), (0, .ref u), (1, .int x), (2, .ref z)]) hx hb dJ18_copyOf_3_24 rfl hl (by decide) rfl (fun ls hl => ?_)
    refine lv_aload_n hx hb dJ18_copyOf_3_25 rfl (lv_at hl 1 rfl) ?_
    refine lv_iconst (v := 0) hx hb dJ18_copyOf_3_26 (by decide) ?_
    refine lv_aload_n hx hb dJ18_copyOf_3_27 rfl (lv_at hl 0 rfl) ?_
    refine lv_iconst (v := 0) hx hb dJ18_copyOf_3_28 (by decide) ?_
    refine lv_aload_n hx hb dJ18_copyOf_3_29 rfl (lv_at hl 1 rfl) ?_
    obtain ⟨nf5, f5, ⟨tf5, hef5⟩, hw⟩ := hw
    refine g_alen C hM 4 hef5 rfl dJ18_copyOf_3_30 ?_
    refine lv_iload_n hx hb dJ18_copyOf_3_31 rfl (lv_at hl 2 rfl) ?_
    refine va_mmin hx hb (C.2.2.1.trans hl.1.symm) hown (C.ts _ q480) (C.ts _ q481) (C.ts _ q93) (C.ts _ q482) (Nat.le_of_ble_eq_true rfl) (Nat.le_of_ble_eq_true rfl) (Nat.le_of_ble_eq_true rfl) (Nat.le_of_ble_eq_true rfl) dJ18_copyOf_3_32 ?_
    obtain ⟨nf6a, f6a, nf6b, f6b, ⟨tf6a, hef6a⟩, ⟨tf6b, hef6b⟩, h1f6, h2f6, h3f6, h4f6, h5f6, hw⟩ := hw
    obtain ⟨helf6, hw⟩ := hw
    refine g_copyQ C hl.1.symm q483 q485 q484 q95 hM hS 4 4 hef6a hef6b rfl rfl h1f6 h2f6 h3f6 h4f6 h5f6 (fun k hk y hy => by obtain ⟨v, hv⟩ := helf6 _ y (Nat.lt_of_lt_of_le (Nat.add_lt_add_left hk _) h4f6) hy; exact IntAt.any C hS hv q2912) (Nat.le_of_ble_eq_true rfl) (Nat.le_of_ble_eq_true rfl) dJ18_copyOf_3_35 (fun H locs hM hS => ?_)
    obtain ⟨M7, eM7⟩ : ∃ N, N = nup M4 q3 (tf6b, .inl (g.2.2.2 4, nf6b, .inr (.inr (.inr (.inr (va_cpy f6a f6b (0 : Int32).toNatClampNeg (0 : Int32).toNatClampNeg (if x < (Int32.ofNat nf5) then x else (Int32.ofNat nf5)).toNatClampNeg)))))) := ⟨_, rfl⟩
    rw [← eM7] at hM
    replace hw := hw M7 ⟨tf6b, f6b, hef6b, eM7⟩
    refine lv_aload_n hx hb dJ18_copyOf_3_38 rfl (lv_at hl 0 rfl) ?_
    exact W.aret (v := va_rf (some q3)) hx hb hr (Or.inr ⟨_, rfl⟩) (va_rf_or (some q3)) (fun t ht _ => ⟨⟨(some q3), M7, rfl, hw, hM.tt ht⟩, hS.F ht⟩) hS.2.2 dJ18_copyOf_3_39
set_option maxHeartbeats 4000000 in
theorem met_J18_copyOf_3 (l : Launch) (g : gG) (NN : Nat) (pp : Nat → Option Nat) (tg : Nat × Nat) (M : nM) (u : Nat) (x : Int32) (z : Nat) (hpre : pre_J18_copyOf_3 g NN pp tg M u x z) : Met l yJ18_copyOf_3 (ws_ yJ18_copyOf_3 cJ18_copyOf_3 4 (some (.array (.object "java/lang/Object")))) ({ frames := 2, cells := 1, slots := 15, locals := 128 } : Room) (va_Pc [.ref u, .int x, .ref z] (Pg g (nh g M))) (va_Qq (fun r M' => post_J18_copyOf_3 g NN pp tg M u x z r M') (fun u t => nh g u t.heap) (Ag g)) 1 15 (Ag g) :=
  wk_J18_copyOf_3 l g NN pp tg M u x z _ (pr_J18_copyOf_3 g NN pp tg M u x z hpre)

set_option maxHeartbeats 4000000 in
theorem wk_J18_copyOf_2 (l : Launch) (g : gG) (NN : Nat) (pp : Nat → Option Nat) (tg : Nat × Nat) (M : nM) (u : Nat) (x : Int32) (post : Option Nat → nM → Prop) (hw : wp_J18_copyOf_2 g NN pp tg post M u x) : Met l yJ18_copyOf_2 (ws_ yJ18_copyOf_2 cJ18_copyOf_2 2 (some (.array (.object "java/lang/Object")))) ({ frames := 3, cells := 1, slots := 15, locals := 192 } : Room) (va_Pc [.ref u, .int x] (Pg g (nh g M))) (va_Qq post (fun u t => nh g u t.heap) (Ag g)) 1 15 (Ag g) := by
  refine Met.ofW (cc := cJ18_copyOf_2) (maxL := 2) (ret := (some (.array (.object "java/lang/Object")))) (by decide) rfl ?_
  intro p e s m args below meth c s₁ B hml hv
  obtain ⟨rfl, hG, hM⟩ := hv
  have C : Cx p s m _ meth c cJ18_copyOf_2 2 RJ18 (some (.array (.object "java/lang/Object"))) g := Cx.of B hml hG
  have hx := C.1
  have hb := C.2.1
  have hown := C.2.2.2.1
  have hr := C.2.2.2.2.2.1
  have hlocks := C.2.2.2.2.2.2.1
  have hS : va_S (Ag g) s.heap s.heap [] := va_S.rf
  refine lv_start ([.ref u, .int x] : List Value) (L := [(0, .ref u), (1, .int x)]) (Nat.le_of_ble_eq_true rfl) rfl (fun ls hl => ?_)
  refine lv_aload_n hx hb dJ18_copyOf_2_0 rfl (lv_at hl 0 rfl) ?_
  refine lv_iload_n hx hb dJ18_copyOf_2_1 rfl (lv_at hl 1 rfl) ?_
  refine lv_aload_n hx hb dJ18_copyOf_2_2 rfl (lv_at hl 0 rfl) ?_
  obtain ⟨nq1, fq1, ⟨tq1, heq1⟩, hw⟩ := hw
  obtain ⟨q1, hzq1⟩ := miro_of C.G.1
  refine va_getC hx hb (C.2.2.1.trans hl.1.symm) (C := "[Ljava/lang/Object;") hown (C.ts _ q706) (va_Dc.use (va_Dc.moved C.G.2.1.alike (va_Dc.of (C.G.1.2.1 _ q2933)))) (C.ts _ q2932) (C.ts _ q707) (C.ts _ q734) (hzq1.at C.G) (nh.arrCls C hM heq1) (Nat.le_of_ble_eq_true rfl) (Nat.le_of_ble_eq_true rfl) dJ18_copyOf_2_3 ?_
  replace hw := hw q1 hzq1
  obtain ⟨g_2, g_3, g_4, hw⟩ := hw
  obtain ⟨hpr5, hw⟩ := hw
  refine va_callq (va_runS (As := [.ref u, .int x, .ref q1]) (rest := []) C.fix (met_J18_copyOf_3 l g g_2 g_3 g_4 M u x q1 hpr5) (cw_J18_300 C.ts ⟨Nat.le_of_ble_eq_true rfl, Nat.le_of_ble_eq_true rfl⟩) (preS_of C (P := (nh g M)) hS hM _) rfl rfl hl.1 rfl (lv_room (Nat.le_of_ble_eq_true rfl)) dJ18_copyOf_2_6 ⟨(Nat.le_of_ble_eq_true rfl), (Nat.le_of_ble_eq_true rfl)⟩) hS (fun _ _ h => h) (fun _ h => h) (fun r5 M6 t H locs ht _ hw1 hB _ _ hS => ?_)
  have hM : nh g M6 H := by rw [← ht]; exact hB
  replace hw := hw r5 M6 hw1
  exact W.aret (v := va_rf r5) hx hb hr (Or.inr ⟨_, rfl⟩) (va_rf_or r5) (fun t ht _ => ⟨⟨r5, M6, rfl, hw, hM.tt ht⟩, hS.F ht⟩) hS.2.2 dJ18_copyOf_2_9
set_option maxHeartbeats 4000000 in
theorem met_J18_copyOf_2 (l : Launch) (g : gG) (NN : Nat) (pp : Nat → Option Nat) (tg : Nat × Nat) (M : nM) (u : Nat) (x : Int32) (hpre : pre_J18_copyOf_2 g NN pp tg M u x) : Met l yJ18_copyOf_2 (ws_ yJ18_copyOf_2 cJ18_copyOf_2 2 (some (.array (.object "java/lang/Object")))) ({ frames := 3, cells := 1, slots := 15, locals := 192 } : Room) (va_Pc [.ref u, .int x] (Pg g (nh g M))) (va_Qq (fun r M' => post_J18_copyOf_2 g NN pp tg M u x r M') (fun u t => nh g u t.heap) (Ag g)) 1 15 (Ag g) :=
  wk_J18_copyOf_2 l g NN pp tg M u x _ (pr_J18_copyOf_2 g NN pp tg M u x hpre)

set_option maxHeartbeats 4000000 in
theorem wkb_J3_grow_2_20 (C : Cx p s m args meth c cJ3_grow_2 4 RJ3 (some (.array (.object "java/lang/Object"))) g) (post : Option Nat → nM → Prop) (L : List Int32) (o : Nat) (x : Int32)  (M : nM) (kc : Nat) (ks : Nat) (x2 : Int32) (hw : wpb_J3_grow_2_20 post  g L o x M kc ks x2) {H : Heap} {locs : List Loc} (hM : nh g M H) (hS : va_S (Ag g) s.heap H locs) {ls : Array Slot} (hl : lv_has ls 4 [(0, .ref o), (1, .int x), (2, .int x2)]) : W p l e ({ frames := 4, cells := 1, slots := 15, locals := 256 } : Room) s m args below meth c H locs kc ks (MQ below (va_Qq post (fun u t => nh g u t.heap) (Ag g)) args s 1 15 (Ag g)) (F0 m 20 ls []) := by
  have hx := C.1
  have hb := C.2.1
  have hown := C.2.2.2.1
  have hr := C.2.2.2.2.2.1
  have hlocks := C.2.2.2.2.2.2.1
  obtain ⟨hkc, hks, hw⟩ := hw
  refine lv_iload_n hx hb dJ3_grow_2_20 rfl (lv_at hl 2 rfl) ?_
  refine lv_iload_n hx hb dJ3_grow_2_21 rfl (lv_at hl 1 rfl) ?_
  refine lv_iload_n hx hb dJ3_grow_2_22 rfl (lv_at hl 2 rfl) ?_
  refine lv_isub hx hb dJ3_grow_2_23 ?_
  refine lv_iload_n hx hb dJ3_grow_2_24 rfl (lv_at hl 2 rfl) ?_
  refine lv_iconst (v := 1) hx hb dJ3_grow_2_25 (by decide) ?_
  refine lv_ishr hx hb dJ3_grow_2_26 ?_
  obtain ⟨hpr12, hw⟩ := hw
  refine vp_callSi (va_runS (As := [.int x2, .int (x - x2), .int (x2 >>> (1 &&& 31))]) (rest := []) C.fix (met_J16_newLength l g  M x2 (x - x2) (x2 >>> (1 &&& 31)) hpr12) (cw_J3_73 C.ts ⟨Nat.le_of_ble_eq_true rfl, Nat.le_of_ble_eq_true rfl⟩) (preS_of C (P := (nh g M)) hS hM _) rfl rfl hl.1 rfl (lv_room (Nat.le_of_ble_eq_true rfl)) dJ3_grow_2_27 ⟨hkc, hks⟩).run (fun r12 er12 => ?_)
  replace hw := hw r12 er12
  refine lv_istore_n (lv' := [(3, .int r12), (0, .ref o), (1, .int x), (2, .int x2)]) hx hb dJ3_grow_2_30 rfl hl (by decide) rfl (fun ls hl => ?_)
  refine lv_aload_n hx hb dJ3_grow_2_31 rfl (lv_at hl 1 rfl) ?_
  refine lv_aload_n hx hb dJ3_grow_2_32 rfl (lv_at hl 1 rfl) ?_
  obtain ⟨v13, ⟨tv13, fsv13, hev13, hvv13⟩, hw⟩ := hw
  refine g_get C in_J3 hM hev13 rfl 1 (by decide) q275 (fun _ h => h) (v := .ref v13) hvv13 dJ3_grow_2_33 ?_
  refine lv_iload_n hx hb dJ3_grow_2_36 rfl (lv_at hl 0 rfl) ?_
  obtain ⟨g_14, g_15, g_16, hw⟩ := hw
  obtain ⟨hpr17, hw⟩ := hw
  obtain ⟨hc18a, hc18b, hw⟩ := hw
  refine va_callq (va_runS (As := [.ref v13, .int r12]) (rest := [.ref o]) C.fix (met_J18_copyOf_2 l g g_14 g_15 g_16 M v13 r12 hpr17) (cw_J3_66 C.ts ⟨Nat.le_of_ble_eq_true rfl, Nat.le_of_ble_eq_true rfl⟩) (preS_of C (P := (nh g M)) hS hM _) rfl rfl hl.1 rfl (lv_room (Nat.le_of_ble_eq_true rfl)) dJ3_grow_2_37 ⟨hc18a, hc18b⟩) hS (fun _ _ h => h) (fun _ h => h) (fun r17 M19 t H locs ht _ hw1 hB _ _ hS => ?_)
  have hM : nh g M19 H := by rw [← ht]; exact hB
  replace hw := hw r17 M19 hw1
  refine lv_dup_x1 hx hb dJ3_grow_2_40 (va_cat _) rfl ?_
  obtain ⟨⟨tp20, fsp20, hep20, hkp20⟩, hw⟩ := hw
  refine g_put C in_J3 tyJ3 tyJ3_ok nmJ3 hM hS hep20 rfl 1 (by decide) q275 (fun _ h => h) rfl (v := va_rf r17) (nar_ra _) (fit_ra _) hkp20 dJ3_grow_2_41 (fun H locs hM hS => ?_)
  obtain ⟨M21, eM21⟩ : ∃ N, N = nup M19 o (tp20, .inr (10, fsp20.set 1 (va_rf r17))) := ⟨_, rfl⟩
  rw [← eM21] at hM
  replace hw := hw M21 ⟨tp20, fsp20, hep20, eM21⟩
  refine W.widen (k := 1) (n := 15) hc18a hc18b ?_
  exact W.aret (v := va_rf r17) hx hb hr (Or.inr ⟨_, rfl⟩) (va_rf_or r17) (fun t ht _ => ⟨⟨r17, M21, rfl, hw, hM.tt ht⟩, hS.F ht⟩) hS.2.2 dJ3_grow_2_44
set_option maxHeartbeats 4000000 in
theorem wk_J3_grow_2 (l : Launch) (g : gG) (L : List Int32) (M : nM) (o : Nat) (x : Int32) (post : Option Nat → nM → Prop) (hw : wp_J3_grow_2 g L post M o x) : Met l yJ3_grow_2 (ws_ yJ3_grow_2 cJ3_grow_2 4 (some (.array (.object "java/lang/Object")))) ({ frames := 4, cells := 1, slots := 15, locals := 256 } : Room) (va_Pc [.ref o, .int x] (Pg g (nh g M))) (va_Qq post (fun u t => nh g u t.heap) (Ag g)) 1 15 (Ag g) := by
  refine Met.ofW (cc := cJ3_grow_2) (maxL := 4) (ret := (some (.array (.object "java/lang/Object")))) (by decide) rfl ?_
  intro p e s m args below meth c s₁ B hml hv
  obtain ⟨rfl, hG, hM⟩ := hv
  have C : Cx p s m _ meth c cJ3_grow_2 4 RJ3 (some (.array (.object "java/lang/Object"))) g := Cx.of B hml hG
  have hx := C.1
  have hb := C.2.1
  have hown := C.2.2.2.1
  have hr := C.2.2.2.2.2.1
  have hlocks := C.2.2.2.2.2.2.1
  have hS : va_S (Ag g) s.heap s.heap [] := va_S.rf
  refine lv_start ([.ref o, .int x] : List Value) (L := [(0, .ref o), (1, .int x)]) (Nat.le_of_ble_eq_true rfl) rfl (fun ls hl => ?_)
  refine lv_aload_n hx hb dJ3_grow_2_0 rfl (lv_at hl 0 rfl) ?_
  obtain ⟨v1, ⟨tv1, fsv1, hev1, hvv1⟩, hw⟩ := hw
  refine g_get C in_J3 hM hev1 rfl 1 (by decide) q275 (fun _ h => h) (v := .ref v1) hvv1 dJ3_grow_2_1 ?_
  obtain ⟨nf2, half2, hw⟩ := hw
  refine g_alenE C hM hS half2 dJ3_grow_2_4 ?_
  refine lv_topi (fun z3 ez3 => ?_)
  have hw := hw z3 ez3
  refine lv_istore_n (lv' := [(2, .int z3), (0, .ref o), (1, .int x)]) hx hb dJ3_grow_2_5 rfl hl (by decide) rfl (fun ls hl => ?_)
  refine lv_iload_n hx hb dJ3_grow_2_6 rfl (lv_at hl 0 rfl) ?_
  refine lv_if_gt (tgt := 20) hx hb dJ3_grow_2_7 (by decide) (fun c4 => ?_) (fun c4 => ?_)
  · have hw := hw.1 c4
    exact wkb_J3_grow_2_20 C post  L o x  M 0 0 z3 hw hM hS (lv_sub hl [1, 2, 0] rfl)
  · have hw := hw.2 c4
    refine lv_aload_n hx hb dJ3_grow_2_10 rfl (lv_at hl 1 rfl) ?_
    obtain ⟨v5, ⟨tv5, fsv5, hev5, hvv5⟩, hw⟩ := hw
    refine g_get C in_J3 hM hev5 rfl 1 (by decide) q275 (fun _ h => h) (v := .ref v5) hvv5 dJ3_grow_2_11 ?_
    obtain ⟨q6, hzq6⟩ := emp_of C.G.1
    refine va_gets hx hb (hzq6.1.at C.G) (hS) hown (C.ts _ q273) (fun _ h => h) dJ3_grow_2_14 ?_
    replace hw := hw q6 hzq6
    refine lv_acmp_eq (rx := (some v5)) (ry := (some q6)) (tgt := 45) hx hb dJ3_grow_2_17 (by decide) (fun c7 => ?_) (fun c7 => ?_)
    · replace hw := hw.1 c7
      refine lv_aload_n hx hb dJ3_grow_2_45 rfl (lv_at hl 1 rfl) ?_
      refine lv_bipush (v := 10) hx hb dJ3_grow_2_46 (by decide) ?_
      refine lv_iload_n hx hb dJ3_grow_2_48 rfl (lv_at hl 2 rfl) ?_
      refine va_mmax hx hb (C.2.2.1.trans hl.1.symm) hown (C.ts _ q740) (C.ts _ q463) (C.ts _ q93) (C.ts _ q464) (Nat.le_of_ble_eq_true rfl) (Nat.le_of_ble_eq_true rfl) (Nat.le_of_ble_eq_true rfl) (Nat.le_of_ble_eq_true rfl) dJ3_grow_2_49 ?_
      obtain ⟨hnq8, hw⟩ := hw
      refine g_newq C 4 q741 q212 rfl hM hS (N' := 10) (by rw [hnq8]; decide) (by rw [hnq8]; rfl) (by decide) (Nat.le_of_ble_eq_true rfl) (Nat.le_of_ble_eq_true rfl) dJ3_grow_2_52 (fun _ => (o, 1)) (fun q8 H hqq8 hM hS => ?_)
      obtain ⟨M9, eM9⟩ : ∃ N, N = nup M q8 ((fun _ => (o, 1)) q8, .inl (g.2.2.2 4, 10, .inr (.inr (.inr (.inr (fun _ => none)))))) := ⟨_, rfl⟩
      rw [← eM9] at hM
      replace hw := hw q8 M9 hqq8 eM9
      refine lv_dup_x1 hx hb dJ3_grow_2_55 rfl rfl ?_
      obtain ⟨⟨tp10, fsp10, hep10, hkp10⟩, hw⟩ := hw
      refine g_put C in_J3 tyJ3 tyJ3_ok nmJ3 hM hS hep10 rfl 1 (by decide) q275 (fun _ h => h) rfl (v := .ref q8) rfl rfl hkp10 dJ3_grow_2_56 (fun H locs hM hS => ?_)
      obtain ⟨M11, eM11⟩ : ∃ N, N = nup M9 o (tp10, .inr (10, fsp10.set 1 (.ref q8))) := ⟨_, rfl⟩
      rw [← eM11] at hM
      replace hw := hw M11 ⟨tp10, fsp10, hep10, eM11⟩
      refine W.widen (k := 1) (n := 15) (Nat.le_of_ble_eq_true rfl) (Nat.le_of_ble_eq_true rfl) ?_
      exact W.aret (v := va_rf (some q8)) hx hb hr (Or.inr ⟨_, rfl⟩) (va_rf_or (some q8)) (fun t ht _ => ⟨⟨(some q8), M11, rfl, hw, hM.tt ht⟩, hS.F ht⟩) hS.2.2 dJ3_grow_2_59
    · replace hw := hw.2 c7
      exact wkb_J3_grow_2_20 C post  L o x  M 0 0 z3 hw hM hS (lv_sub hl [1, 2, 0] rfl)
set_option maxHeartbeats 4000000 in
theorem met_J3_grow_2 (l : Launch) (g : gG) (L : List Int32) (M : nM) (o : Nat) (x : Int32) (hpre : pre_J3_grow_2 g L M o x) : Met l yJ3_grow_2 (ws_ yJ3_grow_2 cJ3_grow_2 4 (some (.array (.object "java/lang/Object")))) ({ frames := 4, cells := 1, slots := 15, locals := 256 } : Room) (va_Pc [.ref o, .int x] (Pg g (nh g M))) (va_Qq (fun r M' => post_J3_grow_2 g L M o x r M') (fun u t => nh g u t.heap) (Ag g)) 1 15 (Ag g) :=
  wk_J3_grow_2 l g L M o x _ (pr_J3_grow_2 g L M o x hpre)

set_option maxHeartbeats 4000000 in
theorem wk_J3_grow (l : Launch) (g : gG) (L : List Int32) (M : nM) (o : Nat) (post : Option Nat → nM → Prop) (hw : wp_J3_grow g L post M o) : Met l yJ3_grow (ws_ yJ3_grow cJ3_grow 1 (some (.array (.object "java/lang/Object")))) ({ frames := 5, cells := 1, slots := 15, locals := 320 } : Room) (va_Pc [.ref o] (Pg g (nh g M))) (va_Qq post (fun u t => nh g u t.heap) (Ag g)) 1 15 (Ag g) := by
  refine Met.ofW (cc := cJ3_grow) (maxL := 1) (ret := (some (.array (.object "java/lang/Object")))) (by decide) rfl ?_
  intro p e s m args below meth c s₁ B hml hv
  obtain ⟨rfl, hG, hM⟩ := hv
  have C : Cx p s m _ meth c cJ3_grow 1 RJ3 (some (.array (.object "java/lang/Object"))) g := Cx.of B hml hG
  have hx := C.1
  have hb := C.2.1
  have hown := C.2.2.2.1
  have hr := C.2.2.2.2.2.1
  have hlocks := C.2.2.2.2.2.2.1
  have hS : va_S (Ag g) s.heap s.heap [] := va_S.rf
  refine lv_start ([.ref o] : List Value) (L := [(0, .ref o)]) (Nat.le_of_ble_eq_true rfl) rfl (fun ls hl => ?_)
  refine lv_aload_n hx hb dJ3_grow_0 rfl (lv_at hl 0 rfl) ?_
  refine lv_aload_n hx hb dJ3_grow_1 rfl (lv_at hl 0 rfl) ?_
  obtain ⟨v1, ⟨tv1, fsv1, hev1, hvv1⟩, hw⟩ := hw
  refine g_get C in_J3 hM hev1 rfl 2 (by decide) q278 (fun _ h => h) (v := .int v1) hvv1 dJ3_grow_2 ?_
  refine lv_iconst (v := 1) hx hb dJ3_grow_5 (by decide) ?_
  refine lv_iadd hx hb dJ3_grow_6 ?_
  obtain ⟨g_2, hw⟩ := hw
  obtain ⟨hpr3, hw⟩ := hw
  obtain ⟨⟨wr3, ur3, hrr3⟩, hw⟩ := hw
  refine va_callq (va_runV (As := [.int (v1 + 1)]) (rest := []) C.fix (met_J3_grow_2 l g g_2 M o (v1 + 1) hpr3) (cw_J3_69 C.ts ⟨Nat.le_of_ble_eq_true rfl, Nat.le_of_ble_eq_true rfl⟩) (preV_of C (P := (nh g M)) (nh.recv C hM hrr3 (q := (RJ3, TJ3, 3)) rfl) hS hM _) rfl rfl hl.1 rfl (lv_room (Nat.le_of_ble_eq_true rfl)) dJ3_grow_7 ⟨(Nat.le_of_ble_eq_true rfl), (Nat.le_of_ble_eq_true rfl)⟩) hS (fun _ _ h => h) (fun _ h => h) (fun r3 M4 t H locs ht _ hw1 hB _ _ hS => ?_)
  have hM : nh g M4 H := by rw [← ht]; exact hB
  replace hw := hw r3 M4 hw1
  exact W.aret (v := va_rf r3) hx hb hr (Or.inr ⟨_, rfl⟩) (va_rf_or r3) (fun t ht _ => ⟨⟨r3, M4, rfl, hw, hM.tt ht⟩, hS.F ht⟩) hS.2.2 dJ3_grow_10
set_option maxHeartbeats 4000000 in
theorem met_J3_grow (l : Launch) (g : gG) (L : List Int32) (M : nM) (o : Nat) (hpre : pre_J3_grow g L M o) : Met l yJ3_grow (ws_ yJ3_grow cJ3_grow 1 (some (.array (.object "java/lang/Object")))) ({ frames := 5, cells := 1, slots := 15, locals := 320 } : Room) (va_Pc [.ref o] (Pg g (nh g M))) (va_Qq (fun r M' => post_J3_grow g L M o r M') (fun u t => nh g u t.heap) (Ag g)) 1 15 (Ag g) :=
  wk_J3_grow l g L M o _ (pr_J3_grow g L M o hpre)

set_option maxHeartbeats 4000000 in
theorem wkb_J3_add_3_11 (C : Cx p s m args meth c cJ3_add_3 4 RJ3 none g) (post : nM → Prop) (L : List Int32) (v : Int32) (o : Nat) (b : Nat) (x : Int32)  (M : nM) (kc : Nat) (ks : Nat) (x2 : Nat) (hw : wpb_J3_add_3_11 post  g L v o b x M kc ks x2) {H : Heap} {locs : List Loc} (hM : nh g M H) (hS : va_S (Ag g) s.heap H locs) {ls : Array Slot} (hl : lv_has ls 4 [(0, .ref o), (1, .ref b), (2, .ref x2), (3, .int x)]) : W p l e ({ frames := 6, cells := 1, slots := 15, locals := 384 } : Room) s m args below meth c H locs kc ks (MQ below (va_Qv post (fun u t => nh g u t.heap) (Ag g)) args s 1 15 (Ag g)) (F0 m 11 ls []) := by
  have hx := C.1
  have hb := C.2.1
  have hown := C.2.2.2.1
  have hr := C.2.2.2.2.2.1
  have hlocks := C.2.2.2.2.2.2.1
  obtain ⟨hkc, hks, hw⟩ := hw
  refine lv_aload_n hx hb dJ3_add_3_11 rfl (lv_at hl 2 rfl) ?_
  refine lv_iload_n hx hb dJ3_add_3_12 rfl (lv_at hl 3 rfl) ?_
  refine lv_aload_n hx hb dJ3_add_3_13 rfl (lv_at hl 1 rfl) ?_
  obtain ⟨⟨wf7, haf7⟩, hw⟩ := hw
  obtain ⟨nf7, f7, ⟨tf7, hef7⟩, hif7, hw⟩ := hw
  refine g_aastM C hM hS 4 hef7 rfl (IntAt.any C hS haf7 q2912) hif7 dJ3_add_3_14 (fun H locs hM hS => ?_)
  obtain ⟨M8, eM8⟩ : ∃ N, N = nup M x2 (tf7, .inl (g.2.2.2 4, nf7, .inr (.inr (.inr (.inr (va_up f7 x.toNatClampNeg (some b))))))) := ⟨_, rfl⟩
  rw [← eM8] at hM
  replace hw := hw M8 ⟨tf7, f7, hef7, eM8⟩
  refine lv_aload_n hx hb dJ3_add_3_15 rfl (lv_at hl 0 rfl) ?_
  refine lv_iload_n hx hb dJ3_add_3_16 rfl (lv_at hl 3 rfl) ?_
  refine lv_iconst (v := 1) hx hb dJ3_add_3_17 (by decide) ?_
  refine lv_iadd hx hb dJ3_add_3_18 ?_
  obtain ⟨⟨tp9, fsp9, hep9, hkp9⟩, hw⟩ := hw
  refine g_put C in_J3 tyJ3 tyJ3_ok nmJ3 hM hS hep9 rfl 2 (by decide) q278 (fun _ h => h) rfl (v := .int (x + 1)) rfl rfl hkp9 dJ3_add_3_19 (fun H locs hM hS => ?_)
  obtain ⟨M10, eM10⟩ : ∃ N, N = nup M8 o (tp9, .inr (10, fsp9.set 2 (.int (x + 1)))) := ⟨_, rfl⟩
  rw [← eM10] at hM
  replace hw := hw M10 ⟨tp9, fsp9, hep9, eM10⟩
  refine W.widen (k := 1) (n := 15) hkc hks ?_
  exact W.vret hx hb hr (fun t ht _ => ⟨⟨M10, rfl, hw, hM.tt ht⟩, hS.F ht⟩) hS.2.2 dJ3_add_3_22
set_option maxHeartbeats 4000000 in
theorem wk_J3_add_3 (l : Launch) (g : gG) (L : List Int32) (v : Int32) (M : nM) (o : Nat) (b : Nat) (u : Nat) (x : Int32) (post : nM → Prop) (hw : wp_J3_add_3 g L v post M o b u x) : Met l yJ3_add_3 (ws_ yJ3_add_3 cJ3_add_3 4 none) ({ frames := 6, cells := 1, slots := 15, locals := 384 } : Room) (va_Pc [.ref o, .ref b, .ref u, .int x] (Pg g (nh g M))) (va_Qv post (fun u t => nh g u t.heap) (Ag g)) 1 15 (Ag g) := by
  refine Met.ofW (cc := cJ3_add_3) (maxL := 4) (ret := none) (by decide) rfl ?_
  intro p e s m args below meth c s₁ B hml hv
  obtain ⟨rfl, hG, hM⟩ := hv
  have C : Cx p s m _ meth c cJ3_add_3 4 RJ3 none g := Cx.of B hml hG
  have hx := C.1
  have hb := C.2.1
  have hown := C.2.2.2.1
  have hr := C.2.2.2.2.2.1
  have hlocks := C.2.2.2.2.2.2.1
  have hS : va_S (Ag g) s.heap s.heap [] := va_S.rf
  refine lv_start ([.ref o, .ref b, .ref u, .int x] : List Value) (L := [(0, .ref o), (1, .ref b), (2, .ref u), (3, .int x)]) (Nat.le_of_ble_eq_true rfl) rfl (fun ls hl => ?_)
  refine lv_iload_n hx hb dJ3_add_3_0 rfl (lv_at hl 3 rfl) ?_
  refine lv_aload_n hx hb dJ3_add_3_1 rfl (lv_at hl 2 rfl) ?_
  obtain ⟨nf1, half1, hw⟩ := hw
  refine g_alenE C hM hS half1 dJ3_add_3_2 ?_
  refine lv_icmp_ne (tgt := 11) hx hb dJ3_add_3_3 (by decide) (fun c2 => ?_) (fun c2 => ?_)
  · have hw := hw.1 c2
    exact wkb_J3_add_3_11 C post  L v o b x  M 0 0 u hw hM hS (lv_sub hl [0, 1, 2, 3] rfl)
  · have hw := hw.2 c2
    refine lv_aload_n hx hb dJ3_add_3_6 rfl (lv_at hl 0 rfl) ?_
    obtain ⟨g_3, hw⟩ := hw
    obtain ⟨hpr4, hw⟩ := hw
    obtain ⟨⟨wr4, ur4, hrr4⟩, hw⟩ := hw
    refine va_callq (va_runV (As := []) (rest := []) C.fix (met_J3_grow l g g_3 M o hpr4) (cw_J3_129 C.ts ⟨Nat.le_of_ble_eq_true rfl, Nat.le_of_ble_eq_true rfl⟩) (preV_of C (P := (nh g M)) (nh.recv C hM hrr4 (q := (RJ3, TJ3, 3)) rfl) hS hM _) rfl rfl hl.1 rfl (lv_room (Nat.le_of_ble_eq_true rfl)) dJ3_add_3_7 ⟨(Nat.le_of_ble_eq_true rfl), (Nat.le_of_ble_eq_true rfl)⟩) hS (fun _ _ h => h) (fun _ h => h) (fun r4 M5 t H locs ht _ hw1 hB _ _ hS => ?_)
    have hM : nh g M5 H := by rw [← ht]; exact hB
    replace hw := hw r4 M5 hw1
    obtain ⟨b6, eb6, hw⟩ := hw
    subst eb6
    refine lv_astore_n (lv' := [(2, .ref b6), (0, .ref o), (1, .ref b), (3, .int x)]) hx hb dJ3_add_3_10 rfl hl (by decide) rfl (fun ls hl => ?_)
    exact wkb_J3_add_3_11 C post  L v o b x  M5 1 15 b6 hw hM hS (lv_sub hl [1, 2, 0, 3] rfl)
set_option maxHeartbeats 4000000 in
theorem met_J3_add_3 (l : Launch) (g : gG) (L : List Int32) (v : Int32) (M : nM) (o : Nat) (b : Nat) (u : Nat) (x : Int32) (hpre : pre_J3_add_3 g L v M o b u x) : Met l yJ3_add_3 (ws_ yJ3_add_3 cJ3_add_3 4 none) ({ frames := 6, cells := 1, slots := 15, locals := 384 } : Room) (va_Pc [.ref o, .ref b, .ref u, .int x] (Pg g (nh g M))) (va_Qv (fun M' => post_J3_add_3 g L v M o b u x M') (fun u t => nh g u t.heap) (Ag g)) 1 15 (Ag g) :=
  wk_J3_add_3 l g L v M o b u x _ (pr_J3_add_3 g L v M o b u x hpre)

set_option maxHeartbeats 4000000 in
theorem wk_J3_add_2 (l : Launch) (g : gG) (L : List Int32) (v : Int32) (M : nM) (o : Nat) (b : Nat) (post : Int32 → nM → Prop) (hw : wp_J3_add_2 g L v post M o b) : Met l yJ3_add_2 (ws_ yJ3_add_2 cJ3_add_2 2 (some .boolean)) ({ frames := 7, cells := 1, slots := 15, locals := 448 } : Room) (va_Pc [.ref o, .ref b] (Pg g (nh g M))) (va_Qi post (fun u t => nh g u t.heap) (Ag g)) 1 15 (Ag g) := by
  refine Met.ofW (cc := cJ3_add_2) (maxL := 2) (ret := (some .boolean)) (by decide) rfl ?_
  intro p e s m args below meth c s₁ B hml hv
  obtain ⟨rfl, hG, hM⟩ := hv
  have C : Cx p s m _ meth c cJ3_add_2 2 RJ3 (some .boolean) g := Cx.of B hml hG
  have hx := C.1
  have hb := C.2.1
  have hown := C.2.2.2.1
  have hr := C.2.2.2.2.2.1
  have hlocks := C.2.2.2.2.2.2.1
  have hS : va_S (Ag g) s.heap s.heap [] := va_S.rf
  refine lv_start ([.ref o, .ref b] : List Value) (L := [(0, .ref o), (1, .ref b)]) (Nat.le_of_ble_eq_true rfl) rfl (fun ls hl => ?_)
  refine lv_aload_n hx hb dJ3_add_2_0 rfl (lv_at hl 0 rfl) ?_
  refine lv_dup hx hb dJ3_add_2_1 rfl ?_
  obtain ⟨v1, ⟨tv1, fsv1, hev1, hvv1⟩, hw⟩ := hw
  refine g_get C in_J3 hM hev1 rfl 0 (by decide) q282 (u_same (C.ts _ q281)) (v := .int v1) hvv1 dJ3_add_2_2 ?_
  refine lv_iconst (v := 1) hx hb dJ3_add_2_5 (by decide) ?_
  refine lv_iadd hx hb dJ3_add_2_6 ?_
  obtain ⟨⟨tp2, fsp2, hep2, hkp2⟩, hw⟩ := hw
  refine g_put C in_J3 tyJ3 tyJ3_ok nmJ3 hM hS hep2 rfl 0 (by decide) q282 (u_same (C.ts _ q281)) rfl (v := .int (v1 + 1)) rfl rfl hkp2 dJ3_add_2_7 (fun H locs hM hS => ?_)
  obtain ⟨M3, eM3⟩ : ∃ N, N = nup M o (tp2, .inr (10, fsp2.set 0 (.int (v1 + 1)))) := ⟨_, rfl⟩
  rw [← eM3] at hM
  replace hw := hw M3 ⟨tp2, fsp2, hep2, eM3⟩
  refine lv_aload_n hx hb dJ3_add_2_10 rfl (lv_at hl 0 rfl) ?_
  refine lv_aload_n hx hb dJ3_add_2_11 rfl (lv_at hl 1 rfl) ?_
  refine lv_aload_n hx hb dJ3_add_2_12 rfl (lv_at hl 0 rfl) ?_
  obtain ⟨v4, ⟨tv4, fsv4, hev4, hvv4⟩, hw⟩ := hw
  refine g_get C in_J3 hM hev4 rfl 1 (by decide) q275 (fun _ h => h) (v := .ref v4) hvv4 dJ3_add_2_13 ?_
  refine lv_aload_n hx hb dJ3_add_2_16 rfl (lv_at hl 0 rfl) ?_
  obtain ⟨v5, ⟨tv5, fsv5, hev5, hvv5⟩, hw⟩ := hw
  refine g_get C in_J3 hM hev5 rfl 2 (by decide) q278 (fun _ h => h) (v := .int v5) hvv5 dJ3_add_2_17 ?_
  obtain ⟨g_6, g_7, hw⟩ := hw
  obtain ⟨hpr8, hw⟩ := hw
  obtain ⟨⟨wr8, ur8, hrr8⟩, hw⟩ := hw
  refine va_callv (va_runV (As := [.ref b, .ref v4, .int v5]) (rest := []) C.fix (met_J3_add_3 l g g_6 g_7 M3 o b v4 v5 hpr8) (cw_J3_131 C.ts ⟨Nat.le_of_ble_eq_true rfl, Nat.le_of_ble_eq_true rfl⟩) (preV_of C (P := (nh g M3)) (nh.recv C hM hrr8 (q := (RJ3, TJ3, 3)) rfl) hS hM _) rfl rfl hl.1 rfl (lv_room (Nat.le_of_ble_eq_true rfl)) dJ3_add_2_20 ⟨(Nat.le_of_ble_eq_true rfl), (Nat.le_of_ble_eq_true rfl)⟩) hS (fun _ _ h => h) (fun _ h => h) (fun M9 t H locs ht _ hw1 hB _ _ hS => ?_)
  have hM : nh g M9 H := by rw [← ht]; exact hB
  replace hw := hw M9 hw1
  refine lv_iconst (v := 1) hx hb dJ3_add_2_23 (by decide) ?_
  exact W.zret (v := 1) hx hb hr hw.1 (fun t ht _ => ⟨⟨1, M9, rfl, hw.2, hM.tt ht⟩, hS.F ht⟩) hS.2.2 dJ3_add_2_24
set_option maxHeartbeats 4000000 in
theorem met_J3_add_2 (l : Launch) (g : gG) (L : List Int32) (v : Int32) (M : nM) (o : Nat) (b : Nat) (hpre : pre_J3_add_2 g L v M o b) : Met l yJ3_add_2 (ws_ yJ3_add_2 cJ3_add_2 2 (some .boolean)) ({ frames := 7, cells := 1, slots := 15, locals := 448 } : Room) (va_Pc [.ref o, .ref b] (Pg g (nh g M))) (va_Qi (fun r M' => post_J3_add_2 g L v M o b r M') (fun u t => nh g u t.heap) (Ag g)) 1 15 (Ag g) :=
  wk_J3_add_2 l g L v M o b _ (pr_J3_add_2 g L v M o b hpre)

set_option maxHeartbeats 4000000 in
theorem wkb_J3_add_38 (C : Cx p s m args meth c cJ3_add 5 RJ3 none g) (post : nM → Prop) (L : List Int32) (v : Int32) (o : Nat) (x : Int32) (b : Nat)  (M : nM) (kc : Nat) (ks : Nat) (x3 : Int32) (x4 : Nat) (hw : wpb_J3_add_38 post  g L v o x b M kc ks x3 x4) {H : Heap} {locs : List Loc} (hM : nh g M H) (hS : va_S (Ag g) s.heap H locs) {ls : Array Slot} (hl : lv_has ls 5 [(0, .ref o), (1, .int x), (2, .ref b), (3, .int x3), (4, .ref x4)]) : W p l e ({ frames := 6, cells := 1, slots := 15, locals := 384 } : Room) s m args below meth c H locs kc ks (MQ below (va_Qv post (fun u t => nh g u t.heap) (Ag g)) args s 1 15 (Ag g)) (F0 m 38 ls []) := by
  have hx := C.1
  have hb := C.2.1
  have hown := C.2.2.2.1
  have hr := C.2.2.2.2.2.1
  have hlocks := C.2.2.2.2.2.2.1
  obtain ⟨hkc, hks, hw⟩ := hw
  refine lv_aload hx hb dJ3_add_38 (lv_at hl 4 rfl) ?_
  refine lv_iload_n hx hb dJ3_add_40 rfl (lv_at hl 1 rfl) ?_
  refine lv_aload hx hb dJ3_add_41 (lv_at hl 4 rfl) ?_
  refine lv_iload_n hx hb dJ3_add_43 rfl (lv_at hl 1 rfl) ?_
  refine lv_iconst (v := 1) hx hb dJ3_add_44 (by decide) ?_
  refine lv_iadd hx hb dJ3_add_45 ?_
  refine lv_iload_n hx hb dJ3_add_46 rfl (lv_at hl 3 rfl) ?_
  refine lv_iload_n hx hb dJ3_add_47 rfl (lv_at hl 1 rfl) ?_
  refine lv_isub hx hb dJ3_add_48 ?_
  obtain ⟨nf14a, f14a, nf14b, f14b, ⟨tf14a, hef14a⟩, ⟨tf14b, hef14b⟩, h1f14, h2f14, h3f14, h4f14, h5f14, hw⟩ := hw
  obtain ⟨helf14, hw⟩ := hw
  refine g_copyQ C hl.1.symm q742 q485 q484 q95 hM hS 4 4 hef14a hef14b rfl rfl h1f14 h2f14 h3f14 h4f14 h5f14 (fun k hk y hy => by obtain ⟨v, hv⟩ := helf14 _ y (Nat.lt_of_lt_of_le (Nat.add_lt_add_left hk _) h4f14) hy; exact IntAt.any C hS hv q2912) (Nat.le_of_ble_eq_true rfl) (Nat.le_of_ble_eq_true rfl) dJ3_add_49 (fun H locs hM hS => ?_)
  obtain ⟨M15, eM15⟩ : ∃ N, N = nup M x4 (tf14b, .inl (g.2.2.2 4, nf14b, .inr (.inr (.inr (.inr (va_cpy f14a f14b x.toNatClampNeg (x + 1).toNatClampNeg (x3 - x).toNatClampNeg)))))) := ⟨_, rfl⟩
  rw [← eM15] at hM
  replace hw := hw M15 ⟨tf14b, f14b, hef14b, eM15⟩
  refine lv_aload hx hb dJ3_add_52 (lv_at hl 4 rfl) ?_
  refine lv_iload_n hx hb dJ3_add_54 rfl (lv_at hl 1 rfl) ?_
  refine lv_aload_n hx hb dJ3_add_55 rfl (lv_at hl 2 rfl) ?_
  obtain ⟨⟨wf16, haf16⟩, hw⟩ := hw
  obtain ⟨nf16, f16, ⟨tf16, hef16⟩, hif16, hw⟩ := hw
  refine g_aastM C hM hS 4 hef16 rfl (IntAt.any C hS haf16 q2912) hif16 dJ3_add_56 (fun H locs hM hS => ?_)
  obtain ⟨M17, eM17⟩ : ∃ N, N = nup M15 x4 (tf16, .inl (g.2.2.2 4, nf16, .inr (.inr (.inr (.inr (va_up f16 x.toNatClampNeg (some b))))))) := ⟨_, rfl⟩
  rw [← eM17] at hM
  replace hw := hw M17 ⟨tf16, f16, hef16, eM17⟩
  refine lv_aload_n hx hb dJ3_add_57 rfl (lv_at hl 0 rfl) ?_
  refine lv_iload_n hx hb dJ3_add_58 rfl (lv_at hl 3 rfl) ?_
  refine lv_iconst (v := 1) hx hb dJ3_add_59 (by decide) ?_
  refine lv_iadd hx hb dJ3_add_60 ?_
  obtain ⟨⟨tp18, fsp18, hep18, hkp18⟩, hw⟩ := hw
  refine g_put C in_J3 tyJ3 tyJ3_ok nmJ3 hM hS hep18 rfl 2 (by decide) q278 (fun _ h => h) rfl (v := .int (x3 + 1)) rfl rfl hkp18 dJ3_add_61 (fun H locs hM hS => ?_)
  obtain ⟨M19, eM19⟩ : ∃ N, N = nup M17 o (tp18, .inr (10, fsp18.set 2 (.int (x3 + 1)))) := ⟨_, rfl⟩
  rw [← eM19] at hM
  replace hw := hw M19 ⟨tp18, fsp18, hep18, eM19⟩
  refine W.widen (k := 1) (n := 15) hkc hks ?_
  exact W.vret hx hb hr (fun t ht _ => ⟨⟨M19, rfl, hw, hM.tt ht⟩, hS.F ht⟩) hS.2.2 dJ3_add_64
set_option maxHeartbeats 4000000 in
theorem wk_J3_add (l : Launch) (g : gG) (L : List Int32) (v : Int32) (M : nM) (o : Nat) (x : Int32) (b : Nat) (post : nM → Prop) (hw : wp_J3_add g L v post M o x b) : Met l yJ3_add (ws_ yJ3_add cJ3_add 5 none) ({ frames := 6, cells := 1, slots := 15, locals := 384 } : Room) (va_Pc [.ref o, .int x, .ref b] (Pg g (nh g M))) (va_Qv post (fun u t => nh g u t.heap) (Ag g)) 1 15 (Ag g) := by
  refine Met.ofW (cc := cJ3_add) (maxL := 5) (ret := none) (by decide) rfl ?_
  intro p e s m args below meth c s₁ B hml hv
  obtain ⟨rfl, hG, hM⟩ := hv
  have C : Cx p s m _ meth c cJ3_add 5 RJ3 none g := Cx.of B hml hG
  have hx := C.1
  have hb := C.2.1
  have hown := C.2.2.2.1
  have hr := C.2.2.2.2.2.1
  have hlocks := C.2.2.2.2.2.2.1
  have hS : va_S (Ag g) s.heap s.heap [] := va_S.rf
  refine lv_start ([.ref o, .int x, .ref b] : List Value) (L := [(0, .ref o), (1, .int x), (2, .ref b)]) (Nat.le_of_ble_eq_true rfl) rfl (fun ls hl => ?_)
  refine lv_aload_n hx hb dJ3_add_0 rfl (lv_at hl 0 rfl) ?_
  refine lv_iload_n hx hb dJ3_add_1 rfl (lv_at hl 1 rfl) ?_
  obtain ⟨g_1, hw⟩ := hw
  obtain ⟨hpr2, hw⟩ := hw
  obtain ⟨⟨wr2, ur2, hrr2⟩, hw⟩ := hw
  refine vp_callSvP (va_runV (As := [.int x]) (rest := []) C.fix (met_J3_rangeCheckForAdd l g g_1 M o x hpr2) (cw_J3_135 C.ts ⟨Nat.le_of_ble_eq_true rfl, Nat.le_of_ble_eq_true rfl⟩) (preV_of C (P := (nh g M)) (nh.recv C hM hrr2 (q := (RJ3, TJ3, 3)) rfl) hS hM _) rfl rfl hl.1 rfl (lv_room (Nat.le_of_ble_eq_true rfl)) dJ3_add_2 ⟨Nat.le_of_ble_eq_true rfl, Nat.le_of_ble_eq_true rfl⟩).run (fun er2 => ?_)
  replace hw := hw er2
  refine lv_aload_n hx hb dJ3_add_5 rfl (lv_at hl 0 rfl) ?_
  refine lv_dup hx hb dJ3_add_6 rfl ?_
  obtain ⟨v3, ⟨tv3, fsv3, hev3, hvv3⟩, hw⟩ := hw
  refine g_get C in_J3 hM hev3 rfl 0 (by decide) q282 (u_same (C.ts _ q281)) (v := .int v3) hvv3 dJ3_add_7 ?_
  refine lv_iconst (v := 1) hx hb dJ3_add_10 (by decide) ?_
  refine lv_iadd hx hb dJ3_add_11 ?_
  obtain ⟨⟨tp4, fsp4, hep4, hkp4⟩, hw⟩ := hw
  refine g_put C in_J3 tyJ3 tyJ3_ok nmJ3 hM hS hep4 rfl 0 (by decide) q282 (u_same (C.ts _ q281)) rfl (v := .int (v3 + 1)) rfl rfl hkp4 dJ3_add_12 (fun H locs hM hS => ?_)
  obtain ⟨M5, eM5⟩ : ∃ N, N = nup M o (tp4, .inr (10, fsp4.set 0 (.int (v3 + 1)))) := ⟨_, rfl⟩
  rw [← eM5] at hM
  replace hw := hw M5 ⟨tp4, fsp4, hep4, eM5⟩
  refine lv_aload_n hx hb dJ3_add_15 rfl (lv_at hl 0 rfl) ?_
  obtain ⟨v6, ⟨tv6, fsv6, hev6, hvv6⟩, hw⟩ := hw
  refine g_get C in_J3 hM hev6 rfl 2 (by decide) q278 (fun _ h => h) (v := .int v6) hvv6 dJ3_add_16 ?_
  refine lv_dup hx hb dJ3_add_19 rfl ?_
  refine lv_istore_n (lv' := [(3, .int v6), (0, .ref o), (1, .int x), (2, .ref b)]) hx hb dJ3_add_20 rfl hl (by decide) rfl (fun ls hl => ?_)
  refine lv_aload_n hx hb dJ3_add_21 rfl (lv_at hl 1 rfl) ?_
  obtain ⟨v7, ⟨tv7, fsv7, hev7, hvv7⟩, hw⟩ := hw
  refine g_get C in_J3 hM hev7 rfl 1 (by decide) q275 (fun _ h => h) (v := .ref v7) hvv7 dJ3_add_22 ?_
  refine lv_dup hx hb dJ3_add_25 rfl ?_
  refine lv_astore (lv' := [(4, .ref v7), (3, .int v6), (0, .ref o), (1, .int x), (2, .ref b)]) hx hb dJ3_add_26 hl (by decide) rfl (fun ls hl => ?_)
  obtain ⟨nf8, half8, hw⟩ := hw
  refine g_alenE C hM hS half8 dJ3_add_28 ?_
  refine lv_icmp_ne (tgt := 38) hx hb dJ3_add_29 (by decide) (fun c9 => ?_) (fun c9 => ?_)
  · have hw := hw.1 c9
    exact wkb_J3_add_38 C post  L v o x b  M5 0 0 v6 v7 hw hM hS (lv_sub hl [2, 3, 4, 1, 0] rfl)
  · have hw := hw.2 c9
    refine lv_aload_n hx hb dJ3_add_32 rfl (lv_at hl 2 rfl) ?_
    obtain ⟨g_10, hw⟩ := hw
    obtain ⟨hpr11, hw⟩ := hw
    obtain ⟨⟨wr11, ur11, hrr11⟩, hw⟩ := hw
    refine va_callq (va_runV (As := []) (rest := []) C.fix (met_J3_grow l g g_10 M5 o hpr11) (cw_J3_129 C.ts ⟨Nat.le_of_ble_eq_true rfl, Nat.le_of_ble_eq_true rfl⟩) (preV_of C (P := (nh g M5)) (nh.recv C hM hrr11 (q := (RJ3, TJ3, 3)) rfl) hS hM _) rfl rfl hl.1 rfl (lv_room (Nat.le_of_ble_eq_true rfl)) dJ3_add_33 ⟨(Nat.le_of_ble_eq_true rfl), (Nat.le_of_ble_eq_true rfl)⟩) hS (fun _ _ h => h) (fun _ h => h) (fun r11 M12 t H locs ht _ hw1 hB _ _ hS => ?_)
    have hM : nh g M12 H := by rw [← ht]; exact hB
    replace hw := hw r11 M12 hw1
    obtain ⟨b13, eb13, hw⟩ := hw
    subst eb13
    refine lv_astore (lv' := [(4, .ref b13), (3, .int v6), (0, .ref o), (1, .int x), (2, .ref b)]) hx hb dJ3_add_36 hl (by decide) rfl (fun ls hl => ?_)
    exact wkb_J3_add_38 C post  L v o x b  M12 1 15 v6 b13 hw hM hS (lv_sub hl [2, 3, 4, 1, 0] rfl)
set_option maxHeartbeats 4000000 in
theorem met_J3_add (l : Launch) (g : gG) (L : List Int32) (v : Int32) (M : nM) (o : Nat) (x : Int32) (b : Nat) (hpre : pre_J3_add g L v M o x b) : Met l yJ3_add (ws_ yJ3_add cJ3_add 5 none) ({ frames := 6, cells := 1, slots := 15, locals := 384 } : Room) (va_Pc [.ref o, .int x, .ref b] (Pg g (nh g M))) (va_Qv (fun M' => post_J3_add g L v M o x b M') (fun u t => nh g u t.heap) (Ag g)) 1 15 (Ag g) :=
  wk_J3_add l g L v M o x b _ (pr_J3_add g L v M o x b hpre)

set_option maxHeartbeats 4000000 in
theorem wkb_J3_indexOfRange_42 (C : Cx p s m args meth c cJ3_indexOfRange 6 RJ3 (some .int) g) (post : Int32 → Prop) (L : List Int32) (v : Int32) (M : nM) (hM : nh g M s.heap) (o : Nat) (b : Nat) (x : Int32) (y : Int32)  : ∀ (n : Nat) (x4 : Nat) (x5 : Int32), wpb_J3_indexOfRange_42 post  g L v M o b x y n x4 x5 → ∀ ls : Array Slot, lv_has ls 6 [(1, .ref b), (3, .int y), (4, .ref x4), (5, .int x5)] → W p l e ({ frames := 3, cells := 0, slots := 0, locals := 192 } : Room) s m args below meth c s.heap [] 0 0 (MQ below (vp_Si post) args s 0 0 (fun _ => False)) (F0 m 42 ls []) := by
  have hx := C.1
  have hb := C.2.1
  have hown := C.2.2.2.1
  have hr := C.2.2.2.2.2.1
  have hlocks := C.2.2.2.2.2.2.1
  intro n
  induction n with
  | zero =>
    intro x4 x5 hw
    exact hw.elim
  | succ n ih =>
    intro x4 x5 hw  ls hl
    refine lv_iload hx hb dJ3_indexOfRange_42 (lv_at hl 3 rfl) ?_
    refine lv_iload_n hx hb dJ3_indexOfRange_44 rfl (lv_at hl 1 rfl) ?_
    refine lv_icmp_ge (tgt := 69) hx hb dJ3_indexOfRange_45 (by decide) (fun c2 => ?_) (fun c2 => ?_)
    · have hw := hw.1 c2
      refine lv_iconst (v := (-1)) hx hb dJ3_indexOfRange_69 (by decide) ?_
      exact W.iret (v := (-1)) hx hb hr (fun t ht _ => ⟨(-1), rfl, hw, ht⟩) (fun _ h => by cases h) dJ3_indexOfRange_70
    · have hw := hw.2 c2
      refine lv_aload_n hx hb dJ3_indexOfRange_48 rfl (lv_at hl 0 rfl) ?_
      refine lv_aload hx hb dJ3_indexOfRange_49 (lv_at hl 2 rfl) ?_
      refine lv_iload hx hb dJ3_indexOfRange_51 (lv_at hl 3 rfl) ?_
      obtain ⟨nf3, f3, ⟨tf3, hef3⟩, hif3, hw⟩ := hw
      refine g_aald C hM 4 hef3 rfl rfl hif3 dJ3_indexOfRange_53 ?_
      obtain ⟨z4, ez4⟩ : ∃ y_, y_ = f3 x5.toNatClampNeg := ⟨_, rfl⟩
      rw [← ez4]
      replace hw := hw z4 ez4
      obtain ⟨b5, eb5, hw⟩ := hw
      subst eb5
      obtain ⟨g_6, g_7, hw⟩ := hw
      obtain ⟨hpr8, hw⟩ := hw
      obtain ⟨⟨wr8, hrr8⟩, hw⟩ := hw
      refine vp_callSi (va_runU (As := [.ref b5]) (rest := []) C.fix (met_J7_equals l g g_6 g_7 M b b5 hpr8) (cwo_J3_93 C.ts ⟨Nat.le_of_ble_eq_true rfl, Nat.le_of_ble_eq_true rfl⟩) (preV_of C (P := (nh g M)) (hrr8.recv C va_S.rf) va_S.rf hM _) rfl rfl hl.1 rfl (lv_room (Nat.le_of_ble_eq_true rfl)) dJ3_indexOfRange_54 ⟨Nat.le_of_ble_eq_true rfl, Nat.le_of_ble_eq_true rfl⟩).run (fun r8 er8 => ?_)
      replace hw := hw r8 er8
      refine lv_if_eq (tgt := 63) hx hb dJ3_indexOfRange_57 (by decide) (fun c9 => ?_) (fun c9 => ?_)
      · have hw := hw.1 c9
        obtain ⟨z10, ez10⟩ : ∃ y : Int32, y = x5 + 1 := ⟨_, rfl⟩
        have hw := hw z10 ez10
        refine lv_iinc (v := z10) (lv' := [(5, .int z10), (1, .ref b), (3, .int y), (4, .ref x4)]) hx hb dJ3_indexOfRange_63 hl (k := 3) rfl (by rw [ez10]; rfl) (by decide) rfl (fun ls hl => ?_)
        refine lv_goto (tgt := 42) hx hb dJ3_indexOfRange_66 (by decide) ?_
        exact ih x4 z10 hw  _ (lv_sub hl [1, 2, 3, 0] rfl)
      · have hw := hw.2 c9
        refine lv_iload hx hb dJ3_indexOfRange_60 (lv_at hl 3 rfl) ?_
        exact W.iret (v := x5) hx hb hr (fun t ht _ => ⟨x5, rfl, hw, ht⟩) (fun _ h => by cases h) dJ3_indexOfRange_62
set_option maxHeartbeats 4000000 in
theorem wk_J3_indexOfRange (l : Launch) (g : gG) (L : List Int32) (v : Int32) (M : nM) (o : Nat) (b : Nat) (x : Int32) (y : Int32) (post : Int32 → Prop) (hw : wp_J3_indexOfRange g L v post M o b x y) : Met l yJ3_indexOfRange (ws_ yJ3_indexOfRange cJ3_indexOfRange 6 (some .int)) ({ frames := 3, cells := 0, slots := 0, locals := 192 } : Room) (va_Pc [.ref o, .ref b, .int x, .int y] (Pg g (nh g M))) (vp_Si post) 0 0 (fun _ => False) := by
  refine Met.ofW (cc := cJ3_indexOfRange) (maxL := 6) (ret := (some .int)) (by decide) rfl ?_
  intro p e s m args below meth c s₁ B hml hv
  obtain ⟨rfl, hG, hM⟩ := hv
  have C : Cx p s m _ meth c cJ3_indexOfRange 6 RJ3 (some .int) g := Cx.of B hml hG
  have hx := C.1
  have hb := C.2.1
  have hown := C.2.2.2.1
  have hr := C.2.2.2.2.2.1
  have hlocks := C.2.2.2.2.2.2.1
  refine lv_start ([.ref o, .ref b, .int x, .int y] : List Value) (L := [(0, .ref o), (1, .ref b), (2, .int x), (3, .int y)]) (Nat.le_of_ble_eq_true rfl) rfl (fun ls hl => ?_)
  refine lv_aload_n hx hb dJ3_indexOfRange_0 rfl (lv_at hl 0 rfl) ?_
  obtain ⟨v1, ⟨tv1, fsv1, hev1, hvv1⟩, hw⟩ := hw
  refine g_get C in_J3 hM hev1 rfl 1 (by decide) q275 (fun _ h => h) (v := .ref v1) hvv1 dJ3_indexOfRange_1 ?_
  refine lv_astore (lv' := [(4, .ref v1), (0, .ref o), (1, .ref b), (2, .int x), (3, .int y)]) hx hb dJ3_indexOfRange_4 hl (by decide) rfl (fun ls hl => ?_)
  refine lv_aload_n hx hb dJ3_indexOfRange_6 rfl (lv_at hl 2 rfl) ?_
  refine lv_ifnonnull (tgt := 39) hx hb dJ3_indexOfRange_7 (by decide) ?_
  refine lv_iload_n hx hb dJ3_indexOfRange_39 rfl (lv_at hl 3 rfl) ?_
  refine lv_istore (lv' := [(5, .int x), (4, .ref v1), (0, .ref o), (1, .ref b), (2, .int x), (3, .int y)]) hx hb dJ3_indexOfRange_40 hl (by decide) rfl (fun ls hl => ?_)
  obtain ⟨n_, hw⟩ := hw
  exact wkb_J3_indexOfRange_42 C post  L v M hM o b x y  n_ v1 x hw  _ (lv_sub hl [3, 5, 1, 0] rfl)
set_option maxHeartbeats 4000000 in
theorem met_J3_indexOfRange (l : Launch) (g : gG) (L : List Int32) (v : Int32) (M : nM) (o : Nat) (b : Nat) (x : Int32) (y : Int32) (hpre : pre_J3_indexOfRange g L v M o b x y) : Met l yJ3_indexOfRange (ws_ yJ3_indexOfRange cJ3_indexOfRange 6 (some .int)) ({ frames := 3, cells := 0, slots := 0, locals := 192 } : Room) (va_Pc [.ref o, .ref b, .int x, .int y] (Pg g (nh g M))) (vp_Si (fun r => post_J3_indexOfRange g L v M o b x y r)) 0 0 (fun _ => False) :=
  wk_J3_indexOfRange l g L v M o b x y _ (pr_J3_indexOfRange g L v M o b x y hpre)

set_option maxHeartbeats 4000000 in
theorem wk_J3_indexOf (l : Launch) (g : gG) (L : List Int32) (v : Int32) (M : nM) (o : Nat) (b : Nat) (post : Int32 → Prop) (hw : wp_J3_indexOf g L v post M o b) : Met l yJ3_indexOf (ws_ yJ3_indexOf cJ3_indexOf 2 (some .int)) ({ frames := 4, cells := 0, slots := 0, locals := 256 } : Room) (va_Pc [.ref o, .ref b] (Pg g (nh g M))) (vp_Si post) 0 0 (fun _ => False) := by
  refine Met.ofW (cc := cJ3_indexOf) (maxL := 2) (ret := (some .int)) (by decide) rfl ?_
  intro p e s m args below meth c s₁ B hml hv
  obtain ⟨rfl, hG, hM⟩ := hv
  have C : Cx p s m _ meth c cJ3_indexOf 2 RJ3 (some .int) g := Cx.of B hml hG
  have hx := C.1
  have hb := C.2.1
  have hown := C.2.2.2.1
  have hr := C.2.2.2.2.2.1
  have hlocks := C.2.2.2.2.2.2.1
  refine lv_start ([.ref o, .ref b] : List Value) (L := [(0, .ref o), (1, .ref b)]) (Nat.le_of_ble_eq_true rfl) rfl (fun ls hl => ?_)
  refine lv_aload_n hx hb dJ3_indexOf_0 rfl (lv_at hl 0 rfl) ?_
  refine lv_aload_n hx hb dJ3_indexOf_1 rfl (lv_at hl 1 rfl) ?_
  refine lv_iconst (v := 0) hx hb dJ3_indexOf_2 (by decide) ?_
  refine lv_aload_n hx hb dJ3_indexOf_3 rfl (lv_at hl 0 rfl) ?_
  obtain ⟨v1, ⟨tv1, fsv1, hev1, hvv1⟩, hw⟩ := hw
  refine g_get C in_J3 hM hev1 rfl 2 (by decide) q278 (fun _ h => h) (v := .int v1) hvv1 dJ3_indexOf_4 ?_
  obtain ⟨g_2, g_3, hw⟩ := hw
  obtain ⟨hpr4, hw⟩ := hw
  obtain ⟨⟨wr4, ur4, hrr4⟩, hw⟩ := hw
  refine vp_callSi (va_runV (As := [.ref b, .int 0, .int v1]) (rest := []) C.fix (met_J3_indexOfRange l g g_2 g_3 M o b 0 v1 hpr4) (cw_J3_89 C.ts ⟨Nat.le_of_ble_eq_true rfl, Nat.le_of_ble_eq_true rfl⟩) (preV_of C (P := (nh g M)) (nh.recv C hM hrr4 (q := (RJ3, TJ3, 3)) rfl) va_S.rf hM _) rfl rfl hl.1 rfl (lv_room (Nat.le_of_ble_eq_true rfl)) dJ3_indexOf_7 ⟨Nat.le_of_ble_eq_true rfl, Nat.le_of_ble_eq_true rfl⟩).run (fun r4 er4 => ?_)
  replace hw := hw r4 er4
  exact W.iret (v := r4) hx hb hr (fun t ht _ => ⟨r4, rfl, hw, ht⟩) (fun _ h => by cases h) dJ3_indexOf_10
set_option maxHeartbeats 4000000 in
theorem met_J3_indexOf (l : Launch) (g : gG) (L : List Int32) (v : Int32) (M : nM) (o : Nat) (b : Nat) (hpre : pre_J3_indexOf g L v M o b) : Met l yJ3_indexOf (ws_ yJ3_indexOf cJ3_indexOf 2 (some .int)) ({ frames := 4, cells := 0, slots := 0, locals := 256 } : Room) (va_Pc [.ref o, .ref b] (Pg g (nh g M))) (vp_Si (fun r => post_J3_indexOf g L v M o b r)) 0 0 (fun _ => False) :=
  wk_J3_indexOf l g L v M o b _ (pr_J3_indexOf g L v M o b hpre)

set_option maxHeartbeats 4000000 in
theorem wk_J3_contains (l : Launch) (g : gG) (L : List Int32) (v : Int32) (M : nM) (o : Nat) (b : Nat) (post : Int32 → Prop) (hw : wp_J3_contains g L v post M o b) : Met l yJ3_contains (ws_ yJ3_contains cJ3_contains 2 (some .boolean)) ({ frames := 5, cells := 0, slots := 0, locals := 320 } : Room) (va_Pc [.ref o, .ref b] (Pg g (nh g M))) (vp_Si post) 0 0 (fun _ => False) := by
  refine Met.ofW (cc := cJ3_contains) (maxL := 2) (ret := (some .boolean)) (by decide) rfl ?_
  intro p e s m args below meth c s₁ B hml hv
  obtain ⟨rfl, hG, hM⟩ := hv
  have C : Cx p s m _ meth c cJ3_contains 2 RJ3 (some .boolean) g := Cx.of B hml hG
  have hx := C.1
  have hb := C.2.1
  have hown := C.2.2.2.1
  have hr := C.2.2.2.2.2.1
  have hlocks := C.2.2.2.2.2.2.1
  refine lv_start ([.ref o, .ref b] : List Value) (L := [(0, .ref o), (1, .ref b)]) (Nat.le_of_ble_eq_true rfl) rfl (fun ls hl => ?_)
  refine lv_aload_n hx hb dJ3_contains_0 rfl (lv_at hl 0 rfl) ?_
  refine lv_aload_n hx hb dJ3_contains_1 rfl (lv_at hl 1 rfl) ?_
  obtain ⟨g_1, g_2, hw⟩ := hw
  obtain ⟨hpr3, hw⟩ := hw
  obtain ⟨⟨wr3, ur3, hrr3⟩, hw⟩ := hw
  refine vp_callSi (va_runV (As := [.ref b]) (rest := []) C.fix (met_J3_indexOf l g g_1 g_2 M o b hpr3) (cw_J3_85 C.ts ⟨Nat.le_of_ble_eq_true rfl, Nat.le_of_ble_eq_true rfl⟩) (preV_of C (P := (nh g M)) (nh.recv C hM hrr3 (q := (RJ3, TJ3, 3)) rfl) va_S.rf hM _) rfl rfl hl.1 rfl (lv_room (Nat.le_of_ble_eq_true rfl)) dJ3_contains_2 ⟨Nat.le_of_ble_eq_true rfl, Nat.le_of_ble_eq_true rfl⟩).run (fun r3 er3 => ?_)
  replace hw := hw r3 er3
  refine lv_if_lt (tgt := 12) hx hb dJ3_contains_5 (by decide) (fun c4 => ?_) (fun c4 => ?_)
  · have hw := hw.1 c4
    refine lv_iconst (v := 0) hx hb dJ3_contains_12 (by decide) ?_
    exact W.zret (v := 0) hx hb hr hw.1 (fun t ht _ => ⟨0, rfl, hw.2, ht⟩) (fun _ h => by cases h) dJ3_contains_13
  · have hw := hw.2 c4
    refine lv_iconst (v := 1) hx hb dJ3_contains_8 (by decide) ?_
    refine lv_goto (tgt := 13) hx hb dJ3_contains_9 (by decide) ?_
    exact W.zret (v := 1) hx hb hr hw.1 (fun t ht _ => ⟨1, rfl, hw.2, ht⟩) (fun _ h => by cases h) dJ3_contains_13
set_option maxHeartbeats 4000000 in
theorem met_J3_contains (l : Launch) (g : gG) (L : List Int32) (v : Int32) (M : nM) (o : Nat) (b : Nat) (hpre : pre_J3_contains g L v M o b) : Met l yJ3_contains (ws_ yJ3_contains cJ3_contains 2 (some .boolean)) ({ frames := 5, cells := 0, slots := 0, locals := 320 } : Room) (va_Pc [.ref o, .ref b] (Pg g (nh g M))) (vp_Si (fun r => post_J3_contains g L v M o b r)) 0 0 (fun _ => False) :=
  wk_J3_contains l g L v M o b _ (pr_J3_contains g L v M o b hpre)
end
