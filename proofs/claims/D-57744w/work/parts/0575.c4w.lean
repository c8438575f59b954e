set_option maxRecDepth 100000
theorem cw_X2_58 {R : Room} {s : State} {args : Array Value} (hts : ∀ w ∈ lw_all, w.before args s = true) {rm : Room} (hR : rm.frames + 1 ≤ R.frames ∧ 8 + (1 + 11) + rm.locals ≤ R.locals) : CallB R s args RX2 58 yJ3_init cJ3_init 1 none (ws_ yJ3_init cJ3_init 1 none) rm rm.cells rm.slots 0 ∧ yJ3_init.name = "<init>" ∧ (Cond.instanceMethod yJ3_init).before args s = true := cwI 0 hts (lw_meth q268) rfl rfl rfl (hts _ q78) (hts _ q266) (hts _ q267) rfl (by decide +kernel) hR
theorem cwF_X2_59 {p : Program} {R : Room} {s : State} {m : MethodId} {args : Array Value} {meth : Method} {c : Code} {cc : ByteArray} {nL : Nat} {ret : Option FieldType} {g : gG} (C : Cx p s m args meth c cc nL RX2 ret g) {rm : Room} (hR : rm.frames + 1 ≤ R.frames ∧ 8 + (1 + 11) + rm.locals ≤ R.locals) : va_CI R s args RX2 RJ3 59 ⟨"java/util/List", "size", "()I"⟩ yJ3_size cJ3_size 1 (some .int) (ws_ yJ3_size cJ3_size 1 (some .int)) rm rm.cells rm.slots 0 := by
  refine va_cwF 0 C.ts (lw_app (fun w hw => ?_) (lw_meth q303)) rfl rfl rfl (C.wI (by decide) q297 q296 q302 q300 q298) (by decide +kernel) hR
  simp only [List.mem_cons, List.not_mem_nil, or_false] at hw
  rcases hw with e | e | e | e
  · rw [e]; exact q295
  · rw [e]; exact q299
  · rw [e]; exact q301
  · rw [e]; exact q78
theorem cwF_X2_65 {p : Program} {R : Room} {s : State} {m : MethodId} {args : Array Value} {meth : Method} {c : Code} {cc : ByteArray} {nL : Nat} {ret : Option FieldType} {g : gG} (C : Cx p s m args meth c cc nL RX2 ret g) {rm : Room} (hR : rm.frames + 1 ≤ R.frames ∧ 8 + (2 + 11) + rm.locals ≤ R.locals) : va_CI R s args RX2 RJ3 65 ⟨"java/util/List", "get", "(I)Ljava/lang/Object;"⟩ yJ3_get cJ3_get 2 (some (.object "java/lang/Object")) (ws_ yJ3_get cJ3_get 2 (some (.object "java/lang/Object"))) rm rm.cells rm.slots 1 := by
  refine va_cwF 1 C.ts (lw_app (fun w hw => ?_) (lw_meth q312)) rfl rfl rfl (C.wI (by decide) q307 q306 q311 q309 q298) (by decide +kernel) hR
  simp only [List.mem_cons, List.not_mem_nil, or_false] at hw
  rcases hw with e | e | e | e
  · rw [e]; exact q305
  · rw [e]; exact q308
  · rw [e]; exact q310
  · rw [e]; exact q78
theorem cw_X2_71 {R : Room} {s : State} {args : Array Value} (hts : ∀ w ∈ lw_all, w.before args s = true) {rm : Room} (hR : rm.frames + 1 ≤ R.frames ∧ 8 + (1 + 11) + rm.locals ≤ R.locals) : CallW R s args RX2 RJ7 71 yJ7_intValue cJ7_intValue 1 (some .int) (ws_ yJ7_intValue cJ7_intValue 1 (some .int)) rm rm.cells rm.slots 0 := cwV 0 hts (lw_V q324 q325 q326 q82 q327) rfl rfl rfl (by decide +kernel) hR
theorem cw_X2_74 {R : Room} {s : State} {args : Array Value} (hts : ∀ w ∈ lw_all, w.before args s = true) {rm : Room} (hR : rm.frames + 1 ≤ R.frames ∧ 8 + (1 + 11) + rm.locals ≤ R.locals) : CallB R s args RX2 74 yJ7_valueOf cJ7_valueOf 1 (some (.object "java/lang/Integer")) (ws_ yJ7_valueOf cJ7_valueOf 1 (some (.object "java/lang/Integer"))) rm rm.cells rm.slots 1 ∧ (Cond.static yJ7_valueOf).before args s = true := va_cwS 1 hts (lw_S q328 q329 q82 q330) rfl rfl rfl (by decide +kernel) hR
theorem cwF_X2_78 {p : Program} {R : Room} {s : State} {m : MethodId} {args : Array Value} {meth : Method} {c : Code} {cc : ByteArray} {nL : Nat} {ret : Option FieldType} {g : gG} (C : Cx p s m args meth c cc nL RX2 ret g) {rm : Room} (hR : rm.frames + 1 ≤ R.frames ∧ 8 + (5 + 11) + rm.locals ≤ R.locals) : va_CI R s args RX2 RJ3 78 ⟨"java/util/List", "add", "(ILjava/lang/Object;)V"⟩ yJ3_add cJ3_add 5 none (ws_ yJ3_add cJ3_add 5 none) rm rm.cells rm.slots 2 := by
  refine va_cwF 2 C.ts (lw_app (fun w hw => ?_) (lw_meth q356)) rfl rfl rfl (C.wI (by decide) q351 q350 q355 q353 q298) (by decide +kernel) hR
  simp only [List.mem_cons, List.not_mem_nil, or_false] at hw
  rcases hw with e | e | e | e
  · rw [e]; exact q349
  · rw [e]; exact q352
  · rw [e]; exact q354
  · rw [e]; exact q78
theorem cw_X2_82 {R : Room} {s : State} {args : Array Value} (hts : ∀ w ∈ lw_all, w.before args s = true) {rm : Room} (hR : rm.frames + 1 ≤ R.frames ∧ 8 + (4 + 11) + rm.locals ≤ R.locals) : CallW R s args RX2 RX2 82 yX2_byMiles cX2_byMiles 4 (some (.object "java/util/List")) (ws_ yX2_byMiles cX2_byMiles 4 (some (.object "java/util/List"))) rm rm.cells rm.slots 0 := cwV 0 hts (lw_V q260 q262 qs0 q71 q263) rfl rfl rfl (by decide +kernel) hR
theorem cw_X2_86 {R : Room} {s : State} {args : Array Value} (hts : ∀ w ∈ lw_all, w.before args s = true) {rm : Room} (hR : rm.frames + 1 ≤ R.frames ∧ 8 + (3 + 11) + rm.locals ≤ R.locals) : CallB R s args RX2 86 yX2_elementOr cX2_elementOr 3 (some (.object "java/lang/Object")) (ws_ yX2_elementOr cX2_elementOr 3 (some (.object "java/lang/Object"))) rm rm.cells rm.slots 3 ∧ (Cond.static yX2_elementOr).before args s = true := va_cwS 3 hts (lw_S q743 q744 q71 q745) rfl rfl rfl (by decide +kernel) hR
theorem cw_X2_114 {R : Room} {s : State} {args : Array Value} (hts : ∀ w ∈ lw_all, w.before args s = true) {rm : Room} (hR : rm.frames + 1 ≤ R.frames ∧ 8 + (4 + 11) + rm.locals ≤ R.locals) : CallW R s args RX2 RX2 114 yX2_correctLinks cX2_correctLinks 4 (some (.object "InnRoad$Links")) (ws_ yX2_correctLinks cX2_correctLinks 4 (some (.object "InnRoad$Links"))) rm rm.cells rm.slots 0 := cwV 0 hts (lw_V q256 q257 q258 q71 q259) rfl rfl rfl (by decide +kernel) hR
theorem cw_X2_118 {R : Room} {s : State} {args : Array Value} (hts : ∀ w ∈ lw_all, w.before args s = true) {rm : Room} (hR : rm.frames + 1 ≤ R.frames ∧ 8 + (4 + 11) + rm.locals ≤ R.locals) : CallW R s args RX2 RX2 118 yX2_wrongValues cX2_wrongValues 4 (some .int) (ws_ yX2_wrongValues cX2_wrongValues 4 (some .int)) rm rm.cells rm.slots 1 := cwV 1 hts (lw_V q746 q747 q748 q71 q749) rfl rfl rfl (by decide +kernel) hR
theorem cw_X2_122 {R : Room} {s : State} {args : Array Value} (hts : ∀ w ∈ lw_all, w.before args s = true) {rm : Room} (hR : rm.frames + 1 ≤ R.frames ∧ 8 + (3 + 11) + rm.locals ≤ R.locals) : CallW R s args RX2 RX2 122 yX2_faultyInn cX2_faultyInn 3 (some .int) (ws_ yX2_faultyInn cX2_faultyInn 3 (some .int)) rm rm.cells rm.slots 1 := cwV 1 hts (lw_V q2010 q1790 q1791 q71 q1792) rfl rfl rfl (by decide +kernel) hR
theorem cwF_X2_125 {p : Program} {R : Room} {s : State} {m : MethodId} {args : Array Value} {meth : Method} {c : Code} {cc : ByteArray} {nL : Nat} {ret : Option FieldType} {g : gG} (C : Cx p s m args meth c cc nL RX2 ret g) {rm : Room} (hR : rm.frames + 1 ≤ R.frames ∧ 8 + (2 + 11) + rm.locals ≤ R.locals) : va_CI R s args RX2 RJ3 125 ⟨"java/util/List", "contains", "(Ljava/lang/Object;)Z"⟩ yJ3_contains cJ3_contains 2 (some .boolean) (ws_ yJ3_contains cJ3_contains 2 (some .boolean)) rm rm.cells rm.slots 1 := by
  refine va_cwF 1 C.ts (lw_app (fun w hw => ?_) (lw_meth q1714)) rfl rfl rfl (C.wI (by decide) q1709 q1708 q1713 q1711 q298) (by decide +kernel) hR
  simp only [List.mem_cons, List.not_mem_nil, or_false] at hw
  rcases hw with e | e | e | e
  · rw [e]; exact q1707
  · rw [e]; exact q1710
  · rw [e]; exact q1712
  · rw [e]; exact q78
theorem cwF_X2_129 {p : Program} {R : Room} {s : State} {m : MethodId} {args : Array Value} {meth : Method} {c : Code} {cc : ByteArray} {nL : Nat} {ret : Option FieldType} {g : gG} (C : Cx p s m args meth c cc nL RX2 ret g) {rm : Room} (hR : rm.frames + 1 ≤ R.frames ∧ 8 + (2 + 11) + rm.locals ≤ R.locals) : va_CI R s args RX2 RJ3 129 ⟨"java/util/List", "add", "(Ljava/lang/Object;)Z"⟩ yJ3_add_2 cJ3_add_2 2 (some .boolean) (ws_ yJ3_add_2 cJ3_add_2 2 (some .boolean)) rm rm.cells rm.slots 1 := by
  refine va_cwF 1 C.ts (lw_app (fun w hw => ?_) (lw_meth q1732)) rfl rfl rfl (C.wI (by decide) q1727 q1726 q1731 q1729 q298) (by decide +kernel) hR
  simp only [List.mem_cons, List.not_mem_nil, or_false] at hw
  rcases hw with e | e | e | e
  · rw [e]; exact q1725
  · rw [e]; exact q1728
  · rw [e]; exact q1730
  · rw [e]; exact q78
theorem cw_X2_131 {R : Room} {s : State} {args : Array Value} (hts : ∀ w ∈ lw_all, w.before args s = true) {rm : Room} (hR : rm.frames + 1 ≤ R.frames ∧ 8 + (3 + 11) + rm.locals ≤ R.locals) : CallW R s args RX2 RX2 131 yX2_chain cX2_chain 3 (some (.object "java/util/List")) (ws_ yX2_chain cX2_chain 3 (some (.object "java/util/List"))) rm rm.cells rm.slots 0 := cwV 0 hts (lw_V q1745 q1703 q1704 q71 q1705) rfl rfl rfl (by decide +kernel) hR
theorem cwF_X2_134 {p : Program} {R : Room} {s : State} {m : MethodId} {args : Array Value} {meth : Method} {c : Code} {cc : ByteArray} {nL : Nat} {ret : Option FieldType} {g : gG} (C : Cx p s m args meth c cc nL RX2 ret g) {rm : Room} (hR : rm.frames + 1 ≤ R.frames ∧ 8 + (1 + 11) + rm.locals ≤ R.locals) : va_CI R s args RX2 RJ3 134 ⟨"java/util/List", "isEmpty", "()Z"⟩ yJ3_isEmpty cJ3_isEmpty 1 (some .boolean) (ws_ yJ3_isEmpty cJ3_isEmpty 1 (some .boolean)) rm rm.cells rm.slots 0 := by
  refine va_cwF 0 C.ts (lw_app (fun w hw => ?_) (lw_meth q1754)) rfl rfl rfl (C.wI (by decide) q1749 q1748 q1753 q1751 q298) (by decide +kernel) hR
  simp only [List.mem_cons, List.not_mem_nil, or_false] at hw
  rcases hw with e | e | e | e
  · rw [e]; exact q1747
  · rw [e]; exact q1750
  · rw [e]; exact q1752
  · rw [e]; exact q78
section
variable {p : Program} {l : Launch} {e : Env} {s : State} {m : MethodId} {args : Array Value} {below : List Frame} {meth : Method} {c : Code} {g : gG}
set_option maxHeartbeats 4000000 in
theorem wkb_X2_byMiles_87 (C : Cx p s m args meth c cX2_byMiles 4 RX2 (some (.object "java/util/List")) g) (post : Option Nat → nM → Prop) (A : RA) (f : Row) (o : Nat) (K10 : nM → Nat → Nat → Nat → Int32 → Prop) (hK10 : ∀ (M : nM) (kc : Nat) (ks : Nat) (y1 : Nat) (y2 : Int32), K10 M kc ks y1 y2 → ∀ (H : Heap) (locs : List Loc), nh g M H → va_S (Ag g) s.heap H locs → ∀ ls : Array Slot, lv_has ls 4 [(0, .ref o), (1, .ref y1), (2, .int y2)] → W p l e ({ frames := 7, cells := 13, slots := 183, locals := 448 } : Room) s m args below meth c H locs kc ks (MQ below (va_Qq post (fun u t => nh g u t.heap) (Ag g)) args s 13 183 (Ag g)) (F0 m 10 ls [])) (M : nM) (kc : Nat) (ks : Nat) (x1 : Nat) (x2 : Int32) (hw : wpb_X2_byMiles_87 post K10 g A f o M kc ks x1 x2) {H : Heap} {locs : List Loc} (hM : nh g M H) (hS : va_S (Ag g) s.heap H locs) {ls : Array Slot} (hl : lv_has ls 4 [(0, .ref o), (1, .ref x1), (2, .int x2)]) : W p l e ({ frames := 7, cells := 13, slots := 183, locals := 448 } : Room) s m args below meth c H locs kc ks (MQ below (va_Qq post (fun u t => nh g u t.heap) (Ag g)) args s 13 183 (Ag g)) (F0 m 87 ls []) := by
  have hx := C.1
  have hb := C.2.1
  have hown := C.2.2.2.1
  have hr := C.2.2.2.2.2.1
  have hlocks := C.2.2.2.2.2.2.1
  obtain ⟨hkc, hks, hw⟩ := hw
  obtain ⟨z12, ez12⟩ : ∃ y : Int32, y = x2 + 1 := ⟨_, rfl⟩
  have hw := hw z12 ez12
  refine lv_iinc (v := z12) (lv' := [(2, .int z12), (0, .ref o), (1, .ref x1)]) hx hb dX2_byMiles_87 hl (k := 2) rfl (by rw [ez12]; rfl) (by decide) rfl (fun ls hl => ?_)
  refine lv_goto (tgt := 10) hx hb dX2_byMiles_90 (by decide) ?_
  exact hK10 M kc ks x1 z12 hw _ _ hM hS _ (lv_sub hl [1, 2, 0] rfl)
set_option maxHeartbeats 4000000 in
theorem wkb_X2_byMiles_76 (C : Cx p s m args meth c cX2_byMiles 4 RX2 (some (.object "java/util/List")) g) (post : Option Nat → nM → Prop) (A : RA) (f : Row) (o : Nat) (K10 : nM → Nat → Nat → Nat → Int32 → Prop) (hK10 : ∀ (M : nM) (kc : Nat) (ks : Nat) (y1 : Nat) (y2 : Int32), K10 M kc ks y1 y2 → ∀ (H : Heap) (locs : List Loc), nh g M H → va_S (Ag g) s.heap H locs → ∀ ls : Array Slot, lv_has ls 4 [(0, .ref o), (1, .ref y1), (2, .int y2)] → W p l e ({ frames := 7, cells := 13, slots := 183, locals := 448 } : Room) s m args below meth c H locs kc ks (MQ below (va_Qq post (fun u t => nh g u t.heap) (Ag g)) args s 13 183 (Ag g)) (F0 m 10 ls [])) (M : nM) (kc : Nat) (ks : Nat) (x1 : Nat) (x2 : Int32) (x3 : Int32) (hw : wpb_X2_byMiles_76 post K10 g A f o M kc ks x1 x2 x3) {H : Heap} {locs : List Loc} (hM : nh g M H) (hS : va_S (Ag g) s.heap H locs) {ls : Array Slot} (hl : lv_has ls 4 [(0, .ref o), (1, .ref x1), (2, .int x2), (3, .int x3)]) : W p l e ({ frames := 7, cells := 13, slots := 183, locals := 448 } : Room) s m args below meth c H locs kc ks (MQ below (va_Qq post (fun u t => nh g u t.heap) (Ag g)) args s 13 183 (Ag g)) (F0 m 76 ls []) := by
  have hx := C.1
  have hb := C.2.1
  have hown := C.2.2.2.1
  have hr := C.2.2.2.2.2.1
  have hlocks := C.2.2.2.2.2.2.1
  obtain ⟨hkc, hks, hw⟩ := hw
  refine lv_aload_n hx hb dX2_byMiles_76 rfl (lv_at hl 1 rfl) ?_
  refine lv_iload_n hx hb dX2_byMiles_77 rfl (lv_at hl 3 rfl) ?_
  refine lv_iload_n hx hb dX2_byMiles_78 rfl (lv_at hl 2 rfl) ?_
  obtain ⟨hpr32, hw⟩ := hw
  refine va_csq (va_runS (As := [.int x2]) (rest := [.int x3, .ref x1]) C.fix (met_J7_valueOf l g  M x2 hpr32) (cw_X2_74 C.ts ⟨Nat.le_of_ble_eq_true rfl, Nat.le_of_ble_eq_true rfl⟩) (preS_of C (P := (nh g M)) hS hM _) rfl rfl hl.1 rfl (lv_room (Nat.le_of_ble_eq_true rfl)) dX2_byMiles_79 ⟨hkc, hks⟩).run (fun r32 er32 => ?_)
  replace hw := hw r32 er32
  obtain ⟨b33, eb33, hw⟩ := hw
  subst eb33
  obtain ⟨g_34, g_35, hw⟩ := hw
  obtain ⟨hpr36, hw⟩ := hw
  obtain ⟨⟨wr36, ur36, hrr36⟩, hw⟩ := hw
  obtain ⟨hc37a, hc37b, hw⟩ := hw
  refine va_callFv (va_runF (C.clsAt (ci := 10) (q := (RJ3, TJ3, 3)) rfl) (As := [.int x3, .ref b33]) (rest := []) C.fix (met_J3_add l g g_34 g_35 M x1 x3 b33 hpr36) (cwF_X2_78 C ⟨Nat.le_of_ble_eq_true rfl, Nat.le_of_ble_eq_true rfl⟩) (preV_of C (P := (nh g M)) (nh.recv C hM hrr36 (q := (RJ3, TJ3, 3)) rfl) hS hM _) rfl rfl hl.1 rfl (lv_room (Nat.le_of_ble_eq_true rfl)) dX2_byMiles_82 ⟨hc37a, hc37b⟩) hS (fun _ _ h => h) (fun _ h => h) (fun M38 t H locs ht _ hw1 hB _ _ hS => ?_)
  have hM : nh g M38 H := by rw [← ht]; exact hB
  replace hw := hw M38 hw1
  exact wkb_X2_byMiles_87 C post  A f o K10 hK10 M38 (kc + 1) (ks + 15) x1 x2 hw hM hS (lv_sub hl [0, 1, 2] rfl)
set_option maxHeartbeats 4000000 in
theorem wkb_X2_byMiles_31 (C : Cx p s m args meth c cX2_byMiles 4 RX2 (some (.object "java/util/List")) g) (post : Option Nat → nM → Prop) (A : RA) (f : Row) (o : Nat) (K10 : nM → Nat → Nat → Nat → Int32 → Prop) (hK10 : ∀ (M : nM) (kc : Nat) (ks : Nat) (y1 : Nat) (y2 : Int32), K10 M kc ks y1 y2 → ∀ (H : Heap) (locs : List Loc), nh g M H → va_S (Ag g) s.heap H locs → ∀ ls : Array Slot, lv_has ls 4 [(0, .ref o), (1, .ref y1), (2, .int y2)] → W p l e ({ frames := 7, cells := 13, slots := 183, locals := 448 } : Room) s m args below meth c H locs kc ks (MQ below (va_Qq post (fun u t => nh g u t.heap) (Ag g)) args s 13 183 (Ag g)) (F0 m 10 ls [])) : ∀ (n : Nat) (M : nM) (kc : Nat) (ks : Nat) (x1 : Nat) (x2 : Int32) (x3 : Int32), wpb_X2_byMiles_31 post K10 g A f o n M kc ks x1 x2 x3 → ∀ (H : Heap) (locs : List Loc), nh g M H → va_S (Ag g) s.heap H locs → ∀ ls : Array Slot, lv_has ls 4 [(0, .ref o), (1, .ref x1), (2, .int x2), (3, .int x3)] → W p l e ({ frames := 7, cells := 13, slots := 183, locals := 448 } : Room) s m args below meth c H locs kc ks (MQ below (va_Qq post (fun u t => nh g u t.heap) (Ag g)) args s 13 183 (Ag g)) (F0 m 31 ls []) := by
  have hx := C.1
  have hb := C.2.1
  have hown := C.2.2.2.1
  have hr := C.2.2.2.2.2.1
  have hlocks := C.2.2.2.2.2.2.1
  intro n
  induction n with
  | zero =>
    intro M kc ks x1 x2 x3 hw
    exact hw.elim
  | succ n ih =>
    intro M kc ks x1 x2 x3 hw H locs hM hS ls hl
    obtain ⟨hkc, hks, hw⟩ := hw
    refine lv_iload_n hx hb dX2_byMiles_31 rfl (lv_at hl 3 rfl) ?_
    refine lv_if_le (tgt := 76) hx hb dX2_byMiles_32 (by decide) (fun c13 => ?_) (fun c13 => ?_)
    · have hw := hw.1 c13
      exact wkb_X2_byMiles_76 C post  A f o K10 hK10 M kc ks x1 x2 x3 hw hM hS (lv_sub hl [0, 1, 2, 3] rfl)
    · have hw := hw.2 c13
      refine lv_aload_n hx hb dX2_byMiles_35 rfl (lv_at hl 0 rfl) ?_
      obtain ⟨v14, ⟨tv14, fsv14, hev14, hvv14⟩, hw⟩ := hw
      refine g_get C in_X2 hM hev14 rfl 0 (by decide) q171 (fun _ h => h) (v := .ref v14) hvv14 dX2_byMiles_36 ?_
      refine lv_aload_n hx hb dX2_byMiles_39 rfl (lv_at hl 1 rfl) ?_
      refine lv_iload_n hx hb dX2_byMiles_40 rfl (lv_at hl 3 rfl) ?_
      refine lv_iconst (v := 1) hx hb dX2_byMiles_41 (by decide) ?_
      refine lv_isub hx hb dX2_byMiles_42 ?_
      obtain ⟨g_15, hw⟩ := hw
      obtain ⟨hpr16, hw⟩ := hw
      obtain ⟨⟨wr16, ur16, hrr16⟩, hw⟩ := hw
      refine va_csFq (va_runF (C.clsAt (ci := 10) (q := (RJ3, TJ3, 3)) rfl) (As := [.int (x3 - 1)]) (rest := [.ref v14]) C.fix (met_J3_get l g g_15 M x1 (x3 - 1) hpr16) (cwF_X2_65 C ⟨Nat.le_of_ble_eq_true rfl, Nat.le_of_ble_eq_true rfl⟩) (preV_of C (P := (nh g M)) (nh.recv C hM hrr16 (q := (RJ3, TJ3, 3)) rfl) hS hM _) rfl rfl hl.1 rfl (lv_room (Nat.le_of_ble_eq_true rfl)) dX2_byMiles_43 ⟨hkc, hks⟩) (fun r16 er16 => ?_)
      replace hw := hw r16 er16
      obtain ⟨b17, eb17, hw⟩ := hw
      subst eb17
      obtain ⟨⟨wt18, hat18⟩, hw⟩ := hw
      refine va_castS hx hb hown (C.ts _ q323) (C.clsAt (ci := 19) (q := (RJ7, TJ7, 1)) rfl) (hat18.recv C hS) dX2_byMiles_48 ?_
      obtain ⟨g_19, hw⟩ := hw
      obtain ⟨hpr20, hw⟩ := hw
      obtain ⟨⟨wr20, hrr20⟩, hw⟩ := hw
      refine vp_callSi (va_runV (As := []) (rest := [.ref v14]) C.fix (met_J7_intValue l g g_19 M b17 hpr20) (cw_X2_71 C.ts ⟨Nat.le_of_ble_eq_true rfl, Nat.le_of_ble_eq_true rfl⟩) (preV_of C (P := (nh g M)) (hrr20.recv C hS) hS hM _) rfl rfl hl.1 rfl (lv_room (Nat.le_of_ble_eq_true rfl)) dX2_byMiles_51 ⟨hkc, hks⟩).run (fun r20 er20 => ?_)
      replace hw := hw r20 er20
      obtain ⟨nf21, f21, ⟨tf21, hef21⟩, hif21, hw⟩ := hw
      refine g_aald C hM 3 hef21 rfl rfl hif21 dX2_byMiles_54 ?_
      obtain ⟨z22, ez22⟩ : ∃ y_, y_ = f21 r20.toNatClampNeg := ⟨_, rfl⟩
      rw [← ez22]
      replace hw := hw z22 ez22
      obtain ⟨b23, eb23, hw⟩ := hw
      subst eb23
      obtain ⟨v24, ⟨tv24, fsv24, hev24, hvv24⟩, hw⟩ := hw
      refine g_getN C in_X5 hM hev24 rfl 0 (by decide) q238 (fun _ h => h) (v := .int v24) hvv24 dX2_byMiles_55 ?_
      refine lv_aload_n hx hb dX2_byMiles_58 rfl (lv_at hl 0 rfl) ?_
      obtain ⟨v25, ⟨tv25, fsv25, hev25, hvv25⟩, hw⟩ := hw
      refine g_get C in_X2 hM hev25 rfl 0 (by decide) q171 (fun _ h => h) (v := .ref v25) hvv25 dX2_byMiles_59 ?_
      refine lv_iload_n hx hb dX2_byMiles_62 rfl (lv_at hl 2 rfl) ?_
      obtain ⟨nf26, f26, ⟨tf26, hef26⟩, hif26, hw⟩ := hw
      refine g_aald C hM 3 hef26 rfl rfl hif26 dX2_byMiles_63 ?_
      obtain ⟨z27, ez27⟩ : ∃ y_, y_ = f26 x2.toNatClampNeg := ⟨_, rfl⟩
      rw [← ez27]
      replace hw := hw z27 ez27
      obtain ⟨b28, eb28, hw⟩ := hw
      subst eb28
      obtain ⟨v29, ⟨tv29, fsv29, hev29, hvv29⟩, hw⟩ := hw
      refine g_getN C in_X5 hM hev29 rfl 0 (by decide) q238 (fun _ h => h) (v := .int v29) hvv29 dX2_byMiles_64 ?_
      refine lv_icmp_le (tgt := 76) hx hb dX2_byMiles_67 (by decide) (fun c30 => ?_) (fun c30 => ?_)
      · have hw := hw.1 c30
        exact wkb_X2_byMiles_76 C post  A f o K10 hK10 M kc ks x1 x2 x3 hw hM hS (lv_sub hl [0, 1, 2, 3] rfl)
      · have hw := hw.2 c30
        obtain ⟨z31, ez31⟩ : ∃ y : Int32, y = x3 + (-1) := ⟨_, rfl⟩
        have hw := hw z31 ez31
        refine lv_iinc (v := z31) (lv' := [(3, .int z31), (0, .ref o), (1, .ref x1), (2, .int x2)]) hx hb dX2_byMiles_70 hl (k := 3) rfl (by rw [ez31]; rfl) (by decide) rfl (fun ls hl => ?_)
        refine lv_goto (tgt := 31) hx hb dX2_byMiles_73 (by decide) ?_
        exact ih M kc ks x1 x2 z31 hw _ _ hM hS _ (lv_sub hl [1, 2, 3, 0] rfl)
set_option maxHeartbeats 4000000 in
theorem wkb_X2_byMiles_10 (C : Cx p s m args meth c cX2_byMiles 4 RX2 (some (.object "java/util/List")) g) (post : Option Nat → nM → Prop) (A : RA) (f : Row) (o : Nat)  : ∀ (n : Nat) (M : nM) (kc : Nat) (ks : Nat) (x1 : Nat) (x2 : Int32), wpb_X2_byMiles_10 post  g A f o n M kc ks x1 x2 → ∀ (H : Heap) (locs : List Loc), nh g M H → va_S (Ag g) s.heap H locs → ∀ ls : Array Slot, lv_has ls 4 [(0, .ref o), (1, .ref x1), (2, .int x2)] → W p l e ({ frames := 7, cells := 13, slots := 183, locals := 448 } : Room) s m args below meth c H locs kc ks (MQ below (va_Qq post (fun u t => nh g u t.heap) (Ag g)) args s 13 183 (Ag g)) (F0 m 10 ls []) := by
  have hx := C.1
  have hb := C.2.1
  have hown := C.2.2.2.1
  have hr := C.2.2.2.2.2.1
  have hlocks := C.2.2.2.2.2.2.1
  intro n
  induction n with
  | zero =>
    intro M kc ks x1 x2 hw
    exact hw.elim
  | succ n ih =>
    intro M kc ks x1 x2 hw H locs hM hS ls hl
    obtain ⟨hkc, hks, hw⟩ := hw
    refine lv_iload_n hx hb dX2_byMiles_10 rfl (lv_at hl 2 rfl) ?_
    refine lv_bipush (v := 12) hx hb dX2_byMiles_11 (by decide) ?_
    refine lv_icmp_ge (tgt := 93) hx hb dX2_byMiles_13 (by decide) (fun c5 => ?_) (fun c5 => ?_)
    · have hw := hw.1 c5
      refine lv_aload_n hx hb dX2_byMiles_93 rfl (lv_at hl 1 rfl) ?_
      refine W.widen (k := 13) (n := 183) hkc hks ?_
      exact W.aret (v := va_rf (some x1)) hx hb hr (Or.inl ⟨_, rfl⟩) (va_rf_or (some x1)) (fun t ht _ => ⟨⟨(some x1), M, rfl, hw, hM.tt ht⟩, hS.F ht⟩) hS.2.2 dX2_byMiles_94
    · have hw := hw.2 c5
      refine lv_aload_n hx hb dX2_byMiles_16 rfl (lv_at hl 0 rfl) ?_
      refine lv_iload_n hx hb dX2_byMiles_17 rfl (lv_at hl 2 rfl) ?_
      obtain ⟨g_6, g_7, hw⟩ := hw
      obtain ⟨hpr8, hw⟩ := hw
      obtain ⟨⟨wr8, ur8, hrr8⟩, hw⟩ := hw
      refine vp_callSi (va_runV (As := [.int x2]) (rest := []) C.fix (met_X2_hasInn l g g_6 g_7 M o x2 hpr8) (cw_X2_45 C.ts ⟨Nat.le_of_ble_eq_true rfl, Nat.le_of_ble_eq_true rfl⟩) (preV_of C (P := (nh g M)) (nh.recv C hM hrr8 (q := (RX2, TX2, 5)) rfl) hS hM _) rfl rfl hl.1 rfl (lv_room (Nat.le_of_ble_eq_true rfl)) dX2_byMiles_18 ⟨hkc, hks⟩).run (fun r8 er8 => ?_)
      replace hw := hw r8 er8
      refine lv_if_eq (tgt := 87) hx hb dX2_byMiles_21 (by decide) (fun c9 => ?_) (fun c9 => ?_)
      · have hw := hw.1 c9
        exact wkb_X2_byMiles_87 C post  A f o (wpb_X2_byMiles_10 post  g A f o n) ih M kc ks x1 x2 hw hM hS (lv_sub hl [0, 1, 2] rfl)
      · have hw := hw.2 c9
        refine lv_aload_n hx hb dX2_byMiles_24 rfl (lv_at hl 1 rfl) ?_
        obtain ⟨g_10, hw⟩ := hw
        obtain ⟨hpr11, hw⟩ := hw
        obtain ⟨⟨wr11, ur11, hrr11⟩, hw⟩ := hw
        refine va_csFi (va_runF (C.clsAt (ci := 10) (q := (RJ3, TJ3, 3)) rfl) (As := []) (rest := []) C.fix (met_J3_size l g g_10 M x1 hpr11) (cwF_X2_59 C ⟨Nat.le_of_ble_eq_true rfl, Nat.le_of_ble_eq_true rfl⟩) (preV_of C (P := (nh g M)) (nh.recv C hM hrr11 (q := (RJ3, TJ3, 3)) rfl) hS hM _) rfl rfl hl.1 rfl (lv_room (Nat.le_of_ble_eq_true rfl)) dX2_byMiles_25 ⟨hkc, hks⟩) (fun r11 er11 => ?_)
        replace hw := hw r11 er11
        refine lv_istore_n (lv' := [(3, .int r11), (0, .ref o), (1, .ref x1), (2, .int x2)]) hx hb dX2_byMiles_30 rfl hl (by decide) rfl (fun ls hl => ?_)
        obtain ⟨n_, hw⟩ := hw
        exact wkb_X2_byMiles_31 C post  A f o (wpb_X2_byMiles_10 post  g A f o n) ih n_ M kc ks x1 x2 r11 hw _ _ hM hS _ (lv_sub hl [1, 2, 3, 0] rfl)
set_option maxHeartbeats 4000000 in
theorem wk_X2_byMiles (l : Launch) (g : gG) (A : RA) (f : Row) (M : nM) (o : Nat) (post : Option Nat → nM → Prop) (hw : wp_X2_byMiles g A f post M o) : Met l yX2_byMiles (ws_ yX2_byMiles cX2_byMiles 4 (some (.object "java/util/List"))) ({ frames := 7, cells := 13, slots := 183, locals := 448 } : Room) (va_Pc [.ref o] (Pg g (nh g M))) (va_Qq post (fun u t => nh g u t.heap) (Ag g)) 13 183 (Ag g) := by
  refine Met.ofW (cc := cX2_byMiles) (maxL := 4) (ret := (some (.object "java/util/List"))) (by decide) rfl ?_
  intro p e s m args below meth c s₁ B hml hv
  obtain ⟨rfl, hG, hM⟩ := hv
  have C : Cx p s m _ meth c cX2_byMiles 4 RX2 (some (.object "java/util/List")) g := Cx.of B hml hG
  have hx := C.1
  have hb := C.2.1
  have hown := C.2.2.2.1
  have hr := C.2.2.2.2.2.1
  have hlocks := C.2.2.2.2.2.2.1
  have hS : va_S (Ag g) s.heap s.heap [] := va_S.rf
  refine lv_start ([.ref o] : List Value) (L := [(0, .ref o)]) (Nat.le_of_ble_eq_true rfl) rfl (fun ls hl => ?_)
  refine g_new C (ci := 10) in_J3 tyJ3 tyJ3_ok q264 q265 q78 hM hS rfl (fs := [.int 0, .null, .int 0]) (fun j hj => by match j, hj with | 0, _ => rfl | 1, _ => rfl | 2, _ => rfl) (Nat.le_of_ble_eq_true rfl) (Nat.le_of_ble_eq_true rfl) dX2_byMiles_0 (fun q => (q, 0)) (fun q1 H hqq1 hM hS => ?_)
  obtain ⟨M2, eM2⟩ : ∃ N, N = nup M q1 ((fun q => (q, 0)) q1, .inr (10, [.int 0, .null, .int 0])) := ⟨_, rfl⟩
  rw [← eM2] at hM
  replace hw := hw q1 M2 hqq1 eM2
  refine lv_dup hx hb dX2_byMiles_3 rfl ?_
  obtain ⟨hpr3, hw⟩ := hw
  refine va_callv (va_runI (As := []) (rest := [.ref q1]) C.fix (met_J3_init l g  M2 q1 hpr3) (cw_X2_58 C.ts ⟨Nat.le_of_ble_eq_true rfl, Nat.le_of_ble_eq_true rfl⟩) (preS_of C (P := (nh g M2)) hS hM _) rfl rfl hl.1 rfl (lv_room (Nat.le_of_ble_eq_true rfl)) dX2_byMiles_4 ⟨Nat.le_of_ble_eq_true rfl, Nat.le_of_ble_eq_true rfl⟩) hS (fun _ _ h => h) (fun _ h => h) (fun M4 t H locs ht _ hw1 hB _ _ hS => ?_)
  have hM : nh g M4 H := by rw [← ht]; exact hB
  replace hw := hw M4 hw1
  refine lv_astore_n (lv' := [(1, .ref q1), (0, .ref o)]) hx hb dX2_byMiles_7 rfl hl (by decide) rfl (fun ls hl => ?_)
  refine lv_iconst (v := 0) hx hb dX2_byMiles_8 (by decide) ?_
  refine lv_istore_n (lv' := [(2, .int 0), (1, .ref q1), (0, .ref o)]) hx hb dX2_byMiles_9 rfl hl (by decide) rfl (fun ls hl => ?_)
  obtain ⟨n_, hw⟩ := hw
  exact wkb_X2_byMiles_10 C post  A f o  n_ M4 1 3 q1 0 hw _ _ hM hS _ (lv_sub hl [2, 1, 0] rfl)
set_option maxHeartbeats 4000000 in
theorem met_X2_byMiles (l : Launch) (g : gG) (A : RA) (f : Row) (M : nM) (o : Nat) (hpre : pre_X2_byMiles g A f M o) : Met l yX2_byMiles (ws_ yX2_byMiles cX2_byMiles 4 (some (.object "java/util/List"))) ({ frames := 7, cells := 13, slots := 183, locals := 448 } : Room) (va_Pc [.ref o] (Pg g (nh g M))) (va_Qq (fun r M' => post_X2_byMiles g A f M o r M') (fun u t => nh g u t.heap) (Ag g)) 13 183 (Ag g) :=
  wk_X2_byMiles l g A f M o _ (pr_X2_byMiles g A f M o hpre)

set_option maxHeartbeats 4000000 in
theorem wk_X2_elementOr (l : Launch) (g : gG) (L : List Int32) (d : Int32) (M : nM) (u : Nat) (x : Int32) (b : Nat) (post : Option Nat → Prop) (hw : wp_X2_elementOr g L d post M u x b) : Met l yX2_elementOr (ws_ yX2_elementOr cX2_elementOr 3 (some (.object "java/lang/Object"))) ({ frames := 4, cells := 0, slots := 0, locals := 256 } : Room) (va_Pc [.ref u, .int x, .ref b] (Pg g (nh g M))) (va_Sq post) 0 0 (fun _ => False) := by
  refine Met.ofW (cc := cX2_elementOr) (maxL := 3) (ret := (some (.object "java/lang/Object"))) (by decide) rfl ?_
  intro p e s m args below meth c s₁ B hml hv
  obtain ⟨rfl, hG, hM⟩ := hv
  have C : Cx p s m _ meth c cX2_elementOr 3 RX2 (some (.object "java/lang/Object")) g := Cx.of B hml hG
  have hx := C.1
  have hb := C.2.1
  have hown := C.2.2.2.1
  have hr := C.2.2.2.2.2.1
  have hlocks := C.2.2.2.2.2.2.1
  refine lv_start ([.ref u, .int x, .ref b] : List Value) (L := [(0, .ref u), (1, .int x), (2, .ref b)]) (Nat.le_of_ble_eq_true rfl) rfl (fun ls hl => ?_)
  refine lv_iload_n hx hb dX2_elementOr_0 rfl (lv_at hl 1 rfl) ?_
  refine lv_aload_n hx hb dX2_elementOr_1 rfl (lv_at hl 0 rfl) ?_
  obtain ⟨g_1, hw⟩ := hw
  obtain ⟨hpr2, hw⟩ := hw
  obtain ⟨⟨wr2, ur2, hrr2⟩, hw⟩ := hw
  refine va_csFi (va_runF (C.clsAt (ci := 10) (q := (RJ3, TJ3, 3)) rfl) (As := []) (rest := [.int x]) C.fix (met_J3_size l g g_1 M u hpr2) (cwF_X2_59 C ⟨Nat.le_of_ble_eq_true rfl, Nat.le_of_ble_eq_true rfl⟩) (preV_of C (P := (nh g M)) (nh.recv C hM hrr2 (q := (RJ3, TJ3, 3)) rfl) va_S.rf hM _) rfl rfl hl.1 rfl (lv_room (Nat.le_of_ble_eq_true rfl)) dX2_elementOr_2 ⟨Nat.le_of_ble_eq_true rfl, Nat.le_of_ble_eq_true rfl⟩) (fun r2 er2 => ?_)
  replace hw := hw r2 er2
  refine lv_icmp_ge (tgt := 20) hx hb dX2_elementOr_7 (by decide) (fun c3 => ?_) (fun c3 => ?_)
  · have hw := hw.1 c3
    refine lv_aload_n hx hb dX2_elementOr_20 rfl (lv_at hl 2 rfl) ?_
    exact W.aret (v := va_rf (some b)) hx hb hr (Or.inl ⟨_, rfl⟩) (va_rf_or (some b)) (fun t ht _ => ⟨(some b), rfl, hw, ht⟩) (fun _ h => by cases h) dX2_elementOr_21
  · have hw := hw.2 c3
    refine lv_aload_n hx hb dX2_elementOr_10 rfl (lv_at hl 0 rfl) ?_
    refine lv_iload_n hx hb dX2_elementOr_11 rfl (lv_at hl 1 rfl) ?_
    obtain ⟨g_4, hw⟩ := hw
    obtain ⟨hpr5, hw⟩ := hw
    obtain ⟨⟨wr5, ur5, hrr5⟩, hw⟩ := hw
    refine va_csFq (va_runF (C.clsAt (ci := 10) (q := (RJ3, TJ3, 3)) rfl) (As := [.int x]) (rest := []) C.fix (met_J3_get l g g_4 M u x hpr5) (cwF_X2_65 C ⟨Nat.le_of_ble_eq_true rfl, Nat.le_of_ble_eq_true rfl⟩) (preV_of C (P := (nh g M)) (nh.recv C hM hrr5 (q := (RJ3, TJ3, 3)) rfl) va_S.rf hM _) rfl rfl hl.1 rfl (lv_room (Nat.le_of_ble_eq_true rfl)) dX2_elementOr_12 ⟨Nat.le_of_ble_eq_true rfl, Nat.le_of_ble_eq_true rfl⟩) (fun r5 er5 => ?_)
    replace hw := hw r5 er5
    refine lv_goto (tgt := 21) hx hb dX2_elementOr_17 (by decide) ?_
    exact W.aret (v := va_rf r5) hx hb hr (Or.inl ⟨_, rfl⟩) (va_rf_or r5) (fun t ht _ => ⟨r5, rfl, hw, ht⟩) (fun _ h => by cases h) dX2_elementOr_21
set_option maxHeartbeats 4000000 in
theorem met_X2_elementOr (l : Launch) (g : gG) (L : List Int32) (d : Int32) (M : nM) (u : Nat) (x : Int32) (b : Nat) (hpre : pre_X2_elementOr g L d M u x b) : Met l yX2_elementOr (ws_ yX2_elementOr cX2_elementOr 3 (some (.object "java/lang/Object"))) ({ frames := 4, cells := 0, slots := 0, locals := 256 } : Room) (va_Pc [.ref u, .int x, .ref b] (Pg g (nh g M))) (va_Sq (fun r => post_X2_elementOr g L d M u x b r)) 0 0 (fun _ => False) :=
  wk_X2_elementOr l g L d M u x b _ (pr_X2_elementOr g L d M u x b hpre)

set_option maxHeartbeats 4000000 in
theorem wkb_X2_correctLinks_63 (C : Cx p s m args meth c cX2_correctLinks 4 RX2 (some (.object "InnRoad$Links")) g) (post : Option Nat → nM → Prop) (A : RA) (f : Row) (o : Nat)  : ∀ (n : Nat) (M : nM) (kc : Nat) (ks : Nat) (x1 : Nat) (x2 : Nat) (x3 : Int32), wpb_X2_correctLinks_63 post  g A f o n M kc ks x1 x2 x3 → ∀ (H : Heap) (locs : List Loc), nh g M H → va_S (Ag g) s.heap H locs → ∀ ls : Array Slot, lv_has ls 4 [(1, .ref x1), (2, .ref x2), (3, .int x3)] → W p l e ({ frames := 8, cells := 16, slots := 212, locals := 512 } : Room) s m args below meth c H locs kc ks (MQ below (va_Qq post (fun u t => nh g u t.heap) (Ag g)) args s 16 212 (Ag g)) (F0 m 63 ls []) := by
  have hx := C.1
  have hb := C.2.1
  have hown := C.2.2.2.1
  have hr := C.2.2.2.2.2.1
  have hlocks := C.2.2.2.2.2.2.1
  intro n
  induction n with
  | zero =>
    intro M kc ks x1 x2 x3 hw
    exact hw.elim
  | succ n ih =>
    intro M kc ks x1 x2 x3 hw H locs hM hS ls hl
    obtain ⟨hkc, hks, hw⟩ := hw
    refine lv_iload_n hx hb dX2_correctLinks_63 rfl (lv_at hl 2 rfl) ?_
    refine lv_aload_n hx hb dX2_correctLinks_64 rfl (lv_at hl 1 rfl) ?_
    obtain ⟨g_38, hw⟩ := hw
    obtain ⟨hpr39, hw⟩ := hw
    obtain ⟨⟨wr39, ur39, hrr39⟩, hw⟩ := hw
    refine va_csFi (va_runF (C.clsAt (ci := 10) (q := (RJ3, TJ3, 3)) rfl) (As := []) (rest := [.int x3]) C.fix (met_J3_size l g g_38 M x2 hpr39) (cwF_X2_59 C ⟨Nat.le_of_ble_eq_true rfl, Nat.le_of_ble_eq_true rfl⟩) (preV_of C (P := (nh g M)) (nh.recv C hM hrr39 (q := (RJ3, TJ3, 3)) rfl) hS hM _) rfl rfl hl.1 rfl (lv_room (Nat.le_of_ble_eq_true rfl)) dX2_correctLinks_65 ⟨hkc, hks⟩) (fun r39 er39 => ?_)
    replace hw := hw r39 er39
    refine lv_icmp_ge (tgt := 149) hx hb dX2_correctLinks_70 (by decide) (fun c40 => ?_) (fun c40 => ?_)
    · have hw := hw.1 c40
      refine lv_aload_n hx hb dX2_correctLinks_149 rfl (lv_at hl 0 rfl) ?_
      refine W.widen (k := 16) (n := 212) hkc hks ?_
      exact W.aret (v := va_rf (some x1)) hx hb hr (Or.inl ⟨_, rfl⟩) (va_rf_or (some x1)) (fun t ht _ => ⟨⟨(some x1), M, rfl, hw, hM.tt ht⟩, hS.F ht⟩) hS.2.2 dX2_correctLinks_150
    · have hw := hw.2 c40
      refine lv_aload_n hx hb dX2_correctLinks_73 rfl (lv_at hl 0 rfl) ?_
      obtain ⟨v41, ⟨tv41, fsv41, hev41, hvv41⟩, hw⟩ := hw
      refine g_getN C in_X3 hM hev41 rfl 0 (by decide) q139 (fun _ h => h) (v := .ref v41) hvv41 dX2_correctLinks_74 ?_
      refine lv_aload_n hx hb dX2_correctLinks_77 rfl (lv_at hl 1 rfl) ?_
      refine lv_iload_n hx hb dX2_correctLinks_78 rfl (lv_at hl 2 rfl) ?_
      obtain ⟨g_42, hw⟩ := hw
      obtain ⟨hpr43, hw⟩ := hw
      obtain ⟨⟨wr43, ur43, hrr43⟩, hw⟩ := hw
      refine va_csFq (va_runF (C.clsAt (ci := 10) (q := (RJ3, TJ3, 3)) rfl) (As := [.int x3]) (rest := [.ref v41]) C.fix (met_J3_get l g g_42 M x2 x3 hpr43) (cwF_X2_65 C ⟨Nat.le_of_ble_eq_true rfl, Nat.le_of_ble_eq_true rfl⟩) (preV_of C (P := (nh g M)) (nh.recv C hM hrr43 (q := (RJ3, TJ3, 3)) rfl) hS hM _) rfl rfl hl.1 rfl (lv_room (Nat.le_of_ble_eq_true rfl)) dX2_correctLinks_79 ⟨hkc, hks⟩) (fun r43 er43 => ?_)
      replace hw := hw r43 er43
      obtain ⟨b44, eb44, hw⟩ := hw
      subst eb44
      obtain ⟨⟨wt45, hat45⟩, hw⟩ := hw
      refine va_castS hx hb hown (C.ts _ q323) (C.clsAt (ci := 19) (q := (RJ7, TJ7, 1)) rfl) (hat45.recv C hS) dX2_correctLinks_84 ?_
      obtain ⟨g_46, hw⟩ := hw
      obtain ⟨hpr47, hw⟩ := hw
      obtain ⟨⟨wr47, hrr47⟩, hw⟩ := hw
      refine vp_callSi (va_runV (As := []) (rest := [.ref v41]) C.fix (met_J7_intValue l g g_46 M b44 hpr47) (cw_X2_71 C.ts ⟨Nat.le_of_ble_eq_true rfl, Nat.le_of_ble_eq_true rfl⟩) (preV_of C (P := (nh g M)) (hrr47.recv C hS) hS hM _) rfl rfl hl.1 rfl (lv_room (Nat.le_of_ble_eq_true rfl)) dX2_correctLinks_87 ⟨hkc, hks⟩).run (fun r47 er47 => ?_)
      replace hw := hw r47 er47
      refine lv_aload_n hx hb dX2_correctLinks_90 rfl (lv_at hl 1 rfl) ?_
      refine lv_iload_n hx hb dX2_correctLinks_91 rfl (lv_at hl 2 rfl) ?_
      refine lv_iconst (v := 1) hx hb dX2_correctLinks_92 (by decide) ?_
      refine lv_iadd hx hb dX2_correctLinks_93 ?_
      refine lv_iconst (v := (-1)) hx hb dX2_correctLinks_94 (by decide) ?_
      obtain ⟨hpr48, hw⟩ := hw
      refine va_csq (va_runS (As := [.int (-1)]) (rest := [.int (x3 + 1), .ref x2, .int r47, .ref v41]) C.fix (met_J7_valueOf l g  M (-1) hpr48) (cw_X2_74 C.ts ⟨Nat.le_of_ble_eq_true rfl, Nat.le_of_ble_eq_true rfl⟩) (preS_of C (P := (nh g M)) hS hM _) rfl rfl hl.1 rfl (lv_room (Nat.le_of_ble_eq_true rfl)) dX2_correctLinks_95 ⟨hkc, hks⟩).run (fun r48 er48 => ?_)
      replace hw := hw r48 er48
      obtain ⟨b49, eb49, hw⟩ := hw
      subst eb49
      obtain ⟨g_50, g_51, hw⟩ := hw
      obtain ⟨hpr52, hw⟩ := hw
      refine va_csq (va_runS (As := [.ref x2, .int (x3 + 1), .ref b49]) (rest := [.int r47, .ref v41]) C.fix (met_X2_elementOr l g g_50 g_51 M x2 (x3 + 1) b49 hpr52) (cw_X2_86 C.ts ⟨Nat.le_of_ble_eq_true rfl, Nat.le_of_ble_eq_true rfl⟩) (preS_of C (P := (nh g M)) hS hM _) rfl rfl hl.1 rfl (lv_room (Nat.le_of_ble_eq_true rfl)) dX2_correctLinks_98 ⟨hkc, hks⟩).run (fun r52 er52 => ?_)
      replace hw := hw r52 er52
      obtain ⟨b53, eb53, hw⟩ := hw
      subst eb53
      obtain ⟨⟨wt54, hat54⟩, hw⟩ := hw
      refine va_castS hx hb hown (C.ts _ q323) (C.clsAt (ci := 19) (q := (RJ7, TJ7, 1)) rfl) (hat54.recv C hS) dX2_correctLinks_101 ?_
      obtain ⟨g_55, hw⟩ := hw
      obtain ⟨hpr56, hw⟩ := hw
      obtain ⟨⟨wr56, hrr56⟩, hw⟩ := hw
      refine vp_callSi (va_runV (As := []) (rest := [.int r47, .ref v41]) C.fix (met_J7_intValue l g g_55 M b53 hpr56) (cw_X2_71 C.ts ⟨Nat.le_of_ble_eq_true rfl, Nat.le_of_ble_eq_true rfl⟩) (preV_of C (P := (nh g M)) (hrr56.recv C hS) hS hM _) rfl rfl hl.1 rfl (lv_room (Nat.le_of_ble_eq_true rfl)) dX2_correctLinks_104 ⟨hkc, hks⟩).run (fun r56 er56 => ?_)
      replace hw := hw r56 er56
      obtain ⟨nf57, f57, ⟨tf57, hef57⟩, hif57, hw⟩ := hw
      refine g_iast C hM hS hef57 hif57 dX2_correctLinks_107 (fun H locs hM hS => ?_)
      obtain ⟨M58, eM58⟩ : ∃ N, N = nup M v41 (tf57, .inl (g.2.2.2 0, nf57, .inl (upd f57 r47.toNatClampNeg r56))) := ⟨_, rfl⟩
      rw [← eM58] at hM
      replace hw := hw M58 ⟨tf57, f57, hef57, eM58⟩
      refine lv_aload_n hx hb dX2_correctLinks_108 rfl (lv_at hl 0 rfl) ?_
      obtain ⟨v59, ⟨tv59, fsv59, hev59, hvv59⟩, hw⟩ := hw
      refine g_getN C in_X3 hM hev59 rfl 1 (by decide) q143 (fun _ h => h) (v := .ref v59) hvv59 dX2_correctLinks_109 ?_
      refine lv_aload_n hx hb dX2_correctLinks_112 rfl (lv_at hl 1 rfl) ?_
      refine lv_iload_n hx hb dX2_correctLinks_113 rfl (lv_at hl 2 rfl) ?_
      obtain ⟨g_60, hw⟩ := hw
      obtain ⟨hpr61, hw⟩ := hw
      obtain ⟨⟨wr61, ur61, hrr61⟩, hw⟩ := hw
      refine va_csFq (va_runF (C.clsAt (ci := 10) (q := (RJ3, TJ3, 3)) rfl) (As := [.int x3]) (rest := [.ref v59]) C.fix (met_J3_get l g g_60 M58 x2 x3 hpr61) (cwF_X2_65 C ⟨Nat.le_of_ble_eq_true rfl, Nat.le_of_ble_eq_true rfl⟩) (preV_of C (P := (nh g M58)) (nh.recv C hM hrr61 (q := (RJ3, TJ3, 3)) rfl) hS hM _) rfl rfl hl.1 rfl (lv_room (Nat.le_of_ble_eq_true rfl)) dX2_correctLinks_114 ⟨hkc, hks⟩) (fun r61 er61 => ?_)
      replace hw := hw r61 er61
      obtain ⟨b62, eb62, hw⟩ := hw
      subst eb62
      obtain ⟨⟨wt63, hat63⟩, hw⟩ := hw
      refine va_castS hx hb hown (C.ts _ q323) (C.clsAt (ci := 19) (q := (RJ7, TJ7, 1)) rfl) (hat63.recv C hS) dX2_correctLinks_119 ?_
      obtain ⟨g_64, hw⟩ := hw
      obtain ⟨hpr65, hw⟩ := hw
      obtain ⟨⟨wr65, hrr65⟩, hw⟩ := hw
      refine vp_callSi (va_runV (As := []) (rest := [.ref v59]) C.fix (met_J7_intValue l g g_64 M58 b62 hpr65) (cw_X2_71 C.ts ⟨Nat.le_of_ble_eq_true rfl, Nat.le_of_ble_eq_true rfl⟩) (preV_of C (P := (nh g M58)) (hrr65.recv C hS) hS hM _) rfl rfl hl.1 rfl (lv_room (Nat.le_of_ble_eq_true rfl)) dX2_correctLinks_122 ⟨hkc, hks⟩).run (fun r65 er65 => ?_)
      replace hw := hw r65 er65
      refine lv_aload_n hx hb dX2_correctLinks_125 rfl (lv_at hl 1 rfl) ?_
      refine lv_iload_n hx hb dX2_correctLinks_126 rfl (lv_at hl 2 rfl) ?_
      refine lv_iconst (v := 2) hx hb dX2_correctLinks_127 (by decide) ?_
      refine lv_iadd hx hb dX2_correctLinks_128 ?_
      refine lv_iconst (v := (-1)) hx hb dX2_correctLinks_129 (by decide) ?_
      obtain ⟨hpr66, hw⟩ := hw
      refine va_csq (va_runS (As := [.int (-1)]) (rest := [.int (x3 + 2), .ref x2, .int r65, .ref v59]) C.fix (met_J7_valueOf l g  M58 (-1) hpr66) (cw_X2_74 C.ts ⟨Nat.le_of_ble_eq_true rfl, Nat.le_of_ble_eq_true rfl⟩) (preS_of C (P := (nh g M58)) hS hM _) rfl rfl hl.1 rfl (lv_room (Nat.le_of_ble_eq_true rfl)) dX2_correctLinks_130 ⟨hkc, hks⟩).run (fun r66 er66 => ?_)
      replace hw := hw r66 er66
      obtain ⟨b67, eb67, hw⟩ := hw
      subst eb67
      obtain ⟨g_68, g_69, hw⟩ := hw
      obtain ⟨hpr70, hw⟩ := hw
      refine va_csq (va_runS (As := [.ref x2, .int (x3 + 2), .ref b67]) (rest := [.int r65, .ref v59]) C.fix (met_X2_elementOr l g g_68 g_69 M58 x2 (x3 + 2) b67 hpr70) (cw_X2_86 C.ts ⟨Nat.le_of_ble_eq_true rfl, Nat.le_of_ble_eq_true rfl⟩) (preS_of C (P := (nh g M58)) hS hM _) rfl rfl hl.1 rfl (lv_room (Nat.le_of_ble_eq_true rfl)) dX2_correctLinks_133 ⟨hkc, hks⟩).run (fun r70 er70 => ?_)
      replace hw := hw r70 er70
      obtain ⟨b71, eb71, hw⟩ := hw
      subst eb71
      obtain ⟨⟨wt72, hat72⟩, hw⟩ := hw
      refine va_castS hx hb hown (C.ts _ q323) (C.clsAt (ci := 19) (q := (RJ7, TJ7, 1)) rfl) (hat72.recv C hS) dX2_correctLinks_136 ?_
      obtain ⟨g_73, hw⟩ := hw
      obtain ⟨hpr74, hw⟩ := hw
      obtain ⟨⟨wr74, hrr74⟩, hw⟩ := hw
      refine vp_callSi (va_runV (As := []) (rest := [.int r65, .ref v59]) C.fix (met_J7_intValue l g g_73 M58 b71 hpr74) (cw_X2_71 C.ts ⟨Nat.le_of_ble_eq_true rfl, Nat.le_of_ble_eq_true rfl⟩) (preV_of C (P := (nh g M58)) (hrr74.recv C hS) hS hM _) rfl rfl hl.1 rfl (lv_room (Nat.le_of_ble_eq_true rfl)) dX2_correctLinks_139 ⟨hkc, hks⟩).run (fun r74 er74 => ?_)
      replace hw := hw r74 er74
      obtain ⟨nf75, f75, ⟨tf75, hef75⟩, hif75, hw⟩ := hw
      refine g_iast C hM hS hef75 hif75 dX2_correctLinks_142 (fun H locs hM hS => ?_)
      obtain ⟨M76, eM76⟩ : ∃ N, N = nup M58 v59 (tf75, .inl (g.2.2.2 0, nf75, .inl (upd f75 r65.toNatClampNeg r74))) := ⟨_, rfl⟩
      rw [← eM76] at hM
      replace hw := hw M76 ⟨tf75, f75, hef75, eM76⟩
      obtain ⟨z77, ez77⟩ : ∃ y : Int32, y = x3 + 1 := ⟨_, rfl⟩
      have hw := hw z77 ez77
      refine lv_iinc (v := z77) (lv' := [(3, .int z77), (1, .ref x1), (2, .ref x2)]) hx hb dX2_correctLinks_143 hl (k := 2) rfl (by rw [ez77]; rfl) (by decide) rfl (fun ls hl => ?_)
      refine lv_goto (tgt := 63) hx hb dX2_correctLinks_146 (by decide) ?_
      exact ih M76 kc ks x1 x2 z77 hw _ _ hM hS _ (lv_sub hl [1, 2, 0] rfl)
set_option maxHeartbeats 4000000 in
theorem wk_X2_correctLinks (l : Launch) (g : gG) (A : RA) (f : Row) (M : nM) (o : Nat) (post : Option Nat → nM → Prop) (hw : wp_X2_correctLinks g A f post M o) : Met l yX2_correctLinks (ws_ yX2_correctLinks cX2_correctLinks 4 (some (.object "InnRoad$Links"))) ({ frames := 8, cells := 16, slots := 212, locals := 512 } : Room) (va_Pc [.ref o] (Pg g (nh g M))) (va_Qq post (fun u t => nh g u t.heap) (Ag g)) 16 212 (Ag g) := by
  refine Met.ofW (cc := cX2_correctLinks) (maxL := 4) (ret := (some (.object "InnRoad$Links"))) (by decide) rfl ?_
  intro p e s m args below meth c s₁ B hml hv
  obtain ⟨rfl, hG, hM⟩ := hv
  have C : Cx p s m _ meth c cX2_correctLinks 4 RX2 (some (.object "InnRoad$Links")) g := Cx.of B hml hG
  have hx := C.1
  have hb := C.2.1
  have hown := C.2.2.2.1
  have hr := C.2.2.2.2.2.1
  have hlocks := C.2.2.2.2.2.2.1
  have hS : va_S (Ag g) s.heap s.heap [] := va_S.rf
  refine lv_start ([.ref o] : List Value) (L := [(0, .ref o)]) (Nat.le_of_ble_eq_true rfl) rfl (fun ls hl => ?_)
  refine g_new C (ci := 2) in_X3 tyX3 tyX3_ok q131 q132 q72 hM hS rfl (fs := [.null, .null, .int 0, .int 0, .int 0]) (fun j hj => by match j, hj with | 0, _ => rfl | 1, _ => rfl | 2, _ => rfl | 3, _ => rfl | 4, _ => rfl) (Nat.le_of_ble_eq_true rfl) (Nat.le_of_ble_eq_true rfl) dX2_correctLinks_0 (fun q => (q, 0)) (fun q1 H hqq1 hM hS => ?_)
  obtain ⟨M2, eM2⟩ : ∃ N, N = nup M q1 ((fun q => (q, 0)) q1, .inr (2, [.null, .null, .int 0, .int 0, .int 0])) := ⟨_, rfl⟩
  rw [← eM2] at hM
  replace hw := hw q1 M2 hqq1 eM2
  refine lv_dup hx hb dX2_correctLinks_3 rfl ?_
  obtain ⟨g_3, g_4, hw⟩ := hw
  obtain ⟨hpr5, hw⟩ := hw
  refine va_callv (va_runI (As := []) (rest := [.ref q1]) C.fix (met_X3_init l g g_3 g_4 M2 q1 hpr5) (cw_X2_19 C.ts ⟨Nat.le_of_ble_eq_true rfl, Nat.le_of_ble_eq_true rfl⟩) (preS_of C (P := (nh g M2)) hS hM _) rfl rfl hl.1 rfl (lv_room (Nat.le_of_ble_eq_true rfl)) dX2_correctLinks_4 ⟨(Nat.le_of_ble_eq_true rfl), (Nat.le_of_ble_eq_true rfl)⟩) hS (fun _ _ h => h) (fun _ h => h) (fun M6 t H locs ht _ hw1 hB _ _ hS => ?_)
  have hM : nh g M6 H := by rw [← ht]; exact hB
  replace hw := hw M6 hw1
  refine lv_astore_n (lv' := [(1, .ref q1), (0, .ref o)]) hx hb dX2_correctLinks_7 rfl hl (by decide) rfl (fun ls hl => ?_)
  refine lv_aload_n hx hb dX2_correctLinks_8 rfl (lv_at hl 1 rfl) ?_
  obtain ⟨g_7, g_8, hw⟩ := hw
  obtain ⟨hpr9, hw⟩ := hw
  obtain ⟨⟨wr9, ur9, hrr9⟩, hw⟩ := hw
  refine va_callq (va_runV (As := []) (rest := []) C.fix (met_X2_byMiles l g g_7 g_8 M6 o hpr9) (cw_X2_82 C.ts ⟨Nat.le_of_ble_eq_true rfl, Nat.le_of_ble_eq_true rfl⟩) (preV_of C (P := (nh g M6)) (nh.recv C hM hrr9 (q := (RX2, TX2, 5)) rfl) hS hM _) rfl rfl hl.1 rfl (lv_room (Nat.le_of_ble_eq_true rfl)) dX2_correctLinks_9 ⟨(Nat.le_of_ble_eq_true rfl), (Nat.le_of_ble_eq_true rfl)⟩) hS (fun _ _ h => h) (fun _ h => h) (fun r9 M10 t H locs ht _ hw1 hB _ _ hS => ?_)
  have hM : nh g M10 H := by rw [← ht]; exact hB
  replace hw := hw r9 M10 hw1
  obtain ⟨b11, eb11, hw⟩ := hw
  subst eb11
  refine lv_astore_n (lv' := [(2, .ref b11), (1, .ref q1), (0, .ref o)]) hx hb dX2_correctLinks_12 rfl hl (by decide) rfl (fun ls hl => ?_)
  refine lv_aload_n hx hb dX2_correctLinks_13 rfl (lv_at hl 1 rfl) ?_
  refine lv_aload_n hx hb dX2_correctLinks_14 rfl (lv_at hl 0 rfl) ?_
  refine lv_iconst (v := 0) hx hb dX2_correctLinks_15 (by decide) ?_
  refine lv_iconst (v := (-1)) hx hb dX2_correctLinks_16 (by decide) ?_
  obtain ⟨hpr12, hw⟩ := hw
  refine va_csq (va_runS (As := [.int (-1)]) (rest := [.int 0, .ref b11, .ref q1]) C.fix (met_J7_valueOf l g  M10 (-1) hpr12) (cw_X2_74 C.ts ⟨Nat.le_of_ble_eq_true rfl, Nat.le_of_ble_eq_true rfl⟩) (preS_of C (P := (nh g M10)) hS hM _) rfl rfl hl.1 rfl (lv_room (Nat.le_of_ble_eq_true rfl)) dX2_correctLinks_17 ⟨Nat.le_of_ble_eq_true rfl, Nat.le_of_ble_eq_true rfl⟩).run (fun r12 er12 => ?_)
  replace hw := hw r12 er12
  obtain ⟨b13, eb13, hw⟩ := hw
  subst eb13
  obtain ⟨g_14, g_15, hw⟩ := hw
  obtain ⟨hpr16, hw⟩ := hw
  refine va_csq (va_runS (As := [.ref b11, .int 0, .ref b13]) (rest := [.ref q1]) C.fix (met_X2_elementOr l g g_14 g_15 M10 b11 0 b13 hpr16) (cw_X2_86 C.ts ⟨Nat.le_of_ble_eq_true rfl, Nat.le_of_ble_eq_true rfl⟩) (preS_of C (P := (nh g M10)) hS hM _) rfl rfl hl.1 rfl (lv_room (Nat.le_of_ble_eq_true rfl)) dX2_correctLinks_20 ⟨Nat.le_of_ble_eq_true rfl, Nat.le_of_ble_eq_true rfl⟩).run (fun r16 er16 => ?_)
  replace hw := hw r16 er16
  obtain ⟨b17, eb17, hw⟩ := hw
  subst eb17
  obtain ⟨⟨wt18, hat18⟩, hw⟩ := hw
  refine va_castS hx hb hown (C.ts _ q323) (C.clsAt (ci := 19) (q := (RJ7, TJ7, 1)) rfl) (hat18.recv C hS) dX2_correctLinks_23 ?_
  obtain ⟨g_19, hw⟩ := hw
  obtain ⟨hpr20, hw⟩ := hw
  obtain ⟨⟨wr20, hrr20⟩, hw⟩ := hw
  refine vp_callSi (va_runV (As := []) (rest := [.ref q1]) C.fix (met_J7_intValue l g g_19 M10 b17 hpr20) (cw_X2_71 C.ts ⟨Nat.le_of_ble_eq_true rfl, Nat.le_of_ble_eq_true rfl⟩) (preV_of C (P := (nh g M10)) (hrr20.recv C hS) hS hM _) rfl rfl hl.1 rfl (lv_room (Nat.le_of_ble_eq_true rfl)) dX2_correctLinks_26 ⟨Nat.le_of_ble_eq_true rfl, Nat.le_of_ble_eq_true rfl⟩).run (fun r20 er20 => ?_)
  replace hw := hw r20 er20
  obtain ⟨⟨tp21, fsp21, hep21, hkp21⟩, hw⟩ := hw
  refine g_putN C in_X3 tyX3 tyX3_ok nmX3 hM hS hep21 rfl 2 (by decide) q147 (fun _ h => h) rfl (v := .int r20) rfl rfl hkp21 dX2_correctLinks_29 (fun H locs hM hS => ?_)
  obtain ⟨M22, eM22⟩ : ∃ N, N = nup M10 q1 (tp21, .inr (2, fsp21.set 2 (.int r20))) := ⟨_, rfl⟩
  rw [← eM22] at hM
  replace hw := hw M22 ⟨tp21, fsp21, hep21, eM22⟩
  refine lv_aload_n hx hb dX2_correctLinks_32 rfl (lv_at hl 1 rfl) ?_
  refine lv_aload_n hx hb dX2_correctLinks_33 rfl (lv_at hl 0 rfl) ?_
  refine lv_iconst (v := 1) hx hb dX2_correctLinks_34 (by decide) ?_
  refine lv_iconst (v := (-1)) hx hb dX2_correctLinks_35 (by decide) ?_
  obtain ⟨hpr23, hw⟩ := hw
  refine va_csq (va_runS (As := [.int (-1)]) (rest := [.int 1, .ref b11, .ref q1]) C.fix (met_J7_valueOf l g  M22 (-1) hpr23) (cw_X2_74 C.ts ⟨Nat.le_of_ble_eq_true rfl, Nat.le_of_ble_eq_true rfl⟩) (preS_of C (P := (nh g M22)) hS hM _) rfl rfl hl.1 rfl (lv_room (Nat.le_of_ble_eq_true rfl)) dX2_correctLinks_36 ⟨Nat.le_of_ble_eq_true rfl, Nat.le_of_ble_eq_true rfl⟩).run (fun r23 er23 => ?_)
  replace hw := hw r23 er23
  obtain ⟨b24, eb24, hw⟩ := hw
  subst eb24
  obtain ⟨g_25, g_26, hw⟩ := hw
  obtain ⟨hpr27, hw⟩ := hw
  refine va_csq (va_runS (As := [.ref b11, .int 1, .ref b24]) (rest := [.ref q1]) C.fix (met_X2_elementOr l g g_25 g_26 M22 b11 1 b24 hpr27) (cw_X2_86 C.ts ⟨Nat.le_of_ble_eq_true rfl, Nat.le_of_ble_eq_true rfl⟩) (preS_of C (P := (nh g M22)) hS hM _) rfl rfl hl.1 rfl (lv_room (Nat.le_of_ble_eq_true rfl)) dX2_correctLinks_39 ⟨Nat.le_of_ble_eq_true rfl, Nat.le_of_ble_eq_true rfl⟩).run (fun r27 er27 => ?_)
  replace hw := hw r27 er27
  obtain ⟨b28, eb28, hw⟩ := hw
  subst eb28
  obtain ⟨⟨wt29, hat29⟩, hw⟩ := hw
  refine va_castS hx hb hown (C.ts _ q323) (C.clsAt (ci := 19) (q := (RJ7, TJ7, 1)) rfl) (hat29.recv C hS) dX2_correctLinks_42 ?_
  obtain ⟨g_30, hw⟩ := hw
  obtain ⟨hpr31, hw⟩ := hw
  obtain ⟨⟨wr31, hrr31⟩, hw⟩ := hw
  refine vp_callSi (va_runV (As := []) (rest := [.ref q1]) C.fix (met_J7_intValue l g g_30 M22 b28 hpr31) (cw_X2_71 C.ts ⟨Nat.le_of_ble_eq_true rfl, Nat.le_of_ble_eq_true rfl⟩) (preV_of C (P := (nh g M22)) (hrr31.recv C hS) hS hM _) rfl rfl hl.1 rfl (lv_room (Nat.le_of_ble_eq_true rfl)) dX2_correctLinks_45 ⟨Nat.le_of_ble_eq_true rfl, Nat.le_of_ble_eq_true rfl⟩).run (fun r31 er31 => ?_)
  replace hw := hw r31 er31
  obtain ⟨⟨tp32, fsp32, hep32, hkp32⟩, hw⟩ := hw
  refine g_putN C in_X3 tyX3 tyX3_ok nmX3 hM hS hep32 rfl 3 (by decide) q151 (fun _ h => h) rfl (v := .int r31) rfl rfl hkp32 dX2_correctLinks_48 (fun H locs hM hS => ?_)
  obtain ⟨M33, eM33⟩ : ∃ N, N = nup M22 q1 (tp32, .inr (2, fsp32.set 3 (.int r31))) := ⟨_, rfl⟩
  rw [← eM33] at hM
  replace hw := hw M33 ⟨tp32, fsp32, hep32, eM33⟩
  refine lv_aload_n hx hb dX2_correctLinks_51 rfl (lv_at hl 1 rfl) ?_
  refine lv_aload_n hx hb dX2_correctLinks_52 rfl (lv_at hl 0 rfl) ?_
  obtain ⟨g_34, hw⟩ := hw
  obtain ⟨hpr35, hw⟩ := hw
  obtain ⟨⟨wr35, ur35, hrr35⟩, hw⟩ := hw
  refine va_csFi (va_runF (C.clsAt (ci := 10) (q := (RJ3, TJ3, 3)) rfl) (As := []) (rest := [.ref q1]) C.fix (met_J3_size l g g_34 M33 b11 hpr35) (cwF_X2_59 C ⟨Nat.le_of_ble_eq_true rfl, Nat.le_of_ble_eq_true rfl⟩) (preV_of C (P := (nh g M33)) (nh.recv C hM hrr35 (q := (RJ3, TJ3, 3)) rfl) hS hM _) rfl rfl hl.1 rfl (lv_room (Nat.le_of_ble_eq_true rfl)) dX2_correctLinks_53 ⟨Nat.le_of_ble_eq_true rfl, Nat.le_of_ble_eq_true rfl⟩) (fun r35 er35 => ?_)
  replace hw := hw r35 er35
  obtain ⟨⟨tp36, fsp36, hep36, hkp36⟩, hw⟩ := hw
  refine g_putN C in_X3 tyX3 tyX3_ok nmX3 hM hS hep36 rfl 4 (by decide) q155 (fun _ h => h) rfl (v := .int r35) rfl rfl hkp36 dX2_correctLinks_58 (fun H locs hM hS => ?_)
  obtain ⟨M37, eM37⟩ : ∃ N, N = nup M33 q1 (tp36, .inr (2, fsp36.set 4 (.int r35))) := ⟨_, rfl⟩
  rw [← eM37] at hM
  replace hw := hw M37 ⟨tp36, fsp36, hep36, eM37⟩
  refine lv_iconst (v := 0) hx hb dX2_correctLinks_61 (by decide) ?_
  refine lv_istore_n (lv' := [(3, .int 0), (2, .ref b11), (1, .ref q1), (0, .ref o)]) hx hb dX2_correctLinks_62 rfl hl (by decide) rfl (fun ls hl => ?_)
  obtain ⟨n_, hw⟩ := hw
  exact wkb_X2_correctLinks_63 C post  A f o  n_ M37 16 212 q1 b11 0 hw _ _ hM hS _ (lv_sub hl [2, 1, 0] rfl)
set_option maxHeartbeats 4000000 in
theorem met_X2_correctLinks (l : Launch) (g : gG) (A : RA) (f : Row) (M : nM) (o : Nat) (hpre : pre_X2_correctLinks g A f M o) : Met l yX2_correctLinks (ws_ yX2_correctLinks cX2_correctLinks 4 (some (.object "InnRoad$Links"))) ({ frames := 8, cells := 16, slots := 212, locals := 512 } : Room) (va_Pc [.ref o] (Pg g (nh g M))) (va_Qq (fun r M' => post_X2_correctLinks g A f M o r M') (fun u t => nh g u t.heap) (Ag g)) 16 212 (Ag g) :=
  wk_X2_correctLinks l g A f M o _ (pr_X2_correctLinks g A f M o hpre)

set_option maxHeartbeats 4000000 in
theorem wk_X2_wrongValues_2 (l : Launch) (g : gG) (A : RA) (f : Row) (M : nM) (o : Nat) (post : Int32 → nM → Prop) (hw : wp_X2_wrongValues_2 g A f post M o) : Met l yX2_wrongValues_2 (ws_ yX2_wrongValues_2 cX2_wrongValues_2 1 (some .int)) ({ frames := 9, cells := 16, slots := 212, locals := 576 } : Room) (va_Pc [.ref o] (Pg g (nh g M))) (va_Qi post (fun u t => nh g u t.heap) (Ag g)) 16 212 (Ag g) := by
  refine Met.ofW (cc := cX2_wrongValues_2) (maxL := 1) (ret := (some .int)) (by decide) rfl ?_
  intro p e s m args below meth c s₁ B hml hv
  obtain ⟨rfl, hG, hM⟩ := hv
  have C : Cx p s m _ meth c cX2_wrongValues_2 1 RX2 (some .int) g := Cx.of B hml hG
  have hx := C.1
  have hb := C.2.1
  have hown := C.2.2.2.1
  have hr := C.2.2.2.2.2.1
  have hlocks := C.2.2.2.2.2.2.1
  have hS : va_S (Ag g) s.heap s.heap [] := va_S.rf
  refine lv_start ([.ref o] : List Value) (L := [(0, .ref o)]) (Nat.le_of_ble_eq_true rfl) rfl (fun ls hl => ?_)
  refine lv_aload_n hx hb dX2_wrongValues_2_0 rfl (lv_at hl 0 rfl) ?_
  refine lv_aload_n hx hb dX2_wrongValues_2_1 rfl (lv_at hl 0 rfl) ?_
  obtain ⟨g_1, g_2, hw⟩ := hw
  obtain ⟨hpr3, hw⟩ := hw
  obtain ⟨⟨wr3, ur3, hrr3⟩, hw⟩ := hw
  refine va_callq (va_runV (As := []) (rest := [.ref o]) C.fix (met_X2_correctLinks l g g_1 g_2 M o hpr3) (cw_X2_114 C.ts ⟨Nat.le_of_ble_eq_true rfl, Nat.le_of_ble_eq_true rfl⟩) (preV_of C (P := (nh g M)) (nh.recv C hM hrr3 (q := (RX2, TX2, 5)) rfl) hS hM _) rfl rfl hl.1 rfl (lv_room (Nat.le_of_ble_eq_true rfl)) dX2_wrongValues_2_2 ⟨(Nat.le_of_ble_eq_true rfl), (Nat.le_of_ble_eq_true rfl)⟩) hS (fun _ _ h => h) (fun _ h => h) (fun r3 M4 t H locs ht _ hw1 hB _ _ hS => ?_)
  have hM : nh g M4 H := by rw [← ht]; exact hB
  replace hw := hw r3 M4 hw1
  obtain ⟨b5, eb5, hw⟩ := hw
  subst eb5
  obtain ⟨g_6, g_7, g_8, g_9, g_10, hw⟩ := hw
  obtain ⟨hpr11, hw⟩ := hw
  obtain ⟨⟨wr11, ur11, hrr11⟩, hw⟩ := hw
  refine vp_callSi (va_runV (As := [.ref b5]) (rest := []) C.fix (met_X2_wrongValues l g g_6 g_7 g_8 g_9 g_10 M4 o b5 hpr11) (cw_X2_118 C.ts ⟨Nat.le_of_ble_eq_true rfl, Nat.le_of_ble_eq_true rfl⟩) (preV_of C (P := (nh g M4)) (nh.recv C hM hrr11 (q := (RX2, TX2, 5)) rfl) hS hM _) rfl rfl hl.1 rfl (lv_room (Nat.le_of_ble_eq_true rfl)) dX2_wrongValues_2_5 ⟨Nat.le_of_ble_eq_true rfl, Nat.le_of_ble_eq_true rfl⟩).run (fun r11 er11 => ?_)
  replace hw := hw r11 er11
  exact W.iret (v := r11) hx hb hr (fun t ht _ => ⟨⟨r11, M4, rfl, hw, hM.tt ht⟩, hS.F ht⟩) hS.2.2 dX2_wrongValues_2_8
set_option maxHeartbeats 4000000 in
theorem met_X2_wrongValues_2 (l : Launch) (g : gG) (A : RA) (f : Row) (M : nM) (o : Nat) (hpre : pre_X2_wrongValues_2 g A f M o) : Met l yX2_wrongValues_2 (ws_ yX2_wrongValues_2 cX2_wrongValues_2 1 (some .int)) ({ frames := 9, cells := 16, slots := 212, locals := 576 } : Room) (va_Pc [.ref o] (Pg g (nh g M))) (va_Qi (fun r M' => post_X2_wrongValues_2 g A f M o r M') (fun u t => nh g u t.heap) (Ag g)) 16 212 (Ag g) :=
  wk_X2_wrongValues_2 l g A f M o _ (pr_X2_wrongValues_2 g A f M o hpre)

set_option maxHeartbeats 4000000 in
theorem wk_X2_rebuild (l : Launch) (g : gG) (A : RA) (f : Row) (M : nM) (o : Nat) (post : Int32 → nM → Prop) (hw : wp_X2_rebuild g A f post M o) : Met l yX2_rebuild (ws_ yX2_rebuild cX2_rebuild 3 (some .int)) ({ frames := 9, cells := 16, slots := 212, locals := 576 } : Room) (va_Pc [.ref o] (Pg g (nh g M))) (va_Qi post (fun u t => nh g u t.heap) (Ag g)) 16 212 (Ag g) := by
  refine Met.ofW (cc := cX2_rebuild) (maxL := 3) (ret := (some .int)) (by decide) rfl ?_
  intro p e s m args below meth c s₁ B hml hv
  obtain ⟨rfl, hG, hM⟩ := hv
  have C : Cx p s m _ meth c cX2_rebuild 3 RX2 (some .int) g := Cx.of B hml hG
  have hx := C.1
  have hb := C.2.1
  have hown := C.2.2.2.1
  have hr := C.2.2.2.2.2.1
  have hlocks := C.2.2.2.2.2.2.1
  have hS : va_S (Ag g) s.heap s.heap [] := va_S.rf
  refine lv_start ([.ref o] : List Value) (L := [(0, .ref o)]) (Nat.le_of_ble_eq_true rfl) rfl (fun ls hl => ?_)
  refine lv_aload_n hx hb dX2_rebuild_0 rfl (lv_at hl 0 rfl) ?_
  obtain ⟨g_1, g_2, hw⟩ := hw
  obtain ⟨hpr3, hw⟩ := hw
  obtain ⟨⟨wr3, ur3, hrr3⟩, hw⟩ := hw
  refine va_callq (va_runV (As := []) (rest := []) C.fix (met_X2_correctLinks l g g_1 g_2 M o hpr3) (cw_X2_114 C.ts ⟨Nat.le_of_ble_eq_true rfl, Nat.le_of_ble_eq_true rfl⟩) (preV_of C (P := (nh g M)) (nh.recv C hM hrr3 (q := (RX2, TX2, 5)) rfl) hS hM _) rfl rfl hl.1 rfl (lv_room (Nat.le_of_ble_eq_true rfl)) dX2_rebuild_1 ⟨(Nat.le_of_ble_eq_true rfl), (Nat.le_of_ble_eq_true rfl)⟩) hS (fun _ _ h => h) (fun _ h => h) (fun r3 M4 t H locs ht _ hw1 hB _ _ hS => ?_)
  have hM : nh g M4 H := by rw [← ht]; exact hB
  replace hw := hw r3 M4 hw1
  obtain ⟨b5, eb5, hw⟩ := hw
  subst eb5
  refine lv_astore_n (lv' := [(1, .ref b5), (0, .ref o)]) hx hb dX2_rebuild_4 rfl hl (by decide) rfl (fun ls hl => ?_)
  refine lv_aload_n hx hb dX2_rebuild_5 rfl (lv_at hl 1 rfl) ?_
  refine lv_aload_n hx hb dX2_rebuild_6 rfl (lv_at hl 0 rfl) ?_
  obtain ⟨g_6, g_7, g_8, g_9, g_10, hw⟩ := hw
  obtain ⟨hpr11, hw⟩ := hw
  obtain ⟨⟨wr11, ur11, hrr11⟩, hw⟩ := hw
  refine vp_callSi (va_runV (As := [.ref b5]) (rest := []) C.fix (met_X2_wrongValues l g g_6 g_7 g_8 g_9 g_10 M4 o b5 hpr11) (cw_X2_118 C.ts ⟨Nat.le_of_ble_eq_true rfl, Nat.le_of_ble_eq_true rfl⟩) (preV_of C (P := (nh g M4)) (nh.recv C hM hrr11 (q := (RX2, TX2, 5)) rfl) hS hM _) rfl rfl hl.1 rfl (lv_room (Nat.le_of_ble_eq_true rfl)) dX2_rebuild_7 ⟨Nat.le_of_ble_eq_true rfl, Nat.le_of_ble_eq_true rfl⟩).run (fun r11 er11 => ?_)
  replace hw := hw r11 er11
  refine lv_istore_n (lv' := [(2, .int r11), (1, .ref b5), (0, .ref o)]) hx hb dX2_rebuild_10 rfl hl (by decide) rfl (fun ls hl => ?_)
  refine lv_aload_n hx hb dX2_rebuild_11 rfl (lv_at hl 2 rfl) ?_
  obtain ⟨v12, ⟨tv12, fsv12, hev12, hvv12⟩, hw⟩ := hw
  refine g_get C in_X2 hM hev12 rfl 1 (by decide) q174 (fun _ h => h) (v := .ref v12) hvv12 dX2_rebuild_12 ?_
  refine lv_aload_n hx hb dX2_rebuild_15 rfl (lv_at hl 1 rfl) ?_
  obtain ⟨g_13, g_14, g_15, g_16, g_17, g_18, g_19, g_20, g_21, g_22, hw⟩ := hw
  obtain ⟨hpr23, hw⟩ := hw
  obtain ⟨⟨wr23, ur23, hrr23⟩, hw⟩ := hw
  refine va_callv (va_runV (As := [.ref b5]) (rest := []) C.fix (met_X3_take l g g_13 g_14 g_15 g_16 g_17 g_18 g_19 g_20 g_21 g_22 M4 v12 b5 hpr23) (cw_X2_31 C.ts ⟨Nat.le_of_ble_eq_true rfl, Nat.le_of_ble_eq_true rfl⟩) (preV_of C (P := (nh g M4)) (nh.recv C hM hrr23 (q := (RX3, TX3, 5)) rfl) hS hM _) rfl rfl hl.1 rfl (lv_room (Nat.le_of_ble_eq_true rfl)) dX2_rebuild_16 ⟨Nat.le_of_ble_eq_true rfl, Nat.le_of_ble_eq_true rfl⟩) hS (fun _ _ h => h) (fun _ h => h) (fun M24 t H locs ht _ hw1 hB _ _ hS => ?_)
  have hM : nh g M24 H := by rw [← ht]; exact hB
  replace hw := hw M24 hw1
  refine lv_iload_n hx hb dX2_rebuild_19 rfl (lv_at hl 0 rfl) ?_
  exact W.iret (v := r11) hx hb hr (fun t ht _ => ⟨⟨r11, M24, rfl, hw, hM.tt ht⟩, hS.F ht⟩) hS.2.2 dX2_rebuild_20
set_option maxHeartbeats 4000000 in
theorem met_X2_rebuild (l : Launch) (g : gG) (A : RA) (f : Row) (M : nM) (o : Nat) (hpre : pre_X2_rebuild g A f M o) : Met l yX2_rebuild (ws_ yX2_rebuild cX2_rebuild 3 (some .int)) ({ frames := 9, cells := 16, slots := 212, locals := 576 } : Room) (va_Pc [.ref o] (Pg g (nh g M))) (va_Qi (fun r M' => post_X2_rebuild g A f M o r M') (fun u t => nh g u t.heap) (Ag g)) 16 212 (Ag g) :=
  wk_X2_rebuild l g A f M o _ (pr_X2_rebuild g A f M o hpre)

set_option maxHeartbeats 4000000 in
theorem wk_X2_repairedValue (l : Launch) (g : gG) (A : RA) (f : Row) (M : nM) (o : Nat) (post : Int32 → nM → Prop) (hw : wp_X2_repairedValue g A f post M o) : Met l yX2_repairedValue (ws_ yX2_repairedValue cX2_repairedValue 3 (some .int)) ({ frames := 9, cells := 16, slots := 212, locals := 576 } : Room) (va_Pc [.ref o] (Pg g (nh g M))) (va_Qi post (fun u t => nh g u t.heap) (Ag g)) 16 212 (Ag g) := by
  refine Met.ofW (cc := cX2_repairedValue) (maxL := 3) (ret := (some .int)) (by decide) rfl ?_
  intro p e s m args below meth c s₁ B hml hv
  obtain ⟨rfl, hG, hM⟩ := hv
  have C : Cx p s m _ meth c cX2_repairedValue 3 RX2 (some .int) g := Cx.of B hml hG
  have hx := C.1
  have hb := C.2.1
  have hown := C.2.2.2.1
  have hr := C.2.2.2.2.2.1
  have hlocks := C.2.2.2.2.2.2.1
  have hS : va_S (Ag g) s.heap s.heap [] := va_S.rf
  refine lv_start ([.ref o] : List Value) (L := [(0, .ref o)]) (Nat.le_of_ble_eq_true rfl) rfl (fun ls hl => ?_)
  refine lv_aload_n hx hb dX2_repairedValue_0 rfl (lv_at hl 0 rfl) ?_
  obtain ⟨g_1, g_2, hw⟩ := hw
  obtain ⟨hpr3, hw⟩ := hw
  obtain ⟨⟨wr3, ur3, hrr3⟩, hw⟩ := hw
  refine va_callq (va_runV (As := []) (rest := []) C.fix (met_X2_correctLinks l g g_1 g_2 M o hpr3) (cw_X2_114 C.ts ⟨Nat.le_of_ble_eq_true rfl, Nat.le_of_ble_eq_true rfl⟩) (preV_of C (P := (nh g M)) (nh.recv C hM hrr3 (q := (RX2, TX2, 5)) rfl) hS hM _) rfl rfl hl.1 rfl (lv_room (Nat.le_of_ble_eq_true rfl)) dX2_repairedValue_1 ⟨(Nat.le_of_ble_eq_true rfl), (Nat.le_of_ble_eq_true rfl)⟩) hS (fun _ _ h => h) (fun _ h => h) (fun r3 M4 t H locs ht _ hw1 hB _ _ hS => ?_)
  have hM : nh g M4 H := by rw [← ht]; exact hB
  replace hw := hw r3 M4 hw1
  obtain ⟨b5, eb5, hw⟩ := hw
  subst eb5
  refine lv_astore_n (lv' := [(1, .ref b5), (0, .ref o)]) hx hb dX2_repairedValue_4 rfl hl (by decide) rfl (fun ls hl => ?_)
  refine lv_aload_n hx hb dX2_repairedValue_5 rfl (lv_at hl 1 rfl) ?_
  obtain ⟨v6, ⟨tv6, fsv6, hev6, hvv6⟩, hw⟩ := hw
  refine g_get C in_X2 hM hev6 rfl 1 (by decide) q174 (fun _ h => h) (v := .ref v6) hvv6 dX2_repairedValue_6 ?_
  obtain ⟨v7, ⟨tv7, fsv7, hev7, hvv7⟩, hw⟩ := hw
  refine g_getN C in_X3 hM hev7 rfl 2 (by decide) q147 (fun _ h => h) (v := .int v7) hvv7 dX2_repairedValue_9 ?_
  refine lv_aload_n hx hb dX2_repairedValue_12 rfl (lv_at hl 0 rfl) ?_
  obtain ⟨v8, ⟨tv8, fsv8, hev8, hvv8⟩, hw⟩ := hw
  refine g_getN C in_X3 hM hev8 rfl 2 (by decide) q147 (fun _ h => h) (v := .int v8) hvv8 dX2_repairedValue_13 ?_
  refine lv_icmp_eq (tgt := 24) hx hb dX2_repairedValue_16 (by decide) (fun c9 => ?_) (fun c9 => ?_)
  · have hw := hw.1 c9
    refine lv_aload_n hx hb dX2_repairedValue_24 rfl (lv_at hl 1 rfl) ?_
    obtain ⟨v10, ⟨tv10, fsv10, hev10, hvv10⟩, hw⟩ := hw
    refine g_get C in_X2 hM hev10 rfl 1 (by decide) q174 (fun _ h => h) (v := .ref v10) hvv10 dX2_repairedValue_25 ?_
    obtain ⟨v11, ⟨tv11, fsv11, hev11, hvv11⟩, hw⟩ := hw
    refine g_getN C in_X3 hM hev11 rfl 3 (by decide) q151 (fun _ h => h) (v := .int v11) hvv11 dX2_repairedValue_28 ?_
    refine lv_aload_n hx hb dX2_repairedValue_31 rfl (lv_at hl 0 rfl) ?_
    obtain ⟨v12, ⟨tv12, fsv12, hev12, hvv12⟩, hw⟩ := hw
    refine g_getN C in_X3 hM hev12 rfl 3 (by decide) q151 (fun _ h => h) (v := .int v12) hvv12 dX2_repairedValue_32 ?_
    refine lv_icmp_eq (tgt := 43) hx hb dX2_repairedValue_35 (by decide) (fun c13 => ?_) (fun c13 => ?_)
    · have hw := hw.1 c13
      refine lv_aload_n hx hb dX2_repairedValue_43 rfl (lv_at hl 1 rfl) ?_
      refine lv_aload_n hx hb dX2_repairedValue_44 rfl (lv_at hl 0 rfl) ?_
      obtain ⟨g_14, g_15, g_16, g_17, g_18, hw⟩ := hw
      obtain ⟨hpr19, hw⟩ := hw
      obtain ⟨⟨wr19, ur19, hrr19⟩, hw⟩ := hw
      refine vp_callSi (va_runV (As := [.ref b5]) (rest := []) C.fix (met_X2_faultyInn l g g_14 g_15 g_16 g_17 g_18 M4 o b5 hpr19) (cw_X2_122 C.ts ⟨Nat.le_of_ble_eq_true rfl, Nat.le_of_ble_eq_true rfl⟩) (preV_of C (P := (nh g M4)) (nh.recv C hM hrr19 (q := (RX2, TX2, 5)) rfl) hS hM _) rfl rfl hl.1 rfl (lv_room (Nat.le_of_ble_eq_true rfl)) dX2_repairedValue_45 ⟨Nat.le_of_ble_eq_true rfl, Nat.le_of_ble_eq_true rfl⟩).run (fun r19 er19 => ?_)
      replace hw := hw r19 er19
      refine lv_istore_n (lv' := [(2, .int r19), (1, .ref b5), (0, .ref o)]) hx hb dX2_repairedValue_48 rfl hl (by decide) rfl (fun ls hl => ?_)
      refine lv_iload_n hx hb dX2_repairedValue_49 rfl (lv_at hl 0 rfl) ?_
      refine lv_iconst (v := (-1)) hx hb dX2_repairedValue_50 (by decide) ?_
      refine lv_icmp_ne (tgt := 59) hx hb dX2_repairedValue_51 (by decide) (fun c20 => ?_) (fun c20 => ?_)
      · have hw := hw.1 c20
        refine lv_aload_n hx hb dX2_repairedValue_59 rfl (lv_at hl 2 rfl) ?_
        obtain ⟨v21, ⟨tv21, fsv21, hev21, hvv21⟩, hw⟩ := hw
        refine g_get C in_X2 hM hev21 rfl 1 (by decide) q174 (fun _ h => h) (v := .ref v21) hvv21 dX2_repairedValue_60 ?_
        obtain ⟨v22, ⟨tv22, fsv22, hev22, hvv22⟩, hw⟩ := hw
        refine g_getN C in_X3 hM hev22 rfl 0 (by decide) q139 (fun _ h => h) (v := .ref v22) hvv22 dX2_repairedValue_63 ?_
        refine lv_iload_n hx hb dX2_repairedValue_66 rfl (lv_at hl 0 rfl) ?_
        obtain ⟨nf23, f23, ⟨tf23, hef23⟩, hif23, hw⟩ := hw
        refine g_iald C hM hef23 hif23 dX2_repairedValue_67 ?_
        obtain ⟨z24, ez24⟩ : ∃ y_, y_ = f23 r19.toNatClampNeg := ⟨_, rfl⟩
        rw [← ez24]
        replace hw := hw z24 ez24
        refine lv_aload_n hx hb dX2_repairedValue_68 rfl (lv_at hl 1 rfl) ?_
        obtain ⟨v25, ⟨tv25, fsv25, hev25, hvv25⟩, hw⟩ := hw
        refine g_getN C in_X3 hM hev25 rfl 0 (by decide) q139 (fun _ h => h) (v := .ref v25) hvv25 dX2_repairedValue_69 ?_
        refine lv_iload_n hx hb dX2_repairedValue_72 rfl (lv_at hl 0 rfl) ?_
        obtain ⟨nf26, f26, ⟨tf26, hef26⟩, hif26, hw⟩ := hw
        refine g_iald C hM hef26 hif26 dX2_repairedValue_73 ?_
        obtain ⟨z27, ez27⟩ : ∃ y_, y_ = f26 r19.toNatClampNeg := ⟨_, rfl⟩
        rw [← ez27]
        replace hw := hw z27 ez27
        refine lv_icmp_eq (tgt := 86) hx hb dX2_repairedValue_74 (by decide) (fun c28 => ?_) (fun c28 => ?_)
        · have hw := hw.1 c28
          refine lv_aload_n hx hb dX2_repairedValue_86 rfl (lv_at hl 1 rfl) ?_
          obtain ⟨v29, ⟨tv29, fsv29, hev29, hvv29⟩, hw⟩ := hw
          refine g_getN C in_X3 hM hev29 rfl 1 (by decide) q143 (fun _ h => h) (v := .ref v29) hvv29 dX2_repairedValue_87 ?_
          refine lv_iload_n hx hb dX2_repairedValue_90 rfl (lv_at hl 0 rfl) ?_
          obtain ⟨nf30, f30, ⟨tf30, hef30⟩, hif30, hw⟩ := hw
          refine g_iald C hM hef30 hif30 dX2_repairedValue_91 ?_
          obtain ⟨z31, ez31⟩ : ∃ y_, y_ = f30 r19.toNatClampNeg := ⟨_, rfl⟩
          rw [← ez31]
          replace hw := hw z31 ez31
          exact W.iret (v := z31) hx hb hr (fun t ht _ => ⟨⟨z31, M4, rfl, hw, hM.tt ht⟩, hS.F ht⟩) hS.2.2 dX2_repairedValue_92
        · have hw := hw.2 c28
          refine lv_aload_n hx hb dX2_repairedValue_77 rfl (lv_at hl 1 rfl) ?_
          obtain ⟨v32, ⟨tv32, fsv32, hev32, hvv32⟩, hw⟩ := hw
          refine g_getN C in_X3 hM hev32 rfl 0 (by decide) q139 (fun _ h => h) (v := .ref v32) hvv32 dX2_repairedValue_78 ?_
          refine lv_iload_n hx hb dX2_repairedValue_81 rfl (lv_at hl 0 rfl) ?_
          obtain ⟨nf33, f33, ⟨tf33, hef33⟩, hif33, hw⟩ := hw
          refine g_iald C hM hef33 hif33 dX2_repairedValue_82 ?_
          obtain ⟨z34, ez34⟩ : ∃ y_, y_ = f33 r19.toNatClampNeg := ⟨_, rfl⟩
          rw [← ez34]
          replace hw := hw z34 ez34
          refine lv_goto (tgt := 92) hx hb dX2_repairedValue_83 (by decide) ?_
          exact W.iret (v := z34) hx hb hr (fun t ht _ => ⟨⟨z34, M4, rfl, hw, hM.tt ht⟩, hS.F ht⟩) hS.2.2 dX2_repairedValue_92
      · have hw := hw.2 c20
        refine lv_aload_n hx hb dX2_repairedValue_54 rfl (lv_at hl 1 rfl) ?_
        obtain ⟨v35, ⟨tv35, fsv35, hev35, hvv35⟩, hw⟩ := hw
        refine g_getN C in_X3 hM hev35 rfl 4 (by decide) q155 (fun _ h => h) (v := .int v35) hvv35 dX2_repairedValue_55 ?_
        exact W.iret (v := v35) hx hb hr (fun t ht _ => ⟨⟨v35, M4, rfl, hw, hM.tt ht⟩, hS.F ht⟩) hS.2.2 dX2_repairedValue_58
    · have hw := hw.2 c13
      refine lv_aload_n hx hb dX2_repairedValue_38 rfl (lv_at hl 0 rfl) ?_
      obtain ⟨v36, ⟨tv36, fsv36, hev36, hvv36⟩, hw⟩ := hw
      refine g_getN C in_X3 hM hev36 rfl 3 (by decide) q151 (fun _ h => h) (v := .int v36) hvv36 dX2_repairedValue_39 ?_
      exact W.iret (v := v36) hx hb hr (fun t ht _ => ⟨⟨v36, M4, rfl, hw, hM.tt ht⟩, hS.F ht⟩) hS.2.2 dX2_repairedValue_42
  · have hw := hw.2 c9
    refine lv_aload_n hx hb dX2_repairedValue_19 rfl (lv_at hl 0 rfl) ?_
    obtain ⟨v37, ⟨tv37, fsv37, hev37, hvv37⟩, hw⟩ := hw
    refine g_getN C in_X3 hM hev37 rfl 2 (by decide) q147 (fun _ h => h) (v := .int v37) hvv37 dX2_repairedValue_20 ?_
    exact W.iret (v := v37) hx hb hr (fun t ht _ => ⟨⟨v37, M4, rfl, hw, hM.tt ht⟩, hS.F ht⟩) hS.2.2 dX2_repairedValue_23
set_option maxHeartbeats 4000000 in
theorem met_X2_repairedValue (l : Launch) (g : gG) (A : RA) (f : Row) (M : nM) (o : Nat) (hpre : pre_X2_repairedValue g A f M o) : Met l yX2_repairedValue (ws_ yX2_repairedValue cX2_repairedValue 3 (some .int)) ({ frames := 9, cells := 16, slots := 212, locals := 576 } : Room) (va_Pc [.ref o] (Pg g (nh g M))) (va_Qi (fun r M' => post_X2_repairedValue g A f M o r M') (fun u t => nh g u t.heap) (Ag g)) 16 212 (Ag g) :=
  wk_X2_repairedValue l g A f M o _ (pr_X2_repairedValue g A f M o hpre)

set_option maxHeartbeats 4000000 in
theorem wkb_X2_chain_16 (C : Cx p s m args meth c cX2_chain 3 RX2 (some (.object "java/util/List")) g) (post : Option Nat → nM → Prop) (A : RA) (f : Row) (o : Nat)  : ∀ (n : Nat) (M : nM) (kc : Nat) (ks : Nat) (x1 : Nat) (x2 : Int32), wpb_X2_chain_16 post  g A f o n M kc ks x1 x2 → ∀ (H : Heap) (locs : List Loc), nh g M H → va_S (Ag g) s.heap H locs → ∀ ls : Array Slot, lv_has ls 3 [(0, .ref o), (1, .ref x1), (2, .int x2)] → W p l e ({ frames := 8, cells := 13, slots := 183, locals := 512 } : Room) s m args below meth c H locs kc ks (MQ below (va_Qq post (fun u t => nh g u t.heap) (Ag g)) args s 13 183 (Ag g)) (F0 m 16 ls []) := by
  have hx := C.1
  have hb := C.2.1
  have hown := C.2.2.2.1
  have hr := C.2.2.2.2.2.1
  have hlocks := C.2.2.2.2.2.2.1
  intro n
  induction n with
  | zero =>
    intro M kc ks x1 x2 hw
    exact hw.elim
  | succ n ih =>
    intro M kc ks x1 x2 hw H locs hM hS ls hl
    obtain ⟨hkc, hks, hw⟩ := hw
    refine lv_aload_n hx hb dX2_chain_16 rfl (lv_at hl 0 rfl) ?_
    refine lv_iload_n hx hb dX2_chain_17 rfl (lv_at hl 2 rfl) ?_
    obtain ⟨g_7, g_8, hw⟩ := hw
    obtain ⟨hpr9, hw⟩ := hw
    obtain ⟨⟨wr9, ur9, hrr9⟩, hw⟩ := hw
    refine vp_callSi (va_runV (As := [.int x2]) (rest := []) C.fix (met_X2_hasInn l g g_7 g_8 M o x2 hpr9) (cw_X2_45 C.ts ⟨Nat.le_of_ble_eq_true rfl, Nat.le_of_ble_eq_true rfl⟩) (preV_of C (P := (nh g M)) (nh.recv C hM hrr9 (q := (RX2, TX2, 5)) rfl) hS hM _) rfl rfl hl.1 rfl (lv_room (Nat.le_of_ble_eq_true rfl)) dX2_chain_18 ⟨hkc, hks⟩).run (fun r9 er9 => ?_)
    replace hw := hw r9 er9
    refine lv_if_eq (tgt := 61) hx hb dX2_chain_21 (by decide) (fun c10 => ?_) (fun c10 => ?_)
    · have hw := hw.1 c10
      refine lv_aload_n hx hb dX2_chain_61 rfl (lv_at hl 1 rfl) ?_
      refine W.widen (k := 13) (n := 183) hkc hks ?_
      exact W.aret (v := va_rf (some x1)) hx hb hr (Or.inl ⟨_, rfl⟩) (va_rf_or (some x1)) (fun t ht _ => ⟨⟨(some x1), M, rfl, hw, hM.tt ht⟩, hS.F ht⟩) hS.2.2 dX2_chain_62
    · have hw := hw.2 c10
      refine lv_aload_n hx hb dX2_chain_24 rfl (lv_at hl 1 rfl) ?_
      refine lv_iload_n hx hb dX2_chain_25 rfl (lv_at hl 2 rfl) ?_
      obtain ⟨hpr11, hw⟩ := hw
      refine va_csq (va_runS (As := [.int x2]) (rest := [.ref x1]) C.fix (met_J7_valueOf l g  M x2 hpr11) (cw_X2_74 C.ts ⟨Nat.le_of_ble_eq_true rfl, Nat.le_of_ble_eq_true rfl⟩) (preS_of C (P := (nh g M)) hS hM _) rfl rfl hl.1 rfl (lv_room (Nat.le_of_ble_eq_true rfl)) dX2_chain_26 ⟨hkc, hks⟩).run (fun r11 er11 => ?_)
      replace hw := hw r11 er11
      obtain ⟨b12, eb12, hw⟩ := hw
      subst eb12
      obtain ⟨g_13, g_14, hw⟩ := hw
      obtain ⟨hpr15, hw⟩ := hw
      obtain ⟨⟨wr15, ur15, hrr15⟩, hw⟩ := hw
      refine va_csFi (va_runF (C.clsAt (ci := 10) (q := (RJ3, TJ3, 3)) rfl) (As := [.ref b12]) (rest := []) C.fix (met_J3_contains l g g_13 g_14 M x1 b12 hpr15) (cwF_X2_125 C ⟨Nat.le_of_ble_eq_true rfl, Nat.le_of_ble_eq_true rfl⟩) (preV_of C (P := (nh g M)) (nh.recv C hM hrr15 (q := (RJ3, TJ3, 3)) rfl) hS hM _) rfl rfl hl.1 rfl (lv_room (Nat.le_of_ble_eq_true rfl)) dX2_chain_29 ⟨hkc, hks⟩) (fun r15 er15 => ?_)
      replace hw := hw r15 er15
      refine lv_if_ne (tgt := 61) hx hb dX2_chain_34 (by decide) (fun c16 => ?_) (fun c16 => ?_)
      · have hw := hw.1 c16
        refine lv_aload_n hx hb dX2_chain_61 rfl (lv_at hl 1 rfl) ?_
        refine W.widen (k := 13) (n := 183) hkc hks ?_
        exact W.aret (v := va_rf (some x1)) hx hb hr (Or.inl ⟨_, rfl⟩) (va_rf_or (some x1)) (fun t ht _ => ⟨⟨(some x1), M, rfl, hw, hM.tt ht⟩, hS.F ht⟩) hS.2.2 dX2_chain_62
      · have hw := hw.2 c16
        refine lv_aload_n hx hb dX2_chain_37 rfl (lv_at hl 1 rfl) ?_
        refine lv_iload_n hx hb dX2_chain_38 rfl (lv_at hl 2 rfl) ?_
        obtain ⟨hpr17, hw⟩ := hw
        refine va_csq (va_runS (As := [.int x2]) (rest := [.ref x1]) C.fix (met_J7_valueOf l g  M x2 hpr17) (cw_X2_74 C.ts ⟨Nat.le_of_ble_eq_true rfl, Nat.le_of_ble_eq_true rfl⟩) (preS_of C (P := (nh g M)) hS hM _) rfl rfl hl.1 rfl (lv_room (Nat.le_of_ble_eq_true rfl)) dX2_chain_39 ⟨hkc, hks⟩).run (fun r17 er17 => ?_)
        replace hw := hw r17 er17
        obtain ⟨b18, eb18, hw⟩ := hw
        subst eb18
        obtain ⟨g_19, g_20, hw⟩ := hw
        obtain ⟨hpr21, hw⟩ := hw
        obtain ⟨⟨wr21, ur21, hrr21⟩, hw⟩ := hw
        obtain ⟨hc22a, hc22b, hw⟩ := hw
        refine va_callFi (va_runF (C.clsAt (ci := 10) (q := (RJ3, TJ3, 3)) rfl) (As := [.ref b18]) (rest := []) C.fix (met_J3_add_2 l g g_19 g_20 M x1 b18 hpr21) (cwF_X2_129 C ⟨Nat.le_of_ble_eq_true rfl, Nat.le_of_ble_eq_true rfl⟩) (preV_of C (P := (nh g M)) (nh.recv C hM hrr21 (q := (RJ3, TJ3, 3)) rfl) hS hM _) rfl rfl hl.1 rfl (lv_room (Nat.le_of_ble_eq_true rfl)) dX2_chain_42 ⟨hc22a, hc22b⟩) hS (fun _ _ h => h) (fun _ h => h) (fun r21 M23 t H locs ht _ hw1 hB _ _ hS => ?_)
        have hM : nh g M23 H := by rw [← ht]; exact hB
        replace hw := hw r21 M23 hw1
        refine lv_pop hx hb dX2_chain_47 rfl ?_
        refine lv_aload_n hx hb dX2_chain_48 rfl (lv_at hl 0 rfl) ?_
        obtain ⟨v24, ⟨tv24, fsv24, hev24, hvv24⟩, hw⟩ := hw
        refine g_get C in_X2 hM hev24 rfl 1 (by decide) q174 (fun _ h => h) (v := .ref v24) hvv24 dX2_chain_49 ?_
        obtain ⟨v25, ⟨tv25, fsv25, hev25, hvv25⟩, hw⟩ := hw
        refine g_getN C in_X3 hM hev25 rfl 0 (by decide) q139 (fun _ h => h) (v := .ref v25) hvv25 dX2_chain_52 ?_
        refine lv_iload_n hx hb dX2_chain_55 rfl (lv_at hl 2 rfl) ?_
        obtain ⟨nf26, f26, ⟨tf26, hef26⟩, hif26, hw⟩ := hw
        refine g_iald C hM hef26 hif26 dX2_chain_56 ?_
        obtain ⟨z27, ez27⟩ : ∃ y_, y_ = f26 x2.toNatClampNeg := ⟨_, rfl⟩
        rw [← ez27]
        replace hw := hw z27 ez27
        refine lv_istore_n (lv' := [(2, .int z27), (0, .ref o), (1, .ref x1)]) hx hb dX2_chain_57 rfl hl (by decide) rfl (fun ls hl => ?_)
        refine lv_goto (tgt := 16) hx hb dX2_chain_58 (by decide) ?_
        exact ih M23 (kc + 1) (ks + 15) x1 z27 hw _ _ hM hS _ (lv_sub hl [1, 2, 0] rfl)
set_option maxHeartbeats 4000000 in
theorem wk_X2_chain (l : Launch) (g : gG) (A : RA) (f : Row) (M : nM) (o : Nat) (post : Option Nat → nM → Prop) (hw : wp_X2_chain g A f post M o) : Met l yX2_chain (ws_ yX2_chain cX2_chain 3 (some (.object "java/util/List"))) ({ frames := 8, cells := 13, slots := 183, locals := 512 } : Room) (va_Pc [.ref o] (Pg g (nh g M))) (va_Qq post (fun u t => nh g u t.heap) (Ag g)) 13 183 (Ag g) := by
  refine Met.ofW (cc := cX2_chain) (maxL := 3) (ret := (some (.object "java/util/List"))) (by decide) rfl ?_
  intro p e s m args below meth c s₁ B hml hv
  obtain ⟨rfl, hG, hM⟩ := hv
  have C : Cx p s m _ meth c cX2_chain 3 RX2 (some (.object "java/util/List")) g := Cx.of B hml hG
  have hx := C.1
  have hb := C.2.1
  have hown := C.2.2.2.1
  have hr := C.2.2.2.2.2.1
  have hlocks := C.2.2.2.2.2.2.1
  have hS : va_S (Ag g) s.heap s.heap [] := va_S.rf
  refine lv_start ([.ref o] : List Value) (L := [(0, .ref o)]) (Nat.le_of_ble_eq_true rfl) rfl (fun ls hl => ?_)
  refine g_new C (ci := 10) in_J3 tyJ3 tyJ3_ok q264 q265 q78 hM hS rfl (fs := [.int 0, .null, .int 0]) (fun j hj => by match j, hj with | 0, _ => rfl | 1, _ => rfl | 2, _ => rfl) (Nat.le_of_ble_eq_true rfl) (Nat.le_of_ble_eq_true rfl) dX2_chain_0 (fun q => (q, 0)) (fun q1 H hqq1 hM hS => ?_)
  obtain ⟨M2, eM2⟩ : ∃ N, N = nup M q1 ((fun q => (q, 0)) q1, .inr (10, [.int 0, .null, .int 0])) := ⟨_, rfl⟩
  rw [← eM2] at hM
  replace hw := hw q1 M2 hqq1 eM2
  refine lv_dup hx hb dX2_chain_3 rfl ?_
  obtain ⟨hpr3, hw⟩ := hw
  refine va_callv (va_runI (As := []) (rest := [.ref q1]) C.fix (met_J3_init l g  M2 q1 hpr3) (cw_X2_58 C.ts ⟨Nat.le_of_ble_eq_true rfl, Nat.le_of_ble_eq_true rfl⟩) (preS_of C (P := (nh g M2)) hS hM _) rfl rfl hl.1 rfl (lv_room (Nat.le_of_ble_eq_true rfl)) dX2_chain_4 ⟨Nat.le_of_ble_eq_true rfl, Nat.le_of_ble_eq_true rfl⟩) hS (fun _ _ h => h) (fun _ h => h) (fun M4 t H locs ht _ hw1 hB _ _ hS => ?_)
  have hM : nh g M4 H := by rw [← ht]; exact hB
  replace hw := hw M4 hw1
  refine lv_astore_n (lv' := [(1, .ref q1), (0, .ref o)]) hx hb dX2_chain_7 rfl hl (by decide) rfl (fun ls hl => ?_)
  refine lv_aload_n hx hb dX2_chain_8 rfl (lv_at hl 1 rfl) ?_
  obtain ⟨v5, ⟨tv5, fsv5, hev5, hvv5⟩, hw⟩ := hw
  refine g_get C in_X2 hM hev5 rfl 1 (by decide) q174 (fun _ h => h) (v := .ref v5) hvv5 dX2_chain_9 ?_
  obtain ⟨v6, ⟨tv6, fsv6, hev6, hvv6⟩, hw⟩ := hw
  refine g_getN C in_X3 hM hev6 rfl 2 (by decide) q147 (fun _ h => h) (v := .int v6) hvv6 dX2_chain_12 ?_
  refine lv_istore_n (lv' := [(2, .int v6), (1, .ref q1), (0, .ref o)]) hx hb dX2_chain_15 rfl hl (by decide) rfl (fun ls hl => ?_)
  obtain ⟨n_, hw⟩ := hw
  exact wkb_X2_chain_16 C post  A f o  n_ M4 1 3 q1 v6 hw _ _ hM hS _ (lv_sub hl [2, 1, 0] rfl)
set_option maxHeartbeats 4000000 in
theorem met_X2_chain (l : Launch) (g : gG) (A : RA) (f : Row) (M : nM) (o : Nat) (hpre : pre_X2_chain g A f M o) : Met l yX2_chain (ws_ yX2_chain cX2_chain 3 (some (.object "java/util/List"))) ({ frames := 8, cells := 13, slots := 183, locals := 512 } : Room) (va_Pc [.ref o] (Pg g (nh g M))) (va_Qq (fun r M' => post_X2_chain g A f M o r M') (fun u t => nh g u t.heap) (Ag g)) 13 183 (Ag g) :=
  wk_X2_chain l g A f M o _ (pr_X2_chain g A f M o hpre)

set_option maxHeartbeats 4000000 in
theorem wk_X2_hasCycle (l : Launch) (g : gG) (A : RA) (f : Row) (M : nM) (o : Nat) (post : Int32 → nM → Prop) (hw : wp_X2_hasCycle g A f post M o) : Met l yX2_hasCycle (ws_ yX2_hasCycle cX2_hasCycle 2 (some .boolean)) ({ frames := 9, cells := 13, slots := 183, locals := 576 } : Room) (va_Pc [.ref o] (Pg g (nh g M))) (va_Qi post (fun u t => nh g u t.heap) (Ag g)) 13 183 (Ag g) := by
  refine Met.ofW (cc := cX2_hasCycle) (maxL := 2) (ret := (some .boolean)) (by decide) rfl ?_
  intro p e s m args below meth c s₁ B hml hv
  obtain ⟨rfl, hG, hM⟩ := hv
  have C : Cx p s m _ meth c cX2_hasCycle 2 RX2 (some .boolean) g := Cx.of B hml hG
  have hx := C.1
  have hb := C.2.1
  have hown := C.2.2.2.1
  have hr := C.2.2.2.2.2.1
  have hlocks := C.2.2.2.2.2.2.1
  have hS : va_S (Ag g) s.heap s.heap [] := va_S.rf
  refine lv_start ([.ref o] : List Value) (L := [(0, .ref o)]) (Nat.le_of_ble_eq_true rfl) rfl (fun ls hl => ?_)
  refine lv_aload_n hx hb dX2_hasCycle_0 rfl (lv_at hl 0 rfl) ?_
  obtain ⟨g_1, g_2, hw⟩ := hw
  obtain ⟨hpr3, hw⟩ := hw
  obtain ⟨⟨wr3, ur3, hrr3⟩, hw⟩ := hw
  refine va_callq (va_runV (As := []) (rest := []) C.fix (met_X2_chain l g g_1 g_2 M o hpr3) (cw_X2_131 C.ts ⟨Nat.le_of_ble_eq_true rfl, Nat.le_of_ble_eq_true rfl⟩) (preV_of C (P := (nh g M)) (nh.recv C hM hrr3 (q := (RX2, TX2, 5)) rfl) hS hM _) rfl rfl hl.1 rfl (lv_room (Nat.le_of_ble_eq_true rfl)) dX2_hasCycle_1 ⟨(Nat.le_of_ble_eq_true rfl), (Nat.le_of_ble_eq_true rfl)⟩) hS (fun _ _ h => h) (fun _ h => h) (fun r3 M4 t H locs ht _ hw1 hB _ _ hS => ?_)
  have hM : nh g M4 H := by rw [← ht]; exact hB
  replace hw := hw r3 M4 hw1
  obtain ⟨b5, eb5, hw⟩ := hw
  subst eb5
  refine lv_astore_n (lv' := [(1, .ref b5), (0, .ref o)]) hx hb dX2_hasCycle_4 rfl hl (by decide) rfl (fun ls hl => ?_)
  refine lv_aload_n hx hb dX2_hasCycle_5 rfl (lv_at hl 0 rfl) ?_
  obtain ⟨g_6, hw⟩ := hw
  obtain ⟨hpr7, hw⟩ := hw
  obtain ⟨⟨wr7, ur7, hrr7⟩, hw⟩ := hw
  refine va_csFi (va_runF (C.clsAt (ci := 10) (q := (RJ3, TJ3, 3)) rfl) (As := []) (rest := []) C.fix (met_J3_isEmpty l g g_6 M4 b5 hpr7) (cwF_X2_134 C ⟨Nat.le_of_ble_eq_true rfl, Nat.le_of_ble_eq_true rfl⟩) (preV_of C (P := (nh g M4)) (nh.recv C hM hrr7 (q := (RJ3, TJ3, 3)) rfl) hS hM _) rfl rfl hl.1 rfl (lv_room (Nat.le_of_ble_eq_true rfl)) dX2_hasCycle_6 ⟨Nat.le_of_ble_eq_true rfl, Nat.le_of_ble_eq_true rfl⟩) (fun r7 er7 => ?_)
  replace hw := hw r7 er7
  refine lv_if_ne (tgt := 53) hx hb dX2_hasCycle_11 (by decide) (fun c8 => ?_) (fun c8 => ?_)
  · have hw := hw.1 c8
    refine lv_iconst (v := 0) hx hb dX2_hasCycle_53 (by decide) ?_
    exact W.zret (v := 0) hx hb hr hw.1 (fun t ht _ => ⟨⟨0, M4, rfl, hw.2, hM.tt ht⟩, hS.F ht⟩) hS.2.2 dX2_hasCycle_54
  · have hw := hw.2 c8
    refine lv_aload_n hx hb dX2_hasCycle_14 rfl (lv_at hl 1 rfl) ?_
    refine lv_aload_n hx hb dX2_hasCycle_15 rfl (lv_at hl 1 rfl) ?_
    obtain ⟨v9, ⟨tv9, fsv9, hev9, hvv9⟩, hw⟩ := hw
    refine g_get C in_X2 hM hev9 rfl 1 (by decide) q174 (fun _ h => h) (v := .ref v9) hvv9 dX2_hasCycle_16 ?_
    obtain ⟨v10, ⟨tv10, fsv10, hev10, hvv10⟩, hw⟩ := hw
    refine g_getN C in_X3 hM hev10 rfl 0 (by decide) q139 (fun _ h => h) (v := .ref v10) hvv10 dX2_hasCycle_19 ?_
    refine lv_aload_n hx hb dX2_hasCycle_22 rfl (lv_at hl 0 rfl) ?_
    refine lv_aload_n hx hb dX2_hasCycle_23 rfl (lv_at hl 0 rfl) ?_
    obtain ⟨g_11, hw⟩ := hw
    obtain ⟨hpr12, hw⟩ := hw
    obtain ⟨⟨wr12, ur12, hrr12⟩, hw⟩ := hw
    refine va_csFi (va_runF (C.clsAt (ci := 10) (q := (RJ3, TJ3, 3)) rfl) (As := []) (rest := [.ref b5, .ref v10, .ref o]) C.fix (met_J3_size l g g_11 M4 b5 hpr12) (cwF_X2_59 C ⟨Nat.le_of_ble_eq_true rfl, Nat.le_of_ble_eq_true rfl⟩) (preV_of C (P := (nh g M4)) (nh.recv C hM hrr12 (q := (RJ3, TJ3, 3)) rfl) hS hM _) rfl rfl hl.1 rfl (lv_room (Nat.le_of_ble_eq_true rfl)) dX2_hasCycle_24 ⟨Nat.le_of_ble_eq_true rfl, Nat.le_of_ble_eq_true rfl⟩) (fun r12 er12 => ?_)
    replace hw := hw r12 er12
    refine lv_iconst (v := 1) hx hb dX2_hasCycle_29 (by decide) ?_
    refine lv_isub hx hb dX2_hasCycle_30 ?_
    obtain ⟨g_13, hw⟩ := hw
    obtain ⟨hpr14, hw⟩ := hw
    obtain ⟨⟨wr14, ur14, hrr14⟩, hw⟩ := hw
    refine va_csFq (va_runF (C.clsAt (ci := 10) (q := (RJ3, TJ3, 3)) rfl) (As := [.int (r12 - 1)]) (rest := [.ref v10, .ref o]) C.fix (met_J3_get l g g_13 M4 b5 (r12 - 1) hpr14) (cwF_X2_65 C ⟨Nat.le_of_ble_eq_true rfl, Nat.le_of_ble_eq_true rfl⟩) (preV_of C (P := (nh g M4)) (nh.recv C hM hrr14 (q := (RJ3, TJ3, 3)) rfl) hS hM _) rfl rfl hl.1 rfl (lv_room (Nat.le_of_ble_eq_true rfl)) dX2_hasCycle_31 ⟨Nat.le_of_ble_eq_true rfl, Nat.le_of_ble_eq_true rfl⟩) (fun r14 er14 => ?_)
    replace hw := hw r14 er14
    obtain ⟨b15, eb15, hw⟩ := hw
    subst eb15
    obtain ⟨⟨wt16, hat16⟩, hw⟩ := hw
    refine va_castS hx hb hown (C.ts _ q323) (C.clsAt (ci := 19) (q := (RJ7, TJ7, 1)) rfl) (hat16.recv C hS) dX2_hasCycle_36 ?_
    obtain ⟨g_17, hw⟩ := hw
    obtain ⟨hpr18, hw⟩ := hw
    obtain ⟨⟨wr18, hrr18⟩, hw⟩ := hw
    refine vp_callSi (va_runV (As := []) (rest := [.ref v10, .ref o]) C.fix (met_J7_intValue l g g_17 M4 b15 hpr18) (cw_X2_71 C.ts ⟨Nat.le_of_ble_eq_true rfl, Nat.le_of_ble_eq_true rfl⟩) (preV_of C (P := (nh g M4)) (hrr18.recv C hS) hS hM _) rfl rfl hl.1 rfl (lv_room (Nat.le_of_ble_eq_true rfl)) dX2_hasCycle_39 ⟨Nat.le_of_ble_eq_true rfl, Nat.le_of_ble_eq_true rfl⟩).run (fun r18 er18 => ?_)
    replace hw := hw r18 er18
    obtain ⟨nf19, f19, ⟨tf19, hef19⟩, hif19, hw⟩ := hw
    refine g_iald C hM hef19 hif19 dX2_hasCycle_42 ?_
    obtain ⟨z20, ez20⟩ : ∃ y_, y_ = f19 r18.toNatClampNeg := ⟨_, rfl⟩
    rw [← ez20]
    replace hw := hw z20 ez20
    obtain ⟨g_21, g_22, hw⟩ := hw
    obtain ⟨hpr23, hw⟩ := hw
    obtain ⟨⟨wr23, ur23, hrr23⟩, hw⟩ := hw
    refine vp_callSi (va_runV (As := [.int z20]) (rest := []) C.fix (met_X2_hasInn l g g_21 g_22 M4 o z20 hpr23) (cw_X2_45 C.ts ⟨Nat.le_of_ble_eq_true rfl, Nat.le_of_ble_eq_true rfl⟩) (preV_of C (P := (nh g M4)) (nh.recv C hM hrr23 (q := (RX2, TX2, 5)) rfl) hS hM _) rfl rfl hl.1 rfl (lv_room (Nat.le_of_ble_eq_true rfl)) dX2_hasCycle_43 ⟨Nat.le_of_ble_eq_true rfl, Nat.le_of_ble_eq_true rfl⟩).run (fun r23 er23 => ?_)
    replace hw := hw r23 er23
    refine lv_if_eq (tgt := 53) hx hb dX2_hasCycle_46 (by decide) (fun c24 => ?_) (fun c24 => ?_)
    · have hw := hw.1 c24
      refine lv_iconst (v := 0) hx hb dX2_hasCycle_53 (by decide) ?_
      exact W.zret (v := 0) hx hb hr hw.1 (fun t ht _ => ⟨⟨0, M4, rfl, hw.2, hM.tt ht⟩, hS.F ht⟩) hS.2.2 dX2_hasCycle_54
    · have hw := hw.2 c24
      refine lv_iconst (v := 1) hx hb dX2_hasCycle_49 (by decide) ?_
      refine lv_goto (tgt := 54) hx hb dX2_hasCycle_50 (by decide) ?_
      exact W.zret (v := 1) hx hb hr hw.1 (fun t ht _ => ⟨⟨1, M4, rfl, hw.2, hM.tt ht⟩, hS.F ht⟩) hS.2.2 dX2_hasCycle_54
set_option maxHeartbeats 4000000 in
theorem met_X2_hasCycle (l : Launch) (g : gG) (A : RA) (f : Row) (M : nM) (o : Nat) (hpre : pre_X2_hasCycle g A f M o) : Met l yX2_hasCycle (ws_ yX2_hasCycle cX2_hasCycle 2 (some .boolean)) ({ frames := 9, cells := 13, slots := 183, locals := 576 } : Room) (va_Pc [.ref o] (Pg g (nh g M))) (va_Qi (fun r M' => post_X2_hasCycle g A f M o r M') (fun u t => nh g u t.heap) (Ag g)) 13 183 (Ag g) :=
  wk_X2_hasCycle l g A f M o _ (pr_X2_hasCycle g A f M o hpre)

set_option maxHeartbeats 4000000 in
theorem wkb_X2_descents_72 (C : Cx p s m args meth c cX2_descents 4 RX2 (some .int) g) (post : Int32 → nM → Prop) (A : RA) (f : Row) (o : Nat) (K9 : nM → Nat → Nat → Nat → Int32 → Int32 → Prop) (hK9 : ∀ (M : nM) (kc : Nat) (ks : Nat) (y1 : Nat) (y2 : Int32) (y3 : Int32), K9 M kc ks y1 y2 y3 → ∀ (H : Heap) (locs : List Loc), nh g M H → va_S (Ag g) s.heap H locs → ∀ ls : Array Slot, lv_has ls 4 [(0, .ref o), (1, .ref y1), (2, .int y2), (3, .int y3)] → W p l e ({ frames := 9, cells := 13, slots := 183, locals := 576 } : Room) s m args below meth c H locs kc ks (MQ below (va_Qi post (fun u t => nh g u t.heap) (Ag g)) args s 13 183 (Ag g)) (F0 m 9 ls [])) (M : nM) (kc : Nat) (ks : Nat) (x1 : Nat) (x3 : Int32) (s0 : Int32) (s1 : Int32) (hw : wpb_X2_descents_72 post K9 g A f o M kc ks x1 x3 s0 s1) {H : Heap} {locs : List Loc} (hM : nh g M H) (hS : va_S (Ag g) s.heap H locs) {ls : Array Slot} (hl : lv_has ls 4 [(0, .ref o), (1, .ref x1), (3, .int x3)]) : W p l e ({ frames := 9, cells := 13, slots := 183, locals := 576 } : Room) s m args below meth c H locs kc ks (MQ below (va_Qi post (fun u t => nh g u t.heap) (Ag g)) args s 13 183 (Ag g)) (F0 m 72 ls [.int s0, .int s1]) := by
  have hx := C.1
  have hb := C.2.1
  have hown := C.2.2.2.1
  have hr := C.2.2.2.2.2.1
  have hlocks := C.2.2.2.2.2.2.1
  obtain ⟨hkc, hks, hw⟩ := hw
  refine lv_iadd hx hb dX2_descents_72 ?_
  refine lv_topi (fun z32 ez32 => ?_)
  have hw := hw z32 ez32
  refine lv_istore_n (lv' := [(2, .int z32), (0, .ref o), (1, .ref x1), (3, .int x3)]) hx hb dX2_descents_73 rfl hl (by decide) rfl (fun ls hl => ?_)
  obtain ⟨z33, ez33⟩ : ∃ y : Int32, y = x3 + 1 := ⟨_, rfl⟩
  have hw := hw z33 ez33
  refine lv_iinc (v := z33) (lv' := [(3, .int z33), (2, .int z32), (0, .ref o), (1, .ref x1)]) hx hb dX2_descents_74 hl (k := 3) rfl (by rw [ez33]; rfl) (by decide) rfl (fun ls hl => ?_)
  refine lv_goto (tgt := 9) hx hb dX2_descents_77 (by decide) ?_
  exact hK9 M kc ks x1 z32 z33 hw _ _ hM hS _ (lv_sub hl [2, 3, 1, 0] rfl)
set_option maxHeartbeats 4000000 in
theorem wkb_X2_descents_9 (C : Cx p s m args meth c cX2_descents 4 RX2 (some .int) g) (post : Int32 → nM → Prop) (A : RA) (f : Row) (o : Nat)  : ∀ (n : Nat) (M : nM) (kc : Nat) (ks : Nat) (x1 : Nat) (x2 : Int32) (x3 : Int32), wpb_X2_descents_9 post  g A f o n M kc ks x1 x2 x3 → ∀ (H : Heap) (locs : List Loc), nh g M H → va_S (Ag g) s.heap H locs → ∀ ls : Array Slot, lv_has ls 4 [(0, .ref o), (1, .ref x1), (2, .int x2), (3, .int x3)] → W p l e ({ frames := 9, cells := 13, slots := 183, locals := 576 } : Room) s m args below meth c H locs kc ks (MQ below (va_Qi post (fun u t => nh g u t.heap) (Ag g)) args s 13 183 (Ag g)) (F0 m 9 ls []) := by
  have hx := C.1
  have hb := C.2.1
  have hown := C.2.2.2.1
  have hr := C.2.2.2.2.2.1
  have hlocks := C.2.2.2.2.2.2.1
  intro n
  induction n with
  | zero =>
    intro M kc ks x1 x2 x3 hw
    exact hw.elim
  | succ n ih =>
    intro M kc ks x1 x2 x3 hw H locs hM hS ls hl
    obtain ⟨hkc, hks, hw⟩ := hw
    refine lv_iload_n hx hb dX2_descents_9 rfl (lv_at hl 3 rfl) ?_
    refine lv_aload_n hx hb dX2_descents_10 rfl (lv_at hl 1 rfl) ?_
    obtain ⟨g_6, hw⟩ := hw
    obtain ⟨hpr7, hw⟩ := hw
    obtain ⟨⟨wr7, ur7, hrr7⟩, hw⟩ := hw
    refine va_csFi (va_runF (C.clsAt (ci := 10) (q := (RJ3, TJ3, 3)) rfl) (As := []) (rest := [.int x3]) C.fix (met_J3_size l g g_6 M x1 hpr7) (cwF_X2_59 C ⟨Nat.le_of_ble_eq_true rfl, Nat.le_of_ble_eq_true rfl⟩) (preV_of C (P := (nh g M)) (nh.recv C hM hrr7 (q := (RJ3, TJ3, 3)) rfl) hS hM _) rfl rfl hl.1 rfl (lv_room (Nat.le_of_ble_eq_true rfl)) dX2_descents_11 ⟨hkc, hks⟩) (fun r7 er7 => ?_)
    replace hw := hw r7 er7
    refine lv_icmp_ge (tgt := 80) hx hb dX2_descents_16 (by decide) (fun c8 => ?_) (fun c8 => ?_)
    · have hw := hw.1 c8
      refine lv_iload_n hx hb dX2_descents_80 rfl (lv_at hl 2 rfl) ?_
      refine W.widen (k := 13) (n := 183) hkc hks ?_
      exact W.iret (v := x2) hx hb hr (fun t ht _ => ⟨⟨x2, M, rfl, hw, hM.tt ht⟩, hS.F ht⟩) hS.2.2 dX2_descents_81
    · have hw := hw.2 c8
      refine lv_iload_n hx hb dX2_descents_19 rfl (lv_at hl 2 rfl) ?_
      refine lv_aload_n hx hb dX2_descents_20 rfl (lv_at hl 0 rfl) ?_
      obtain ⟨v9, ⟨tv9, fsv9, hev9, hvv9⟩, hw⟩ := hw
      refine g_get C in_X2 hM hev9 rfl 0 (by decide) q171 (fun _ h => h) (v := .ref v9) hvv9 dX2_descents_21 ?_
      refine lv_aload_n hx hb dX2_descents_24 rfl (lv_at hl 1 rfl) ?_
      refine lv_iload_n hx hb dX2_descents_25 rfl (lv_at hl 3 rfl) ?_
      obtain ⟨g_10, hw⟩ := hw
      obtain ⟨hpr11, hw⟩ := hw
      obtain ⟨⟨wr11, ur11, hrr11⟩, hw⟩ := hw
      refine va_csFq (va_runF (C.clsAt (ci := 10) (q := (RJ3, TJ3, 3)) rfl) (As := [.int x3]) (rest := [.ref v9, .int x2]) C.fix (met_J3_get l g g_10 M x1 x3 hpr11) (cwF_X2_65 C ⟨Nat.le_of_ble_eq_true rfl, Nat.le_of_ble_eq_true rfl⟩) (preV_of C (P := (nh g M)) (nh.recv C hM hrr11 (q := (RJ3, TJ3, 3)) rfl) hS hM _) rfl rfl hl.1 rfl (lv_room (Nat.le_of_ble_eq_true rfl)) dX2_descents_26 ⟨hkc, hks⟩) (fun r11 er11 => ?_)
      replace hw := hw r11 er11
      obtain ⟨b12, eb12, hw⟩ := hw
      subst eb12
      obtain ⟨⟨wt13, hat13⟩, hw⟩ := hw
      refine va_castS hx hb hown (C.ts _ q323) (C.clsAt (ci := 19) (q := (RJ7, TJ7, 1)) rfl) (hat13.recv C hS) dX2_descents_31 ?_
      obtain ⟨g_14, hw⟩ := hw
      obtain ⟨hpr15, hw⟩ := hw
      obtain ⟨⟨wr15, hrr15⟩, hw⟩ := hw
      refine vp_callSi (va_runV (As := []) (rest := [.ref v9, .int x2]) C.fix (met_J7_intValue l g g_14 M b12 hpr15) (cw_X2_71 C.ts ⟨Nat.le_of_ble_eq_true rfl, Nat.le_of_ble_eq_true rfl⟩) (preV_of C (P := (nh g M)) (hrr15.recv C hS) hS hM _) rfl rfl hl.1 rfl (lv_room (Nat.le_of_ble_eq_true rfl)) dX2_descents_34 ⟨hkc, hks⟩).run (fun r15 er15 => ?_)
      replace hw := hw r15 er15
      obtain ⟨nf16, f16, ⟨tf16, hef16⟩, hif16, hw⟩ := hw
      refine g_aald C hM 3 hef16 rfl rfl hif16 dX2_descents_37 ?_
      obtain ⟨z17, ez17⟩ : ∃ y_, y_ = f16 r15.toNatClampNeg := ⟨_, rfl⟩
      rw [← ez17]
      replace hw := hw z17 ez17
      obtain ⟨b18, eb18, hw⟩ := hw
      subst eb18
      obtain ⟨v19, ⟨tv19, fsv19, hev19, hvv19⟩, hw⟩ := hw
      refine g_getN C in_X5 hM hev19 rfl 0 (by decide) q238 (fun _ h => h) (v := .int v19) hvv19 dX2_descents_38 ?_
      refine lv_aload_n hx hb dX2_descents_41 rfl (lv_at hl 0 rfl) ?_
      obtain ⟨v20, ⟨tv20, fsv20, hev20, hvv20⟩, hw⟩ := hw
      refine g_get C in_X2 hM hev20 rfl 0 (by decide) q171 (fun _ h => h) (v := .ref v20) hvv20 dX2_descents_42 ?_
      refine lv_aload_n hx hb dX2_descents_45 rfl (lv_at hl 1 rfl) ?_
      refine lv_iload_n hx hb dX2_descents_46 rfl (lv_at hl 3 rfl) ?_
      refine lv_iconst (v := 1) hx hb dX2_descents_47 (by decide) ?_
      refine lv_isub hx hb dX2_descents_48 ?_
      obtain ⟨g_21, hw⟩ := hw
      obtain ⟨hpr22, hw⟩ := hw
      obtain ⟨⟨wr22, ur22, hrr22⟩, hw⟩ := hw
      refine va_csFq (va_runF (C.clsAt (ci := 10) (q := (RJ3, TJ3, 3)) rfl) (As := [.int (x3 - 1)]) (rest := [.ref v20, .int v19, .int x2]) C.fix (met_J3_get l g g_21 M x1 (x3 - 1) hpr22) (cwF_X2_65 C ⟨Nat.le_of_ble_eq_true rfl, Nat.le_of_ble_eq_true rfl⟩) (preV_of C (P := (nh g M)) (nh.recv C hM hrr22 (q := (RJ3, TJ3, 3)) rfl) hS hM _) rfl rfl hl.1 rfl (lv_room (Nat.le_of_ble_eq_true rfl)) dX2_descents_49 ⟨hkc, hks⟩) (fun r22 er22 => ?_)
      replace hw := hw r22 er22
      obtain ⟨b23, eb23, hw⟩ := hw
      subst eb23
      obtain ⟨⟨wt24, hat24⟩, hw⟩ := hw
      refine va_castS hx hb hown (C.ts _ q323) (C.clsAt (ci := 19) (q := (RJ7, TJ7, 1)) rfl) (hat24.recv C hS) dX2_descents_54 ?_
      obtain ⟨g_25, hw⟩ := hw
      obtain ⟨hpr26, hw⟩ := hw
      obtain ⟨⟨wr26, hrr26⟩, hw⟩ := hw
      refine vp_callSi (va_runV (As := []) (rest := [.ref v20, .int v19, .int x2]) C.fix (met_J7_intValue l g g_25 M b23 hpr26) (cw_X2_71 C.ts ⟨Nat.le_of_ble_eq_true rfl, Nat.le_of_ble_eq_true rfl⟩) (preV_of C (P := (nh g M)) (hrr26.recv C hS) hS hM _) rfl rfl hl.1 rfl (lv_room (Nat.le_of_ble_eq_true rfl)) dX2_descents_57 ⟨hkc, hks⟩).run (fun r26 er26 => ?_)
      replace hw := hw r26 er26
      obtain ⟨nf27, f27, ⟨tf27, hef27⟩, hif27, hw⟩ := hw
      refine g_aald C hM 3 hef27 rfl rfl hif27 dX2_descents_60 ?_
      obtain ⟨z28, ez28⟩ : ∃ y_, y_ = f27 r26.toNatClampNeg := ⟨_, rfl⟩
      rw [← ez28]
      replace hw := hw z28 ez28
      obtain ⟨b29, eb29, hw⟩ := hw
      subst eb29
      obtain ⟨v30, ⟨tv30, fsv30, hev30, hvv30⟩, hw⟩ := hw
      refine g_getN C in_X5 hM hev30 rfl 0 (by decide) q238 (fun _ h => h) (v := .int v30) hvv30 dX2_descents_61 ?_
      refine lv_icmp_ge (tgt := 71) hx hb dX2_descents_64 (by decide) (fun c31 => ?_) (fun c31 => ?_)
      · have hw := hw.1 c31
        refine lv_iconst (v := 0) hx hb dX2_descents_71 (by decide) ?_
        exact wkb_X2_descents_72 C post  A f o (wpb_X2_descents_9 post  g A f o n) ih M kc ks x1 x3 0 x2 hw hM hS (lv_sub hl [0, 1, 3] rfl)
      · have hw := hw.2 c31
        refine lv_iconst (v := 1) hx hb dX2_descents_67 (by decide) ?_
        refine lv_goto (tgt := 72) hx hb dX2_descents_68 (by decide) ?_
        exact wkb_X2_descents_72 C post  A f o (wpb_X2_descents_9 post  g A f o n) ih M kc ks x1 x3 1 x2 hw hM hS (lv_sub hl [0, 1, 3] rfl)
set_option maxHeartbeats 4000000 in
theorem wk_X2_descents (l : Launch) (g : gG) (A : RA) (f : Row) (M : nM) (o : Nat) (post : Int32 → nM → Prop) (hw : wp_X2_descents g A f post M o) : Met l yX2_descents (ws_ yX2_descents cX2_descents 4 (some .int)) ({ frames := 9, cells := 13, slots := 183, locals := 576 } : Room) (va_Pc [.ref o] (Pg g (nh g M))) (va_Qi post (fun u t => nh g u t.heap) (Ag g)) 13 183 (Ag g) := by
  refine Met.ofW (cc := cX2_descents) (maxL := 4) (ret := (some .int)) (by decide) rfl ?_
  intro p e s m args below meth c s₁ B hml hv
  obtain ⟨rfl, hG, hM⟩ := hv
  have C : Cx p s m _ meth c cX2_descents 4 RX2 (some .int) g := Cx.of B hml hG
  have hx := C.1
  have hb := C.2.1
  have hown := C.2.2.2.1
  have hr := C.2.2.2.2.2.1
  have hlocks := C.2.2.2.2.2.2.1
  have hS : va_S (Ag g) s.heap s.heap [] := va_S.rf
  refine lv_start ([.ref o] : List Value) (L := [(0, .ref o)]) (Nat.le_of_ble_eq_true rfl) rfl (fun ls hl => ?_)
  refine lv_aload_n hx hb dX2_descents_0 rfl (lv_at hl 0 rfl) ?_
  obtain ⟨g_1, g_2, hw⟩ := hw
  obtain ⟨hpr3, hw⟩ := hw
  obtain ⟨⟨wr3, ur3, hrr3⟩, hw⟩ := hw
  refine va_callq (va_runV (As := []) (rest := []) C.fix (met_X2_chain l g g_1 g_2 M o hpr3) (cw_X2_131 C.ts ⟨Nat.le_of_ble_eq_true rfl, Nat.le_of_ble_eq_true rfl⟩) (preV_of C (P := (nh g M)) (nh.recv C hM hrr3 (q := (RX2, TX2, 5)) rfl) hS hM _) rfl rfl hl.1 rfl (lv_room (Nat.le_of_ble_eq_true rfl)) dX2_descents_1 ⟨(Nat.le_of_ble_eq_true rfl), (Nat.le_of_ble_eq_true rfl)⟩) hS (fun _ _ h => h) (fun _ h => h) (fun r3 M4 t H locs ht _ hw1 hB _ _ hS => ?_)
  have hM : nh g M4 H := by rw [← ht]; exact hB
  replace hw := hw r3 M4 hw1
  obtain ⟨b5, eb5, hw⟩ := hw
  subst eb5
  refine lv_astore_n (lv' := [(1, .ref b5), (0, .ref o)]) hx hb dX2_descents_4 rfl hl (by decide) rfl (fun ls hl => ?_)
  refine lv_iconst (v := 0) hx hb dX2_descents_5 (by decide) ?_
  refine lv_istore_n (lv' := [(2, .int 0), (1, .ref b5), (0, .ref o)]) hx hb dX2_descents_6 rfl hl (by decide) rfl (fun ls hl => ?_)
  refine lv_iconst (v := 1) hx hb dX2_descents_7 (by decide) ?_
  refine lv_istore_n (lv' := [(3, .int 1), (2, .int 0), (1, .ref b5), (0, .ref o)]) hx hb dX2_descents_8 rfl hl (by decide) rfl (fun ls hl => ?_)
  obtain ⟨n_, hw⟩ := hw
  exact wkb_X2_descents_9 C post  A f o  n_ M4 13 183 b5 0 1 hw _ _ hM hS _ (lv_sub hl [3, 2, 1, 0] rfl)
set_option maxHeartbeats 4000000 in
theorem met_X2_descents (l : Launch) (g : gG) (A : RA) (f : Row) (M : nM) (o : Nat) (hpre : pre_X2_descents g A f M o) : Met l yX2_descents (ws_ yX2_descents cX2_descents 4 (some .int)) ({ frames := 9, cells := 13, slots := 183, locals := 576 } : Room) (va_Pc [.ref o] (Pg g (nh g M))) (va_Qi (fun r M' => post_X2_descents g A f M o r M') (fun u t => nh g u t.heap) (Ag g)) 13 183 (Ag g) :=
  wk_X2_descents l g A f M o _ (pr_X2_descents g A f M o hpre)
end
