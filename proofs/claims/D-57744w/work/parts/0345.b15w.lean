set_option maxRecDepth 100000

section
variable {p : Program} {l : Launch} {e : Env} {s : State} {m : MethodId} {args : Array Value} {below : List Frame} {meth : Method} {c : Code} {g : gG} {F : nM} {adr : Nat → Nat}
abbrev rm_X6_openShare : Room := ({ frames := 2, cells := 0, slots := 0, locals := 128 } : Room)
set_option maxHeartbeats 4000000 in
theorem wk_X6_openShare (l : Launch) (g : gG) (F : nM) (adr : Nat → Nat) (i : Nat → Int32) (a : Nat → Nat → Int32) (q : Nat → Nat)  (post : UInt32 → MSt → Prop) (hw : wp_X6_openShare post i a q ) : Met l yX6_openShare (ws_ yX6_openShare cX6_openShare 1 (some .float)) rm_X6_openShare (va_Pc [.ref (adr 0)] (Pg g (MS g F adr i a q))) (va_Qf post (fun u t => MS g F adr u.1 u.2.1 u.2.2 t.heap) (Ag g)) 0 0 (Ag g) := by
  refine Met.ofW (cc := cX6_openShare) (maxL := 1) (ret := (some .float)) (by decide) rfl ?_
  intro p e s m args below meth c s₁ B hml hv
  obtain ⟨rfl, hG, hM⟩ := hv
  have C : Cx p s m _ meth c cX6_openShare 1 RX6 (some .float) g := Cx.of B hml hG
  have hx := C.1
  have hb := C.2.1
  have hown := C.2.2.2.1
  have hr := C.2.2.2.2.2.1
  have hlocks := C.2.2.2.2.2.2.1
  have hS : va_S (Ag g) s.heap s.heap [] := va_S.rf
  refine lv_start ([.ref (adr 0)] : List Value) (L := [(0, .ref (adr 0))]) (Nat.le_of_ble_eq_true rfl) rfl (fun ls hl => ?_)
  refine lv_aload_n hx hb dX6_openShare_0 rfl (lv_at hl 0 rfl) ?_
  refine lv_iconst (v := 0) hx hb dX6_openShare_1 (by decide) ?_
  refine m_put C hM hS 0 rfl q2338 rfl rfl rfl dX6_openShare_2 (fun i1 H locs ei1 hM hS => ?_)
  have hw := hw i1 ei1
  refine lv_aload_n hx hb dX6_openShare_5 rfl (lv_at hl 0 rfl) ?_
  refine m_get C hM 1 (by decide) q2339 rfl rfl dX6_openShare_6 ?_
  refine vp_callSi (va_runS (As := [.ref (adr 1)]) (rest := []) C.fix (met_X6_innsOf l g F adr i1 a q 1 (by decide) ) (cw_X6_71 C.ts ⟨Nat.le_of_ble_eq_true rfl, Nat.le_of_ble_eq_true rfl⟩) (preS_of C (P := (MS g F adr i1 a q)) hS hM _) rfl rfl hl.1 rfl (lv_room (Nat.le_of_ble_eq_true rfl)) dX6_openShare_9 ⟨Nat.le_of_ble_eq_true rfl, Nat.le_of_ble_eq_true rfl⟩).run (fun r2 er2 => ?_)
  have hw := hw r2 er2
  refine lv_if_ne (tgt := 19) hx hb dX6_openShare_12 (by decide) (fun c3 => ?_) (fun c3 => ?_)
  · have hw := hw.1 c3
    refine lv_aload_n hx hb dX6_openShare_19 rfl (lv_at hl 0 rfl) ?_
    refine vp_callSi (va_runV (As := []) (rest := []) C.fix (met_X6_openOnes l g F adr i1 a q  ) (cw_X6_277 C.ts ⟨Nat.le_of_ble_eq_true rfl, Nat.le_of_ble_eq_true rfl⟩) (preV_of C (P := (MS g F adr i1 a q)) (MS.recv C hM) hS hM _) rfl rfl hl.1 rfl (lv_room (Nat.le_of_ble_eq_true rfl)) dX6_openShare_20 ⟨Nat.le_of_ble_eq_true rfl, Nat.le_of_ble_eq_true rfl⟩).run (fun r4 er4 => ?_)
    have hw := hw r4 er4
    refine lv_i2f hx hb dX6_openShare_23 ?_
    refine lv_aload_n hx hb dX6_openShare_24 rfl (lv_at hl 0 rfl) ?_
    refine m_get C hM 1 (by decide) q2339 rfl rfl dX6_openShare_25 ?_
    refine vp_callSi (va_runS (As := [.ref (adr 1)]) (rest := [.float (FP.i2f r4)]) C.fix (met_X6_innsOf l g F adr i1 a q 1 (by decide) ) (cw_X6_71 C.ts ⟨Nat.le_of_ble_eq_true rfl, Nat.le_of_ble_eq_true rfl⟩) (preS_of C (P := (MS g F adr i1 a q)) hS hM _) rfl rfl hl.1 rfl (lv_room (Nat.le_of_ble_eq_true rfl)) dX6_openShare_28 ⟨Nat.le_of_ble_eq_true rfl, Nat.le_of_ble_eq_true rfl⟩).run (fun r5 er5 => ?_)
    have hw := hw r5 er5
    refine lv_i2f hx hb dX6_openShare_31 ?_
    refine lv_fdiv hx hb dX6_openShare_32 hw.1 ?_
    have hw := hw.2
    exact W.fret (v := (FP.fdiv (FP.i2f r4) (FP.i2f r5))) hx hb hr (fun t ht _ => ⟨⟨(FP.fdiv (FP.i2f r4) (FP.i2f r5)), (i1, a, q), rfl, hw, hM.at ht⟩, hS.F ht⟩) hS.2.2 dX6_openShare_33
  · have hw := hw.2 c3
    refine lv_fconst0 hx hb dX6_openShare_15 ?_
    refine lv_goto (tgt := 33) hx hb dX6_openShare_16 (by decide) ?_
    exact W.fret (v := FP.fconst0) hx hb hr (fun t ht _ => ⟨⟨FP.fconst0, (i1, a, q), rfl, hw, hM.at ht⟩, hS.F ht⟩) hS.2.2 dX6_openShare_33
set_option maxHeartbeats 4000000 in
theorem met_X6_openShare (l : Launch) (g : gG) (F : nM) (adr : Nat → Nat) (i : Nat → Int32) (a : Nat → Nat → Int32) (q : Nat → Nat)  (hpre : pre_X6_openShare i a q ) : Met l yX6_openShare (ws_ yX6_openShare cX6_openShare 1 (some .float)) rm_X6_openShare (va_Pc [.ref (adr 0)] (Pg g (MS g F adr i a q))) (va_Qf (fun r u => post_X6_openShare i a q  r u) (fun u t => MS g F adr u.1 u.2.1 u.2.2 t.heap) (Ag g)) 0 0 (Ag g) :=
  wk_X6_openShare l g F adr i a q  _ (pr_X6_openShare i a q  hpre)

abbrev rm_X6_meanGap : Room := ({ frames := 2, cells := 0, slots := 0, locals := 128 } : Room)
set_option maxHeartbeats 4000000 in
theorem wkb_X6_meanGap_78 (C : Cx p s m args meth c cX6_meanGap 4 RX6 (some .double) g) (post : UInt64 → MSt → Prop)  (K13 : (Nat → Int32) → (Nat → Nat → Int32) → (Nat → Nat) → Int32 → Int32 → Int32 → Prop) (hK13 : ∀ (i : Nat → Int32) (a : Nat → Nat → Int32) (q : Nat → Nat) (y1 : Int32) (y2 : Int32) (y3 : Int32), K13 i a q y1 y2 y3 → ∀ (H : Heap) (locs : List Loc), MS g F adr i a q H → va_S (Ag g) s.heap H locs → ∀ ls : Array Slot, lv_has ls 4 [(0, .ref (adr 0)), (1, .int y1), (2, .int y2), (3, .int y3)] → W p l e rm_X6_meanGap s m args below meth c H locs 0 0 (MQ below (va_Qd post (fun u t => MS g F adr u.1 u.2.1 u.2.2 t.heap) (Ag g)) args s 0 0 (Ag g)) (F0 m 13 ls [])) (i : Nat → Int32) (a : Nat → Nat → Int32) (q : Nat → Nat) (x1 : Int32) (x3 : Int32) (s0 : Int32) (hw : wpb_X6_meanGap_78 post K13  i a q x1 x3 s0) {H : Heap} {locs : List Loc} (hM : MS g F adr i a q H) (hS : va_S (Ag g) s.heap H locs) {ls : Array Slot} (hl : lv_has ls 4 [(0, .ref (adr 0)), (1, .int x1), (3, .int x3)]) : W p l e rm_X6_meanGap s m args below meth c H locs 0 0 (MQ below (va_Qd post (fun u t => MS g F adr u.1 u.2.1 u.2.2 t.heap) (Ag g)) args s 0 0 (Ag g)) (F0 m 78 ls [.int s0]) := by
  have hx := C.1
  have hb := C.2.1
  have hown := C.2.2.2.1
  have hr := C.2.2.2.2.2.1
  have hlocks := C.2.2.2.2.2.2.1
  refine lv_istore_n (lv' := [(2, .int s0), (0, .ref (adr 0)), (1, .int x1), (3, .int x3)]) hx hb dX6_meanGap_78 rfl hl (by decide) rfl (fun ls hl => ?_)
  obtain ⟨z7, ez7⟩ : ∃ y : Int32, y = x3 + 1 := ⟨_, rfl⟩
  have hw := hw z7 ez7
  refine lv_iinc (v := z7) (lv' := [(3, .int z7), (2, .int s0), (0, .ref (adr 0)), (1, .int x1)]) hx hb dX6_meanGap_79 hl (k := 3) rfl (by rw [ez7]; rfl) (by decide) rfl (fun ls hl => ?_)
  refine lv_goto (tgt := 13) hx hb dX6_meanGap_82 (by decide) ?_
  exact hK13 i a q x1 s0 z7 hw _ _ hM hS _ (lv_sub hl [2, 3, 1, 0] rfl)
set_option maxHeartbeats 4000000 in
theorem wkb_X6_meanGap_48 (C : Cx p s m args meth c cX6_meanGap 4 RX6 (some .double) g) (post : UInt64 → MSt → Prop)  (K13 : (Nat → Int32) → (Nat → Nat → Int32) → (Nat → Nat) → Int32 → Int32 → Int32 → Prop) (hK13 : ∀ (i : Nat → Int32) (a : Nat → Nat → Int32) (q : Nat → Nat) (y1 : Int32) (y2 : Int32) (y3 : Int32), K13 i a q y1 y2 y3 → ∀ (H : Heap) (locs : List Loc), MS g F adr i a q H → va_S (Ag g) s.heap H locs → ∀ ls : Array Slot, lv_has ls 4 [(0, .ref (adr 0)), (1, .int y1), (2, .int y2), (3, .int y3)] → W p l e rm_X6_meanGap s m args below meth c H locs 0 0 (MQ below (va_Qd post (fun u t => MS g F adr u.1 u.2.1 u.2.2 t.heap) (Ag g)) args s 0 0 (Ag g)) (F0 m 13 ls [])) (i : Nat → Int32) (a : Nat → Nat → Int32) (q : Nat → Nat) (x2 : Int32) (x3 : Int32) (s0 : Int32) (hw : wpb_X6_meanGap_48 post K13  i a q x2 x3 s0) {H : Heap} {locs : List Loc} (hM : MS g F adr i a q H) (hS : va_S (Ag g) s.heap H locs) {ls : Array Slot} (hl : lv_has ls 4 [(0, .ref (adr 0)), (2, .int x2), (3, .int x3)]) : W p l e rm_X6_meanGap s m args below meth c H locs 0 0 (MQ below (va_Qd post (fun u t => MS g F adr u.1 u.2.1 u.2.2 t.heap) (Ag g)) args s 0 0 (Ag g)) (F0 m 48 ls [.int s0]) := by
  have hx := C.1
  have hb := C.2.1
  have hown := C.2.2.2.1
  have hr := C.2.2.2.2.2.1
  have hlocks := C.2.2.2.2.2.2.1
  refine lv_istore_n (lv' := [(1, .int s0), (0, .ref (adr 0)), (2, .int x2), (3, .int x3)]) hx hb dX6_meanGap_48 rfl hl (by decide) rfl (fun ls hl => ?_)
  refine lv_aload_n hx hb dX6_meanGap_49 rfl (lv_at hl 1 rfl) ?_
  refine m_get C hM 1 (by decide) q2339 rfl rfl dX6_meanGap_50 ?_
  refine lv_iconst (v := 3) hx hb dX6_meanGap_53 (by decide) ?_
  refine lv_iload_n hx hb dX6_meanGap_54 rfl (lv_at hl 3 rfl) ?_
  refine lv_iadd hx hb dX6_meanGap_55 ?_
  refine m_ald C hM (j := 1) rfl hw.1 dX6_meanGap_56 ?_
  have hw := hw.2
  refine lv_iconst (v := 1) hx hb dX6_meanGap_57 (by decide) ?_
  refine lv_icmp_ne (tgt := 77) hx hb dX6_meanGap_58 (by decide) (fun c6 => ?_) (fun c6 => ?_)
  · have hw := hw.1 c6
    refine lv_iload_n hx hb dX6_meanGap_77 rfl (lv_at hl 2 rfl) ?_
    exact wkb_X6_meanGap_78 C post  K13 hK13 i a q s0 x3 x2 hw hM hS (lv_sub hl [1, 0, 3] rfl)
  · have hw := hw.2 c6
    refine lv_iload_n hx hb dX6_meanGap_61 rfl (lv_at hl 2 rfl) ?_
    refine lv_aload_n hx hb dX6_meanGap_62 rfl (lv_at hl 1 rfl) ?_
    refine m_get C hM 1 (by decide) q2339 rfl rfl dX6_meanGap_63 ?_
    refine lv_bipush (v := 15) hx hb dX6_meanGap_66 (by decide) ?_
    refine lv_iload_n hx hb dX6_meanGap_68 rfl (lv_at hl 3 rfl) ?_
    refine lv_iadd hx hb dX6_meanGap_69 ?_
    refine m_ald C hM (j := 1) rfl hw.1 dX6_meanGap_70 ?_
    have hw := hw.2
    refine va_mmax hx hb (C.2.2.1.trans hl.1.symm) hown (C.ts _ q2742) (C.ts _ q463) (C.ts _ q93) (C.ts _ q464) (Nat.le_of_ble_eq_true rfl) (Nat.le_of_ble_eq_true rfl) (Nat.zero_le _) (Nat.zero_le _) dX6_meanGap_71 ?_
    refine lv_goto (tgt := 78) hx hb dX6_meanGap_74 (by decide) ?_
    exact wkb_X6_meanGap_78 C post  K13 hK13 i a q s0 x3 (if x2 < (a 1 (15 + x3).toNatClampNeg) then (a 1 (15 + x3).toNatClampNeg) else x2) hw hM hS (lv_sub hl [1, 0, 3] rfl)
set_option maxHeartbeats 4000000 in
theorem wkb_X6_meanGap_13 (C : Cx p s m args meth c cX6_meanGap 4 RX6 (some .double) g) (post : UInt64 → MSt → Prop)   : ∀ (n : Nat) (i : Nat → Int32) (a : Nat → Nat → Int32) (q : Nat → Nat) (x1 : Int32) (x2 : Int32) (x3 : Int32), wpb_X6_meanGap_13 post   n i a q x1 x2 x3 → ∀ (H : Heap) (locs : List Loc), MS g F adr i a q H → va_S (Ag g) s.heap H locs → ∀ ls : Array Slot, lv_has ls 4 [(0, .ref (adr 0)), (1, .int x1), (2, .int x2), (3, .int x3)] → W p l e rm_X6_meanGap s m args below meth c H locs 0 0 (MQ below (va_Qd post (fun u t => MS g F adr u.1 u.2.1 u.2.2 t.heap) (Ag g)) args s 0 0 (Ag g)) (F0 m 13 ls []) := by
  have hx := C.1
  have hb := C.2.1
  have hown := C.2.2.2.1
  have hr := C.2.2.2.2.2.1
  have hlocks := C.2.2.2.2.2.2.1
  intro n
  induction n with
  | zero =>
    intro i a q x1 x2 x3 hw
    exact hw.elim
  | succ n ih =>
    intro i a q x1 x2 x3 hw H locs hM hS ls hl
    refine lv_iload_n hx hb dX6_meanGap_13 rfl (lv_at hl 3 rfl) ?_
    refine lv_bipush (v := 12) hx hb dX6_meanGap_14 (by decide) ?_
    refine lv_icmp_ge (tgt := 85) hx hb dX6_meanGap_16 (by decide) (fun c2 => ?_) (fun c2 => ?_)
    · have hw := hw.1 c2
      refine lv_aload_n hx hb dX6_meanGap_85 rfl (lv_at hl 0 rfl) ?_
      refine m_get C hM 1 (by decide) q2339 rfl rfl dX6_meanGap_86 ?_
      refine vp_callSi (va_runS (As := [.ref (adr 1)]) (rest := []) C.fix (met_X6_innsOf l g F adr i a q 1 (by decide) ) (cw_X6_71 C.ts ⟨Nat.le_of_ble_eq_true rfl, Nat.le_of_ble_eq_true rfl⟩) (preS_of C (P := (MS g F adr i a q)) hS hM _) rfl rfl hl.1 rfl (lv_room (Nat.le_of_ble_eq_true rfl)) dX6_meanGap_89 ⟨Nat.le_of_ble_eq_true rfl, Nat.le_of_ble_eq_true rfl⟩).run (fun r3 er3 => ?_)
      have hw := hw r3 er3
      refine lv_istore_n (lv' := [(3, .int r3), (0, .ref (adr 0)), (1, .int x1), (2, .int x2)]) hx hb dX6_meanGap_92 rfl hl (by decide) rfl (fun ls hl => ?_)
      refine lv_iload_n hx hb dX6_meanGap_93 rfl (lv_at hl 0 rfl) ?_
      refine lv_iconst (v := 2) hx hb dX6_meanGap_94 (by decide) ?_
      refine lv_icmp_ge (tgt := 102) hx hb dX6_meanGap_95 (by decide) (fun c4 => ?_) (fun c4 => ?_)
      · have hw := hw.1 c4
        refine lv_iload_n hx hb dX6_meanGap_102 rfl (lv_at hl 3 rfl) ?_
        refine lv_iload_n hx hb dX6_meanGap_103 rfl (lv_at hl 2 rfl) ?_
        refine lv_isub hx hb dX6_meanGap_104 ?_
        refine lv_i2d hx hb dX6_meanGap_105 ?_
        refine lv_iload_n hx hb dX6_meanGap_106 rfl (lv_at hl 0 rfl) ?_
        refine lv_iconst (v := 1) hx hb dX6_meanGap_107 (by decide) ?_
        refine lv_isub hx hb dX6_meanGap_108 ?_
        refine lv_i2d hx hb dX6_meanGap_109 ?_
        refine lv_ddiv hx hb dX6_meanGap_110 hw.1 ?_
        have hw := hw.2
        exact W.dret (v := (FP.ddiv (FP.i2d (x2 - x1)) (FP.i2d (r3 - 1)))) hx hb hr (fun t ht _ => ⟨⟨(FP.ddiv (FP.i2d (x2 - x1)) (FP.i2d (r3 - 1))), (i, a, q), rfl, hw, hM.at ht⟩, hS.F ht⟩) hS.2.2 dX6_meanGap_111
      · have hw := hw.2 c4
        refine lv_dconst0 hx hb dX6_meanGap_98 ?_
        refine lv_goto (tgt := 111) hx hb dX6_meanGap_99 (by decide) ?_
        exact W.dret (v := FP.dconst0) hx hb hr (fun t ht _ => ⟨⟨FP.dconst0, (i, a, q), rfl, hw, hM.at ht⟩, hS.F ht⟩) hS.2.2 dX6_meanGap_111
    · have hw := hw.2 c2
      refine lv_aload_n hx hb dX6_meanGap_19 rfl (lv_at hl 0 rfl) ?_
      refine m_get C hM 1 (by decide) q2339 rfl rfl dX6_meanGap_20 ?_
      refine lv_iconst (v := 3) hx hb dX6_meanGap_23 (by decide) ?_
      refine lv_iload_n hx hb dX6_meanGap_24 rfl (lv_at hl 3 rfl) ?_
      refine lv_iadd hx hb dX6_meanGap_25 ?_
      refine m_ald C hM (j := 1) rfl hw.1 dX6_meanGap_26 ?_
      have hw := hw.2
      refine lv_iconst (v := 1) hx hb dX6_meanGap_27 (by decide) ?_
      refine lv_icmp_ne (tgt := 47) hx hb dX6_meanGap_28 (by decide) (fun c5 => ?_) (fun c5 => ?_)
      · have hw := hw.1 c5
        refine lv_iload_n hx hb dX6_meanGap_47 rfl (lv_at hl 1 rfl) ?_
        exact wkb_X6_meanGap_48 C post  (wpb_X6_meanGap_13 post   n) ih i a q x2 x3 x1 hw hM hS (lv_sub hl [0, 2, 3] rfl)
      · have hw := hw.2 c5
        refine lv_iload_n hx hb dX6_meanGap_31 rfl (lv_at hl 1 rfl) ?_
        refine lv_aload_n hx hb dX6_meanGap_32 rfl (lv_at hl 0 rfl) ?_
        refine m_get C hM 1 (by decide) q2339 rfl rfl dX6_meanGap_33 ?_
        refine lv_bipush (v := 15) hx hb dX6_meanGap_36 (by decide) ?_
        refine lv_iload_n hx hb dX6_meanGap_38 rfl (lv_at hl 3 rfl) ?_
        refine lv_iadd hx hb dX6_meanGap_39 ?_
        refine m_ald C hM (j := 1) rfl hw.1 dX6_meanGap_40 ?_
        have hw := hw.2
        refine va_mmin hx hb (C.2.2.1.trans hl.1.symm) hown (C.ts _ q2741) (C.ts _ q481) (C.ts _ q93) (C.ts _ q482) (Nat.le_of_ble_eq_true rfl) (Nat.le_of_ble_eq_true rfl) (Nat.zero_le _) (Nat.zero_le _) dX6_meanGap_41 ?_
        refine lv_goto (tgt := 48) hx hb dX6_meanGap_44 (by decide) ?_
        exact wkb_X6_meanGap_48 C post  (wpb_X6_meanGap_13 post   n) ih i a q x2 x3 (if (a 1 (15 + x3).toNatClampNeg) < x1 then (a 1 (15 + x3).toNatClampNeg) else x1) hw hM hS (lv_sub hl [0, 2, 3] rfl)
set_option maxHeartbeats 4000000 in
theorem wk_X6_meanGap (l : Launch) (g : gG) (F : nM) (adr : Nat → Nat) (i : Nat → Int32) (a : Nat → Nat → Int32) (q : Nat → Nat)  (post : UInt64 → MSt → Prop) (hw : wp_X6_meanGap post i a q ) : Met l yX6_meanGap (ws_ yX6_meanGap cX6_meanGap 4 (some .double)) rm_X6_meanGap (va_Pc [.ref (adr 0)] (Pg g (MS g F adr i a q))) (va_Qd post (fun u t => MS g F adr u.1 u.2.1 u.2.2 t.heap) (Ag g)) 0 0 (Ag g) := by
  refine Met.ofW (cc := cX6_meanGap) (maxL := 4) (ret := (some .double)) (by decide) rfl ?_
  intro p e s m args below meth c s₁ B hml hv
  obtain ⟨rfl, hG, hM⟩ := hv
  have C : Cx p s m _ meth c cX6_meanGap 4 RX6 (some .double) g := Cx.of B hml hG
  have hx := C.1
  have hb := C.2.1
  have hown := C.2.2.2.1
  have hr := C.2.2.2.2.2.1
  have hlocks := C.2.2.2.2.2.2.1
  have hS : va_S (Ag g) s.heap s.heap [] := va_S.rf
  refine lv_start ([.ref (adr 0)] : List Value) (L := [(0, .ref (adr 0))]) (Nat.le_of_ble_eq_true rfl) rfl (fun ls hl => ?_)
  refine lv_aload_n hx hb dX6_meanGap_0 rfl (lv_at hl 0 rfl) ?_
  refine lv_iconst (v := 0) hx hb dX6_meanGap_1 (by decide) ?_
  refine m_put C hM hS 0 rfl q2338 rfl rfl rfl dX6_meanGap_2 (fun i1 H locs ei1 hM hS => ?_)
  have hw := hw i1 ei1
  refine lv_sipush (v := 999) hx hb dX6_meanGap_5 (by decide) ?_
  refine lv_istore_n (lv' := [(1, .int 999), (0, .ref (adr 0))]) hx hb dX6_meanGap_8 rfl hl (by decide) rfl (fun ls hl => ?_)
  refine lv_iconst (v := 0) hx hb dX6_meanGap_9 (by decide) ?_
  refine lv_istore_n (lv' := [(2, .int 0), (1, .int 999), (0, .ref (adr 0))]) hx hb dX6_meanGap_10 rfl hl (by decide) rfl (fun ls hl => ?_)
  refine lv_iconst (v := 0) hx hb dX6_meanGap_11 (by decide) ?_
  refine lv_istore_n (lv' := [(3, .int 0), (2, .int 0), (1, .int 999), (0, .ref (adr 0))]) hx hb dX6_meanGap_12 rfl hl (by decide) rfl (fun ls hl => ?_)
  obtain ⟨n, hw⟩ := hw
  exact wkb_X6_meanGap_13 C post   n i1 a q 999 0 0 hw _ _ hM hS _ (lv_sub hl [3, 2, 1, 0] rfl)
set_option maxHeartbeats 4000000 in
theorem met_X6_meanGap (l : Launch) (g : gG) (F : nM) (adr : Nat → Nat) (i : Nat → Int32) (a : Nat → Nat → Int32) (q : Nat → Nat)  (hpre : pre_X6_meanGap i a q ) : Met l yX6_meanGap (ws_ yX6_meanGap cX6_meanGap 4 (some .double)) rm_X6_meanGap (va_Pc [.ref (adr 0)] (Pg g (MS g F adr i a q))) (va_Qd (fun r u => post_X6_meanGap i a q  r u) (fun u t => MS g F adr u.1 u.2.1 u.2.2 t.heap) (Ag g)) 0 0 (Ag g) :=
  wk_X6_meanGap l g F adr i a q  _ (pr_X6_meanGap i a q  hpre)
end
