set_option maxRecDepth 100000
theorem cw_X5_20 {R : Room} {s : State} {args : Array Value} (hts : ∀ w ∈ lw_all, w.before args s = true) {rm : Room} (hR : rm.frames + 1 ≤ R.frames ∧ 8 + (4 + 11) + rm.locals ≤ R.locals) : CallB R s args RX5 20 yX5_init cX5_init 4 none (ws_ yX5_init cX5_init 4 none) rm rm.cells rm.slots 3 ∧ yX5_init.name = "<init>" ∧ (Cond.instanceMethod yX5_init).before args s = true := cwI 3 hts (lw_meth q235) rfl rfl rfl (hts _ q76) (hts _ q1606) (hts _ q234) rfl (by decide +kernel) hR
theorem cw_X2_19 {R : Room} {s : State} {args : Array Value} (hts : ∀ w ∈ lw_all, w.before args s = true) {rm : Room} (hR : rm.frames + 1 ≤ R.frames ∧ 8 + (2 + 11) + rm.locals ≤ R.locals) : CallB R s args RX2 19 yX3_init cX3_init 2 none (ws_ yX3_init cX3_init 2 none) rm rm.cells rm.slots 0 ∧ yX3_init.name = "<init>" ∧ (Cond.instanceMethod yX3_init).before args s = true := cwI 0 hts (lw_meth q135) rfl rfl rfl (hts _ q72) (hts _ q133) (hts _ q134) rfl (by decide +kernel) hR
theorem cw_X2_24 {R : Room} {s : State} {args : Array Value} (hts : ∀ w ∈ lw_all, w.before args s = true) {rm : Room} (hR : rm.frames + 1 ≤ R.frames ∧ 8 + (1 + 11) + rm.locals ≤ R.locals) : CallB R s args RX2 24 yX2_init cX2_init 1 none (ws_ yX2_init cX2_init 1 none) rm rm.cells rm.slots 0 ∧ yX2_init.name = "<init>" ∧ (Cond.instanceMethod yX2_init).before args s = true := cwI 0 hts (lw_meth q127) rfl rfl rfl (hts _ q71) (hts _ q1536) (hts _ q126) rfl (by decide +kernel) hR
theorem cw_X2_31 {R : Room} {s : State} {args : Array Value} (hts : ∀ w ∈ lw_all, w.before args s = true) {rm : Room} (hR : rm.frames + 1 ≤ R.frames ∧ 8 + (2 + 11) + rm.locals ≤ R.locals) : CallW R s args RX2 RX3 31 yX3_take cX3_take 2 none (ws_ yX3_take cX3_take 2 none) rm rm.cells rm.slots 1 := cwV 1 hts (lw_V q757 q758 q759 q72 q760) rfl rfl rfl (by decide +kernel) hR
section
variable {p : Program} {l : Launch} {e : Env} {s : State} {m : MethodId} {args : Array Value} {below : List Frame} {meth : Method} {c : Code} {g : gG}
set_option maxHeartbeats 4000000 in
theorem wkb_X3_init_32 (C : Cx p s m args meth c cX3_init 2 RX3 none g) (post : nM → Prop) (hin2 : meth.name = "<init>") (tl : Nat × Nat) (ow : Nat) (o : Nat)  : ∀ (n : Nat) (M : nM) (kc : Nat) (ks : Nat) (x1 : Int32), wpb_X3_init_32 post  g tl ow o n M kc ks x1 → ∀ (H : Heap) (locs : List Loc), nh g M H → va_S (Ag g) s.heap H locs → ∀ ls : Array Slot, lv_has ls 2 [(0, .ref o), (1, .int x1)] → W p l e ({ frames := 2, cells := 2, slots := 24, locals := 128 } : Room) s m args below meth c H locs kc ks (MQ below (va_Qv post (fun u t => nh g u t.heap) (Ag g)) args s 2 24 (Ag g)) (F0 m 32 ls []) := by
  have hx := C.1
  have hb := C.2.1
  have hown := C.2.2.2.1
  have hr := C.2.2.2.2.2.1
  have hlocks := C.2.2.2.2.2.2.1
  intro n
  induction n with
  | zero =>
    intro M kc ks x1 hw
    exact hw.elim
  | succ n ih =>
    intro M kc ks x1 hw H locs hM hS ls hl
    obtain ⟨hkc, hks, hw⟩ := hw
    refine lv_iload_n hx hb dX3_init_32 rfl (lv_at hl 1 rfl) ?_
    refine lv_bipush (v := 12) hx hb dX3_init_33 (by decide) ?_
    refine lv_icmp_ge (tgt := 58) hx hb dX3_init_35 (by decide) (fun c13 => ?_) (fun c13 => ?_)
    · have hw := hw.1 c13
      refine W.widen (k := 2) (n := 24) hkc hks ?_
      exact W.vret hx hb hr (fun t ht _ => ⟨⟨M, rfl, hw, hM.tt ht⟩, hS.F ht⟩) hS.2.2 dX3_init_58
    · have hw := hw.2 c13
      refine lv_aload_n hx hb dX3_init_38 rfl (lv_at hl 0 rfl) ?_
      obtain ⟨v14, ⟨tv14, fsv14, hev14, hvv14⟩, hw⟩ := hw
      refine g_get C in_X3 hM hev14 rfl 0 (by decide) q137 (fun _ h => h) (v := .ref v14) hvv14 dX3_init_39 ?_
      refine lv_iload_n hx hb dX3_init_42 rfl (lv_at hl 1 rfl) ?_
      refine lv_iconst (v := (-1)) hx hb dX3_init_43 (by decide) ?_
      obtain ⟨nf15, f15, ⟨tf15, hef15⟩, hif15, hw⟩ := hw
      refine g_iast C hM hS hef15 hif15 dX3_init_44 (fun H locs hM hS => ?_)
      obtain ⟨M16, eM16⟩ : ∃ N, N = nup M v14 (tf15, .inl (g.2.2.2 0, nf15, .inl (upd f15 x1.toNatClampNeg (-1)))) := ⟨_, rfl⟩
      rw [← eM16] at hM
      replace hw := hw M16 ⟨tf15, f15, hef15, eM16⟩
      refine lv_aload_n hx hb dX3_init_45 rfl (lv_at hl 0 rfl) ?_
      obtain ⟨v17, ⟨tv17, fsv17, hev17, hvv17⟩, hw⟩ := hw
      refine g_get C in_X3 hM hev17 rfl 1 (by decide) q142 (fun _ h => h) (v := .ref v17) hvv17 dX3_init_46 ?_
      refine lv_iload_n hx hb dX3_init_49 rfl (lv_at hl 1 rfl) ?_
      refine lv_iconst (v := (-1)) hx hb dX3_init_50 (by decide) ?_
      obtain ⟨nf18, f18, ⟨tf18, hef18⟩, hif18, hw⟩ := hw
      refine g_iast C hM hS hef18 hif18 dX3_init_51 (fun H locs hM hS => ?_)
      obtain ⟨M19, eM19⟩ : ∃ N, N = nup M16 v17 (tf18, .inl (g.2.2.2 0, nf18, .inl (upd f18 x1.toNatClampNeg (-1)))) := ⟨_, rfl⟩
      rw [← eM19] at hM
      replace hw := hw M19 ⟨tf18, f18, hef18, eM19⟩
      obtain ⟨z20, ez20⟩ : ∃ y : Int32, y = x1 + 1 := ⟨_, rfl⟩
      have hw := hw z20 ez20
      refine lv_iinc (v := z20) (lv' := [(1, .int z20), (0, .ref o)]) hx hb dX3_init_52 hl (k := 1) rfl (by rw [ez20]; rfl) (by decide) rfl (fun ls hl => ?_)
      refine lv_goto (tgt := 32) hx hb dX3_init_55 (by decide) ?_
      exact ih M19 kc ks z20 hw _ _ hM hS _ (lv_sub hl [1, 0] rfl)
set_option maxHeartbeats 4000000 in
theorem wk_X3_init (l : Launch) (g : gG) (tl : Nat × Nat) (ow : Nat) (M : nM) (o : Nat) (post : nM → Prop) (hw : wp_X3_init g tl ow post M o) : Met l yX3_init (ws_ yX3_init cX3_init 2 none) ({ frames := 2, cells := 2, slots := 24, locals := 128 } : Room) (va_Pc [.ref o] (Pg g (nh g M))) (va_Qv post (fun u t => nh g u t.heap) (Ag g)) 2 24 (Ag g) := by
  refine Met.ofW (cc := cX3_init) (maxL := 2) (ret := none) (by decide) rfl ?_
  intro p e s m args below meth c s₁ B hml hv
  obtain ⟨rfl, hG, hM⟩ := hv
  have C : Cx p s m _ meth c cX3_init 2 RX3 none g := Cx.of B hml hG
  have hin2 : meth.name = "<init>" := (name_of_methodNamed B.named B.method).1
  have hx := C.1
  have hb := C.2.1
  have hown := C.2.2.2.1
  have hr := C.2.2.2.2.2.1
  have hlocks := C.2.2.2.2.2.2.1
  have hS : va_S (Ag g) s.heap s.heap [] := va_S.rf
  refine lv_start ([.ref o] : List Value) (L := [(0, .ref o)]) (Nat.le_of_ble_eq_true rfl) rfl (fun ls hl => ?_)
  refine lv_aload_n hx hb dX3_init_0 rfl (lv_at hl 0 rfl) ?_
  refine g_obj0 C hl.1.symm q136 dX3_init_1 (Nat.le_of_ble_eq_true rfl) (Nat.le_of_ble_eq_true rfl) ?_
  refine lv_aload_n hx hb dX3_init_4 rfl (lv_at hl 0 rfl) ?_
  refine lv_bipush (v := 12) hx hb dX3_init_5 (by decide) ?_
  refine g_newa C 0 (atype := .int) rfl (fun _ h => h) rfl q170 hM hS (N' := 12) (a0 := (12, .inl (fun _ => 0))) (fun _ => rfl) (by decide) rfl (by show 12 * _ ≤ _; first | decide | (simp only [componentBytes]; omega)) (Nat.le_of_ble_eq_true rfl) (Nat.le_of_ble_eq_true rfl) dX3_init_7 (fun _ => (ow, 3)) (fun q1 H hqq1 hM hS => ?_)
  obtain ⟨M2, eM2⟩ : ∃ N, N = nup M q1 ((fun _ => (ow, 3)) q1, .inl (g.2.2.2 0, 12, .inl (fun _ => 0))) := ⟨_, rfl⟩
  rw [← eM2] at hM
  replace hw := hw q1 M2 hqq1 eM2
  obtain ⟨⟨tp3, fsp3, hep3, hkp3⟩, hw⟩ := hw
  refine g_putF C in_X3 tyX3 tyX3_ok nmX3 hM hS hep3 rfl 0 (by decide) q137 (fun _ h => h) rfl hin2 rfl (v := .ref q1) rfl rfl hkp3 dX3_init_9 (fun H locs hM hS => ?_)
  obtain ⟨M4, eM4⟩ : ∃ N, N = nup M2 o (tp3, .inr (2, fsp3.set 0 (.ref q1))) := ⟨_, rfl⟩
  rw [← eM4] at hM
  replace hw := hw M4 ⟨tp3, fsp3, hep3, eM4⟩
  refine lv_aload_n hx hb dX3_init_12 rfl (lv_at hl 0 rfl) ?_
  refine lv_bipush (v := 12) hx hb dX3_init_13 (by decide) ?_
  refine g_newa C 0 (atype := .int) rfl (fun _ h => h) rfl q170 hM hS (N' := 12) (a0 := (12, .inl (fun _ => 0))) (fun _ => rfl) (by decide) rfl (by show 12 * _ ≤ _; first | decide | (simp only [componentBytes]; omega)) (Nat.le_of_ble_eq_true rfl) (Nat.le_of_ble_eq_true rfl) dX3_init_15 (fun _ => (ow, 4)) (fun q5 H hqq5 hM hS => ?_)
  obtain ⟨M6, eM6⟩ : ∃ N, N = nup M4 q5 ((fun _ => (ow, 4)) q5, .inl (g.2.2.2 0, 12, .inl (fun _ => 0))) := ⟨_, rfl⟩
  rw [← eM6] at hM
  replace hw := hw q5 M6 hqq5 eM6
  obtain ⟨⟨tp7, fsp7, hep7, hkp7⟩, hw⟩ := hw
  refine g_putF C in_X3 tyX3 tyX3_ok nmX3 hM hS hep7 rfl 1 (by decide) q142 (fun _ h => h) rfl hin2 rfl (v := .ref q5) rfl rfl hkp7 dX3_init_17 (fun H locs hM hS => ?_)
  obtain ⟨M8, eM8⟩ : ∃ N, N = nup M6 o (tp7, .inr (2, fsp7.set 1 (.ref q5))) := ⟨_, rfl⟩
  rw [← eM8] at hM
  replace hw := hw M8 ⟨tp7, fsp7, hep7, eM8⟩
  refine lv_aload_n hx hb dX3_init_20 rfl (lv_at hl 0 rfl) ?_
  refine lv_iconst (v := (-1)) hx hb dX3_init_21 (by decide) ?_
  obtain ⟨⟨tp9, fsp9, hep9, hkp9⟩, hw⟩ := hw
  refine g_put C in_X3 tyX3 tyX3_ok nmX3 hM hS hep9 rfl 2 (by decide) q146 (fun _ h => h) rfl (v := .int (-1)) rfl rfl hkp9 dX3_init_22 (fun H locs hM hS => ?_)
  obtain ⟨M10, eM10⟩ : ∃ N, N = nup M8 o (tp9, .inr (2, fsp9.set 2 (.int (-1)))) := ⟨_, rfl⟩
  rw [← eM10] at hM
  replace hw := hw M10 ⟨tp9, fsp9, hep9, eM10⟩
  refine lv_aload_n hx hb dX3_init_25 rfl (lv_at hl 0 rfl) ?_
  refine lv_iconst (v := (-1)) hx hb dX3_init_26 (by decide) ?_
  obtain ⟨⟨tp11, fsp11, hep11, hkp11⟩, hw⟩ := hw
  refine g_put C in_X3 tyX3 tyX3_ok nmX3 hM hS hep11 rfl 3 (by decide) q150 (fun _ h => h) rfl (v := .int (-1)) rfl rfl hkp11 dX3_init_27 (fun H locs hM hS => ?_)
  obtain ⟨M12, eM12⟩ : ∃ N, N = nup M10 o (tp11, .inr (2, fsp11.set 3 (.int (-1)))) := ⟨_, rfl⟩
  rw [← eM12] at hM
  replace hw := hw M12 ⟨tp11, fsp11, hep11, eM12⟩
  refine lv_iconst (v := 0) hx hb dX3_init_30 (by decide) ?_
  refine lv_istore_n (lv' := [(1, .int 0), (0, .ref o)]) hx hb dX3_init_31 rfl hl (by decide) rfl (fun ls hl => ?_)
  obtain ⟨n_, hw⟩ := hw
  exact wkb_X3_init_32 C post  hin2 tl ow o  n_ M12 2 24 0 hw _ _ hM hS _ (lv_sub hl [1, 0] rfl)
set_option maxHeartbeats 4000000 in
theorem met_X3_init (l : Launch) (g : gG) (tl : Nat × Nat) (ow : Nat) (M : nM) (o : Nat) (hpre : pre_X3_init g tl ow M o) : Met l yX3_init (ws_ yX3_init cX3_init 2 none) ({ frames := 2, cells := 2, slots := 24, locals := 128 } : Room) (va_Pc [.ref o] (Pg g (nh g M))) (va_Qv (fun M' => post_X3_init g tl ow M o M') (fun u t => nh g u t.heap) (Ag g)) 2 24 (Ag g) :=
  wk_X3_init l g tl ow M o _ (pr_X3_init g tl ow M o hpre)

set_option maxHeartbeats 4000000 in
theorem wk_X3_take (l : Launch) (g : gG) (tl : Nat × Nat) (ow : Nat) (nA : Nat) (sA : Nat) (f : Row) (tm : Nat × Nat) (om : Nat) (nB : Nat) (sB : Nat) (h : Row) (M : nM) (o : Nat) (lk : Nat) (post : nM → Prop) (hw : wp_X3_take g tl ow nA sA f tm om nB sB h post M o lk) : Met l yX3_take (ws_ yX3_take cX3_take 2 none) ({ frames := 2, cells := 0, slots := 0, locals := 128 } : Room) (va_Pc [.ref o, .ref lk] (Pg g (nh g M))) (va_Qv post (fun u t => nh g u t.heap) (Ag g)) 0 0 (Ag g) := by
  refine Met.ofW (cc := cX3_take) (maxL := 2) (ret := none) (by decide) rfl ?_
  intro p e s m args below meth c s₁ B hml hv
  obtain ⟨rfl, hG, hM⟩ := hv
  have C : Cx p s m _ meth c cX3_take 2 RX3 none g := Cx.of B hml hG
  have hx := C.1
  have hb := C.2.1
  have hown := C.2.2.2.1
  have hr := C.2.2.2.2.2.1
  have hlocks := C.2.2.2.2.2.2.1
  have hS : va_S (Ag g) s.heap s.heap [] := va_S.rf
  refine lv_start ([.ref o, .ref lk] : List Value) (L := [(0, .ref o), (1, .ref lk)]) (Nat.le_of_ble_eq_true rfl) rfl (fun ls hl => ?_)
  refine lv_aload_n hx hb dX3_take_0 rfl (lv_at hl 1 rfl) ?_
  obtain ⟨v1, ⟨tv1, fsv1, hev1, hvv1⟩, hw⟩ := hw
  refine g_get C in_X3 hM hev1 rfl 0 (by decide) q137 (fun _ h => h) (v := .ref v1) hvv1 dX3_take_1 ?_
  refine lv_iconst (v := 0) hx hb dX3_take_4 (by decide) ?_
  refine lv_aload_n hx hb dX3_take_5 rfl (lv_at hl 0 rfl) ?_
  obtain ⟨v2, ⟨tv2, fsv2, hev2, hvv2⟩, hw⟩ := hw
  refine g_get C in_X3 hM hev2 rfl 0 (by decide) q137 (fun _ h => h) (v := .ref v2) hvv2 dX3_take_6 ?_
  refine lv_iconst (v := 0) hx hb dX3_take_9 (by decide) ?_
  refine lv_bipush (v := 12) hx hb dX3_take_10 (by decide) ?_
  obtain ⟨nf3a, f3a, nf3b, f3b, ⟨tf3a, hef3a⟩, ⟨tf3b, hef3b⟩, h1f3, h2f3, h3f3, h4f3, h5f3, hw⟩ := hw
  refine g_copyI C hl.1.symm q761 q485 q484 q95 hM hS hef3a hef3b h1f3 h2f3 h3f3 h4f3 h5f3 (Nat.le_of_ble_eq_true rfl) (Nat.le_of_ble_eq_true rfl) dX3_take_12 (fun H locs hM hS => ?_)
  obtain ⟨M4, eM4⟩ : ∃ N, N = nup M v2 (tf3b, .inl (g.2.2.2 0, nf3b, .inl (va_cpy f3a f3b (0 : Int32).toNatClampNeg (0 : Int32).toNatClampNeg (12 : Int32).toNatClampNeg))) := ⟨_, rfl⟩
  rw [← eM4] at hM
  replace hw := hw M4 ⟨tf3b, f3b, hef3b, eM4⟩
  refine lv_aload_n hx hb dX3_take_15 rfl (lv_at hl 1 rfl) ?_
  obtain ⟨v5, ⟨tv5, fsv5, hev5, hvv5⟩, hw⟩ := hw
  refine g_get C in_X3 hM hev5 rfl 1 (by decide) q142 (fun _ h => h) (v := .ref v5) hvv5 dX3_take_16 ?_
  refine lv_iconst (v := 0) hx hb dX3_take_19 (by decide) ?_
  refine lv_aload_n hx hb dX3_take_20 rfl (lv_at hl 0 rfl) ?_
  obtain ⟨v6, ⟨tv6, fsv6, hev6, hvv6⟩, hw⟩ := hw
  refine g_get C in_X3 hM hev6 rfl 1 (by decide) q142 (fun _ h => h) (v := .ref v6) hvv6 dX3_take_21 ?_
  refine lv_iconst (v := 0) hx hb dX3_take_24 (by decide) ?_
  refine lv_bipush (v := 12) hx hb dX3_take_25 (by decide) ?_
  obtain ⟨nf7a, f7a, nf7b, f7b, ⟨tf7a, hef7a⟩, ⟨tf7b, hef7b⟩, h1f7, h2f7, h3f7, h4f7, h5f7, hw⟩ := hw
  refine g_copyI C hl.1.symm q761 q485 q484 q95 hM hS hef7a hef7b h1f7 h2f7 h3f7 h4f7 h5f7 (Nat.le_of_ble_eq_true rfl) (Nat.le_of_ble_eq_true rfl) dX3_take_27 (fun H locs hM hS => ?_)
  obtain ⟨M8, eM8⟩ : ∃ N, N = nup M4 v6 (tf7b, .inl (g.2.2.2 0, nf7b, .inl (va_cpy f7a f7b (0 : Int32).toNatClampNeg (0 : Int32).toNatClampNeg (12 : Int32).toNatClampNeg))) := ⟨_, rfl⟩
  rw [← eM8] at hM
  replace hw := hw M8 ⟨tf7b, f7b, hef7b, eM8⟩
  refine lv_aload_n hx hb dX3_take_30 rfl (lv_at hl 0 rfl) ?_
  refine lv_aload_n hx hb dX3_take_31 rfl (lv_at hl 1 rfl) ?_
  obtain ⟨v9, ⟨tv9, fsv9, hev9, hvv9⟩, hw⟩ := hw
  refine g_get C in_X3 hM hev9 rfl 2 (by decide) q146 (fun _ h => h) (v := .int v9) hvv9 dX3_take_32 ?_
  obtain ⟨⟨tp10, fsp10, hep10, hkp10⟩, hw⟩ := hw
  refine g_put C in_X3 tyX3 tyX3_ok nmX3 hM hS hep10 rfl 2 (by decide) q146 (fun _ h => h) rfl (v := .int v9) rfl rfl hkp10 dX3_take_35 (fun H locs hM hS => ?_)
  obtain ⟨M11, eM11⟩ : ∃ N, N = nup M8 o (tp10, .inr (2, fsp10.set 2 (.int v9))) := ⟨_, rfl⟩
  rw [← eM11] at hM
  replace hw := hw M11 ⟨tp10, fsp10, hep10, eM11⟩
  refine lv_aload_n hx hb dX3_take_38 rfl (lv_at hl 0 rfl) ?_
  refine lv_aload_n hx hb dX3_take_39 rfl (lv_at hl 1 rfl) ?_
  obtain ⟨v12, ⟨tv12, fsv12, hev12, hvv12⟩, hw⟩ := hw
  refine g_get C in_X3 hM hev12 rfl 3 (by decide) q150 (fun _ h => h) (v := .int v12) hvv12 dX3_take_40 ?_
  obtain ⟨⟨tp13, fsp13, hep13, hkp13⟩, hw⟩ := hw
  refine g_put C in_X3 tyX3 tyX3_ok nmX3 hM hS hep13 rfl 3 (by decide) q150 (fun _ h => h) rfl (v := .int v12) rfl rfl hkp13 dX3_take_43 (fun H locs hM hS => ?_)
  obtain ⟨M14, eM14⟩ : ∃ N, N = nup M11 o (tp13, .inr (2, fsp13.set 3 (.int v12))) := ⟨_, rfl⟩
  rw [← eM14] at hM
  replace hw := hw M14 ⟨tp13, fsp13, hep13, eM14⟩
  refine lv_aload_n hx hb dX3_take_46 rfl (lv_at hl 0 rfl) ?_
  refine lv_aload_n hx hb dX3_take_47 rfl (lv_at hl 1 rfl) ?_
  obtain ⟨v15, ⟨tv15, fsv15, hev15, hvv15⟩, hw⟩ := hw
  refine g_get C in_X3 hM hev15 rfl 4 (by decide) q154 (fun _ h => h) (v := .int v15) hvv15 dX3_take_48 ?_
  obtain ⟨⟨tp16, fsp16, hep16, hkp16⟩, hw⟩ := hw
  refine g_put C in_X3 tyX3 tyX3_ok nmX3 hM hS hep16 rfl 4 (by decide) q154 (fun _ h => h) rfl (v := .int v15) rfl rfl hkp16 dX3_take_51 (fun H locs hM hS => ?_)
  obtain ⟨M17, eM17⟩ : ∃ N, N = nup M14 o (tp16, .inr (2, fsp16.set 4 (.int v15))) := ⟨_, rfl⟩
  rw [← eM17] at hM
  replace hw := hw M17 ⟨tp16, fsp16, hep16, eM17⟩
  exact W.vret hx hb hr (fun t ht _ => ⟨⟨M17, rfl, hw, hM.tt ht⟩, hS.F ht⟩) hS.2.2 dX3_take_54
set_option maxHeartbeats 4000000 in
theorem met_X3_take (l : Launch) (g : gG) (tl : Nat × Nat) (ow : Nat) (nA : Nat) (sA : Nat) (f : Row) (tm : Nat × Nat) (om : Nat) (nB : Nat) (sB : Nat) (h : Row) (M : nM) (o : Nat) (lk : Nat) (hpre : pre_X3_take g tl ow nA sA f tm om nB sB h M o lk) : Met l yX3_take (ws_ yX3_take cX3_take 2 none) ({ frames := 2, cells := 0, slots := 0, locals := 128 } : Room) (va_Pc [.ref o, .ref lk] (Pg g (nh g M))) (va_Qv (fun M' => post_X3_take g tl ow nA sA f tm om nB sB h M o lk M') (fun u t => nh g u t.heap) (Ag g)) 0 0 (Ag g) :=
  wk_X3_take l g tl ow nA sA f tm om nB sB h M o lk _ (pr_X3_take g tl ow nA sA f tm om nB sB h M o lk hpre)

set_option maxHeartbeats 4000000 in
theorem wk_X5_init (l : Launch) (g : gG) (M : nM) (o : Nat) (x : Int32) (y : Int32) (z : Int32) (post : nM → Prop) (hw : wp_X5_init g post M o x y z) : Met l yX5_init (ws_ yX5_init cX5_init 4 none) ({ frames := 2, cells := 0, slots := 0, locals := 128 } : Room) (va_Pc [.ref o, .int x, .int y, .int z] (Pg g (nh g M))) (va_Qv post (fun u t => nh g u t.heap) (Ag g)) 0 0 (Ag g) := by
  refine Met.ofW (cc := cX5_init) (maxL := 4) (ret := none) (by decide) rfl ?_
  intro p e s m args below meth c s₁ B hml hv
  obtain ⟨rfl, hG, hM⟩ := hv
  have C : Cx p s m _ meth c cX5_init 4 RX5 none g := Cx.of B hml hG
  have hin2 : meth.name = "<init>" := (name_of_methodNamed B.named B.method).1
  have hx := C.1
  have hb := C.2.1
  have hown := C.2.2.2.1
  have hr := C.2.2.2.2.2.1
  have hlocks := C.2.2.2.2.2.2.1
  have hS : va_S (Ag g) s.heap s.heap [] := va_S.rf
  refine lv_start ([.ref o, .int x, .int y, .int z] : List Value) (L := [(0, .ref o), (1, .int x), (2, .int y), (3, .int z)]) (Nat.le_of_ble_eq_true rfl) rfl (fun ls hl => ?_)
  refine lv_aload_n hx hb dX5_init_0 rfl (lv_at hl 0 rfl) ?_
  refine g_obj0 C hl.1.symm q236 dX5_init_1 (Nat.le_of_ble_eq_true rfl) (Nat.le_of_ble_eq_true rfl) ?_
  refine lv_aload_n hx hb dX5_init_4 rfl (lv_at hl 0 rfl) ?_
  refine lv_iload_n hx hb dX5_init_5 rfl (lv_at hl 1 rfl) ?_
  obtain ⟨⟨tp1, fsp1, hep1, hkp1⟩, hw⟩ := hw
  refine g_putF C in_X5 tyX5 tyX5_ok nmX5 hM hS hep1 rfl 0 (by decide) q237 (fun _ h => h) rfl hin2 rfl (v := .int x) rfl rfl hkp1 dX5_init_6 (fun H locs hM hS => ?_)
  obtain ⟨M2, eM2⟩ : ∃ N, N = nup M o (tp1, .inr (4, fsp1.set 0 (.int x))) := ⟨_, rfl⟩
  rw [← eM2] at hM
  replace hw := hw M2 ⟨tp1, fsp1, hep1, eM2⟩
  refine lv_aload_n hx hb dX5_init_9 rfl (lv_at hl 0 rfl) ?_
  refine lv_iload_n hx hb dX5_init_10 rfl (lv_at hl 2 rfl) ?_
  have hbp3 := hw.1
  replace hw := hw.2
  obtain ⟨⟨tp3, fsp3, hep3, hkp3⟩, hw⟩ := hw
  refine g_putF C in_X5 tyX5 tyX5_ok nmX5 hM hS hep3 rfl 1 (by decide) q240 (fun _ h => h) rfl hin2 rfl (v := .int y) hbp3 (isB_fit hbp3) hkp3 dX5_init_11 (fun H locs hM hS => ?_)
  obtain ⟨M4, eM4⟩ : ∃ N, N = nup M2 o (tp3, .inr (4, fsp3.set 1 (.int y))) := ⟨_, rfl⟩
  rw [← eM4] at hM
  replace hw := hw M4 ⟨tp3, fsp3, hep3, eM4⟩
  refine lv_aload_n hx hb dX5_init_14 rfl (lv_at hl 0 rfl) ?_
  refine lv_iload_n hx hb dX5_init_15 rfl (lv_at hl 3 rfl) ?_
  obtain ⟨⟨tp5, fsp5, hep5, hkp5⟩, hw⟩ := hw
  refine g_putF C in_X5 tyX5 tyX5_ok nmX5 hM hS hep5 rfl 2 (by decide) q243 (fun _ h => h) rfl hin2 rfl (v := .int z) rfl rfl hkp5 dX5_init_16 (fun H locs hM hS => ?_)
  obtain ⟨M6, eM6⟩ : ∃ N, N = nup M4 o (tp5, .inr (4, fsp5.set 2 (.int z))) := ⟨_, rfl⟩
  rw [← eM6] at hM
  replace hw := hw M6 ⟨tp5, fsp5, hep5, eM6⟩
  exact W.vret hx hb hr (fun t ht _ => ⟨⟨M6, rfl, hw, hM.tt ht⟩, hS.F ht⟩) hS.2.2 dX5_init_19
set_option maxHeartbeats 4000000 in
theorem met_X5_init (l : Launch) (g : gG) (M : nM) (o : Nat) (x : Int32) (y : Int32) (z : Int32) (hpre : pre_X5_init g M o x y z) : Met l yX5_init (ws_ yX5_init cX5_init 4 none) ({ frames := 2, cells := 0, slots := 0, locals := 128 } : Room) (va_Pc [.ref o, .int x, .int y, .int z] (Pg g (nh g M))) (va_Qv (fun M' => post_X5_init g M o x y z M') (fun u t => nh g u t.heap) (Ag g)) 0 0 (Ag g) :=
  wk_X5_init l g M o x y z _ (pr_X5_init g M o x y z hpre)

set_option maxHeartbeats 4000000 in
theorem wk_X5_opened (l : Launch) (g : gG) (x : Int32) (z : Int32) (M : nM) (o : Nat) (y : Int32) (post : Option Nat → nM → Prop) (hw : wp_X5_opened g x z post M o y) : Met l yX5_opened (ws_ yX5_opened cX5_opened 2 (some (.object "InnRoad$Inn"))) ({ frames := 3, cells := 1, slots := 3, locals := 192 } : Room) (va_Pc [.ref o, .int y] (Pg g (nh g M))) (va_Qq post (fun u t => nh g u t.heap) (Ag g)) 1 3 (Ag g) := by
  refine Met.ofW (cc := cX5_opened) (maxL := 2) (ret := (some (.object "InnRoad$Inn"))) (by decide) rfl ?_
  intro p e s m args below meth c s₁ B hml hv
  obtain ⟨rfl, hG, hM⟩ := hv
  have C : Cx p s m _ meth c cX5_opened 2 RX5 (some (.object "InnRoad$Inn")) g := Cx.of B hml hG
  have hx := C.1
  have hb := C.2.1
  have hown := C.2.2.2.1
  have hr := C.2.2.2.2.2.1
  have hlocks := C.2.2.2.2.2.2.1
  have hS : va_S (Ag g) s.heap s.heap [] := va_S.rf
  refine lv_start ([.ref o, .int y] : List Value) (L := [(0, .ref o), (1, .int y)]) (Nat.le_of_ble_eq_true rfl) rfl (fun ls hl => ?_)
  refine g_new C (ci := 4) in_X5 tyX5 tyX5_ok q1605 q232 q76 hM hS rfl (fs := [.int 0, .int 0, .int 0]) (fun j hj => by match j, hj with | 0, _ => rfl | 1, _ => rfl | 2, _ => rfl) (Nat.le_of_ble_eq_true rfl) (Nat.le_of_ble_eq_true rfl) dX5_opened_0 (fun q => (q, 0)) (fun q1 H hqq1 hM hS => ?_)
  obtain ⟨M2, eM2⟩ : ∃ N, N = nup M q1 ((fun q => (q, 0)) q1, .inr (4, [.int 0, .int 0, .int 0])) := ⟨_, rfl⟩
  rw [← eM2] at hM
  replace hw := hw q1 M2 hqq1 eM2
  refine lv_dup hx hb dX5_opened_3 rfl ?_
  refine lv_aload_n hx hb dX5_opened_4 rfl (lv_at hl 0 rfl) ?_
  obtain ⟨v3, ⟨tv3, fsv3, hev3, hvv3⟩, hw⟩ := hw
  refine g_get C in_X5 hM hev3 rfl 0 (by decide) q237 (fun _ h => h) (v := .int v3) hvv3 dX5_opened_5 ?_
  refine lv_iload_n hx hb dX5_opened_8 rfl (lv_at hl 1 rfl) ?_
  refine lv_aload_n hx hb dX5_opened_9 rfl (lv_at hl 0 rfl) ?_
  obtain ⟨v4, ⟨tv4, fsv4, hev4, hvv4⟩, hw⟩ := hw
  refine g_get C in_X5 hM hev4 rfl 2 (by decide) q243 (fun _ h => h) (v := .int v4) hvv4 dX5_opened_10 ?_
  obtain ⟨hpr5, hw⟩ := hw
  refine va_callv (va_runI (As := [.int v3, .int y, .int v4]) (rest := [.ref q1]) C.fix (met_X5_init l g  M2 q1 v3 y v4 hpr5) (cw_X5_20 C.ts ⟨Nat.le_of_ble_eq_true rfl, Nat.le_of_ble_eq_true rfl⟩) (preS_of C (P := (nh g M2)) hS hM _) rfl rfl hl.1 rfl (lv_room (Nat.le_of_ble_eq_true rfl)) dX5_opened_13 ⟨Nat.le_of_ble_eq_true rfl, Nat.le_of_ble_eq_true rfl⟩) hS (fun _ _ h => h) (fun _ h => h) (fun M6 t H locs ht _ hw1 hB _ _ hS => ?_)
  have hM : nh g M6 H := by rw [← ht]; exact hB
  replace hw := hw M6 hw1
  exact W.aret (v := va_rf (some q1)) hx hb hr (Or.inl ⟨_, rfl⟩) (va_rf_or (some q1)) (fun t ht _ => ⟨⟨(some q1), M6, rfl, hw, hM.tt ht⟩, hS.F ht⟩) hS.2.2 dX5_opened_16
set_option maxHeartbeats 4000000 in
theorem met_X5_opened (l : Launch) (g : gG) (x : Int32) (z : Int32) (M : nM) (o : Nat) (y : Int32) (hpre : pre_X5_opened g x z M o y) : Met l yX5_opened (ws_ yX5_opened cX5_opened 2 (some (.object "InnRoad$Inn"))) ({ frames := 3, cells := 1, slots := 3, locals := 192 } : Room) (va_Pc [.ref o, .int y] (Pg g (nh g M))) (va_Qq (fun r M' => post_X5_opened g x z M o y r M') (fun u t => nh g u t.heap) (Ag g)) 1 3 (Ag g) :=
  wk_X5_opened l g x z M o y _ (pr_X5_opened g x z M o y hpre)

set_option maxHeartbeats 4000000 in
theorem wk_X5_withLetters (l : Launch) (g : gG) (x : Int32) (y : Int32) (M : nM) (o : Nat) (z : Int32) (post : Option Nat → nM → Prop) (hw : wp_X5_withLetters g x y post M o z) : Met l yX5_withLetters (ws_ yX5_withLetters cX5_withLetters 2 (some (.object "InnRoad$Inn"))) ({ frames := 3, cells := 1, slots := 3, locals := 192 } : Room) (va_Pc [.ref o, .int z] (Pg g (nh g M))) (va_Qq post (fun u t => nh g u t.heap) (Ag g)) 1 3 (Ag g) := by
  refine Met.ofW (cc := cX5_withLetters) (maxL := 2) (ret := (some (.object "InnRoad$Inn"))) (by decide) rfl ?_
  intro p e s m args below meth c s₁ B hml hv
  obtain ⟨rfl, hG, hM⟩ := hv
  have C : Cx p s m _ meth c cX5_withLetters 2 RX5 (some (.object "InnRoad$Inn")) g := Cx.of B hml hG
  have hx := C.1
  have hb := C.2.1
  have hown := C.2.2.2.1
  have hr := C.2.2.2.2.2.1
  have hlocks := C.2.2.2.2.2.2.1
  have hS : va_S (Ag g) s.heap s.heap [] := va_S.rf
  refine lv_start ([.ref o, .int z] : List Value) (L := [(0, .ref o), (1, .int z)]) (Nat.le_of_ble_eq_true rfl) rfl (fun ls hl => ?_)
  refine g_new C (ci := 4) in_X5 tyX5 tyX5_ok q1605 q232 q76 hM hS rfl (fs := [.int 0, .int 0, .int 0]) (fun j hj => by match j, hj with | 0, _ => rfl | 1, _ => rfl | 2, _ => rfl) (Nat.le_of_ble_eq_true rfl) (Nat.le_of_ble_eq_true rfl) dX5_withLetters_0 (fun q => (q, 0)) (fun q1 H hqq1 hM hS => ?_)
  obtain ⟨M2, eM2⟩ : ∃ N, N = nup M q1 ((fun q => (q, 0)) q1, .inr (4, [.int 0, .int 0, .int 0])) := ⟨_, rfl⟩
  rw [← eM2] at hM
  replace hw := hw q1 M2 hqq1 eM2
  refine lv_dup hx hb dX5_withLetters_3 rfl ?_
  refine lv_aload_n hx hb dX5_withLetters_4 rfl (lv_at hl 0 rfl) ?_
  obtain ⟨v3, ⟨tv3, fsv3, hev3, hvv3⟩, hw⟩ := hw
  refine g_get C in_X5 hM hev3 rfl 0 (by decide) q237 (fun _ h => h) (v := .int v3) hvv3 dX5_withLetters_5 ?_
  refine lv_aload_n hx hb dX5_withLetters_8 rfl (lv_at hl 0 rfl) ?_
  obtain ⟨v4, ⟨tv4, fsv4, hev4, hvv4⟩, hw⟩ := hw
  refine g_get C in_X5 hM hev4 rfl 1 (by decide) q240 (fun _ h => h) (v := .int v4) hvv4 dX5_withLetters_9 ?_
  refine lv_iload_n hx hb dX5_withLetters_12 rfl (lv_at hl 1 rfl) ?_
  obtain ⟨hpr5, hw⟩ := hw
  refine va_callv (va_runI (As := [.int v3, .int v4, .int z]) (rest := [.ref q1]) C.fix (met_X5_init l g  M2 q1 v3 v4 z hpr5) (cw_X5_20 C.ts ⟨Nat.le_of_ble_eq_true rfl, Nat.le_of_ble_eq_true rfl⟩) (preS_of C (P := (nh g M2)) hS hM _) rfl rfl hl.1 rfl (lv_room (Nat.le_of_ble_eq_true rfl)) dX5_withLetters_13 ⟨Nat.le_of_ble_eq_true rfl, Nat.le_of_ble_eq_true rfl⟩) hS (fun _ _ h => h) (fun _ h => h) (fun M6 t H locs ht _ hw1 hB _ _ hS => ?_)
  have hM : nh g M6 H := by rw [← ht]; exact hB
  replace hw := hw M6 hw1
  exact W.aret (v := va_rf (some q1)) hx hb hr (Or.inl ⟨_, rfl⟩) (va_rf_or (some q1)) (fun t ht _ => ⟨⟨(some q1), M6, rfl, hw, hM.tt ht⟩, hS.F ht⟩) hS.2.2 dX5_withLetters_16
set_option maxHeartbeats 4000000 in
theorem met_X5_withLetters (l : Launch) (g : gG) (x : Int32) (y : Int32) (M : nM) (o : Nat) (z : Int32) (hpre : pre_X5_withLetters g x y M o z) : Met l yX5_withLetters (ws_ yX5_withLetters cX5_withLetters 2 (some (.object "InnRoad$Inn"))) ({ frames := 3, cells := 1, slots := 3, locals := 192 } : Room) (va_Pc [.ref o, .int z] (Pg g (nh g M))) (va_Qq (fun r M' => post_X5_withLetters g x y M o z r M') (fun u t => nh g u t.heap) (Ag g)) 1 3 (Ag g) :=
  wk_X5_withLetters l g x y M o z _ (pr_X5_withLetters g x y M o z hpre)

set_option maxHeartbeats 4000000 in
theorem wk_X2_init (l : Launch) (g : gG) (M : nM) (o : Nat) (post : nM → Prop) (hw : wp_X2_init g post M o) : Met l yX2_init (ws_ yX2_init cX2_init 1 none) ({ frames := 3, cells := 4, slots := 41, locals := 192 } : Room) (va_Pc [.ref o] (Pg g (nh g M))) (va_Qv post (fun u t => nh g u t.heap) (Ag g)) 4 41 (Ag g) := by
  refine Met.ofW (cc := cX2_init) (maxL := 1) (ret := none) (by decide) rfl ?_
  intro p e s m args below meth c s₁ B hml hv
  obtain ⟨rfl, hG, hM⟩ := hv
  have C : Cx p s m _ meth c cX2_init 1 RX2 none g := Cx.of B hml hG
  have hin2 : meth.name = "<init>" := (name_of_methodNamed B.named B.method).1
  have hx := C.1
  have hb := C.2.1
  have hown := C.2.2.2.1
  have hr := C.2.2.2.2.2.1
  have hlocks := C.2.2.2.2.2.2.1
  have hS : va_S (Ag g) s.heap s.heap [] := va_S.rf
  refine lv_start ([.ref o] : List Value) (L := [(0, .ref o)]) (Nat.le_of_ble_eq_true rfl) rfl (fun ls hl => ?_)
  refine lv_aload_n hx hb dX2_init_0 rfl (lv_at hl 0 rfl) ?_
  refine g_obj0 C hl.1.symm q128 dX2_init_1 (Nat.le_of_ble_eq_true rfl) (Nat.le_of_ble_eq_true rfl) ?_
  refine lv_aload_n hx hb dX2_init_4 rfl (lv_at hl 0 rfl) ?_
  refine lv_bipush (v := 12) hx hb dX2_init_5 (by decide) ?_
  refine g_newq C 3 q129 q130 rfl hM hS (N' := 12) (by decide) rfl (by decide) (Nat.le_of_ble_eq_true rfl) (Nat.le_of_ble_eq_true rfl) dX2_init_7 (fun _ => (o, 1)) (fun q1 H hqq1 hM hS => ?_)
  obtain ⟨M2, eM2⟩ : ∃ N, N = nup M q1 ((fun _ => (o, 1)) q1, .inl (g.2.2.2 3, 12, .inr (.inr (.inr (.inr (fun _ => none)))))) := ⟨_, rfl⟩
  rw [← eM2] at hM
  replace hw := hw q1 M2 hqq1 eM2
  obtain ⟨⟨tp3, fsp3, hep3, hkp3⟩, hw⟩ := hw
  refine g_putF C in_X2 tyX2 tyX2_ok nmX2 hM hS hep3 rfl 0 (by decide) q171 (fun _ h => h) rfl hin2 rfl (v := .ref q1) rfl rfl hkp3 dX2_init_10 (fun H locs hM hS => ?_)
  obtain ⟨M4, eM4⟩ : ∃ N, N = nup M2 o (tp3, .inr (1, fsp3.set 0 (.ref q1))) := ⟨_, rfl⟩
  rw [← eM4] at hM
  replace hw := hw M4 ⟨tp3, fsp3, hep3, eM4⟩
  refine lv_aload_n hx hb dX2_init_13 rfl (lv_at hl 0 rfl) ?_
  refine g_new C (ci := 2) in_X3 tyX3 tyX3_ok q131 q132 q72 hM hS rfl (fs := [.null, .null, .int 0, .int 0, .int 0]) (fun j hj => by match j, hj with | 0, _ => rfl | 1, _ => rfl | 2, _ => rfl | 3, _ => rfl | 4, _ => rfl) (Nat.le_of_ble_eq_true rfl) (Nat.le_of_ble_eq_true rfl) dX2_init_14 (fun _ => (o, 2)) (fun q5 H hqq5 hM hS => ?_)
  obtain ⟨M6, eM6⟩ : ∃ N, N = nup M4 q5 ((fun _ => (o, 2)) q5, .inr (2, [.null, .null, .int 0, .int 0, .int 0])) := ⟨_, rfl⟩
  rw [← eM6] at hM
  replace hw := hw q5 M6 hqq5 eM6
  refine lv_dup hx hb dX2_init_17 rfl ?_
  obtain ⟨g_7, g_8, hw⟩ := hw
  obtain ⟨hpr9, hw⟩ := hw
  refine va_callv (va_runI (As := []) (rest := [.ref q5, .ref o]) C.fix (met_X3_init l g g_7 g_8 M6 q5 hpr9) (cw_X2_19 C.ts ⟨Nat.le_of_ble_eq_true rfl, Nat.le_of_ble_eq_true rfl⟩) (preS_of C (P := (nh g M6)) hS hM _) rfl rfl hl.1 rfl (lv_room (Nat.le_of_ble_eq_true rfl)) dX2_init_18 ⟨(Nat.le_of_ble_eq_true rfl), (Nat.le_of_ble_eq_true rfl)⟩) hS (fun _ _ h => h) (fun _ h => h) (fun M10 t H locs ht _ hw1 hB _ _ hS => ?_)
  have hM : nh g M10 H := by rw [← ht]; exact hB
  replace hw := hw M10 hw1
  obtain ⟨⟨tp11, fsp11, hep11, hkp11⟩, hw⟩ := hw
  refine g_putF C in_X2 tyX2 tyX2_ok nmX2 hM hS hep11 rfl 1 (by decide) q174 (fun _ h => h) rfl hin2 rfl (v := .ref q5) rfl rfl hkp11 dX2_init_21 (fun H locs hM hS => ?_)
  obtain ⟨M12, eM12⟩ : ∃ N, N = nup M10 o (tp11, .inr (1, fsp11.set 1 (.ref q5))) := ⟨_, rfl⟩
  rw [← eM12] at hM
  replace hw := hw M12 ⟨tp11, fsp11, hep11, eM12⟩
  exact W.vret hx hb hr (fun t ht _ => ⟨⟨M12, rfl, hw, hM.tt ht⟩, hS.F ht⟩) hS.2.2 dX2_init_24
set_option maxHeartbeats 4000000 in
theorem met_X2_init (l : Launch) (g : gG) (M : nM) (o : Nat) (hpre : pre_X2_init g M o) : Met l yX2_init (ws_ yX2_init cX2_init 1 none) ({ frames := 3, cells := 4, slots := 41, locals := 192 } : Room) (va_Pc [.ref o] (Pg g (nh g M))) (va_Qv (fun M' => post_X2_init g M o M') (fun u t => nh g u t.heap) (Ag g)) 4 41 (Ag g) :=
  wk_X2_init l g M o _ (pr_X2_init g M o hpre)

set_option maxHeartbeats 4000000 in
theorem wk_X2_copy (l : Launch) (g : gG) (A : RA) (f : Row) (M : nM) (o : Nat) (post : Option Nat → nM → Prop) (hw : wp_X2_copy g A f post M o) : Met l yX2_copy (ws_ yX2_copy cX2_copy 2 (some (.object "InnRoad$Road"))) ({ frames := 4, cells := 5, slots := 46, locals := 256 } : Room) (va_Pc [.ref o] (Pg g (nh g M))) (va_Qq post (fun u t => nh g u t.heap) (Ag g)) 5 46 (Ag g) := by
  refine Met.ofW (cc := cX2_copy) (maxL := 2) (ret := (some (.object "InnRoad$Road"))) (by decide) rfl ?_
  intro p e s m args below meth c s₁ B hml hv
  obtain ⟨rfl, hG, hM⟩ := hv
  have C : Cx p s m _ meth c cX2_copy 2 RX2 (some (.object "InnRoad$Road")) g := Cx.of B hml hG
  have hx := C.1
  have hb := C.2.1
  have hown := C.2.2.2.1
  have hr := C.2.2.2.2.2.1
  have hlocks := C.2.2.2.2.2.2.1
  have hS : va_S (Ag g) s.heap s.heap [] := va_S.rf
  refine lv_start ([.ref o] : List Value) (L := [(0, .ref o)]) (Nat.le_of_ble_eq_true rfl) rfl (fun ls hl => ?_)
  refine g_new C (ci := 1) in_X2 tyX2 tyX2_ok q1535 q124 q71 hM hS rfl (fs := [.null, .null, .int 0, .int 0, .int 0]) (fun j hj => by match j, hj with | 0, _ => rfl | 1, _ => rfl | 2, _ => rfl | 3, _ => rfl | 4, _ => rfl) (Nat.le_of_ble_eq_true rfl) (Nat.le_of_ble_eq_true rfl) dX2_copy_0 (fun q => (q, 0)) (fun q1 H hqq1 hM hS => ?_)
  obtain ⟨M2, eM2⟩ : ∃ N, N = nup M q1 ((fun q => (q, 0)) q1, .inr (1, [.null, .null, .int 0, .int 0, .int 0])) := ⟨_, rfl⟩
  rw [← eM2] at hM
  replace hw := hw q1 M2 hqq1 eM2
  refine lv_dup hx hb dX2_copy_3 rfl ?_
  obtain ⟨hpr3, hw⟩ := hw
  refine va_callv (va_runI (As := []) (rest := [.ref q1]) C.fix (met_X2_init l g  M2 q1 hpr3) (cw_X2_24 C.ts ⟨Nat.le_of_ble_eq_true rfl, Nat.le_of_ble_eq_true rfl⟩) (preS_of C (P := (nh g M2)) hS hM _) rfl rfl hl.1 rfl (lv_room (Nat.le_of_ble_eq_true rfl)) dX2_copy_4 ⟨(Nat.le_of_ble_eq_true rfl), (Nat.le_of_ble_eq_true rfl)⟩) hS (fun _ _ h => h) (fun _ h => h) (fun M4 t H locs ht _ hw1 hB _ _ hS => ?_)
  have hM : nh g M4 H := by rw [← ht]; exact hB
  replace hw := hw M4 hw1
  refine lv_astore_n (lv' := [(1, .ref q1), (0, .ref o)]) hx hb dX2_copy_7 rfl hl (by decide) rfl (fun ls hl => ?_)
  refine lv_aload_n hx hb dX2_copy_8 rfl (lv_at hl 1 rfl) ?_
  obtain ⟨v5, ⟨tv5, fsv5, hev5, hvv5⟩, hw⟩ := hw
  refine g_get C in_X2 hM hev5 rfl 0 (by decide) q171 (fun _ h => h) (v := .ref v5) hvv5 dX2_copy_9 ?_
  refine lv_iconst (v := 0) hx hb dX2_copy_12 (by decide) ?_
  refine lv_aload_n hx hb dX2_copy_13 rfl (lv_at hl 0 rfl) ?_
  obtain ⟨v6, ⟨tv6, fsv6, hev6, hvv6⟩, hw⟩ := hw
  refine g_get C in_X2 hM hev6 rfl 0 (by decide) q171 (fun _ h => h) (v := .ref v6) hvv6 dX2_copy_14 ?_
  refine lv_iconst (v := 0) hx hb dX2_copy_17 (by decide) ?_
  refine lv_bipush (v := 12) hx hb dX2_copy_18 (by decide) ?_
  obtain ⟨nf7a, f7a, nf7b, f7b, ⟨tf7a, hef7a⟩, ⟨tf7b, hef7b⟩, h1f7, h2f7, h3f7, h4f7, h5f7, hw⟩ := hw
  obtain ⟨helf7, hw⟩ := hw
  refine g_copyQ C hl.1.symm q1537 q485 q484 q95 hM hS 3 3 hef7a hef7b rfl rfl h1f7 h2f7 h3f7 h4f7 h5f7 (fun k hk y hy => by obtain ⟨t9, fs9, h9⟩ := helf7 _ y (Nat.lt_of_lt_of_le (Nat.add_lt_add_left hk _) h4f7) hy; exact nh.anyS C hM h9 rfl) (Nat.le_of_ble_eq_true rfl) (Nat.le_of_ble_eq_true rfl) dX2_copy_20 (fun H locs hM hS => ?_)
  obtain ⟨M8, eM8⟩ : ∃ N, N = nup M4 v6 (tf7b, .inl (g.2.2.2 3, nf7b, .inr (.inr (.inr (.inr (va_cpy f7a f7b (0 : Int32).toNatClampNeg (0 : Int32).toNatClampNeg (12 : Int32).toNatClampNeg)))))) := ⟨_, rfl⟩
  rw [← eM8] at hM
  replace hw := hw M8 ⟨tf7b, f7b, hef7b, eM8⟩
  refine lv_aload_n hx hb dX2_copy_23 rfl (lv_at hl 0 rfl) ?_
  obtain ⟨v9, ⟨tv9, fsv9, hev9, hvv9⟩, hw⟩ := hw
  refine g_get C in_X2 hM hev9 rfl 1 (by decide) q174 (fun _ h => h) (v := .ref v9) hvv9 dX2_copy_24 ?_
  refine lv_aload_n hx hb dX2_copy_27 rfl (lv_at hl 1 rfl) ?_
  obtain ⟨v10, ⟨tv10, fsv10, hev10, hvv10⟩, hw⟩ := hw
  refine g_get C in_X2 hM hev10 rfl 1 (by decide) q174 (fun _ h => h) (v := .ref v10) hvv10 dX2_copy_28 ?_
  obtain ⟨g_11, g_12, g_13, g_14, g_15, g_16, g_17, g_18, g_19, g_20, hw⟩ := hw
  obtain ⟨hpr21, hw⟩ := hw
  obtain ⟨⟨wr21, ur21, hrr21⟩, hw⟩ := hw
  refine va_callv (va_runV (As := [.ref v10]) (rest := []) C.fix (met_X3_take l g g_11 g_12 g_13 g_14 g_15 g_16 g_17 g_18 g_19 g_20 M8 v9 v10 hpr21) (cw_X2_31 C.ts ⟨Nat.le_of_ble_eq_true rfl, Nat.le_of_ble_eq_true rfl⟩) (preV_of C (P := (nh g M8)) (nh.recv C hM hrr21 (q := (RX3, TX3, 5)) rfl) hS hM _) rfl rfl hl.1 rfl (lv_room (Nat.le_of_ble_eq_true rfl)) dX2_copy_31 ⟨Nat.le_of_ble_eq_true rfl, Nat.le_of_ble_eq_true rfl⟩) hS (fun _ _ h => h) (fun _ h => h) (fun M22 t H locs ht _ hw1 hB _ _ hS => ?_)
  have hM : nh g M22 H := by rw [← ht]; exact hB
  replace hw := hw M22 hw1
  refine lv_aload_n hx hb dX2_copy_34 rfl (lv_at hl 0 rfl) ?_
  refine lv_aload_n hx hb dX2_copy_35 rfl (lv_at hl 1 rfl) ?_
  obtain ⟨v23, ⟨tv23, fsv23, hev23, hvv23⟩, hw⟩ := hw
  refine g_get C in_X2 hM hev23 rfl 2 (by decide) q178 (fun _ h => h) (v := .int v23) hvv23 dX2_copy_36 ?_
  obtain ⟨⟨tp24, fsp24, hep24, hkp24⟩, hw⟩ := hw
  refine g_put C in_X2 tyX2 tyX2_ok nmX2 hM hS hep24 rfl 2 (by decide) q178 (fun _ h => h) rfl (v := .int v23) rfl rfl hkp24 dX2_copy_39 (fun H locs hM hS => ?_)
  obtain ⟨M25, eM25⟩ : ∃ N, N = nup M22 q1 (tp24, .inr (1, fsp24.set 2 (.int v23))) := ⟨_, rfl⟩
  rw [← eM25] at hM
  replace hw := hw M25 ⟨tp24, fsp24, hep24, eM25⟩
  refine lv_aload_n hx hb dX2_copy_42 rfl (lv_at hl 0 rfl) ?_
  refine lv_aload_n hx hb dX2_copy_43 rfl (lv_at hl 1 rfl) ?_
  obtain ⟨v26, ⟨tv26, fsv26, hev26, hvv26⟩, hw⟩ := hw
  refine g_get C in_X2 hM hev26 rfl 3 (by decide) q181 (fun _ h => h) (v := .int v26) hvv26 dX2_copy_44 ?_
  obtain ⟨⟨tp27, fsp27, hep27, hkp27⟩, hw⟩ := hw
  refine g_put C in_X2 tyX2 tyX2_ok nmX2 hM hS hep27 rfl 3 (by decide) q181 (fun _ h => h) rfl (v := .int v26) rfl rfl hkp27 dX2_copy_47 (fun H locs hM hS => ?_)
  obtain ⟨M28, eM28⟩ : ∃ N, N = nup M25 q1 (tp27, .inr (1, fsp27.set 3 (.int v26))) := ⟨_, rfl⟩
  rw [← eM28] at hM
  replace hw := hw M28 ⟨tp27, fsp27, hep27, eM28⟩
  refine lv_aload_n hx hb dX2_copy_50 rfl (lv_at hl 0 rfl) ?_
  refine lv_aload_n hx hb dX2_copy_51 rfl (lv_at hl 1 rfl) ?_
  obtain ⟨v29, ⟨tv29, fsv29, hev29, hvv29⟩, hw⟩ := hw
  refine g_get C in_X2 hM hev29 rfl 4 (by decide) q183 (fun _ h => h) (v := .int v29) hvv29 dX2_copy_52 ?_
  obtain ⟨⟨tp30, fsp30, hep30, hkp30⟩, hw⟩ := hw
  refine g_put C in_X2 tyX2 tyX2_ok nmX2 hM hS hep30 rfl 4 (by decide) q183 (fun _ h => h) rfl (v := .int v29) rfl rfl hkp30 dX2_copy_55 (fun H locs hM hS => ?_)
  obtain ⟨M31, eM31⟩ : ∃ N, N = nup M28 q1 (tp30, .inr (1, fsp30.set 4 (.int v29))) := ⟨_, rfl⟩
  rw [← eM31] at hM
  replace hw := hw M31 ⟨tp30, fsp30, hep30, eM31⟩
  refine lv_aload_n hx hb dX2_copy_58 rfl (lv_at hl 0 rfl) ?_
  exact W.aret (v := va_rf (some q1)) hx hb hr (Or.inl ⟨_, rfl⟩) (va_rf_or (some q1)) (fun t ht _ => ⟨⟨(some q1), M31, rfl, hw, hM.tt ht⟩, hS.F ht⟩) hS.2.2 dX2_copy_59
set_option maxHeartbeats 4000000 in
theorem met_X2_copy (l : Launch) (g : gG) (A : RA) (f : Row) (M : nM) (o : Nat) (hpre : pre_X2_copy g A f M o) : Met l yX2_copy (ws_ yX2_copy cX2_copy 2 (some (.object "InnRoad$Road"))) ({ frames := 4, cells := 5, slots := 46, locals := 256 } : Room) (va_Pc [.ref o] (Pg g (nh g M))) (va_Qq (fun r M' => post_X2_copy g A f M o r M') (fun u t => nh g u t.heap) (Ag g)) 5 46 (Ag g) :=
  wk_X2_copy l g A f M o _ (pr_X2_copy g A f M o hpre)
end
