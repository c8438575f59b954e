set_option maxRecDepth 100000
/-! STATICS of the start that the class side reads; Integer.valueOf, intValue, equals -/
def Emp (g : gG) (z : Nat) : Prop := va_Z "java/util/ArrayList" "DEFAULTCAPACITY_EMPTY_ELEMENTDATA" "[Ljava/lang/Object;" (.ref z) (Ag g) g.1 g.1.heap ∧ va_T (.object "java/lang/Object") z 0 (fun _ => .null) (Ag g) g.1 g.1.heap
def ALen (g : gG) (M : nM) (b n : Nat) : Prop := (∃ f, aQ g M 4 b n f) ∨ (n = 0 ∧ Emp g b)
theorem emp_of {g : gG} (hS : Start g) : ∃ z, Emp g z := by
  have hA : ∀ a : Nat, a < g.1.heap.size → ¬ Ag g a := fun a h => Nat.not_le.mpr h
  obtain ⟨t, h1, h2⟩ := va_Tof (N := 0) (f := fun _ => .null) (A := Ag g) (by decide) (st_of hS 5 (cd := Cond.arrayOf (Term.static "java/util/ArrayList" "DEFAULTCAPACITY_EMPTY_ELEMENTDATA" "[Ljava/lang/Object;") (.object "java/lang/Object")) rfl) (va_eqt (st_of hS 7 (cd := Cond.eq (.length (Term.static "java/util/ArrayList" "DEFAULTCAPACITY_EMPTY_ELEMENTDATA" "[Ljava/lang/Object;")) (.int 0)) rfl)) (fun j hj => absurd hj (Nat.not_lt_zero _)) hA
  exact ⟨t, va_Zof (hS.2.1 _ q274) (hS.2.1 _ (lw_all_tbl q78)) h1 hA, h2⟩
theorem va_Z.uniq {C n d : String} {v w : Value} {A : Nat → Prop} {U : State} {H : Heap} (h : va_Z C n d v A U H) (h' : va_Z C n d w A U H) : v = w := by
  obtain ⟨cf, kf, fi, f, a, cell, h1, h2, h3, h4, h5, h6, h7, h8⟩ := h
  obtain ⟨cf', kf', fi', f', a', cell', g1, g2, g3, g4, g5, g6, g7, g8⟩ := h'
  cases h1.symm.trans g1
  cases h4.symm.trans g4
  cases h5.symm.trans g5
  exact Option.some.inj (h7.symm.trans g7)
theorem Emp.uniq {g : gG} {a b : Nat} (h : Emp g a) (h' : Emp g b) : a = b := by
  have := va_Z.uniq h.1 h'.1
  cases this; rfl
theorem va_Z.at {g : gG} {U : State} {C n d : String} {v : Value} (h : va_Z C n d v (Ag g) g.1 g.1.heap) (hG : Gd g U) : va_Z C n d v (Ag g) U U.heap := (va_Z.moved hG.2.1.alike h).kept (fun a ha _ => hG.2.2.2 a ha)
theorem va_T.at {g : gG} {U : State} {ty : FieldType} {t N : Nat} {f : Nat → Value} (h : va_T ty t N f (Ag g) g.1 g.1.heap) (hG : Gd g U) : va_T ty t N f (Ag g) U U.heap := (va_T.moved hG.2.1.alike h).kept (fun a ha _ => hG.2.2.2 a ha)
def MirO (g : gG) (z : Nat) : Prop := va_Mi "[Ljava/lang/Object;" z g.1
theorem miro_of {g : gG} (hS : Start g) : ∃ z, MirO g z := va_Mi.of (st_of hS 551 (cd := Cond.isRef (.mirror "[Ljava/lang/Object;")) rfl)
theorem MirO.uniq {g : gG} {a b : Nat} (h : MirO g a) (h' : MirO g b) : a = b := by
  obtain ⟨c, k, h1, h2, h3⟩ := h
  obtain ⟨c', k', g1, g2, g3⟩ := h'
  cases h1.symm.trans g1
  cases h2.symm.trans g2
  exact Option.some.inj (h3.symm.trans g3)
theorem MirO.at {g : gG} {z : Nat} {U : State} (h : MirO g z) (hG : Gd g U) : va_Mi "[Ljava/lang/Object;" z U := va_Mi.moved hG.2.1.alike h
theorem cac_of {g : gG} (hS : Start g) : ∃ (t : Nat) (ad : Nat → Nat), va_Z "java/lang/Integer$IntegerCache" "cache" "[Ljava/lang/Integer;" (.ref t) (Ag g) g.1 g.1.heap ∧ va_T (.object "java/lang/Integer") t 256 (fun j => .ref (ad j)) (Ag g) g.1 g.1.heap ∧ ∀ k, k < 256 → IntAt g (ad k) (vb_c k) := by
  have hA : ∀ a : Nat, a < g.1.heap.size → ¬ Ag g a := fun a h => Nat.not_le.mpr h
  have hlen := va_eqt (st_of hS 11 (cd := Cond.eq (.length (Term.static "java/lang/Integer$IntegerCache" "cache" "[Ljava/lang/Integer;")) (.int 256)) rfl)
  obtain ⟨ad, hC, hel⟩ := vb_Cof (A := Ag g) (st := (Term.static "java/lang/Integer$IntegerCache" "cache" "[Ljava/lang/Integer;")) rfl hlen (st_of hS 12 rfl) hA
  obtain ⟨t, h1, h2⟩ := va_Tof (N := 256) (f := fun j => .ref (ad j)) (A := Ag g) (by decide) (st_of hS 10 (cd := Cond.arrayOf (Term.static "java/lang/Integer$IntegerCache" "cache" "[Ljava/lang/Integer;") (.object "java/lang/Integer")) rfl) hlen hel hA
  exact ⟨t, ad, va_Zof (hS.2.1 _ q334) (hS.2.1 _ (lw_all_tbl q83)) h1 hA, h2, fun k hk => ⟨hC.1 k hk, hC.2 k hk⟩⟩
section R3
variable {p : Program} {l : Launch} {e : Env} {R : Room} {s : State} {m : MethodId} {args : Array Value} {below : List Frame} {meth : Method} {c : Code} {H : Heap} {locs : List Loc} {cells slots : Nat} {Q : State → Prop}
variable {cc : ByteArray} {pc : Nat} {ls : Array Slot} {rest : List Value} {g : gG} {M : nM} {a : Nat} {nL : Nat} {own : String} {ret : Option FieldType}
theorem IntAt.fld (C : Cx p s m args meth c cc nL own ret g) (hS : va_S (Ag g) s.heap H locs) {v : Int32} (h : IntAt g a v) : va_OF "java/lang/Integer" "value" "I" (.int v) a (fun _ => False) s H := (h.of C hS).2.narrow (fun _ z => z.elim)
/-- a virtual call of an Integer's: its cell as a receiver -/
theorem IntAt.rcv0 (C : Cx p s m args meth c cc nL own ret g) {v : Int32} (h : IntAt g a v) : ∃ cell : Cell, s.heap[a]? = some cell ∧ cell.vm.isStatics = false ∧ s.vm.findClass "java/lang/Integer" = some cell.cls := h.recv C (va_S.rf (A := Ag g))
/-- an array of objects as getClass's receiver -/
theorem nh.arrCls (C : Cx p s m args meth c cc nL own ret g) (hM : nh g M H) {t : Nat × Nat} {n : Nat} {f : Nat → Option Nat} (he : M a = some (t, .inl (g.2.2.2 4, n, .inr (.inr (.inr (.inr f)))))) : ∃ cell : Cell, H[a]? = some cell ∧ cell.vm.isStatics = false ∧ s.vm.findClass "[Ljava/lang/Object;" = some cell.cls :=
  ⟨_, (hM a t _ he).1, rfl, va_nmO (C.G.K.2 4 _ rfl).2 rfl⟩
/-- the length of a list's array, the empty one of the JDK's among them -/
theorem g_alenE (C : Cx p s m args meth c cc nL own ret g) (hM : nh g M H) (hS : va_S (Ag g) s.heap H locs) {n : Nat} (h : ALen g M a n) (hdg : decode cc pc = .ok (.arraylength, 1))
    (kk : W p l e R s m args below meth c H locs cells slots Q (F0 m (pc + 1) ls (.int (Int32.ofNat n) :: rest))) : W p l e R s m args below meth c H locs cells slots Q (F0 m pc ls (.ref a :: rest)) := by
  rcases h with ⟨f, t, h⟩ | ⟨h1, h2⟩
  · exact g_alen C hM 4 h rfl hdg kk
  · subst h1
    exact va_tlen C.1 C.2.1 (h2.2.at C.G) hS rfl hdg kk
end R3
def vp_SvP (post : Prop) : Array Value → State → Outcome → State → Prop := fun _ st o t => o = .returned none ∧ t.heap = st.heap ∧ post
theorem vp_callSvP {p : Program} {l : Launch} {e : Env} {R : Room} {s : State} {m : MethodId} {args : Array Value} {below : List Frame} {meth : Method} {c : Code} {H : Heap} {locs : List Loc} {cells slots : Nat} {Q : State → Prop} {pc : Nat} {ls : Array Slot} {rest : List Value} {post : Prop} {a : Array Value} {st0 : List Value} (hr : CallRun p l e R s m args below meth c H locs cells slots 0 0 (F0 m pc ls st0) rest (vp_SvP post a) (fun _ => False))
    (kk : post → W p l e R s m args below meth c H locs cells slots Q (F0 m (pc + 3) ls rest)) : W p l e R s m args below meth c H locs cells slots Q (F0 m pc ls st0) := by
  intro T hT X
  obtain ⟨v, st₀, t, T', L, h0, X', hL, e1, ⟨hv, hh, hp⟩, st⟩ := hr T hT X
  cases hv
  obtain ⟨t2, a1, b1⟩ := kk hp T' (by rw [e1, hh, h0]) (Stand.forget X' (fun q h => (hL q h).elim))
  exact ⟨t2, st t2 a1, b1⟩
def pre_J7_valueOf (_ : gG) (_ : nM) (v : Int32) : Prop := ∃ k, k < 256 ∧ v = vb_c k
def post_J7_valueOf (g : gG) (_ : nM) (v : Int32) (r : Option Nat) : Prop := ∃ a, r = some a ∧ IntAt g a v
def pre_J7_intValue (g : gG) (v : Int32) (_ : nM) (o : Nat) : Prop := IntAt g o v
def post_J7_intValue (_ : gG) (v : Int32) (_ : nM) (_ : Nat) (r : Int32) : Prop := r = v
def pre_J7_equals (g : gG) (v w : Int32) (_ : nM) (o x : Nat) : Prop := IntAt g o v ∧ IntAt g x w
def post_J7_equals (_ : gG) (v w : Int32) (_ : nM) (_ _ : Nat) (r : Int32) : Prop := r = b2i (decide (v = w))
theorem vb_c_in {k : Nat} (hk : k < 256) : vb_c k + 128 = nI k := by
  show (Int32.ofNat k - 128) + 128 = nI k
  rw [Int32.sub_add_cancel]; rfl
theorem vb_c_lo {k : Nat} (hk : k < 256) : ¬ vb_c k < (-128) ∧ ¬ (127 : Int32) < vb_c k := by
  have e : ∀ k : Fin 256, ¬ vb_c k.val < (-128) ∧ ¬ (127 : Int32) < vb_c k.val := by decide +kernel
  exact e ⟨k, hk⟩
theorem met_J7_valueOf (l : Launch) (g : gG) (M : nM) (v : Int32) (hpre : pre_J7_valueOf g M v) : Met l yJ7_valueOf (ws_ yJ7_valueOf cJ7_valueOf 1 (some (.object "java/lang/Integer"))) ({ frames := 1, cells := 0, slots := 0, locals := 64 } : Room) (va_Pc [.int v] (Pg g (nh g M))) (va_Sq (fun r => post_J7_valueOf g M v r)) 0 0 (fun _ => False) := by
  refine Met.ofW (cc := cJ7_valueOf) (maxL := 1) (ret := (some (.object "java/lang/Integer"))) (by decide) rfl ?_
  intro p e s m args below meth c s₁ B hml hv
  obtain ⟨rfl, hG, hM⟩ := hv
  have C : Cx p s m _ meth c cJ7_valueOf 1 RJ7 (some (.object "java/lang/Integer")) g := Cx.of B hml hG
  have hx := C.1
  have hb := C.2.1
  have hown := C.2.2.2.1
  have hr := C.2.2.2.2.2.1
  have hlocks := C.2.2.2.2.2.2.1
  refine lv_start ([.int v] : List Value) (L := [(0, .int v)]) (Nat.le_of_ble_eq_true rfl) rfl (fun ls hl => ?_)
  obtain ⟨k, hk, rfl⟩ := hpre
  have hlo := vb_c_lo hk
  obtain ⟨t, ad, hZ, hT, hI⟩ := cac_of hG.1
  refine lv_iload_n hx hb dJ7_valueOf_0 rfl (lv_at hl 0 rfl) ?_
  refine lv_bipush (v := (-128)) hx hb dJ7_valueOf_1 (by decide) ?_
  refine lv_icmp_lt (tgt := 23) hx hb dJ7_valueOf_3 (by decide) (fun c1 => absurd c1 hlo.1) (fun c1 => ?_)
  refine lv_iload_n hx hb dJ7_valueOf_6 rfl (lv_at hl 0 rfl) ?_
  refine va_gets hx hb (stZ hG 8 (C := "java/lang/Integer$IntegerCache") (n := "high") (d := "I") q332 (lw_all_tbl q83) rfl) va_S.rf hown (C.ts _ q331) (fun _ h => h) dJ7_valueOf_7 ?_
  refine lv_icmp_gt (tgt := 23) hx hb dJ7_valueOf_10 (by decide) (fun c2 => absurd c2 hlo.2) (fun c2 => ?_)
  refine va_gets hx hb (hZ.at hG) (va_S.rf (A := Ag g)) hown (C.ts _ q333) (fun _ h => h) dJ7_valueOf_13 ?_
  refine lv_iload_n hx hb dJ7_valueOf_16 rfl (lv_at hl 0 rfl) ?_
  refine lv_sipush (v := 128) hx hb dJ7_valueOf_17 (by decide) ?_
  refine lv_iadd hx hb dJ7_valueOf_20 ?_
  rw [vb_c_in hk]
  refine vb_tq hx hb (hT.at hG) (va_S.rf (A := Ag g)) (nI_in hk (by decide)) (v := .ref (ad k)) (by rw [nI_clamp (by omega)]) dJ7_valueOf_21 ?_
  exact W.aret (v := va_rf (some (ad k))) hx hb hr (Or.inl ⟨_, rfl⟩) (va_rf_or _) (fun t ht _ => ⟨some (ad k), rfl, ⟨_, rfl, hI k hk⟩, ht⟩) (fun _ h => by cases h) dJ7_valueOf_22
theorem met_J7_intValue (l : Launch) (g : gG) (v : Int32) (M : nM) (o : Nat) (hpre : pre_J7_intValue g v M o) : Met l yJ7_intValue (ws_ yJ7_intValue cJ7_intValue 1 (some .int)) ({ frames := 1, cells := 0, slots := 0, locals := 64 } : Room) (va_Pc [.ref o] (Pg g (nh g M))) (vp_Si (fun r => post_J7_intValue g v M o r)) 0 0 (fun _ => False) := by
  refine Met.ofW (cc := cJ7_intValue) (maxL := 1) (ret := (some .int)) (by decide) rfl ?_
  intro p e s m args below meth c s₁ B hml hv
  obtain ⟨rfl, hG, hM⟩ := hv
  have C : Cx p s m _ meth c cJ7_intValue 1 RJ7 (some .int) g := Cx.of B hml hG
  have hx := C.1
  have hb := C.2.1
  have hown := C.2.2.2.1
  have hr := C.2.2.2.2.2.1
  have hlocks := C.2.2.2.2.2.2.1
  refine lv_start ([.ref o] : List Value) (L := [(0, .ref o)]) (Nat.le_of_ble_eq_true rfl) rfl (fun ls hl => ?_)
  refine lv_aload_n hx hb dJ7_intValue_0 rfl (lv_at hl 0 rfl) ?_
  refine g_getO C (IntAt.fld C va_S.rf hpre) q344 dJ7_intValue_1 ?_
  exact W.iret (v := v) hx hb hr (fun t ht _ => ⟨v, rfl, rfl, ht⟩) (fun _ h => by cases h) dJ7_intValue_4
theorem cw_J7_211 {R : Room} {s : State} {args : Array Value} (hts : ∀ w ∈ lw_all, w.before args s = true) {rm : Room} (hR : rm.frames + 1 ≤ R.frames ∧ 8 + (1 + 11) + rm.locals ≤ R.locals) : CallW R s args RJ7 RJ7 211 yJ7_intValue cJ7_intValue 1 (some .int) (ws_ yJ7_intValue cJ7_intValue 1 (some .int)) rm rm.cells rm.slots 0 := cwV 0 hts (lw_V q1093 q325 q326 q82 q327) rfl rfl rfl (by decide +kernel) hR
theorem met_J7_equals (l : Launch) (g : gG) (v w : Int32) (M : nM) (o x : Nat) (hpre : pre_J7_equals g v w M o x) : Met l yJ7_equals (ws_ yJ7_equals cJ7_equals 2 (some .boolean)) ({ frames := 2, cells := 0, slots := 0, locals := 128 } : Room) (va_Pc [.ref o, .ref x] (Pg g (nh g M))) (vp_Si (fun r => post_J7_equals g v w M o x r)) 0 0 (fun _ => False) := by
  refine Met.ofW (cc := cJ7_equals) (maxL := 2) (ret := (some .boolean)) (by decide) rfl ?_
  intro p e s m args below meth c s₁ B hml hv
  obtain ⟨rfl, hG, hM⟩ := hv
  have C : Cx p s m _ meth c cJ7_equals 2 RJ7 (some .boolean) g := Cx.of B hml hG
  have hx := C.1
  have hb := C.2.1
  have hown := C.2.2.2.1
  have hr := C.2.2.2.2.2.1
  have hlocks := C.2.2.2.2.2.2.1
  refine lv_start ([.ref o, .ref x] : List Value) (L := [(0, .ref o), (1, .ref x)]) (Nat.le_of_ble_eq_true rfl) rfl (fun ls hl => ?_)
  obtain ⟨ho, hX⟩ := hpre
  have hcl := C.clsAt (ci := 19) (q := (RJ7, TJ7, 1)) rfl
  refine lv_aload_n hx hb dJ7_equals_0 rfl (lv_at hl 1 rfl) ?_
  refine va_instS hx hb hown (C.ts _ q335) hcl (hX.rcv0 C) dJ7_equals_1 ?_
  refine lv_if_eq (tgt := 27) hx hb dJ7_equals_4 (by decide) (fun c1 => absurd c1 (by decide)) (fun c1 => ?_)
  refine lv_aload_n hx hb dJ7_equals_7 rfl (lv_at hl 0 rfl) ?_
  refine g_getO C (IntAt.fld C va_S.rf ho) q344 dJ7_equals_8 ?_
  refine lv_aload_n hx hb dJ7_equals_11 rfl (lv_at hl 1 rfl) ?_
  refine va_castS hx hb hown (C.ts _ q335) hcl (hX.rcv0 C) dJ7_equals_12 ?_
  refine vp_callSi ((va_runV (As := []) (rest := [.int v]) C.fix (met_J7_intValue l g w M x hX) (cw_J7_211 C.ts ⟨Nat.le_of_ble_eq_true rfl, Nat.le_of_ble_eq_true rfl⟩) (preV_of C (P := nh g M) (hX.rcv0 C) va_S.rf hM _) rfl rfl hl.1 rfl (lv_room (Nat.le_of_ble_eq_true rfl)) dJ7_equals_15 ⟨Nat.le_of_ble_eq_true rfl, Nat.le_of_ble_eq_true rfl⟩).run) (fun r e1 => ?_)
  have e1 : r = w := e1
  subst e1
  refine lv_icmp_ne (tgt := 25) hx hb dJ7_equals_18 (by decide) (fun c2 => ?_) (fun c2 => ?_)
  · refine lv_iconst (v := 0) hx hb dJ7_equals_25 (by decide) ?_
    exact W.zret (v := 0) hx hb hr rfl (fun t ht _ => ⟨0, rfl, (by show (0 : Int32) = b2i (decide (v = r)); rw [decide_eq_false c2]; rfl), ht⟩) (fun _ h => by cases h) dJ7_equals_26
  · refine lv_iconst (v := 1) hx hb dJ7_equals_21 (by decide) ?_
    refine lv_goto (tgt := 26) hx hb dJ7_equals_22 (by decide) ?_
    exact W.zret (v := 1) hx hb hr rfl (fun t ht _ => ⟨1, rfl, (by show (1 : Int32) = b2i (decide (v = r)); rw [decide_eq_true c2]; rfl), ht⟩) (fun _ h => by cases h) dJ7_equals_26
