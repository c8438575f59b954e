set_option maxRecDepth 100000
/-! STRING LENGTHS AND SIGNS: J14, J19, J5 -/
theorem st_of {g : gG} (hS : Start g) (k : Nat) {cd : Cond} (hc : (narrowF.drop k).take 1 = [cd]) : cd.before #[Value.ref g.2.1] g.1 = true := by
  have hf : ∀ c ∈ narrowF, c.before #[Value.ref g.2.1] g.1 = true := flat_of_before _ hS.2.2
  have hm : cd ∈ (narrowF.drop k).take 1 := by rw [hc]; exact List.mem_singleton.mpr rfl
  exact hf cd (List.mem_of_mem_drop (List.mem_of_mem_take hm))
theorem stZ {g : gG} {U : State} (hG : Gd g U) (k : Nat) {C n d : String} {x : Int32} (hl : Cond.laysStatic C n d ∈ lw_tbl) (hi : Cond.initialized C ∈ lw_tbl) (hc : (narrowF.drop k).take 1 = [Cond.eq (.static C n d) (.int x)]) : va_Z C n d (.int x) (fun _ => False) U U.heap := by
  have h0 : va_Z C n d (.int x) (Ag g) g.1 g.1.heap := va_Zof (hG.1.2.1 _ hl) (hG.1.2.1 _ hi) (va_eqt (st_of hG.1 k hc)) (fun a h => Nat.not_le.mpr h)
  exact ((va_Z.moved hG.2.1.alike h0).kept (fun a ha _ => hG.2.2.2 a ha)).narrow (fun _ h => h.elim)
theorem stQ {g : gG} {U : State} (hG : Gd g U) (k : Nat) {C n d : String} (hl : Cond.laysStatic C n d ∈ lw_tbl) (hi : Cond.initialized C ∈ lw_tbl) (hc : (narrowF.drop k).take 1 = [Cond.isRef (.static C n d)]) : va_Zq C n d (fun _ => False) U U.heap := by
  have h0 : va_Zq C n d (Ag g) g.1 g.1.heap := va_Zqof (hG.1.2.1 _ hl) (hG.1.2.1 _ hi) (st_of hG.1 k hc) (fun a h => Nat.not_le.mpr h)
  exact ((va_Zq.moved hG.2.1.alike h0).kept (fun a ha _ => hG.2.2.2 a ha)).narrow (fun _ h => h.elim)
def vp_Sv : Array Value → State → Outcome → State → Prop := fun _ st o t => o = .returned none ∧ t.heap = st.heap
section STR0
variable {p : Program} {l : Launch} {e : Env} {R : Room} {s : State} {m : MethodId} {args : Array Value} {below : List Frame} {meth : Method} {c : Code} {H : Heap} {locs : List Loc} {cells slots : Nat} {Q : State → Prop}
variable {cc : ByteArray} {pc : Nat} {ls : Array Slot} {rest : List Value} {g : gG} {nL : Nat} {own : String} {ret : Option FieldType}
theorem vp_callSv {a : Array Value} {st0 : List Value} (hr : CallRun p l e R s m args below meth c H locs cells slots 0 0 (F0 m pc ls st0) rest (vp_Sv a) (fun _ => False))
    (kk : W p l e R s m args below meth c H locs cells slots Q (F0 m (pc + 3) ls rest)) : W p l e R s m args below meth c H locs cells slots Q (F0 m pc ls st0) := by
  intro T hT X
  obtain ⟨v, st₀, t, T', L, h0, X', hL, e1, ⟨hv, hh⟩, st⟩ := hr T hT X
  cases hv
  obtain ⟨t2, a1, b1⟩ := kk T' (by rw [e1, hh, h0]) (Stand.forget X' (fun q h => (hL q h).elim))
  exact ⟨t2, st t2 a1, b1⟩
theorem g_getO (C : Cx p s m args meth c cc nL own ret g) {o n d : String} {v : Value} {sa index : Nat} (h : va_OF o n d v sa (fun _ => False) s H) (hlink : Cond.fieldLink own index o n d ∈ lw_all) (hdg : decode cc pc = .ok (.getfield index, 3))
    (kk : W p l e R s m args below meth c H locs cells slots Q (F0 m (pc + 3) ls (v :: rest))) : W p l e R s m args below meth c H locs cells slots Q (F0 m pc ls (.ref sa :: rest)) := by
  obtain ⟨cf, k, fi, f, cell, h1, h2, h3, h4, h5, h6⟩ := h
  exact W.getf C.1 C.2.1 C.2.2.2.1 (C.ts _ hlink) h1 h2 h3 h4 h5 rfl rfl hdg kk
end STR0
abbrev rm_J5_checkIndex : Room := ({ frames := 1, cells := 0, slots := 0, locals := 64 } : Room)
abbrev rm_J14_checkIndex : Room := ({ frames := 2, cells := 0, slots := 0, locals := 128 } : Room)
abbrev rm_J19_charAt : Room := ({ frames := 3, cells := 0, slots := 0, locals := 192 } : Room)
abbrev rm_J14_isLatin1 : Room := ({ frames := 1, cells := 0, slots := 0, locals := 64 } : Room)
abbrev rm_J14_coder : Room := ({ frames := 1, cells := 0, slots := 0, locals := 64 } : Room)
abbrev rm_J14_length : Room := ({ frames := 3, cells := 0, slots := 0, locals := 192 } : Room)
abbrev rm_J14_charAt : Room := ({ frames := 6, cells := 0, slots := 0, locals := 384 } : Room)
theorem cw_J14_335 {R : Room} {s : State} {args : Array Value} (hts : ∀ w ∈ lw_all, w.before args s = true) {rm : Room} (hR : rm.frames + 1 ≤ R.frames ∧ 8 + (1 + 11) + rm.locals ≤ R.locals) : CallW R s args RJ14 RJ14 335 yJ14_coder cJ14_coder 1 (some .byte) (ws_ yJ14_coder cJ14_coder 1 (some .byte)) rm rm.cells rm.slots 0 := cwV 0 hts (lw_V q521 q522 q523 q90 q524) rfl rfl rfl (by decide +kernel) hR
theorem cw_J14_492 {R : Room} {s : State} {args : Array Value} (hts : ∀ w ∈ lw_all, w.before args s = true) {rm : Room} (hR : rm.frames + 1 ≤ R.frames ∧ 8 + (1 + 11) + rm.locals ≤ R.locals) : CallW R s args RJ14 RJ14 492 yJ14_isLatin1 cJ14_isLatin1 1 (some .boolean) (ws_ yJ14_isLatin1 cJ14_isLatin1 1 (some .boolean)) rm rm.cells rm.slots 0 := cwV 0 hts (lw_V q1009 q1010 q1011 q90 q1012) rfl rfl rfl (by decide +kernel) hR
theorem cw_J14_495 {R : Room} {s : State} {args : Array Value} (hts : ∀ w ∈ lw_all, w.before args s = true) {rm : Room} (hR : rm.frames + 1 ≤ R.frames ∧ 8 + (2 + 11) + rm.locals ≤ R.locals) : CallB R s args RJ14 495 yJ19_charAt cJ19_charAt 2 (some .char) (ws_ yJ19_charAt cJ19_charAt 2 (some .char)) rm rm.cells rm.slots 2 ∧ (Cond.static yJ19_charAt).before args s = true := va_cwS 2 hts (lw_S q2307 q2308 q96 q2309) rfl rfl rfl (by decide +kernel) hR
theorem cw_J19_9 {R : Room} {s : State} {args : Array Value} (hts : ∀ w ∈ lw_all, w.before args s = true) {rm : Room} (hR : rm.frames + 1 ≤ R.frames ∧ 8 + (2 + 11) + rm.locals ≤ R.locals) : CallB R s args RJ19 9 yJ14_checkIndex cJ14_checkIndex 2 none (ws_ yJ14_checkIndex cJ14_checkIndex 2 none) rm rm.cells rm.slots 2 ∧ (Cond.static yJ14_checkIndex).before args s = true := va_cwS 2 hts (lw_S q2310 q887 q90 q888) rfl rfl rfl (by decide +kernel) hR
theorem cw_J14_1059 {R : Room} {s : State} {args : Array Value} (hts : ∀ w ∈ lw_all, w.before args s = true) {rm : Room} (hR : rm.frames + 1 ≤ R.frames ∧ 8 + (3 + 11) + rm.locals ≤ R.locals) : CallB R s args RJ14 1059 yJ5_checkIndex cJ5_checkIndex 3 (some .int) (ws_ yJ5_checkIndex cJ5_checkIndex 3 (some .int)) rm rm.cells rm.slots 3 ∧ (Cond.static yJ5_checkIndex).before args s = true := va_cwS 3 hts (lw_S q889 q317 q80 q318) rfl rfl rfl (by decide +kernel) hR
theorem met_J5_checkIndex_n (l : Launch) (g : gG) (x y : Int32) (h : ¬ x < 0 ∧ x < y) : Met l yJ5_checkIndex (ws_ yJ5_checkIndex cJ5_checkIndex 3 (some .int)) rm_J5_checkIndex (va_Pc [.int x, .int y, .null] (Pg g (fun _ => True))) (vp_Si (fun r => r = x)) 0 0 (fun _ => False) := by
  refine Met.ofW (cc := cJ5_checkIndex) (maxL := 3) (ret := (some .int)) (by decide) rfl ?_
  intro p e s m args below meth c s₁ B hml hv
  obtain ⟨rfl, hG, -⟩ := hv
  have C : Cx p s m _ meth c cJ5_checkIndex 3 RJ5 (some .int) g := Cx.of B hml hG
  have hx := C.1
  have hb := C.2.1
  have hown := C.2.2.2.1
  have hr := C.2.2.2.2.2.1
  have hlocks := C.2.2.2.2.2.2.1
  refine lv_start ([.int x, .int y, .null] : List Value) (L := [(0, .int x), (1, .int y), (2, .null)]) (Nat.le_of_ble_eq_true rfl) rfl (fun ls hl => ?_)
  refine lv_iload_n hx hb dJ5_checkIndex_0 rfl (lv_at hl 0 rfl) ?_
  refine lv_if_lt (tgt := 9) hx hb dJ5_checkIndex_1 (by decide) (fun c1 => absurd c1 h.1) (fun c1 => ?_)
  refine lv_iload_n hx hb dJ5_checkIndex_4 rfl (lv_at hl 0 rfl) ?_
  refine lv_iload_n hx hb dJ5_checkIndex_5 rfl (lv_at hl 1 rfl) ?_
  refine lv_icmp_lt (tgt := 16) hx hb dJ5_checkIndex_6 (by decide) (fun c2 => ?_) (fun c2 => absurd h.2 c2)
  refine lv_iload_n hx hb dJ5_checkIndex_16 rfl (lv_at hl 0 rfl) ?_
  exact W.iret (v := x) hx hb hr (fun t ht _ => ⟨x, rfl, rfl, ht⟩) (fun _ h => by cases h) dJ5_checkIndex_17
theorem met_J5_checkIndex_r (l : Launch) (g : gG) (b : Nat) (x y : Int32) (h : ¬ x < 0 ∧ x < y) : Met l yJ5_checkIndex (ws_ yJ5_checkIndex cJ5_checkIndex 3 (some .int)) rm_J5_checkIndex (va_Pc [.int x, .int y, .ref b] (Pg g (fun _ => True))) (vp_Si (fun r => r = x)) 0 0 (fun _ => False) := by
  refine Met.ofW (cc := cJ5_checkIndex) (maxL := 3) (ret := (some .int)) (by decide) rfl ?_
  intro p e s m args below meth c s₁ B hml hv
  obtain ⟨rfl, hG, -⟩ := hv
  have C : Cx p s m _ meth c cJ5_checkIndex 3 RJ5 (some .int) g := Cx.of B hml hG
  have hx := C.1
  have hb := C.2.1
  have hown := C.2.2.2.1
  have hr := C.2.2.2.2.2.1
  have hlocks := C.2.2.2.2.2.2.1
  refine lv_start ([.int x, .int y, .ref b] : List Value) (L := [(0, .int x), (1, .int y), (2, .ref b)]) (Nat.le_of_ble_eq_true rfl) rfl (fun ls hl => ?_)
  refine lv_iload_n hx hb dJ5_checkIndex_0 rfl (lv_at hl 0 rfl) ?_
  refine lv_if_lt (tgt := 9) hx hb dJ5_checkIndex_1 (by decide) (fun c1 => absurd c1 h.1) (fun c1 => ?_)
  refine lv_iload_n hx hb dJ5_checkIndex_4 rfl (lv_at hl 0 rfl) ?_
  refine lv_iload_n hx hb dJ5_checkIndex_5 rfl (lv_at hl 1 rfl) ?_
  refine lv_icmp_lt (tgt := 16) hx hb dJ5_checkIndex_6 (by decide) (fun c2 => ?_) (fun c2 => absurd h.2 c2)
  refine lv_iload_n hx hb dJ5_checkIndex_16 rfl (lv_at hl 0 rfl) ?_
  exact W.iret (v := x) hx hb hr (fun t ht _ => ⟨x, rfl, rfl, ht⟩) (fun _ h => by cases h) dJ5_checkIndex_17
theorem met_J14_checkIndex (l : Launch) (g : gG) (x y : Int32) (h : ¬ x < 0 ∧ x < y) : Met l yJ14_checkIndex (ws_ yJ14_checkIndex cJ14_checkIndex 2 none) rm_J14_checkIndex (va_Pc [.int x, .int y] (Pg g (fun _ => True))) vp_Sv 0 0 (fun _ => False) := by
  refine Met.ofW (cc := cJ14_checkIndex) (maxL := 2) (ret := none) (by decide) rfl ?_
  intro p e s m args below meth c s₁ B hml hv
  obtain ⟨rfl, hG, -⟩ := hv
  have C : Cx p s m _ meth c cJ14_checkIndex 2 RJ14 none g := Cx.of B hml hG
  have hx := C.1
  have hb := C.2.1
  have hown := C.2.2.2.1
  have hr := C.2.2.2.2.2.1
  have hlocks := C.2.2.2.2.2.2.1
  refine lv_start ([.int x, .int y] : List Value) (L := [(0, .int x), (1, .int y)]) (Nat.le_of_ble_eq_true rfl) rfl (fun ls hl => ?_)
  refine lv_iload_n hx hb dJ14_checkIndex_0 rfl (lv_at hl 0 rfl) ?_
  refine lv_iload_n hx hb dJ14_checkIndex_1 rfl (lv_at hl 1 rfl) ?_
  rcases stQ hG 16 (C := "jdk/internal/util/Preconditions") (n := "SIOOBE_FORMATTER") (d := "Ljava/util/function/BiFunction;") q504 (lw_at lw_m1 11 rfl) rfl with hz | ⟨b, hz⟩
  · refine va_gets hx hb hz va_S.rf hown (C.ts _ q503) (fun _ h => h) dJ14_checkIndex_2 ?_
    refine vp_callSi ((va_runS (As := [.int x, .int y, .null]) (rest := []) C.fix (met_J5_checkIndex_n l g x y h) (cw_J14_1059 C.ts ⟨Nat.le_of_ble_eq_true rfl, Nat.le_of_ble_eq_true rfl⟩) (preS_of C (P := (fun _ => True)) va_S.rf trivial _) rfl rfl hl.1 rfl (lv_room (Nat.le_of_ble_eq_true rfl)) dJ14_checkIndex_5 ⟨Nat.le_of_ble_eq_true rfl, Nat.le_of_ble_eq_true rfl⟩).run) (fun r1 e1 => ?_)
    refine lv_pop hx hb dJ14_checkIndex_8 rfl ?_
    exact W.vret hx hb hr (fun t ht _ => ⟨rfl, ht⟩) (fun _ h => by cases h) dJ14_checkIndex_9
  · refine va_gets hx hb hz va_S.rf hown (C.ts _ q503) (fun _ h => h) dJ14_checkIndex_2 ?_
    refine vp_callSi ((va_runS (As := [.int x, .int y, .ref b]) (rest := []) C.fix (met_J5_checkIndex_r l g b x y h) (cw_J14_1059 C.ts ⟨Nat.le_of_ble_eq_true rfl, Nat.le_of_ble_eq_true rfl⟩) (preS_of C (P := (fun _ => True)) va_S.rf trivial _) rfl rfl hl.1 rfl (lv_room (Nat.le_of_ble_eq_true rfl)) dJ14_checkIndex_5 ⟨Nat.le_of_ble_eq_true rfl, Nat.le_of_ble_eq_true rfl⟩).run) (fun r1 e1 => ?_)
    refine lv_pop hx hb dJ14_checkIndex_8 rfl ?_
    exact W.vret hx hb hr (fun t ht _ => ⟨rfl, ht⟩) (fun _ h => by cases h) dJ14_checkIndex_9
def BytH (U : State) (b : Nat) (tx : List Int32) : Prop := va_T .byte b tx.length (fun j => .int (tx.getD j 0)) (fun _ => False) U U.heap ∧ asc tx ∧ tx.length < 65536
theorem asc_255 {tx : List Int32} (h : asc tx) (k : Nat) : ((tx.getD k 0 &&& 255).toUInt32 % 65536).toInt32 = tx.getD k 0 ∧ narrow .char (.int (tx.getD k 0)) = .int (tx.getD k 0) := by
  have key : ∀ n, n < 128 → ((nI n &&& 255).toUInt32 % 65536).toInt32 = nI n ∧ narrow .char (.int (nI n)) = .int (nI n) := by decide
  by_cases hk : k < tx.length
  · have e : tx.getD k 0 = tx[k] := by rw [List.getD_eq_getElem?_getD, List.getElem?_eq_getElem hk]; rfl
    obtain ⟨n, hn, en⟩ := h _ (List.getElem_mem hk)
    rw [e, en]; exact key n hn
  · have e : tx.getD k 0 = 0 := by rw [List.getD_eq_getElem?_getD, List.getElem?_eq_none (by omega)]; rfl
    rw [e]; exact key 0 (by decide)
theorem vp_in_ix {k : Int32} {n : Nat} (h : vp_in k n) (hn : n < 65536) : ¬ k < 0 ∧ k < nI n := by
  have h0 : ¬ k < 0 := fun z => h (Or.inl z)
  obtain ⟨j, hj, ej⟩ := nI_of h0
  have h1 : ¬ n ≤ k.toNatClampNeg := fun z => h (Or.inr z)
  rw [ej, nI_clamp (by omega)] at h1
  exact ⟨h0, by rw [ej]; exact (nI_ltI (by omega) (by omega)).mpr (by omega)⟩
theorem met_J19_charAt (l : Launch) (g : gG) (b : Nat) (tx : List Int32) (k : Int32) (hk : vp_in k tx.length) : Met l yJ19_charAt (ws_ yJ19_charAt cJ19_charAt 2 (some .char)) rm_J19_charAt (va_Pc [.ref b, .int k] (fun U => Gd g U ∧ BytH U b tx)) (vp_Si (fun r => r = tx.getD k.toNatClampNeg 0)) 0 0 (fun _ => False) := by
  refine Met.ofW (cc := cJ19_charAt) (maxL := 2) (ret := (some .char)) (by decide) rfl ?_
  intro p e s m args below meth c s₁ B hml hv
  obtain ⟨rfl, hG, hT, ha, hln⟩ := hv
  have C : Cx p s m _ meth c cJ19_charAt 2 RJ19 (some .char) g := Cx.of B hml hG
  have hx := C.1
  have hb := C.2.1
  have hown := C.2.2.2.1
  have hr := C.2.2.2.2.2.1
  have hlocks := C.2.2.2.2.2.2.1
  refine lv_start ([.ref b, .int k] : List Value) (L := [(0, .ref b), (1, .int k)]) (Nat.le_of_ble_eq_true rfl) rfl (fun ls hl => ?_)
  have hix := vp_in_ix hk hln
  refine lv_iload_n hx hb dJ19_charAt_0 rfl (lv_at hl 1 rfl) ?_
  refine lv_aload_n hx hb dJ19_charAt_1 rfl (lv_at hl 0 rfl) ?_
  refine va_tlen hx hb hT va_S.rf (v := nI tx.length) rfl dJ19_charAt_2 ?_
  refine vp_callSv ((va_runS (As := [.int k, .int (nI tx.length)]) (rest := []) C.fix (met_J14_checkIndex l g k (nI tx.length) hix) (cw_J19_9 C.ts ⟨Nat.le_of_ble_eq_true rfl, Nat.le_of_ble_eq_true rfl⟩) (preS_of C (P := (fun _ => True)) va_S.rf trivial _) rfl rfl hl.1 rfl (lv_room (Nat.le_of_ble_eq_true rfl)) dJ19_charAt_3 ⟨Nat.le_of_ble_eq_true rfl, Nat.le_of_ble_eq_true rfl⟩).run) ?_
  refine lv_aload_n hx hb dJ19_charAt_6 rfl (lv_at hl 0 rfl) ?_
  refine lv_iload_n hx hb dJ19_charAt_7 rfl (lv_at hl 1 rfl) ?_
  refine va_tb hx hb hT va_S.rf hk rfl dJ19_charAt_8 ?_
  refine lv_sipush (v := 255) hx hb dJ19_charAt_9 (by decide) ?_
  refine lv_iand hx hb dJ19_charAt_12 ?_
  refine lv_i2c hx hb dJ19_charAt_13 rfl ?_
  rw [(asc_255 ha k.toNatClampNeg).1]
  exact W.zret (v := tx.getD k.toNatClampNeg 0) hx hb hr (asc_255 ha k.toNatClampNeg).2 (fun t ht _ => ⟨_, rfl, rfl, ht⟩) (fun _ h => by cases h) dJ19_charAt_14
theorem met_J14_coder (l : Launch) (g : gG) (sa : Nat) (tx : List Int32) : Met l yJ14_coder (ws_ yJ14_coder cJ14_coder 1 (some .byte)) rm_J14_coder (va_Pc [.ref sa] (fun U => Gd g U ∧ StrH U sa tx)) (vp_Si (fun r => r = 0)) 0 0 (fun _ => False) := by
  refine Met.ofW (cc := cJ14_coder) (maxL := 1) (ret := (some .byte)) (by decide) rfl ?_
  intro p e s m args below meth c s₁ B hml hv
  obtain ⟨rfl, hG, hT⟩ := hv
  have C : Cx p s m _ meth c cJ14_coder 1 RJ14 (some .byte) g := Cx.of B hml hG
  have hx := C.1
  have hb := C.2.1
  have hown := C.2.2.2.1
  have hr := C.2.2.2.2.2.1
  have hlocks := C.2.2.2.2.2.2.1
  refine lv_start ([.ref sa] : List Value) (L := [(0, .ref sa)]) (Nat.le_of_ble_eq_true rfl) rfl (fun ls hl => ?_)
  refine va_gets hx hb (stZ hG 15 (C := "java/lang/String") (n := "COMPACT_STRINGS") (d := "Z") q418 (lw_at lw_m1 21 rfl) rfl) va_S.rf hown (C.ts _ q525) (fun _ h => h) dJ14_coder_0 ?_
  refine lv_if_eq (tgt := 13) hx hb dJ14_coder_3 (by decide) (fun c1 => absurd c1 (by decide)) (fun c1 => ?_)
  refine lv_aload_n hx hb dJ14_coder_6 rfl (lv_at hl 0 rfl) ?_
  refine g_getO C hT.2.1 q676 dJ14_coder_7 ?_
  refine lv_goto (tgt := 14) hx hb dJ14_coder_10 (by decide) ?_
  exact W.zret (v := 0) hx hb hr rfl (fun t ht _ => ⟨0, rfl, rfl, ht⟩) (fun _ h => by cases h) dJ14_coder_14
theorem met_J14_isLatin1 (l : Launch) (g : gG) (sa : Nat) (tx : List Int32) : Met l yJ14_isLatin1 (ws_ yJ14_isLatin1 cJ14_isLatin1 1 (some .boolean)) rm_J14_isLatin1 (va_Pc [.ref sa] (fun U => Gd g U ∧ StrH U sa tx)) (vp_Si (fun r => r = 1)) 0 0 (fun _ => False) := by
  refine Met.ofW (cc := cJ14_isLatin1) (maxL := 1) (ret := (some .boolean)) (by decide) rfl ?_
  intro p e s m args below meth c s₁ B hml hv
  obtain ⟨rfl, hG, hT⟩ := hv
  have C : Cx p s m _ meth c cJ14_isLatin1 1 RJ14 (some .boolean) g := Cx.of B hml hG
  have hx := C.1
  have hb := C.2.1
  have hown := C.2.2.2.1
  have hr := C.2.2.2.2.2.1
  have hlocks := C.2.2.2.2.2.2.1
  refine lv_start ([.ref sa] : List Value) (L := [(0, .ref sa)]) (Nat.le_of_ble_eq_true rfl) rfl (fun ls hl => ?_)
  refine va_gets hx hb (stZ hG 15 (C := "java/lang/String") (n := "COMPACT_STRINGS") (d := "Z") q418 (lw_at lw_m1 21 rfl) rfl) va_S.rf hown (C.ts _ q525) (fun _ h => h) dJ14_isLatin1_0 ?_
  refine lv_if_eq (tgt := 17) hx hb dJ14_isLatin1_3 (by decide) (fun c1 => absurd c1 (by decide)) (fun c1 => ?_)
  refine lv_aload_n hx hb dJ14_isLatin1_6 rfl (lv_at hl 0 rfl) ?_
  refine g_getO C hT.2.1 q676 dJ14_isLatin1_7 ?_
  refine lv_if_ne (tgt := 17) hx hb dJ14_isLatin1_10 (by decide) (fun c2 => absurd rfl c2) (fun c2 => ?_)
  refine lv_iconst (v := 1) hx hb dJ14_isLatin1_13 (by decide) ?_
  refine lv_goto (tgt := 18) hx hb dJ14_isLatin1_14 (by decide) ?_
  exact W.zret (v := 1) hx hb hr rfl (fun t ht _ => ⟨1, rfl, rfl, ht⟩) (fun _ h => by cases h) dJ14_isLatin1_18
section STR1
variable {p : Program} {s : State} {m : MethodId} {args : Array Value} {meth : Method} {c : Code} {H : Heap} {locs : List Loc} {cc : ByteArray} {g : gG} {nL : Nat} {own : String} {ret : Option FieldType} {sa b : Nat} {tx : List Int32}
theorem StrH.prev (C : Cx p s m args meth c cc nL own ret g) (h : StrH s sa tx) (As : List Value) : PreV s s.heap "java/lang/String" sa (va_Pc (.ref sa :: As) (fun U => Gd g U ∧ StrH U sa tx)) As :=
  ⟨fun _ _ _ _ h => h, h.recv, fun U hU hW => ⟨rfl, C.G.call (va_S.rf (A := Ag g)) hU hW, by
    have := StrO.moved hW.alike h
    unfold StrH
    rw [hU]
    exact this⟩⟩
theorem BytH.pres (C : Cx p s m args meth c cc nL own ret g) (h : BytH s b tx) (As : List Value) : PreS s s.heap (va_Pc As (fun U => Gd g U ∧ BytH U b tx)) As :=
  ⟨fun _ _ _ _ h => h, fun U hU hW => ⟨rfl, C.G.call (va_S.rf (A := Ag g)) hU hW, by
    have := va_T.moved hW.alike h.1
    unfold BytH
    rw [hU]
    exact ⟨this, h.2⟩⟩⟩
end STR1
theorem met_J14_length (l : Launch) (g : gG) (sa : Nat) (tx : List Int32) : Met l yJ14_length (ws_ yJ14_length cJ14_length 1 (some .int)) rm_J14_length (va_Pc [.ref sa] (fun U => Gd g U ∧ StrH U sa tx)) (vp_Si (fun r => r = nI tx.length)) 0 0 (fun _ => False) := by
  refine Met.ofW (cc := cJ14_length) (maxL := 1) (ret := (some .int)) (by decide) rfl ?_
  intro p e s m args below meth c s₁ B hml hv
  obtain ⟨rfl, hG, hT⟩ := hv
  have C : Cx p s m _ meth c cJ14_length 1 RJ14 (some .int) g := Cx.of B hml hG
  have hx := C.1
  have hb := C.2.1
  have hown := C.2.2.2.1
  have hr := C.2.2.2.2.2.1
  have hlocks := C.2.2.2.2.2.2.1
  refine lv_start ([.ref sa] : List Value) (L := [(0, .ref sa)]) (Nat.le_of_ble_eq_true rfl) rfl (fun ls hl => ?_)
  obtain ⟨v, hv1, hv2⟩ := hT.2.2.1
  refine lv_aload_n hx hb dJ14_length_0 rfl (lv_at hl 0 rfl) ?_
  refine g_getO C hv1 q675 dJ14_length_1 ?_
  refine va_tlen hx hb hv2 va_S.rf (v := nI tx.length) rfl dJ14_length_4 ?_
  refine lv_aload_n hx hb dJ14_length_5 rfl (lv_at hl 0 rfl) ?_
  refine vp_callSi ((va_runV (As := []) (rest := [.int (nI tx.length)]) C.fix (met_J14_coder l g sa tx) (cw_J14_335 C.ts ⟨Nat.le_of_ble_eq_true rfl, Nat.le_of_ble_eq_true rfl⟩) (hT.prev C _) rfl rfl hl.1 rfl (lv_room (Nat.le_of_ble_eq_true rfl)) dJ14_length_6 ⟨Nat.le_of_ble_eq_true rfl, Nat.le_of_ble_eq_true rfl⟩).run) (fun r1 e1 => ?_)
  subst e1
  refine lv_ishr hx hb dJ14_length_9 ?_
  have es : nI tx.length >>> ((0 : Int32) &&& 31) = nI tx.length := by
    rw [show (0 : Int32) &&& 31 = 0 from rfl]
    exact Int32.shiftRight_zero
  rw [es]
  exact W.iret (v := nI tx.length) hx hb hr (fun t ht _ => ⟨_, rfl, rfl, ht⟩) (fun _ h => by cases h) dJ14_length_10
theorem met_J14_charAt (l : Launch) (g : gG) (sa : Nat) (tx : List Int32) (k : Int32) (hk : vp_in k tx.length) : Met l yJ14_charAt (ws_ yJ14_charAt cJ14_charAt 2 (some .char)) rm_J14_charAt (va_Pc [.ref sa, .int k] (fun U => Gd g U ∧ StrH U sa tx)) (vp_Si (fun r => r = tx.getD k.toNatClampNeg 0)) 0 0 (fun _ => False) := by
  refine Met.ofW (cc := cJ14_charAt) (maxL := 2) (ret := (some .char)) (by decide) rfl ?_
  intro p e s m args below meth c s₁ B hml hv
  obtain ⟨rfl, hG, hT⟩ := hv
  have C : Cx p s m _ meth c cJ14_charAt 2 RJ14 (some .char) g := Cx.of B hml hG
  have hx := C.1
  have hb := C.2.1
  have hown := C.2.2.2.1
  have hr := C.2.2.2.2.2.1
  have hlocks := C.2.2.2.2.2.2.1
  refine lv_start ([.ref sa, .int k] : List Value) (L := [(0, .ref sa), (1, .int k)]) (Nat.le_of_ble_eq_true rfl) rfl (fun ls hl => ?_)
  obtain ⟨v, hv1, hv2⟩ := hT.2.2.1
  refine lv_aload_n hx hb dJ14_charAt_0 rfl (lv_at hl 0 rfl) ?_
  refine vp_callSi ((va_runV (As := []) (rest := []) C.fix (met_J14_isLatin1 l g sa tx) (cw_J14_492 C.ts ⟨Nat.le_of_ble_eq_true rfl, Nat.le_of_ble_eq_true rfl⟩) (hT.prev C _) rfl rfl hl.1 rfl (lv_room (Nat.le_of_ble_eq_true rfl)) dJ14_charAt_1 ⟨Nat.le_of_ble_eq_true rfl, Nat.le_of_ble_eq_true rfl⟩).run) (fun r1 e1 => ?_)
  subst e1
  refine lv_if_eq (tgt := 16) hx hb dJ14_charAt_4 (by decide) (fun c1 => absurd c1 (by decide)) (fun c1 => ?_)
  refine lv_aload_n hx hb dJ14_charAt_7 rfl (lv_at hl 0 rfl) ?_
  refine g_getO C hv1 q675 dJ14_charAt_8 ?_
  refine lv_iload_n hx hb dJ14_charAt_11 rfl (lv_at hl 1 rfl) ?_
  refine vp_callSi ((va_runS (As := [.ref v, .int k]) (rest := []) C.fix (met_J19_charAt l g v tx k hk) (cw_J14_495 C.ts ⟨Nat.le_of_ble_eq_true rfl, Nat.le_of_ble_eq_true rfl⟩) (BytH.pres C ⟨hv2, hT.2.2.2⟩ _) rfl rfl hl.1 rfl (lv_room (Nat.le_of_ble_eq_true rfl)) dJ14_charAt_12 ⟨Nat.le_of_ble_eq_true rfl, Nat.le_of_ble_eq_true rfl⟩).run) (fun r2 e2 => ?_)
  subst e2
  exact W.zret (v := tx.getD k.toNatClampNeg 0) hx hb hr (asc_255 hT.2.2.2.1 k.toNatClampNeg).2 (fun t ht _ => ⟨_, rfl, rfl, ht⟩) (fun _ h => by cases h) dJ14_charAt_15
