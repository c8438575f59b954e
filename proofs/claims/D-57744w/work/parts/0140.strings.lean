set_option maxRecDepth 100000
/-! STRINGS: an object that reads as the text tx (Latin-1, below 128); the class files' constants -/
def asc (tx : List Int32) : Prop := ∀ b ∈ tx, ∃ n, n < 128 ∧ b = nI n
def StrO (A : Nat → Prop) (U : State) (H : Heap) (sa : Nat) (tx : List Int32) : Prop :=
  va_O "java/lang/String" sa A U H ∧ va_OF "java/lang/String" "coder" "B" (.int 0) sa A U H ∧ (∃ v : Nat, va_OF "java/lang/String" "value" "[B" (.ref v) sa A U H ∧ va_T .byte v tx.length (fun j => .int (tx.getD j 0)) A U H) ∧ asc tx ∧ tx.length < 65536
def StrH (U : State) (sa : Nat) (tx : List Int32) : Prop := StrO (fun _ => False) U U.heap sa tx
def StrAt (g : gG) (sa : Nat) (tx : List Int32) : Prop := StrO (Ag g) g.1 g.1.heap sa tx
theorem StrO.moved {A : Nat → Prop} {u U : State} {H : Heap} {sa : Nat} {tx : List Int32} (hvm : u.vm.Alike U.vm) (h : StrO A u H sa tx) : StrO A U H sa tx := by
  obtain ⟨h1, h2, ⟨v, h3, h4⟩, h5⟩ := h
  exact ⟨va_O.moved hvm h1, va_OF.moved hvm h2, ⟨v, va_OF.moved hvm h3, va_T.moved hvm h4⟩, h5⟩
theorem StrO.kept {A : Nat → Prop} {U : State} {H H1 : Heap} {sa : Nat} {tx : List Int32} (h : StrO A U H sa tx) (hq : ∀ a : Nat, a < H.size → ¬ A a → H1[a]? = H[a]?) : StrO A U H1 sa tx := by
  obtain ⟨h1, h2, ⟨v, h3, h4⟩, h5⟩ := h
  exact ⟨h1.kept hq, h2.kept hq, ⟨v, h3.kept hq, h4.kept hq⟩, h5⟩
theorem StrO.narrow {A B : Nat → Prop} {U : State} {H : Heap} {sa : Nat} {tx : List Int32} (h : StrO A U H sa tx) (hAB : ∀ q, B q → A q) : StrO B U H sa tx := by
  obtain ⟨h1, h2, ⟨v, h3, h4⟩, h5⟩ := h
  exact ⟨h1.narrow hAB, h2.narrow hAB, ⟨v, h3.narrow hAB, h4.narrow hAB⟩, h5⟩
theorem StrAt.H {g : gG} {U : State} {sa : Nat} {tx : List Int32} (h : StrAt g sa tx) (hG : Gd g U) : StrH U sa tx :=
  ((StrO.moved hG.2.1.alike h).kept (fun a ha _ => hG.2.2.2 a ha)).narrow (fun _ h => h.elim)
theorem StrH.recv {U : State} {sa : Nat} {tx : List Int32} (h : StrH U sa tx) : ∃ cell : Cell, U.heap[sa]? = some cell ∧ cell.vm.isStatics = false ∧ U.vm.findClass "java/lang/String" = some cell.cls := by
  obtain ⟨⟨cell, h1, h2, h3, -⟩, -⟩ := h
  exact ⟨cell, h1, h2, h3⟩
/-- what the Statement says of a constant's text -/
def strC (own : String) (k : Nat) (tx : List Int32) : List Cond :=
  [Cond.exactly (.string own k) "java/lang/String", Cond.eq (.field (.string own k) "java/lang/String" "coder" "B") (.int 0), Cond.arrayOf (.field (.string own k) "java/lang/String" "value" "[B") .byte, Cond.eq (.length (.field (.string own k) "java/lang/String" "value" "[B")) (.int (Int32.ofNat tx.length))] ++
    (List.range tx.length).map fun j => Cond.eq (.elem (.field (.string own k) "java/lang/String" "value" "[B") (.int (Int32.ofNat j))) (.int (tx.getD j 0))
def narrowF : List Cond := flatC (Jvm.Cond.and given_1 narrow_1)
theorem str_of {g : gG} (hS : Start g) {own tx : String} {k : Nat} {b : List Int32} (hw : Cond.stringRef own k tx ∈ lw_tbl) (st : Nat) (hc : (narrowF.drop st).take (4 + b.length) = strC own k b) (hl : b.length < 65536) (ha : asc b) : ∃ sa, vk_R own k tx sa g.1 ∧ StrAt g sa b := by
  have hf : ∀ c ∈ narrowF, c.before #[Value.ref g.2.1] g.1 = true := flat_of_before _ hS.2.2
  have hh : ∀ c ∈ strC own k b, c.before #[Value.ref g.2.1] g.1 = true := fun c h => hf c (List.mem_of_mem_drop (List.mem_of_mem_take (by rw [hc]; exact h)))
  have hA : ∀ a : Nat, a < g.1.heap.size → ¬ Ag g a := fun a h => Nat.not_le.mpr h
  obtain ⟨adK, adV, ⟨hk, -⟩, he⟩ := vk_Sof (args := #[Value.ref g.2.1]) (s := g.1) (N := 1) (tm := fun _ => .string own k) (len := [b.length]) (byt := [b]) (A := Ag g) (fun i hi => by
      have : i = 0 := by omega
      subst this
      show b.length < 2 ^ 31
      omega) (fun i hi => hh _ (by simp [strC])) (fun i hi => hh _ (by simp [strC])) (fun i hi => hh _ (by simp [strC])) (fun i hi => by
      have : i = 0 := by omega
      subst this
      exact hh _ (by simp [strC])) (fun i hi j hj => by
      have : i = 0 := by omega
      subst this
      refine hh _ (List.mem_append_right _ (List.mem_map.mpr ⟨j, List.mem_range.mpr hj, rfl⟩))) (fun i j hi hj hij => by omega) hA
  obtain ⟨h1, h2, h3, h4⟩ := hk 0 (by omega)
  exact ⟨adK 0, vk_R.of (hS.2.1 _ hw) (he 0 (by omega)), h1, h2, ⟨adV 0, h3, h4⟩, ha, hl⟩
abbrev tx_closed : List Int32 := [99, 108, 111, 115, 101, 100]
theorem asc_closed : asc tx_closed := by intro b hb; exact ⟨b.toNatClampNeg, by revert b; decide, by revert b; decide⟩
abbrev tx_letters : List Int32 := [108, 101, 116, 116, 101, 114, 115]
theorem asc_letters : asc tx_letters := by intro b hb; exact ⟨b.toNatClampNeg, by revert b; decide, by revert b; decide⟩
abbrev tx_inn : List Int32 := [105, 110, 110]
theorem asc_inn : asc tx_inn := by intro b hb; exact ⟨b.toNatClampNeg, by revert b; decide, by revert b; decide⟩
abbrev tx_first : List Int32 := [102, 105, 114, 115, 116]
theorem asc_first : asc tx_first := by intro b hb; exact ⟨b.toNatClampNeg, by revert b; decide, by revert b; decide⟩
abbrev tx_second : List Int32 := [115, 101, 99, 111, 110, 100]
theorem asc_second : asc tx_second := by intro b hb; exact ⟨b.toNatClampNeg, by revert b; decide, by revert b; decide⟩
abbrev tx_count : List Int32 := [99, 111, 117, 110, 116]
theorem asc_count : asc tx_count := by intro b hb; exact ⟨b.toNatClampNeg, by revert b; decide, by revert b; decide⟩
abbrev tx_next : List Int32 := [110, 101, 120, 116]
theorem asc_next : asc tx_next := by intro b hb; exact ⟨b.toNatClampNeg, by revert b; decide, by revert b; decide⟩
abbrev tx_skip : List Int32 := [115, 107, 105, 112]
theorem asc_skip : asc tx_skip := by intro b hb; exact ⟨b.toNatClampNeg, by revert b; decide, by revert b; decide⟩
abbrev tx_road : List Int32 := [114, 111, 97, 100]
theorem asc_road : asc tx_road := by intro b hb; exact ⟨b.toNatClampNeg, by revert b; decide, by revert b; decide⟩
abbrev tx__20__2d_ : List Int32 := [32, 45]
theorem asc__20__2d_ : asc tx__20__2d_ := by intro b hb; exact ⟨b.toNatClampNeg, by revert b; decide, by revert b; decide⟩
abbrev tx__3b_inn : List Int32 := [59, 105, 110, 110]
theorem asc__3b_inn : asc tx__3b_inn := by intro b hb; exact ⟨b.toNatClampNeg, by revert b; decide, by revert b; decide⟩
abbrev tx_ : List Int32 := []
theorem asc_ : asc tx_ := fun _ h => absurd h List.not_mem_nil
abbrev tx__20_closed : List Int32 := [32, 99, 108, 111, 115, 101, 100]
theorem asc__20_closed : asc tx__20_closed := by intro b hb; exact ⟨b.toNatClampNeg, by revert b; decide, by revert b; decide⟩
abbrev tx__20_letters : List Int32 := [32, 108, 101, 116, 116, 101, 114, 115]
theorem asc__20_letters : asc tx__20_letters := by intro b hb; exact ⟨b.toNatClampNeg, by revert b; decide, by revert b; decide⟩
abbrev tx__3b_first : List Int32 := [59, 102, 105, 114, 115, 116]
theorem asc__3b_first : asc tx__3b_first := by intro b hb; exact ⟨b.toNatClampNeg, by revert b; decide, by revert b; decide⟩
abbrev tx__3b_second : List Int32 := [59, 115, 101, 99, 111, 110, 100]
theorem asc__3b_second : asc tx__3b_second := by intro b hb; exact ⟨b.toNatClampNeg, by revert b; decide, by revert b; decide⟩
abbrev tx__3b_count : List Int32 := [59, 99, 111, 117, 110, 116]
theorem asc__3b_count : asc tx__3b_count := by intro b hb; exact ⟨b.toNatClampNeg, by revert b; decide, by revert b; decide⟩
abbrev tx__3b_next : List Int32 := [59, 110, 101, 120, 116]
theorem asc__3b_next : asc tx__3b_next := by intro b hb; exact ⟨b.toNatClampNeg, by revert b; decide, by revert b; decide⟩
abbrev tx__3b_skip : List Int32 := [59, 115, 107, 105, 112]
theorem asc__3b_skip : asc tx__3b_skip := by intro b hb; exact ⟨b.toNatClampNeg, by revert b; decide, by revert b; decide⟩
abbrev tx__20_ : List Int32 := [32]
theorem asc__20_ : asc tx__20_ := by intro b hb; exact ⟨b.toNatClampNeg, by revert b; decide, by revert b; decide⟩
abbrev tx__3b_first_20_ : List Int32 := [59, 102, 105, 114, 115, 116, 32]
theorem asc__3b_first_20_ : asc tx__3b_first_20_ := by intro b hb; exact ⟨b.toNatClampNeg, by revert b; decide, by revert b; decide⟩
abbrev tx__3b_second_20_ : List Int32 := [59, 115, 101, 99, 111, 110, 100, 32]
theorem asc__3b_second_20_ : asc tx__3b_second_20_ := by intro b hb; exact ⟨b.toNatClampNeg, by revert b; decide, by revert b; decide⟩
abbrev tx__3b_count_20_ : List Int32 := [59, 99, 111, 117, 110, 116, 32]
theorem asc__3b_count_20_ : asc tx__3b_count_20_ := by intro b hb; exact ⟨b.toNatClampNeg, by revert b; decide, by revert b; decide⟩
abbrev tx__3b_next_20_ : List Int32 := [59, 110, 101, 120, 116, 32]
theorem asc__3b_next_20_ : asc tx__3b_next_20_ := by intro b hb; exact ⟨b.toNatClampNeg, by revert b; decide, by revert b; decide⟩
abbrev tx__3b_skip_20_ : List Int32 := [59, 115, 107, 105, 112, 32]
theorem asc__3b_skip_20_ : asc tx__3b_skip_20_ := by intro b hb; exact ⟨b.toNatClampNeg, by revert b; decide, by revert b; decide⟩
abbrev tx_road_20_ : List Int32 := [114, 111, 97, 100, 32]
theorem asc_road_20_ : asc tx_road_20_ := by intro b hb; exact ⟨b.toNatClampNeg, by revert b; decide, by revert b; decide⟩
abbrev tx__3b_inn_20_ : List Int32 := [59, 105, 110, 110, 32]
theorem asc__3b_inn_20_ : asc tx__3b_inn_20_ := by intro b hb; exact ⟨b.toNatClampNeg, by revert b; decide, by revert b; decide⟩
abbrev tx__20_letters_20_ : List Int32 := [32, 108, 101, 116, 116, 101, 114, 115, 32]
theorem asc__20_letters_20_ : asc tx__20_letters_20_ := by intro b hb; exact ⟨b.toNatClampNeg, by revert b; decide, by revert b; decide⟩
abbrev tx_token : List Int32 := [116, 111, 107, 101, 110]
theorem asc_token : asc tx_token := by intro b hb; exact ⟨b.toNatClampNeg, by revert b; decide, by revert b; decide⟩
section STR
variable {p : Program} {l : Launch} {e : Env} {R : Room} {s : State} {m : MethodId} {args : Array Value} {below : List Frame} {meth : Method} {c : Code} {H : Heap} {locs : List Loc} {cells slots : Nat} {Q : State → Prop}
variable {cc : ByteArray} {pc : Nat} {ls : Array Slot} {rest : List Value} {g : gG} {nL : Nat} {own : String} {ret : Option FieldType}
theorem StrAt.pre (C : Cx p s m args meth c cc nL own ret g) {sa : Nat} {tx : List Int32} (h : StrAt g sa tx) (hS : va_S (Ag g) s.heap H locs) (As : List Value) : PreV s H "java/lang/String" sa (va_Pc (.ref sa :: As) (fun U => Gd g U ∧ StrH U sa tx)) As := by
  refine ⟨fun _ _ _ _ h => h, ?_, fun U hU hW => ⟨rfl, C.G.call hS hU hW, h.H (C.G.call hS hU hW)⟩⟩
  have h1 := (StrO.moved C.G.2.1.alike h).1
  obtain ⟨cell, q1, q2, q3, q4⟩ := h1
  have hlt : sa < g.1.heap.size := (Array.getElem?_eq_some_iff.mp q1).1
  exact ⟨cell, by rw [hS.2.1 sa (Nat.lt_of_lt_of_le hlt C.G.2.2.1) q4, C.G.2.2.2 sa hlt]; exact q1, q2, q3⟩
/-- a String constant of a far place of the pool -/
theorem va_ldcSw (hexec : p.tables.exec = Jvm.exec) (hb : c.code = cc) {own tx : String} {index q : Nat} (hown : s.vm.findClass own = some m.cls) (hZ : vk_R own index tx q s) (hdg : decode cc pc = .ok (.ldc_w index, 3))
    (k : W p l e R s m args below meth c H locs cells slots Q (F0 m (pc + 3) ls (.ref q :: rest))) : W p l e R s m args below meth c H locs cells slots Q (F0 m pc ls rest) := by
  intro T hT X
  obtain ⟨t, a1, b1⟩ := k T hT X
  exact ⟨t, X.ldcStringW hexec hown (text := tx) (a := q) hZ.1 hZ.2 (g := F0 m pc ls rest) rfl (by rw [hb]; exact hdg) t a1, b1⟩
theorem st_at (C : Cx p s m args meth c cc nL own ret g) {ow tx : String} {k : Nat} {b : List Int32} (h : ∃ sa, vk_R ow k tx sa g.1 ∧ StrAt g sa b) : ∃ sa, vk_R ow k tx sa s ∧ StrAt g sa b := by
  obtain ⟨sa, h1, h2⟩ := h
  exact ⟨sa, h1.warm C.G.2.1, h2⟩
theorem stX6_202 (C : Cx p s m args meth c cc nL own ret g) : ∃ sa, vk_R RX6 202 "closed" sa s ∧ StrAt g sa tx_closed := st_at C (str_of C.G.1 (own := "InnRoadModel") (q2504) 1073 (by decide +kernel) (by decide) asc_closed)
theorem stX6_204 (C : Cx p s m args meth c cc nL own ret g) : ∃ sa, vk_R RX6 204 "letters" sa s ∧ StrAt g sa tx_letters := st_at C (str_of C.G.1 (own := "InnRoadModel") (q2505) 1086 (by decide +kernel) (by decide) asc_letters)
theorem stX6_212 (C : Cx p s m args meth c cc nL own ret g) : ∃ sa, vk_R RX6 212 "inn" sa s ∧ StrAt g sa tx_inn := st_at C (str_of C.G.1 (own := "InnRoadModel") (q2487) 1004 (by decide +kernel) (by decide) asc_inn)
theorem stX6_214 (C : Cx p s m args meth c cc nL own ret g) : ∃ sa, vk_R RX6 214 "first" sa s ∧ StrAt g sa tx_first := st_at C (str_of C.G.1 (own := "InnRoadModel") (q2488) 1014 (by decide +kernel) (by decide) asc_first)
theorem stX6_216 (C : Cx p s m args meth c cc nL own ret g) : ∃ sa, vk_R RX6 216 "second" sa s ∧ StrAt g sa tx_second := st_at C (str_of C.G.1 (own := "InnRoadModel") (q2489) 1026 (by decide +kernel) (by decide) asc_second)
theorem stX6_218 (C : Cx p s m args meth c cc nL own ret g) : ∃ sa, vk_R RX6 218 "count" sa s ∧ StrAt g sa tx_count := st_at C (str_of C.G.1 (own := "InnRoadModel") (q2490) 1039 (by decide +kernel) (by decide) asc_count)
theorem stX6_220 (C : Cx p s m args meth c cc nL own ret g) : ∃ sa, vk_R RX6 220 "next" sa s ∧ StrAt g sa tx_next := st_at C (str_of C.G.1 (own := "InnRoadModel") (q2491) 1051 (by decide +kernel) (by decide) asc_next)
theorem stX6_222 (C : Cx p s m args meth c cc nL own ret g) : ∃ sa, vk_R RX6 222 "skip" sa s ∧ StrAt g sa tx_skip := st_at C (str_of C.G.1 (own := "InnRoadModel") (q2492) 1062 (by decide +kernel) (by decide) asc_skip)
theorem stX6_230 (C : Cx p s m args meth c cc nL own ret g) : ∃ sa, vk_R RX6 230 "road" sa s ∧ StrAt g sa tx_road := st_at C (str_of C.G.1 (own := "InnRoadModel") (q2460) 993 (by decide +kernel) (by decide) asc_road)
theorem stX6_301 (C : Cx p s m args meth c cc nL own ret g) : ∃ sa, vk_R RX6 301 " -" sa s ∧ StrAt g sa tx__20__2d_ := st_at C (str_of C.G.1 (own := "InnRoadModel") (q2872) 1158 (by decide +kernel) (by decide) asc__20__2d_)
theorem stX6_310 (C : Cx p s m args meth c cc nL own ret g) : ∃ sa, vk_R RX6 310 ";inn" sa s ∧ StrAt g sa tx__3b_inn := st_at C (str_of C.G.1 (own := "InnRoadModel") (q2859) 1100 (by decide +kernel) (by decide) asc__3b_inn)
theorem stX6_312 (C : Cx p s m args meth c cc nL own ret g) : ∃ sa, vk_R RX6 312 "" sa s ∧ StrAt g sa tx_ := st_at C (str_of C.G.1 (own := "InnRoadModel") (q2860) 1110 (by decide +kernel) (by decide) asc_)
theorem stX6_314 (C : Cx p s m args meth c cc nL own ret g) : ∃ sa, vk_R RX6 314 " closed" sa s ∧ StrAt g sa tx__20_closed := st_at C (str_of C.G.1 (own := "InnRoadModel") (q2861) 1118 (by decide +kernel) (by decide) asc__20_closed)
theorem stX6_316 (C : Cx p s m args meth c cc nL own ret g) : ∃ sa, vk_R RX6 316 " letters" sa s ∧ StrAt g sa tx__20_letters := st_at C (str_of C.G.1 (own := "InnRoadModel") (q2862) 1132 (by decide +kernel) (by decide) asc__20_letters)
theorem stX6_327 (C : Cx p s m args meth c cc nL own ret g) : ∃ sa, vk_R RX6 327 ";first" sa s ∧ StrAt g sa tx__3b_first := st_at C (str_of C.G.1 (own := "InnRoadModel") (q2867) 1146 (by decide +kernel) (by decide) asc__3b_first)
theorem stX6_329 (C : Cx p s m args meth c cc nL own ret g) : ∃ sa, vk_R RX6 329 ";second" sa s ∧ StrAt g sa tx__3b_second := st_at C (str_of C.G.1 (own := "InnRoadModel") (q2873) 1166 (by decide +kernel) (by decide) asc__3b_second)
theorem stX6_331 (C : Cx p s m args meth c cc nL own ret g) : ∃ sa, vk_R RX6 331 ";count" sa s ∧ StrAt g sa tx__3b_count := st_at C (str_of C.G.1 (own := "InnRoadModel") (q2874) 1179 (by decide +kernel) (by decide) asc__3b_count)
theorem stX6_333 (C : Cx p s m args meth c cc nL own ret g) : ∃ sa, vk_R RX6 333 ";next" sa s ∧ StrAt g sa tx__3b_next := st_at C (str_of C.G.1 (own := "InnRoadModel") (q2875) 1191 (by decide +kernel) (by decide) asc__3b_next)
theorem stX6_339 (C : Cx p s m args meth c cc nL own ret g) : ∃ sa, vk_R RX6 339 ";skip" sa s ∧ StrAt g sa tx__3b_skip := st_at C (str_of C.G.1 (own := "InnRoadModel") (q2880) 1202 (by decide +kernel) (by decide) asc__3b_skip)
theorem stX7_36 (C : Cx p s m args meth c cc nL own ret g) : ∃ sa, vk_R RX7 36 "" sa s ∧ StrAt g sa tx_ := st_at C (str_of C.G.1 (own := "InnRoad$Parser") (q863) 699 (by decide +kernel) (by decide) asc_)
theorem stX7_135 (C : Cx p s m args meth c cc nL own ret g) : ∃ sa, vk_R RX7 135 "road" sa s ∧ StrAt g sa tx_road := st_at C (str_of C.G.1 (own := "InnRoad$Parser") (q903) 706 (by decide +kernel) (by decide) asc_road)
theorem stX7_148 (C : Cx p s m args meth c cc nL own ret g) : ∃ sa, vk_R RX7 148 "inn" sa s ∧ StrAt g sa tx_inn := st_at C (str_of C.G.1 (own := "InnRoad$Parser") (q951) 727 (by decide +kernel) (by decide) asc_inn)
theorem stX7_168 (C : Cx p s m args meth c cc nL own ret g) : ∃ sa, vk_R RX7 168 "closed" sa s ∧ StrAt g sa tx_closed := st_at C (str_of C.G.1 (own := "InnRoad$Parser") (q1496) 767 (by decide +kernel) (by decide) asc_closed)
theorem stX7_170 (C : Cx p s m args meth c cc nL own ret g) : ∃ sa, vk_R RX7 170 "letters" sa s ∧ StrAt g sa tx_letters := st_at C (str_of C.G.1 (own := "InnRoad$Parser") (q1497) 779 (by decide +kernel) (by decide) asc_letters)
theorem stX7_185 (C : Cx p s m args meth c cc nL own ret g) : ∃ sa, vk_R RX7 185 "first" sa s ∧ StrAt g sa tx_first := st_at C (str_of C.G.1 (own := "InnRoad$Parser") (q1505) 792 (by decide +kernel) (by decide) asc_first)
theorem stX7_194 (C : Cx p s m args meth c cc nL own ret g) : ∃ sa, vk_R RX7 194 "second" sa s ∧ StrAt g sa tx_second := st_at C (str_of C.G.1 (own := "InnRoad$Parser") (q1510) 803 (by decide +kernel) (by decide) asc_second)
theorem stX7_198 (C : Cx p s m args meth c cc nL own ret g) : ∃ sa, vk_R RX7 198 "count" sa s ∧ StrAt g sa tx_count := st_at C (str_of C.G.1 (own := "InnRoad$Parser") (q1511) 815 (by decide +kernel) (by decide) asc_count)
theorem stX7_202 (C : Cx p s m args meth c cc nL own ret g) : ∃ sa, vk_R RX7 202 "next" sa s ∧ StrAt g sa tx_next := st_at C (str_of C.G.1 (own := "InnRoad$Parser") (q1512) 826 (by decide +kernel) (by decide) asc_next)
theorem stX7_211 (C : Cx p s m args meth c cc nL own ret g) : ∃ sa, vk_R RX7 211 "skip" sa s ∧ StrAt g sa tx_skip := st_at C (str_of C.G.1 (own := "InnRoad$Parser") (q1518) 836 (by decide +kernel) (by decide) asc_skip)
theorem stX1_33 (C : Cx p s m args meth c cc nL own ret g) : ∃ sa, vk_R RX1 33 "" sa s ∧ StrAt g sa tx_ := st_at C (str_of C.G.1 (own := "InnRoad") (q230) 657 (by decide +kernel) (by decide) asc_)
theorem stX1_308 (C : Cx p s m args meth c cc nL own ret g) : ∃ sa, vk_R RX1 308 " " sa s ∧ StrAt g sa tx__20_ := st_at C (str_of C.G.1 (own := "InnRoad") (q1830) 974 (by decide +kernel) (by decide) asc__20_)
theorem stX1_314 (C : Cx p s m args meth c cc nL own ret g) : ∃ sa, vk_R RX1 314 ";first " sa s ∧ StrAt g sa tx__3b_first_20_ := st_at C (str_of C.G.1 (own := "InnRoad") (q1820) 922 (by decide +kernel) (by decide) asc__3b_first_20_)
theorem stX1_316 (C : Cx p s m args meth c cc nL own ret g) : ∃ sa, vk_R RX1 316 ";second " sa s ∧ StrAt g sa tx__3b_second_20_ := st_at C (str_of C.G.1 (own := "InnRoad") (q1824) 935 (by decide +kernel) (by decide) asc__3b_second_20_)
theorem stX1_318 (C : Cx p s m args meth c cc nL own ret g) : ∃ sa, vk_R RX1 318 ";count " sa s ∧ StrAt g sa tx__3b_count_20_ := st_at C (str_of C.G.1 (own := "InnRoad") (q1825) 949 (by decide +kernel) (by decide) asc__3b_count_20_)
theorem stX1_320 (C : Cx p s m args meth c cc nL own ret g) : ∃ sa, vk_R RX1 320 ";next " sa s ∧ StrAt g sa tx__3b_next_20_ := st_at C (str_of C.G.1 (own := "InnRoad") (q1826) 962 (by decide +kernel) (by decide) asc__3b_next_20_)
theorem stX1_326 (C : Cx p s m args meth c cc nL own ret g) : ∃ sa, vk_R RX1 326 ";skip " sa s ∧ StrAt g sa tx__3b_skip_20_ := st_at C (str_of C.G.1 (own := "InnRoad") (q1831) 981 (by decide +kernel) (by decide) asc__3b_skip_20_)
theorem stX1_328 (C : Cx p s m args meth c cc nL own ret g) : ∃ sa, vk_R RX1 328 "road " sa s ∧ StrAt g sa tx_road_20_ := st_at C (str_of C.G.1 (own := "InnRoad") (q1798) 872 (by decide +kernel) (by decide) asc_road_20_)
theorem stX1_333 (C : Cx p s m args meth c cc nL own ret g) : ∃ sa, vk_R RX1 333 ";inn " sa s ∧ StrAt g sa tx__3b_inn_20_ := st_at C (str_of C.G.1 (own := "InnRoad") (q1811) 883 (by decide +kernel) (by decide) asc__3b_inn_20_)
theorem stX1_335 (C : Cx p s m args meth c cc nL own ret g) : ∃ sa, vk_R RX1 335 " closed" sa s ∧ StrAt g sa tx__20_closed := st_at C (str_of C.G.1 (own := "InnRoad") (q1814) 894 (by decide +kernel) (by decide) asc__20_closed)
theorem stX1_337 (C : Cx p s m args meth c cc nL own ret g) : ∃ sa, vk_R RX1 337 " letters " sa s ∧ StrAt g sa tx__20_letters_20_ := st_at C (str_of C.G.1 (own := "InnRoad") (q1815) 907 (by decide +kernel) (by decide) asc__20_letters_20_)
theorem stX8_1 (C : Cx p s m args meth c cc nL own ret g) : ∃ sa, vk_R RX8 1 "token" sa s ∧ StrAt g sa tx_token := st_at C (str_of C.G.1 (own := "InnRoad$TokenException") (q932) 716 (by decide +kernel) (by decide) asc_token)
end STR
