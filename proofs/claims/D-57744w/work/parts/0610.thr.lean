set_option maxRecDepth 100000
/-! THROWS: the words that throw new E() asks in InnRoad -/
def movW (w : Cond) : Bool := goodWord w || match w with
  | .castable _ _ => true
  | .declares _ => true
  | _ => false
theorem Cx.word {p : Program} {s : State} {m : MethodId} {args : Array Value} {meth : Method} {c : Code} {cc : ByteArray} {nL : Nat} {own : String} {ret : Option FieldType} {g : gG} (C : Cx p s m args meth c cc nL own ret g) {w : Cond} (h : w ∈ lw_tbl) (hk : movW w = true) : w.before args s = true := by
  by_cases hg : goodWord w = true
  · exact word_at C.G.2.1 (good_of_word hg) (C.G.1.2.1 _ h)
  · unfold movW at hk
    rw [Bool.eq_false_iff.mpr hg, Bool.false_or] at hk
    cases w with
    | castable x y => exact va_Nw.use rfl (C.wC h)
    | declares x => exact va_Nw.use rfl (va_Nw.warmD C.G.2.1 (va_Nw.of rfl (C.G.1.2.1 _ h)))
    | _ => cases hk
theorem Cx.zq {p : Program} {s : State} {m : MethodId} {args : Array Value} {meth : Method} {c : Code} {cc : ByteArray} {nL : Nat} {own : String} {ret : Option FieldType} {g : gG} (C : Cx p s m args meth c cc nL own ret g) (k : Nat) {K n d : String} (hl : Cond.laysStatic K n d ∈ lw_tbl) (hi : Cond.initialized K ∈ lw_tbl) (hc : (narrowF.drop k).take 1 = [Cond.isRef (.static K n d)]) : vx_Zq K n d (Ag g) s s.heap := by
  have h0 : vx_Zq K n d (Ag g) g.1 g.1.heap := vx_Zqof (C.G.1.2.1 _ hl) (C.G.1.2.1 _ hi) (st_of C.G.1 k hc) (fun a h => Nat.not_le.mpr h)
  exact (vx_Zq.moved C.G.2.1.alike h0).kept (fun a ha _ => C.G.2.2.2 a ha)
theorem nh.keep {g : gG} {M : nM} {H H1 : Heap} (h : nh g M H) (hq : ∀ q : Nat, q < H.size → H1[q]? = H[q]?) : nh g M H1 := fun a t x e => ⟨(h a t x e).1.kept (hq a (h.lt e)), (h a t x e).2⟩
theorem va_S.Fk {A : Nat → Prop} {s t : State} {H : Heap} {locs : List Loc} (h : va_S A s.heap H locs) (h1 : H.size ≤ t.heap.size) (h2 : ∀ q : Nat, q < H.size → t.heap[q]? = H[q]?) : va_F A s t := ⟨Nat.le_trans h.1 h1, fun q hq hn => (h2 q (Nat.lt_of_lt_of_le hq h.1)).trans (h.2.1 q hq hn)⟩
/-- a throwing method's second end: the class by its name, the heap map behind it -/
abbrev XEnd (g : gG) (postX : String → nM → Prop) : String → State → State → Prop := vx_X (fun u : String × nM => postX u.1 u.2) (fun E u t => E = u.1 ∧ nh g u.2 t.heap) (Ag g)
theorem xend {g : gG} {postX : String → nM → Prop} {E : String} {M : nM} {s t : State} (h : postX E M) (hM : nh g M t.heap) (hF : va_F (Ag g) s t) : XEnd g postX E s t := ⟨(E, M), h, ⟨rfl, hM⟩, hF⟩
theorem at_IAE : vx_at0 RX1 58 "java/lang/IllegalArgumentException" ["java/lang/RuntimeException", "java/lang/Exception"] = [84, 383, 392, 398, 401, 403, 384, 385, 121, 122, 386, 391, 399, 651, 373, 652, 375, 653, 377, 387, 389, 379, 1873, 1874, 1875, 1853, 364, 1853, 1854, 1855, 1856, 366, 1856, 1857, 1858, 384, 368, 1872, 623, 624, 625, 396, 626, 627, 628, 629, 649, 381, 630].filterMap (fun i => lw_tbl[i]?) := by decide +kernel
theorem am_IAE : (Cond.classLink RX1 56 "java/lang/IllegalArgumentException" :: Cond.initialized "java/lang/IllegalArgumentException" :: vx_at0 RX1 58 "java/lang/IllegalArgumentException" ["java/lang/RuntimeException", "java/lang/Exception"]).all (fun w => movW w && vx_ot w) = true := by decide +kernel
theorem thr_IAE {p : Program} {l : Launch} {e : Env} {R : Room} {s : State} {m : MethodId} {args : Array Value} {below : List Frame} {meth : Method} {c : Code} {H : Heap} {locs : List Loc} {cells slots mc ms : Nat} {cc : ByteArray} {pc : Nat} {ls : Array Slot} {rest : List Value} {g : gG} {nL : Nat} {ret : Option FieldType} {Qc : Array Value → State → Outcome → State → Prop} {XC : String → State → State → Prop} {free : Addr → Prop} (C : Cx p s m args meth c cc nL RX1 ret g) (hl : l.stackTraces = false) (hS : va_S (Ag g) s.heap H locs) (hsize : ls.size = nL)
    (d0 : decode cc pc = .ok (.new 56, 3)) (d3 : decode cc (pc + 3) = .ok (.dup, 1)) (d4 : decode cc (pc + 4) = .ok (.invokespecial 58, 3)) (d7 : decode cc (pc + 7) = .ok (.athrow, 1)) (hout : ∀ x ∈ c.exceptionTable.toList, covers x (pc + 7) = false)
    (hRf : 5 < R.frames) (hRl : (rest.map fun v => v.category).sum + (13 * 3 + 42) ≤ R.locals) (hRc : cells + 1 ≤ R.cells) (hRs : slots + 6 ≤ R.slots)
    (hx : ∀ t : State, s.vm.Alike t.vm → H.size ≤ t.heap.size → (∀ q : Nat, q < H.size → t.heap[q]? = H[q]?) → XC "java/lang/IllegalArgumentException" s t) (hf : ∀ z ∈ locs, free z.base) (hc : cells + 1 ≤ mc) (hs : slots + 6 ≤ ms) :
    W p l e R s m args below meth c H locs cells slots (vx_MQ below Qc XC args s mc ms free) (F0 m pc ls rest) := by
  have ha : ∀ w ∈ vx_at0 RX1 58 "java/lang/IllegalArgumentException" ["java/lang/RuntimeException", "java/lang/Exception"], w ∈ lw_tbl := by
    rw [at_IAE]
    intro w hw
    obtain ⟨i, -, hi⟩ := List.mem_filterMap.mp hw
    exact List.mem_of_getElem? hi
  have hm := List.all_eq_true.mp am_IAE
  have hm1 : ∀ w ∈ (Cond.classLink RX1 56 "java/lang/IllegalArgumentException" :: Cond.initialized "java/lang/IllegalArgumentException" :: vx_at0 RX1 58 "java/lang/IllegalArgumentException" ["java/lang/RuntimeException", "java/lang/Exception"]), movW w = true ∧ vx_ot w = true := fun w hw => by
    have := hm w hw
    rwa [Bool.and_eq_true] at this
  exact vx_throw0 (own := RX1) (cls := "java/lang/IllegalArgumentException") (names := ["java/lang/RuntimeException", "java/lang/Exception"]) C.1 C.2.1 hl C.2.2.2.1 (by decide) (by decide) (C.ts _ q1871) (C.ts _ q97) (fun w hw => C.word (ha w hw) (hm1 w (List.mem_cons_of_mem _ (List.mem_cons_of_mem _ hw))).1) (fun w hw => (hm1 w hw).2) (C.zq 13 q388 (lw_all_tbl q84) rfl) (C.zq 14 q390 (lw_all_tbl q84) rfl) hS (hsize.trans C.2.2.1.symm) d0 d3 d4 d7 hout hRf hRl hRc hRs C.2.2.2.2.2.2.1 hx hf hc hs
theorem at_ISE : vx_at0 RX1 61 "java/lang/IllegalStateException" ["java/lang/RuntimeException", "java/lang/Exception"] = [84, 383, 392, 398, 401, 403, 384, 385, 121, 122, 386, 391, 399, 651, 373, 652, 375, 653, 377, 387, 389, 379, 1850, 1851, 1852, 1853, 364, 1853, 1854, 1855, 1856, 366, 1856, 1857, 1858, 384, 368, 1849, 1582, 1583, 1584, 397, 1585, 1586, 1587, 1588, 649, 381, 1589].filterMap (fun i => lw_tbl[i]?) := by decide +kernel
theorem am_ISE : (Cond.classLink RX1 59 "java/lang/IllegalStateException" :: Cond.initialized "java/lang/IllegalStateException" :: vx_at0 RX1 61 "java/lang/IllegalStateException" ["java/lang/RuntimeException", "java/lang/Exception"]).all (fun w => movW w && vx_ot w) = true := by decide +kernel
theorem thr_ISE {p : Program} {l : Launch} {e : Env} {R : Room} {s : State} {m : MethodId} {args : Array Value} {below : List Frame} {meth : Method} {c : Code} {H : Heap} {locs : List Loc} {cells slots mc ms : Nat} {cc : ByteArray} {pc : Nat} {ls : Array Slot} {rest : List Value} {g : gG} {nL : Nat} {ret : Option FieldType} {Qc : Array Value → State → Outcome → State → Prop} {XC : String → State → State → Prop} {free : Addr → Prop} (C : Cx p s m args meth c cc nL RX1 ret g) (hl : l.stackTraces = false) (hS : va_S (Ag g) s.heap H locs) (hsize : ls.size = nL)
    (d0 : decode cc pc = .ok (.new 59, 3)) (d3 : decode cc (pc + 3) = .ok (.dup, 1)) (d4 : decode cc (pc + 4) = .ok (.invokespecial 61, 3)) (d7 : decode cc (pc + 7) = .ok (.athrow, 1)) (hout : ∀ x ∈ c.exceptionTable.toList, covers x (pc + 7) = false)
    (hRf : 5 < R.frames) (hRl : (rest.map fun v => v.category).sum + (13 * 3 + 42) ≤ R.locals) (hRc : cells + 1 ≤ R.cells) (hRs : slots + 6 ≤ R.slots)
    (hx : ∀ t : State, s.vm.Alike t.vm → H.size ≤ t.heap.size → (∀ q : Nat, q < H.size → t.heap[q]? = H[q]?) → XC "java/lang/IllegalStateException" s t) (hf : ∀ z ∈ locs, free z.base) (hc : cells + 1 ≤ mc) (hs : slots + 6 ≤ ms) :
    W p l e R s m args below meth c H locs cells slots (vx_MQ below Qc XC args s mc ms free) (F0 m pc ls rest) := by
  have ha : ∀ w ∈ vx_at0 RX1 61 "java/lang/IllegalStateException" ["java/lang/RuntimeException", "java/lang/Exception"], w ∈ lw_tbl := by
    rw [at_ISE]
    intro w hw
    obtain ⟨i, -, hi⟩ := List.mem_filterMap.mp hw
    exact List.mem_of_getElem? hi
  have hm := List.all_eq_true.mp am_ISE
  have hm1 : ∀ w ∈ (Cond.classLink RX1 59 "java/lang/IllegalStateException" :: Cond.initialized "java/lang/IllegalStateException" :: vx_at0 RX1 61 "java/lang/IllegalStateException" ["java/lang/RuntimeException", "java/lang/Exception"]), movW w = true ∧ vx_ot w = true := fun w hw => by
    have := hm w hw
    rwa [Bool.and_eq_true] at this
  exact vx_throw0 (own := RX1) (cls := "java/lang/IllegalStateException") (names := ["java/lang/RuntimeException", "java/lang/Exception"]) C.1 C.2.1 hl C.2.2.2.1 (by decide) (by decide) (C.ts _ q1848) (C.ts _ q99) (fun w hw => C.word (ha w hw) (hm1 w (List.mem_cons_of_mem _ (List.mem_cons_of_mem _ hw))).1) (fun w hw => (hm1 w hw).2) (C.zq 13 q388 (lw_all_tbl q84) rfl) (C.zq 14 q390 (lw_all_tbl q84) rfl) hS (hsize.trans C.2.2.1.symm) d0 d3 d4 d7 hout hRf hRl hRc hRs C.2.2.2.2.2.2.1 hx hf hc hs
theorem at_IOE : vx_at0 RX1 64 "java/lang/IndexOutOfBoundsException" ["java/lang/RuntimeException", "java/lang/Exception"] = [84, 383, 392, 398, 401, 403, 384, 385, 121, 122, 386, 391, 399, 651, 373, 652, 375, 653, 377, 387, 389, 379, 1926, 1927, 1928, 1853, 364, 1853, 1854, 1855, 1856, 366, 1856, 1857, 1858, 384, 368, 1925, 362, 363, 370, 371, 372, 374, 376, 378, 649, 381, 380].filterMap (fun i => lw_tbl[i]?) := by decide +kernel
theorem am_IOE : (Cond.classLink RX1 62 "java/lang/IndexOutOfBoundsException" :: Cond.initialized "java/lang/IndexOutOfBoundsException" :: vx_at0 RX1 64 "java/lang/IndexOutOfBoundsException" ["java/lang/RuntimeException", "java/lang/Exception"]).all (fun w => movW w && vx_ot w) = true := by decide +kernel
theorem thr_IOE {p : Program} {l : Launch} {e : Env} {R : Room} {s : State} {m : MethodId} {args : Array Value} {below : List Frame} {meth : Method} {c : Code} {H : Heap} {locs : List Loc} {cells slots mc ms : Nat} {cc : ByteArray} {pc : Nat} {ls : Array Slot} {rest : List Value} {g : gG} {nL : Nat} {ret : Option FieldType} {Qc : Array Value → State → Outcome → State → Prop} {XC : String → State → State → Prop} {free : Addr → Prop} (C : Cx p s m args meth c cc nL RX1 ret g) (hl : l.stackTraces = false) (hS : va_S (Ag g) s.heap H locs) (hsize : ls.size = nL)
    (d0 : decode cc pc = .ok (.new 62, 3)) (d3 : decode cc (pc + 3) = .ok (.dup, 1)) (d4 : decode cc (pc + 4) = .ok (.invokespecial 64, 3)) (d7 : decode cc (pc + 7) = .ok (.athrow, 1)) (hout : ∀ x ∈ c.exceptionTable.toList, covers x (pc + 7) = false)
    (hRf : 5 < R.frames) (hRl : (rest.map fun v => v.category).sum + (13 * 3 + 42) ≤ R.locals) (hRc : cells + 1 ≤ R.cells) (hRs : slots + 6 ≤ R.slots)
    (hx : ∀ t : State, s.vm.Alike t.vm → H.size ≤ t.heap.size → (∀ q : Nat, q < H.size → t.heap[q]? = H[q]?) → XC "java/lang/IndexOutOfBoundsException" s t) (hf : ∀ z ∈ locs, free z.base) (hc : cells + 1 ≤ mc) (hs : slots + 6 ≤ ms) :
    W p l e R s m args below meth c H locs cells slots (vx_MQ below Qc XC args s mc ms free) (F0 m pc ls rest) := by
  have ha : ∀ w ∈ vx_at0 RX1 64 "java/lang/IndexOutOfBoundsException" ["java/lang/RuntimeException", "java/lang/Exception"], w ∈ lw_tbl := by
    rw [at_IOE]
    intro w hw
    obtain ⟨i, -, hi⟩ := List.mem_filterMap.mp hw
    exact List.mem_of_getElem? hi
  have hm := List.all_eq_true.mp am_IOE
  have hm1 : ∀ w ∈ (Cond.classLink RX1 62 "java/lang/IndexOutOfBoundsException" :: Cond.initialized "java/lang/IndexOutOfBoundsException" :: vx_at0 RX1 64 "java/lang/IndexOutOfBoundsException" ["java/lang/RuntimeException", "java/lang/Exception"]), movW w = true ∧ vx_ot w = true := fun w hw => by
    have := hm w hw
    rwa [Bool.and_eq_true] at this
  exact vx_throw0 (own := RX1) (cls := "java/lang/IndexOutOfBoundsException") (names := ["java/lang/RuntimeException", "java/lang/Exception"]) C.1 C.2.1 hl C.2.2.2.1 (by decide) (by decide) (C.ts _ q1924) (C.ts _ q87) (fun w hw => C.word (ha w hw) (hm1 w (List.mem_cons_of_mem _ (List.mem_cons_of_mem _ hw))).1) (fun w hw => (hm1 w hw).2) (C.zq 13 q388 (lw_all_tbl q84) rfl) (C.zq 14 q390 (lw_all_tbl q84) rfl) hS (hsize.trans C.2.2.1.symm) d0 d3 d4 d7 hout hRf hRl hRc hRs C.2.2.2.2.2.2.1 hx hf hc hs
