set_option maxRecDepth 100000
/-! contracts' starts and ends in one form: before, Gd g and a picture of the heap -/
abbrev Pg (g : gG) (P : Heap → Prop) : State → Prop := fun U => Gd g U ∧ P U.heap
theorem Pg.blind {g : gG} {P : Heap → Prop} {As : List Value} : FrameBlind (va_Pc As (Pg g P)) := fun _ _ _ _ h => h
def m78 (j : Nat) : Bool := (0 < j && j < 6) || (9 < j && j < 18)
theorem m78_int {j : Nat} (h : m78 j = true) : mint j = true := by
  simp only [m78, mint, Bool.or_eq_true, Bool.and_eq_true, beq_iff_eq, decide_eq_true_eq] at h ⊢
  omega
theorem m78_len {j : Nat} (h : m78 j = true) : mlen j = 78 := by
  simp only [m78, Bool.or_eq_true, Bool.and_eq_true, decide_eq_true_eq] at h
  unfold mlen
  rw [if_neg (by omega), if_neg (by omega), if_neg (by omega)]
def b2i (b : Bool) : Int32 := if b then 1 else 0
/-- a number that a method of boolean answers -/
def isB (x : Int32) : Prop := narrow .boolean (.int x) = .int x
theorem isB_b (b : Bool) : isB (b2i b) := by cases b <;> rfl
theorem isB_0 : isB 0 := rfl
theorem isB_1 : isB 1 := rfl
section CALLS
variable {p : Program} {l : Launch} {e : Env} {R : Room} {s : State} {m : MethodId} {args : Array Value} {below : List Frame} {meth : Method} {c : Code} {H : Heap} {locs : List Loc} {cells slots : Nat} {Q : State → Prop}
variable {cc : ByteArray} {pc : Nat} {ls : Array Slot} {rest : List Value} {g : gG} {M : nM} {a : Nat} {nL : Nat} {own : String} {ret : Option FieldType}
theorem Cx.of {y : MethodName} {rm : Room} {maxL : Nat} {s₁ : State} (B : BodyLoose p l y (headSpec (ws_ y cc maxL ret) rm) cc maxL ret e s m args below meth c s₁) (hml : c.maxLocals = maxL) (hG : Gd g s) : Cx p s m args meth c cc maxL y.cls ret g :=
  ⟨B.exec, B.bytes, hml, findClass_of_methodNamed B.named, fun w h => atoms_spec (ws := ws_ y cc maxL ret) B.pre w (List.mem_cons_of_mem _ h), B.returns, B.notSynchronized, hG⟩
/-- a picture for a callee, out of the walk -/
theorem preS_of (C : Cx p s m args meth c cc nL own ret g) {P : Heap → Prop} (hS : va_S (Ag g) s.heap H locs) (hP : P H) (As : List Value) : PreS s H (va_Pc As (Pg g P)) As :=
  ⟨Pg.blind, fun U hU hW => ⟨rfl, C.G.call hS hU hW, by rw [hU]; exact hP⟩⟩
theorem preV_of (C : Cx p s m args meth c cc nL own ret g) {P : Heap → Prop} {cls : String} {b : Nat} (hr : ∃ cell : Cell, H[b]? = some cell ∧ cell.vm.isStatics = false ∧ s.vm.findClass cls = some cell.cls) (hS : va_S (Ag g) s.heap H locs) (hP : P H) (As : List Value) : PreV s H cls b (va_Pc (.ref b :: As) (Pg g P)) As :=
  ⟨Pg.blind, hr, fun U hU hW => ⟨rfl, C.G.call hS hU hW, by rw [hU]; exact hP⟩⟩
theorem nh.recv (C : Cx p s m args meth c cc nL own ret g) (hM : nh g M H) {t : Nat × Nat} {ci : Nat} {fs : List Value} (he : M a = some (t, .inr (ci, fs))) {q : vw_C} (hc : vwCl[ci]? = some q) : ∃ cell : Cell, H[a]? = some cell ∧ cell.vm.isStatics = false ∧ s.vm.findClass q.1 = some cell.cls :=
  va_recv C.G.K (hM.one he) hc (q0 := 0) rfl
theorem MS.recv (C : Cx p s m args meth c cc nL own ret g) {F : nM} {adr : Nat → Nat} {i : Nat → Int32} {b : Nat → Nat → Int32} {q : Nat → Nat} (hM : MS g F adr i b q H) : ∃ cell : Cell, H[adr 0]? = some cell ∧ cell.vm.isStatics = false ∧ s.vm.findClass RX6 = some cell.cls := by
  obtain ⟨M, hM, hA, -, -⟩ := hM
  exact nh.recv C hM (hA 0 (by decide)) (ci := 5) (q := (RX6, TX6, 25)) rfl
theorem MS.at {F : nM} {adr : Nat → Nat} {i : Nat → Int32} {b : Nat → Nat → Int32} {q : Nat → Nat} {t : State} (h : MS g F adr i b q H) (ht : t.heap = H) : MS g F adr i b q t.heap := by rw [ht]; exact h
/-- the start of the locals -/
theorem lv_start (vs : List Value) {n : Nat} {L : List (Nat × Value)} {m : MethodId} (h : (lg_sl vs).length ≤ n) (hL : lv_args 0 vs = L) (k : ∀ ls : Array Slot, lv_has ls n L → W p l e R s m args below meth c H locs cells slots Q (F0 m 0 ls [])) : W p l e R s m args below meth c H locs cells slots Q (entryFrame m vs.toArray n) := by
  rw [lg_entry_eq]
  subst hL
  exact k _ (lv_entry vs h)
end CALLS
