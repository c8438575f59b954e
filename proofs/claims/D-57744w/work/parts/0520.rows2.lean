set_option maxRecDepth 100000
/-! ROWS over a heap map, second part: nest mates, arrays of references, copies, casts, Integers, interfaces -/
def IntAt (g : gG) (a : Nat) (v : Int32) : Prop := va_O "java/lang/Integer" a (Ag g) g.1 g.1.heap ∧ va_OF "java/lang/Integer" "value" "I" (.int v) a (Ag g) g.1 g.1.heap
section W2
variable {p : Program} {l : Launch} {e : Env} {R : Room} {s : State} {m : MethodId} {args : Array Value} {below : List Frame} {meth : Method} {c : Code} {H : Heap} {locs : List Loc} {cells slots : Nat} {Q : State → Prop}
variable {cc : ByteArray} {pc : Nat} {ls : Array Slot} {rest : List Value} {g : gG} {M : nM} {a : Nat} {nL : Nat} {own : String} {ret : Option FieldType}
theorem Cx.wF (C : Cx p s m args meth c cc nL own ret g) {x b n d h : String} {i : Nat} (hw : Cond.fieldLinkNest x i b n d h ∈ lw_tbl) : (Cond.fieldLinkNest x i b n d h).before args s = true :=
  va_Nw.use rfl (va_Nw.warmF C.G.2.1 (va_Nw.of rfl (C.G.1.2.1 _ hw)))
theorem Cx.wM (C : Cx p s m args meth c cc nL own ret g) {x h : String} {i : Nat} {y : MethodName} (hw : Cond.methodLinkNest x i y h ∈ lw_tbl) : va_Nw (.methodLinkNest x i y h) s :=
  va_Nw.warmM C.G.2.1 (va_Nw.of rfl (C.G.1.2.1 _ hw))
theorem Cx.wC (C : Cx p s m args meth c cc nL own ret g) {x y : String} (hw : Cond.castable x y ∈ lw_tbl) : va_Nw (.castable x y) s :=
  va_Nw.warmC C.G.2.1 (va_Nw.of rfl (C.G.1.2.1 _ hw))
theorem Cx.wI (C : Cx p s m args meth c cc nL own ret g) {K : String} {x y : MethodName} (hd : x.cls ≠ "java/lang/invoke/MethodHandle" ∧ x.cls ≠ "java/lang/invoke/VarHandle") (h1 : Cond.declares x ∈ lw_tbl) (h2 : Cond.interfaceMethod x.cls x.cls x.name x.desc ∈ lw_tbl) (h3 : Cond.publicMethod y ∈ lw_tbl) (h4 : Cond.unhidden K x.name x.desc ∈ lw_tbl) (h5 : Cond.castable K x.cls ∈ lw_tbl) : va_Fw K x y s :=
  va_Fw.moved hd C.G.2.1.alike (va_Fw.of (C.G.1.2.1 _ h1) (C.G.1.2.1 _ h2) (C.G.1.2.1 _ h3) (C.G.1.2.1 _ h4) (C.G.1.2.1 _ h5))
theorem g_getN (C : Cx p s m args meth c cc nL own ret g) {ref cls host : String} {T : u_T} {N ci index : Nat} (hin : ∀ w ∈ u_ws cls T N, w ∈ lw_all) (hM : nh g M H) {t : Nat × Nat} {fs : List Value} (he : M a = some (t, .inr (ci, fs))) (hc : vwCl[ci]? = some (cls, T, N)) (k : Nat) (hk : k < N) (hlink : Cond.fieldLinkNest own index ref (T k).2.1 (T k).2.2.1 host ∈ lw_tbl) (hsame : ∀ x, s.fieldFound? (T k).1 (T k).2.1 (T k).2.2.1 = some x → s.fieldFound? ref (T k).2.1 (T k).2.2.1 = some x) {v : Value} (hv : fs[k]? = some v) (hdg : decode cc pc = .ok (.getfield index, 3))
    (kk : W p l e R s m args below meth c H locs cells slots Q (F0 m (pc + 3) ls (v :: rest))) : W p l e R s m args below meth c H locs cells slots Q (F0 m pc ls (.ref a :: rest)) :=
  va_getN C.1 C.2.1 C.ts hin C.2.2.2.1 C.G.K (hM.one he) 0 rfl hc k hk (C.wF hlink) hsame hv hdg kk
theorem g_putN (C : Cx p s m args meth c cc nL own ret g) {ref cls host : String} {T : u_T} {N ci index : Nat} (hin : ∀ w ∈ u_ws cls T N, w ∈ lw_all) (ty0 : Nat → FieldType) (hty : ∀ k, k < N → parseFieldDescriptor (T k).2.2.1 = some (ty0 k)) (hnm : ∀ a, a < N → ∀ b, b < N → a ≠ b → (T a).2.1 ≠ (T b).2.1) (hM : nh g M H) (hS0 : va_S (Ag g) s.heap H locs) {t : Nat × Nat} {fs : List Value} (he : M a = some (t, .inr (ci, fs))) (hc : vwCl[ci]? = some (cls, T, N)) (k : Nat) (hk : k < N) (hlink : Cond.fieldLinkNest own index ref (T k).2.1 (T k).2.2.1 host ∈ lw_tbl) (hsame : ∀ x, s.fieldFound? (T k).1 (T k).2.1 (T k).2.2.1 = some x → s.fieldFound? ref (T k).2.1 (T k).2.2.1 = some x) (hfin : (T k).2.2.2 = false) {v : Value} (hn : narrow (ty0 k) v = v) (hfit : fits (ty0 k) v = true) (hl : k < fs.length) (hdg : decode cc pc = .ok (.putfield index, 3))
    (kk : ∀ (H1 : Heap) (locs1 : List Loc), nh g (nup M a (t, .inr (ci, fs.set k v))) H1 → va_S (Ag g) s.heap H1 locs1 → W p l e R s m args below meth c H1 locs1 cells slots Q (F0 m (pc + 3) ls rest)) : W p l e R s m args below meth c H locs cells slots Q (F0 m pc ls (v :: .ref a :: rest)) := by
  have hK := C.G.K
  have hts := C.ts
  have hown := C.2.2.2.1
  have hap := va_apart (own := own) hts hin ty0 hty hnm hK hc
  obtain ⟨⟨r, h1, cell, q1, q2, q3, q4⟩, hAa⟩ := hM a t _ he
  have hr : r = (cls, T, N) := Option.some.inj (h1.symm.trans hc)
  subst hr
  obtain ⟨hS, hfc, kC, hkC, hkind⟩ := hK.1 ci _ hc
  obtain ⟨cf, kf, fi, f, hi, hsl⟩ := hS k hk
  have hlay := hts _ (hin _ (u_in_lay hk))
  unfold u_lay at hlay
  rw [if_neg (by rw [hfin]; decide)] at hlay
  have hst := (u_facts hfc hkC (u_lays hts hin hk) hi).1
  have h6 := u_store hfc hkC hkind hlay hi (hty k hk) hn hfit
  refine va_WputK C.1 C.2.1 (f := f) hown (C.wF hlink) (hsame _ hi) hst (by rw [q2]; exact h6) q1 q3 (by rw [hsl]; exact k2_hasslot (q4 k hk)) rfl rfl hdg fun H' e1 e2 e3 => ?_
  rw [hsl] at e1 ⊢
  exact kk H' _ (hM.up ⟨_, hc, t_OB.to (V := updV (vp_V fs) k v) ⟨_, e1, q2, q3, t_set q4 hap hk v⟩ (fun j _ => vp_updV_set hl v j)⟩ hAa e3) (hS0.put e2 e3 hAa)
/-- what may lie in a row of references -/
theorem nh.anyC (C : Cx p s m args meth c cc nL own ret g) (hM : nh g M H) {t : Nat × Nat} {ci : Nat} {fs : List Value} (he : M a = some (t, .inr (ci, fs))) {q : vw_C} (hc : vwCl[ci]? = some q) {E : String} (hw : Cond.castable q.1 E ∈ lw_tbl) : va_Any E s H a :=
  va_rAny C.G.K (hM.one he) (q0 := 0) rfl hc (fun comp c0 => vb_asgC (C.wC hw) comp c0)
theorem nh.anyS (C : Cx p s m args meth c cc nL own ret g) (hM : nh g M H) {t : Nat × Nat} {ci : Nat} {fs : List Value} (he : M a = some (t, .inr (ci, fs))) {q : vw_C} (hc : vwCl[ci]? = some q) : va_Any q.1 s H a :=
  va_rAny C.G.K (hM.one he) (q0 := 0) rfl hc (fun comp c0 h1 h2 => vb_asgS comp c0 h1 h2)
/-- a new array of references -/
theorem g_newq (C : Cx p s m args meth c cc nL own ret g) {E : String} {index : Nat} (t0 : Nat) (hcl : Cond.classLink own index E ∈ lw_all) (hao : Cond.arrayOver (.object E) ∈ lw_tbl) (ht : (tysG g)[t0]? = some (g.2.2.2 t0, .object E)) (hM : nh g M H) (hS : va_S (Ag g) s.heap H locs)
    {n : Int32} {N' : Nat} (hn : ¬ n < 0) (hN : n.toNatClampNeg = N') (hbytes : N' * 4 ≤ 536870912) (hcells : cells + 1 ≤ R.cells) (hslots : slots + N' ≤ R.slots) (hdg : decode cc pc = .ok (.anewarray index, 3)) (tag : Nat → Nat × Nat)
    (kk : ∀ (q : Nat) (H1 : Heap), M q = none → nh g (nup M q (tag q, .inl (g.2.2.2 t0, N', .inr (.inr (.inr (.inr (fun _ => none))))))) H1 → va_S (Ag g) s.heap H1 locs → W p l e R s m args below meth c H1 locs (cells + 1) (slots + N') Q (F0 m (pc + 3) ls (.ref q :: rest))) : W p l e R s m args below meth c H locs cells slots Q (F0 m pc ls (.int n :: rest)) := by
  subst hN
  refine W.anew C.1 C.2.1 C.2.2.2.1 (C.ts _ hcl) (va_AO.use (va_AO.moved C.G.2.1.alike (va_AO.of (C.G.1.2.1 _ hao)))) rfl hdg rfl hn hbytes hcells hslots fun cA kA comp f1 f2 f3 f4 => ?_
  obtain ⟨kA', comp', r1, r2, r3, r4⟩ := (C.G.K.2 t0 _ ht).2
  have hcA : cA = g.2.2.2 t0 := Option.some.inj (f1.symm.trans r4)
  subst hcA
  generalize hH1 : H.push ({ cls := g.2.2.2 t0, slots := Array.replicate n.toNatClampNeg .null, vm := .none } : Cell) = H1
  have z1 : H1.size = H.size + 1 := by rw [← hH1, Array.size_push]
  have e1 : H1[H.size]? = some (arrV (g.2.2.2 t0) n.toNatClampNeg (fun _ => .null)) := by rw [← hH1, Array.getElem?_push_size, ← arrV_new]
  have o1 : ∀ q : Nat, q < H.size → H1[q]? = H[q]? := fun q hq => by rw [← hH1, Array.getElem?_push, if_neg (Nat.ne_of_lt hq)]
  exact kk H.size H1 (hM.new (Nat.le_refl _)) (hM.push _ rfl (by show H1[H.size]? = some (vp_cell _ _); rw [vp_cell_q]; exact e1) (C.G.A _ hS.1) o1) ⟨Nat.le_trans hS.1 (by omega), fun x h1 h2 => (o1 x (Nat.lt_of_lt_of_le h1 hS.1)).trans (hS.2.1 x h1 h2), hS.2.2⟩
theorem nn_toInt (z : Int32) (hz : ¬ z < 0) : z.toInt = (z.toNatClampNeg : Int) := by
  have hz0 : (0 : Int) ≤ z.toInt := by
    have := Int32.not_lt.mp hz
    simpa using Int32.le_iff_toInt_le.mp this
  show z.toInt = ((z.toInt.toNat : Nat) : Int)
  omega
/-- System.arraycopy between arrays of references -/
theorem g_copyQ (C : Cx p s m args meth c cc nL own ret g) (hml : nL = ls.size) {index : Nat} (hlink : Cond.methodLink own index arraycopyName ∈ lw_all) (hnat : Cond.native arraycopyName ∈ lw_all) (hstat : Cond.static arraycopyName ∈ lw_all) (hini : Cond.initialized "java/lang/System" ∈ lw_all)
    (hM : nh g M H) (hS : va_S (Ag g) s.heap H locs) (t0 t1 : Nat) {a0 : Nat} {x0 x1 : Nat × Nat} {n0 n1 : Nat} {f h : Nat → Option Nat} {E0 E1 : String} (he0 : M a0 = some (x0, .inl (g.2.2.2 t0, n0, .inr (.inr (.inr (.inr f)))))) (he1 : M a = some (x1, .inl (g.2.2.2 t1, n1, .inr (.inr (.inr (.inr h)))))) (ht0 : (tysG g)[t0]? = some (g.2.2.2 t0, .object E0)) (ht1 : (tysG g)[t1]? = some (g.2.2.2 t1, .object E1))
    {sp dp n : Int32} (h1 : ¬ sp < 0) (h2 : ¬ dp < 0) (h3 : ¬ n < 0) (h4 : sp.toNatClampNeg + n.toNatClampNeg ≤ n0) (h5 : dp.toNatClampNeg + n.toNatClampNeg ≤ n1) (hel : ∀ i : Nat, i < n.toNatClampNeg → ∀ y : Nat, f (sp.toNatClampNeg + i) = some y → va_Any E1 s H y)
    (hframes : 1 ≤ R.frames) (hlocals : (rest.map fun v => v.category).sum + (nativeFrameWords "java/lang/System" "arraycopy" 5 + 11) ≤ R.locals) (hdg : decode cc pc = .ok (.invokestatic index, 3))
    (kk : ∀ (H1 : Heap) (locs1 : List Loc), nh g (nup M a (x1, .inl (g.2.2.2 t1, n1, .inr (.inr (.inr (.inr (va_cpy f h sp.toNatClampNeg dp.toNatClampNeg n.toNatClampNeg))))))) H1 → va_S (Ag g) s.heap H1 locs1 → W p l e R s m args below meth c H1 locs1 cells slots Q (F0 m (pc + 3) ls rest)) : W p l e R s m args below meth c H locs cells slots Q (F0 m pc ls (.int n :: .int dp :: .ref a :: .int sp :: .ref a0 :: rest)) := by
  have nn := nn_toInt
  have hK := C.G.K
  have hA : Ag g a := (hM a x1 _ he1).2
  intro T hT X
  have hc0 : H[a0]? = some (vp_cell (g.2.2.2 t0) (n0, .inr (.inr (.inr (.inr f))))) := (hM a0 x0 _ he0).1
  have hc1 : H[a]? = some (vp_cell (g.2.2.2 t1) (n1, .inr (.inr (.inr (.inr h))))) := (hM a x1 _ he1).1
  obtain ⟨-, k0, hk0, cm0, hkk0⟩ := (hK.2 t0 _ ht0).1 n0 (fun j => va_rf (f j))
  obtain ⟨-, k1, hk1, cm1, hkk1⟩ := (hK.2 t1 _ ht1).1 n1 (fun j => va_rf (h j))
  obtain ⟨vm', X', step⟩ := X.arraycopy C.1 C.2.2.2.1 (C.ts _ hlink) (C.ts _ hnat) (C.ts _ hstat) (C.ts _ hini) (src := a0) (dst := a) (cs := vp_cell (g.2.2.2 t0) (n0, .inr (.inr (.inr (.inr f))))) (cd := vp_cell (g.2.2.2 t1) (n1, .inr (.inr (.inr (.inr h))))) (srcPos := sp) (destPos := dp) (n := n) (by rw [hT]; exact hc0) (by rw [hT]; exact hc1)
    (fun _ h => by cases h) (fun _ h => by cases h) (fun h => by cases h) (fun h => by cases h) hk0 hk1 hkk0 hkk1 rfl h1 h2 h3
    (by rw [nn sp h1, nn n h3]; show ¬ _ > ((arrV (g.2.2.2 t0) n0 (fun j => va_rf (f j))).slots.size : Int); rw [arrV_size]; omega)
    (by rw [nn dp h2, nn n h3]; show ¬ _ > ((arrV (g.2.2.2 t1) n1 (fun j => va_rf (h j))).slots.size : Int); rw [arrV_size]; omega)
    (fun vm₁ hal i hi => by
      have e : (vp_cell (g.2.2.2 t0) (n0, .inr (.inr (.inr (.inr f))))).slots.getD (sp.toNatClampNeg + i) .null = va_rf (f (sp.toNatClampNeg + i)) := by
        show (arrV (g.2.2.2 t0) n0 (fun j => va_rf (f j))).slots.getD _ _ = _
        rw [Array.getD_eq_getD_getElem?, arrV_read _ _ (by omega)]
        rfl
      rw [e]
      cases hy : f (sp.toNatClampNeg + i) with
      | none => exact ⟨rfl, trivial⟩
      | some y =>
        obtain ⟨cellV, g1, g2, ⟨kC, hkC⟩, hasg⟩ := hel i hi y hy
        obtain ⟨kA, comp, r1, r2, r3, -⟩ := (hK.2 t1 _ ht1).2
        cases hk1.symm.trans r1
        cases hkk1.symm.trans r2
        obtain ⟨kE, hkE, -⟩ := Vm.findClass_spec r3
        obtain ⟨kC', hkC', -⟩ := hal.2.2 _ _ hkC
        obtain ⟨kE', hkE', -⟩ := hal.2.2 _ _ hkE
        refine ⟨rfl, cellV, (show T.heap[y]? = some cellV by rw [hT]; exact g1), (fun q h => by rw [h] at g2; cases g2), ⟨kC', hkC'⟩, ?_, ?_⟩
        · exact ⟨kE', hkE'⟩
        · show vm₁.assignable _ _ = true
          rw [hal.assignable]
          exact hasg _ r3)
    (g := F0 m pc ls (.int n :: .int dp :: .ref a :: .int sp :: .ref a0 :: rest)) rfl (by rw [C.2.2.1, hml]) (rest := rest) rfl (by rw [C.2.1]; exact hdg) hframes (by show 2 * 0 + _ + _ ≤ _; omega)
  have e1 : copied (vp_cell (g.2.2.2 t0) (n0, .inr (.inr (.inr (.inr f))))) (vp_cell (g.2.2.2 t1) (n1, .inr (.inr (.inr (.inr h))))) sp dp n = vp_cell (g.2.2.2 t1) (n1, .inr (.inr (.inr (.inr (va_cpy f h sp.toNatClampNeg dp.toNatClampNeg n.toNatClampNeg))))) := by
    rw [vp_cell_q, vp_cell_q, vp_cell_q]
    exact va_copied (fun z => va_rf z) _ _ f h h4
  rw [e1] at X' step
  have hl : a < H.size := (Array.getElem?_eq_some_iff.mp hc1).1
  have hheap : ((T.setVm vm').setCell a (vp_cell (g.2.2.2 t1) (n1, .inr (.inr (.inr (.inr (va_cpy f h sp.toNatClampNeg dp.toNatClampNeg n.toNatClampNeg))))))).heap = H.setIfInBounds a (vp_cell (g.2.2.2 t1) (n1, .inr (.inr (.inr (.inr (va_cpy f h sp.toNatClampNeg dp.toNatClampNeg n.toNatClampNeg)))))) := by rw [← hT]; rfl
  have oq : ∀ q : Nat, q ≠ a → (H.setIfInBounds a (vp_cell (g.2.2.2 t1) (n1, .inr (.inr (.inr (.inr (va_cpy f h sp.toNatClampNeg dp.toNatClampNeg n.toNatClampNeg)))))))[q]? = H[q]? := fun q hq => by simp [Array.getElem?_setIfInBounds, Ne.symm hq]
  obtain ⟨t, a1, b1⟩ := kk _ _ (hM.up (show (H.setIfInBounds a _)[a]? = some _ by simp [Array.getElem?_setIfInBounds, hl]) hA oq) ⟨by simp; exact hS.1, fun q g1 g2 => by
      rw [oq q (fun e => g2 (by rw [e]; exact hA))]
      exact hS.2.1 q g1 g2, fun q hq => by
      rcases List.mem_append.mp hq with h | h
      · exact hS.2.2 q h
      · obtain ⟨z, -, hz⟩ := List.mem_map.mp h
        rw [← hz]
        exact hA⟩ _ hheap X'
  exact ⟨t, step t a1, b1⟩
/-- System.arraycopy between arrays of ints -/
theorem g_copyI (C : Cx p s m args meth c cc nL own ret g) (hml : nL = ls.size) {index : Nat} (hlink : Cond.methodLink own index arraycopyName ∈ lw_all) (hnat : Cond.native arraycopyName ∈ lw_all) (hstat : Cond.static arraycopyName ∈ lw_all) (hini : Cond.initialized "java/lang/System" ∈ lw_all)
    (hM : nh g M H) (hS : va_S (Ag g) s.heap H locs) {a0 : Nat} {x0 x1 : Nat × Nat} {n0 n1 : Nat} {f h : Nat → Int32} (he0 : M a0 = some (x0, .inl (g.2.2.2 0, n0, .inl f))) (he1 : M a = some (x1, .inl (g.2.2.2 0, n1, .inl h)))
    {sp dp n : Int32} (h1 : ¬ sp < 0) (h2 : ¬ dp < 0) (h3 : ¬ n < 0) (h4 : sp.toNatClampNeg + n.toNatClampNeg ≤ n0) (h5 : dp.toNatClampNeg + n.toNatClampNeg ≤ n1)
    (hframes : 1 ≤ R.frames) (hlocals : (rest.map fun v => v.category).sum + (nativeFrameWords "java/lang/System" "arraycopy" 5 + 11) ≤ R.locals) (hdg : decode cc pc = .ok (.invokestatic index, 3))
    (kk : ∀ (H1 : Heap) (locs1 : List Loc), nh g (nup M a (x1, .inl (g.2.2.2 0, n1, .inl (va_cpy f h sp.toNatClampNeg dp.toNatClampNeg n.toNatClampNeg)))) H1 → va_S (Ag g) s.heap H1 locs1 → W p l e R s m args below meth c H1 locs1 cells slots Q (F0 m (pc + 3) ls rest)) : W p l e R s m args below meth c H locs cells slots Q (F0 m pc ls (.int n :: .int dp :: .ref a :: .int sp :: .ref a0 :: rest)) := by
  have nn := nn_toInt
  have hK := C.G.K
  have hA : Ag g a := (hM a x1 _ he1).2
  intro T hT X
  have hc0 : H[a0]? = some (vp_cell (g.2.2.2 0) (n0, .inl f)) := (hM a0 x0 _ he0).1
  have hc1 : H[a]? = some (vp_cell (g.2.2.2 0) (n1, .inl h)) := (hM a x1 _ he1).1
  obtain ⟨-, k0, hk0, cm0, hkk0⟩ := (hK.2 0 _ rfl).1 n0 (fun j => .int (f j))
  obtain ⟨-, k1, hk1, cm1, hkk1⟩ := (hK.2 0 _ rfl).1 n1 (fun j => .int (h j))
  obtain ⟨vm', X', step⟩ := X.arraycopy C.1 C.2.2.2.1 (C.ts _ hlink) (C.ts _ hnat) (C.ts _ hstat) (C.ts _ hini) (src := a0) (dst := a) (cs := vp_cell (g.2.2.2 0) (n0, .inl f)) (cd := vp_cell (g.2.2.2 0) (n1, .inl h)) (srcPos := sp) (destPos := dp) (n := n) (by rw [hT]; exact hc0) (by rw [hT]; exact hc1)
    (fun _ h => by cases h) (fun _ h => by cases h) (fun h => by cases h) (fun h => by cases h) hk0 hk1 hkk0 hkk1 (by simp [refKind]) h1 h2 h3
    (by rw [nn sp h1, nn n h3]; show ¬ _ > ((arrV (g.2.2.2 0) n0 (fun j => .int (f j))).slots.size : Int); rw [arrV_size]; omega)
    (by rw [nn dp h2, nn n h3]; show ¬ _ > ((arrV (g.2.2.2 0) n1 (fun j => .int (h j))).slots.size : Int); rw [arrV_size]; omega)
    (fun vm₁ _ i hi => by
      have e : (vp_cell (g.2.2.2 0) (n0, .inl f)).slots.getD (sp.toNatClampNeg + i) .null = .int (f (sp.toNatClampNeg + i)) := by
        show (arrV (g.2.2.2 0) n0 (fun j => .int (f j))).slots.getD _ _ = _
        rw [Array.getD_eq_getD_getElem?, arrV_read _ _ (by omega)]
        rfl
      rw [e]
      exact ⟨rfl, trivial⟩)
    (g := F0 m pc ls (.int n :: .int dp :: .ref a :: .int sp :: .ref a0 :: rest)) rfl (by rw [C.2.2.1, hml]) (rest := rest) rfl (by rw [C.2.1]; exact hdg) hframes (by show 2 * 0 + _ + _ ≤ _; omega)
  have e1 : copied (vp_cell (g.2.2.2 0) (n0, .inl f)) (vp_cell (g.2.2.2 0) (n1, .inl h)) sp dp n = vp_cell (g.2.2.2 0) (n1, .inl (va_cpy f h sp.toNatClampNeg dp.toNatClampNeg n.toNatClampNeg)) := by
    rw [vp_cell_i, vp_cell_i, vp_cell_i]
    exact va_copied (fun z => .int z) _ _ f h h4
  rw [e1] at X' step
  have hl : a < H.size := (Array.getElem?_eq_some_iff.mp hc1).1
  have hheap : ((T.setVm vm').setCell a (vp_cell (g.2.2.2 0) (n1, .inl (va_cpy f h sp.toNatClampNeg dp.toNatClampNeg n.toNatClampNeg)))).heap = H.setIfInBounds a (vp_cell (g.2.2.2 0) (n1, .inl (va_cpy f h sp.toNatClampNeg dp.toNatClampNeg n.toNatClampNeg))) := by rw [← hT]; rfl
  have oq : ∀ q : Nat, q ≠ a → (H.setIfInBounds a (vp_cell (g.2.2.2 0) (n1, .inl (va_cpy f h sp.toNatClampNeg dp.toNatClampNeg n.toNatClampNeg))))[q]? = H[q]? := fun q hq => by simp [Array.getElem?_setIfInBounds, Ne.symm hq]
  obtain ⟨t, a1, b1⟩ := kk _ _ (hM.up (show (H.setIfInBounds a _)[a]? = some _ by simp [Array.getElem?_setIfInBounds, hl]) hA oq) ⟨by simp; exact hS.1, fun q g1 g2 => by
      rw [oq q (fun e => g2 (by rw [e]; exact hA))]
      exact hS.2.1 q g1 g2, fun q hq => by
      rcases List.mem_append.mp hq with h | h
      · exact hS.2.2 q h
      · obtain ⟨z, -, hz⟩ := List.mem_map.mp h
        rw [← hz]
        exact hA⟩ _ hheap X'
  exact ⟨t, step t a1, b1⟩
/-- Integers of the cache: objects of the start -/
theorem IntAt.of (C : Cx p s m args meth c cc nL own ret g) (hS : va_S (Ag g) s.heap H locs) {v : Int32} (h : IntAt g a v) : va_O "java/lang/Integer" a (Ag g) s H ∧ va_OF "java/lang/Integer" "value" "I" (.int v) a (Ag g) s H :=
  ⟨((va_O.moved C.G.2.1.alike h.1).kept (fun b hb _ => C.G.2.2.2 b hb)).kept hS.2.1, ((va_OF.moved C.G.2.1.alike h.2).kept (fun b hb _ => C.G.2.2.2 b hb)).kept hS.2.1⟩
theorem IntAt.recv (C : Cx p s m args meth c cc nL own ret g) (hS : va_S (Ag g) s.heap H locs) {v : Int32} (h : IntAt g a v) : ∃ cell : Cell, H[a]? = some cell ∧ cell.vm.isStatics = false ∧ s.vm.findClass "java/lang/Integer" = some cell.cls := by
  obtain ⟨⟨cell, h1, h2, h3, -⟩, -⟩ := h.of C hS
  exact ⟨cell, h1, h2, h3⟩
theorem IntAt.any (C : Cx p s m args meth c cc nL own ret g) (hS : va_S (Ag g) s.heap H locs) {v : Int32} (h : IntAt g a v) {E : String} (hw : Cond.castable "java/lang/Integer" E ∈ lw_tbl) : va_Any E s H a := by
  obtain ⟨cell, h1, h2, h3⟩ := h.recv C hS
  obtain ⟨kC, hkC, -⟩ := Vm.findClass_spec h3
  exact ⟨cell, h1, h2, ⟨kC, hkC⟩, fun comp h => vb_asgC (C.wC hw) comp _ h h3⟩
theorem nar_rf {C : String} (z : Option Nat) : narrow (.object C) (va_rf z) = va_rf z := by cases z <;> rfl
theorem fit_rf {C : String} (z : Option Nat) : fits (.object C) (va_rf z) = true := by cases z <;> rfl
theorem nar_ra {C : FieldType} (z : Option Nat) : narrow (.array C) (va_rf z) = va_rf z := by cases z <;> rfl
theorem fit_ra {C : FieldType} (z : Option Nat) : fits (.array C) (va_rf z) = true := by cases z <;> rfl
theorem va_rfc (z : Option Nat) : z = none ∨ ∃ b, z = some b := by
  cases z with
  | none => exact Or.inl rfl
  | some b => exact Or.inr ⟨b, rfl⟩
theorem Cx.clsAt (C : Cx p s m args meth c cc nL own ret g) {ci : Nat} {q : vw_C} (hc : vwCl[ci]? = some q) : ClassAt s q.1 (g.2.2.1.1 ci) := by
  obtain ⟨hS, hfc, kC, hkC, hkind⟩ := C.G.K.1 ci _ hc
  exact ⟨hfc, kC, hkC, hkind⟩
end W2
/-! what the class side's pure texts say of the heap map -/
def oC (M : nM) (o ci : Nat) : Prop := ∃ (t : Nat × Nat) (fs : List Value), M o = some (t, .inr (ci, fs))
def fI (M : nM) (o ci k : Nat) (z : Int32) : Prop := ∃ (t : Nat × Nat) (fs : List Value), M o = some (t, .inr (ci, fs)) ∧ fs[k]? = some (.int z)
def fR (M : nM) (o ci k : Nat) (z : Option Nat) : Prop := ∃ (t : Nat × Nat) (fs : List Value), M o = some (t, .inr (ci, fs)) ∧ fs[k]? = some (va_rf z)
def fL (M : nM) (o ci k : Nat) : Prop := ∃ (t : Nat × Nat) (fs : List Value), M o = some (t, .inr (ci, fs)) ∧ k < fs.length
def fW (M M' : nM) (o ci k : Nat) (v : Value) : Prop := ∃ (t : Nat × Nat) (fs : List Value), M o = some (t, .inr (ci, fs)) ∧ M' = nup M o (t, .inr (ci, fs.set k v))
def aI (g : gG) (M : nM) (b n : Nat) (f : Nat → Int32) : Prop := ∃ t : Nat × Nat, M b = some (t, .inl (g.2.2.2 0, n, .inl f))
def aB (g : gG) (M : nM) (b n : Nat) (f : Nat → Int32) : Prop := ∃ t : Nat × Nat, M b = some (t, .inl (g.2.2.2 1, n, .inl f))
def aQ (g : gG) (M : nM) (t0 b n : Nat) (f : Nat → Option Nat) : Prop := ∃ t : Nat × Nat, M b = some (t, .inl (g.2.2.2 t0, n, .inr (.inr (.inr (.inr f)))))
def aIW (g : gG) (M M' : nM) (b n : Nat) (f : Nat → Int32) : Prop := ∃ (t : Nat × Nat) (f0 : Nat → Int32), M b = some (t, .inl (g.2.2.2 0, n, .inl f0)) ∧ M' = nup M b (t, .inl (g.2.2.2 0, n, .inl f))
def aBW (g : gG) (M M' : nM) (b n : Nat) (f : Nat → Int32) : Prop := ∃ (t : Nat × Nat) (f0 : Nat → Int32), M b = some (t, .inl (g.2.2.2 1, n, .inl f0)) ∧ M' = nup M b (t, .inl (g.2.2.2 1, n, .inl f))
def aQW (g : gG) (M M' : nM) (t0 b n : Nat) (f : Nat → Option Nat) : Prop := ∃ (t : Nat × Nat) (f0 : Nat → Option Nat), M b = some (t, .inl (g.2.2.2 t0, n, .inr (.inr (.inr (.inr f0))))) ∧ M' = nup M b (t, .inl (g.2.2.2 t0, n, .inr (.inr (.inr (.inr f)))))
/-- what may be stored in a row of references: an object of the class ci, or an Integer -/
def anyO (g : gG) (M : nM) (ci : Nat) (z : Option Nat) : Prop := ∀ b, z = some b → oC M b ci
