set_option maxRecDepth 100000
/-! CORE: the ghost g (the law's start, its argument's address, the classes' and array classes' numbers); the heap as a map M of tagged cells -/
abbrev vwCl : List vw_C := [(RX1, TX1, 6), (RX2, TX2, 5), (RX3, TX3, 5), (RX4, TX4, 2), (RX5, TX5, 3), (RX6, TX6, 25), (RX7, TX7, 8), (RX8, TX8, 7), (RX9, TX9, 6), (RJ1, TJ1, 3), (RJ3, TJ3, 3), (RJ11, TJ11, 6), (RJ13, TJ13, 4), (RJ14, TJ14, 4), (RJ20, TJ20, 6), (RJ21, TJ21, 6), (RJ23, TJ23, 8), (RJ27, TJ27, 4), (RJ31, TJ31, 4), (RJ7, TJ7, 1)]
abbrev gG : Type := State × Nat × va_G × (Nat → ClassId)
abbrev tysG (g : gG) : List (ClassId × FieldType) := [(g.2.2.2 0, .int), (g.2.2.2 1, .byte), (g.2.2.2 2, .long), (g.2.2.2 3, .object RX5), (g.2.2.2 4, .object RJ32), (g.2.2.2 5, .object RJ27), (g.2.2.2 6, .array .int)]
def K0 (g : gG) (U : State) : Prop := va_K g.2.2.1 vwCl (tysG g) U
def Ag (g : gG) : Nat → Prop := fun q => g.1.heap.size ≤ q
def Start (g : gG) : Prop := K0 g g.1 ∧ (∀ w ∈ lw_tbl, w.before #[Value.ref g.2.1] g.1 = true) ∧ (Jvm.Cond.and given_1 narrow_1).before #[Value.ref g.2.1] g.1 = true
/-- a state behind the law's start: its tables have only warmed, its old cells stand -/
def Gd (g : gG) (U : State) : Prop := Start g ∧ g.1.WarmedH U.vm ∧ g.1.heap.size ≤ U.heap.size ∧ ∀ q : Nat, q < g.1.heap.size → U.heap[q]? = g.1.heap[q]?
theorem Gd.K {g : gG} {U : State} (h : Gd g U) : K0 g U := va_K.moved h.2.1.alike h.1.1
theorem Gd.A {g : gG} {U : State} (h : Gd g U) : ∀ q : Nat, U.heap.size ≤ q → Ag g q := fun _ hq => Nat.le_trans h.2.2.1 hq
theorem Gd.blind {g : gG} {U : State} (h : Gd g U) (j : JFrame) (mk : MethodId) (a : Array Value) : Gd g (U.calling j mk a) := h
theorem Gd.call {g : gG} {s U : State} {H : Heap} {locs : List Loc} (h : Gd g s) (hS : va_S (Ag g) s.heap H locs) (hU : U.heap = H) (hW : s.WarmedH U.vm) : Gd g U := by
  obtain ⟨h1, h2, h3, h4⟩ := h
  refine ⟨h1, State.WarmedH.trans h2 hW, by rw [hU]; exact Nat.le_trans h3 hS.1, fun q hq => ?_⟩
  rw [hU, hS.2.1 q (Nat.lt_of_lt_of_le hq h3) (Nat.not_le.mpr hq)]
  exact h4 q hq
abbrev nC : Type := (Nat × Nat) × va_E
abbrev nM : Type := Nat → Option nC
def nh (g : gG) (M : nM) (H : Heap) : Prop := ∀ (a : Nat) (t : Nat × Nat) (x : va_E), M a = some (t, x) → va_at g.2.2.1 vwCl (a, x) H ∧ Ag g a
def nup (M : nM) (a : Nat) (c : nC) : nM := fun b => if b = a then some c else M b
theorem nup_self {M : nM} {a : Nat} {c : nC} : nup M a c a = some c := if_pos rfl
theorem nup_ne {M : nM} {a b : Nat} {c : nC} (h : b ≠ a) : nup M a c b = M b := if_neg h
theorem nh.one {g : gG} {M : nM} {H : Heap} (h : nh g M H) {a : Nat} {t : Nat × Nat} {x : va_E} (e : M a = some (t, x)) : va_P g.2.2.1 vwCl [(a, x)] H := by
  intro k q hq
  have hz : k < 1 := (List.getElem?_eq_some_iff.mp hq).1
  rw [show k = 0 by omega] at hq
  cases hq
  exact (h a t x e).1
theorem nh.lt {g : gG} {M : nM} {H : Heap} (h : nh g M H) {a : Nat} {t : Nat × Nat} {x : va_E} (e : M a = some (t, x)) : a < H.size := (h a t x e).1.lt
theorem nh.new {g : gG} {M : nM} {H : Heap} (h : nh g M H) {a : Nat} (ha : H.size ≤ a) : M a = none := by
  cases e : M a with
  | none => rfl
  | some c => exact absurd (h.lt (t := c.1) (x := c.2) e) (Nat.not_lt.mpr ha)
theorem nh.up {g : gG} {M : nM} {H H1 : Heap} (h : nh g M H) {a : Nat} {t : Nat × Nat} {x : va_E} (ha : va_at g.2.2.1 vwCl (a, x) H1) (hA : Ag g a) (oq : ∀ q : Nat, q ≠ a → H1[q]? = H[q]?) : nh g (nup M a (t, x)) H1 := by
  intro b t1 y e
  by_cases hb : b = a
  · subst hb
    rw [nup_self] at e
    cases e
    exact ⟨ha, hA⟩
  · rw [nup_ne hb] at e
    exact ⟨(h b t1 y e).1.kept (oq b hb), (h b t1 y e).2⟩
theorem nh.push {g : gG} {M : nM} {H H1 : Heap} (h : nh g M H) {a : Nat} (t : Nat × Nat) {x : va_E} (e : a = H.size) (ha : va_at g.2.2.1 vwCl (a, x) H1) (hA : Ag g a) (oq : ∀ q : Nat, q < H.size → H1[q]? = H[q]?) : nh g (nup M a (t, x)) H1 := by
  intro b t1 y e1
  by_cases hb : b = a
  · subst hb
    rw [nup_self] at e1
    cases e1
    exact ⟨ha, hA⟩
  · rw [nup_ne hb] at e1
    exact ⟨(h b t1 y e1).1.kept (oq b (h.lt e1)), (h b t1 y e1).2⟩
theorem nh.sub {g : gG} {M N : nM} {H : Heap} (h : nh g M H) (hs : ∀ a c, N a = some c → M a = some c) : nh g N H := fun a t x e => h a t x (hs a _ e)
/-- a method's fixed facts -/
def Cx (p : Program) (s : State) (m : MethodId) (args : Array Value) (meth : Method) (c : Code) (cc : ByteArray) (nL : Nat) (own : String) (ret : Option FieldType) (g : gG) : Prop :=
  p.tables.exec = Jvm.exec ∧ c.code = cc ∧ c.maxLocals = nL ∧ s.vm.findClass own = some m.cls ∧ (∀ w ∈ lw_all, w.before args s = true) ∧ meth.sig.returnType = ret ∧ meth.locks = false ∧ Gd g s
section CORE
variable {p : Program} {l : Launch} {e : Env} {R : Room} {s : State} {m : MethodId} {args : Array Value} {below : List Frame} {meth : Method} {c : Code} {H : Heap} {locs : List Loc} {cells slots : Nat} {Q : State → Prop}
variable {cc : ByteArray} {pc : Nat} {ls : Array Slot} {rest : List Value} {g : gG} {M : nM} {a : Nat} {nL : Nat} {own : String} {ret : Option FieldType}
theorem Cx.fix (C : Cx p s m args meth c cc nL own ret g) : CallFix p m c cc nL s args lw_all own := ⟨C.1, C.2.1, C.2.2.1, C.2.2.2.1, C.2.2.2.2.1⟩
theorem Cx.ts (C : Cx p s m args meth c cc nL own ret g) : ∀ w ∈ lw_all, w.before args s = true := C.2.2.2.2.1
theorem Cx.G (C : Cx p s m args meth c cc nL own ret g) : Gd g s := C.2.2.2.2.2.2.2
theorem g_get (C : Cx p s m args meth c cc nL own ret g) {ref cls : String} {T : u_T} {N ci index : Nat} (hin : ∀ w ∈ u_ws cls T N, w ∈ lw_all) (hM : nh g M H) {t : Nat × Nat} {fs : List Value} (he : M a = some (t, .inr (ci, fs))) (hc : vwCl[ci]? = some (cls, T, N)) (k : Nat) (hk : k < N) (hlink : Cond.fieldLink own index ref (T k).2.1 (T k).2.2.1 ∈ lw_all) (hsame : ∀ x, s.fieldFound? (T k).1 (T k).2.1 (T k).2.2.1 = some x → s.fieldFound? ref (T k).2.1 (T k).2.2.1 = some x) {v : Value} (hv : fs[k]? = some v) (hdg : decode cc pc = .ok (.getfield index, 3))
    (kk : W p l e R s m args below meth c H locs cells slots Q (F0 m (pc + 3) ls (v :: rest))) : W p l e R s m args below meth c H locs cells slots Q (F0 m pc ls (.ref a :: rest)) :=
  va_get C.1 C.2.1 C.ts hin C.2.2.2.1 C.G.K (hM.one he) 0 rfl hc k hk (C.ts _ hlink) hsame hv hdg kk
theorem g_put (C : Cx p s m args meth c cc nL own ret g) {ref cls : String} {T : u_T} {N ci index : Nat} (hin : ∀ w ∈ u_ws cls T N, w ∈ lw_all) (ty0 : Nat → FieldType) (hty : ∀ k, k < N → parseFieldDescriptor (T k).2.2.1 = some (ty0 k)) (hnm : ∀ a, a < N → ∀ b, b < N → a ≠ b → (T a).2.1 ≠ (T b).2.1) (hM : nh g M H) (hS0 : va_S (Ag g) s.heap H locs) {t : Nat × Nat} {fs : List Value} (he : M a = some (t, .inr (ci, fs))) (hc : vwCl[ci]? = some (cls, T, N)) (k : Nat) (hk : k < N) (hlink : Cond.fieldLink own index ref (T k).2.1 (T k).2.2.1 ∈ lw_all) (hsame : ∀ x, s.fieldFound? (T k).1 (T k).2.1 (T k).2.2.1 = some x → s.fieldFound? ref (T k).2.1 (T k).2.2.1 = some x) (hfin : (T k).2.2.2 = false) {v : Value} (hn : narrow (ty0 k) v = v) (hfit : fits (ty0 k) v = true) (hl : k < fs.length) (hdg : decode cc pc = .ok (.putfield index, 3))
    (kk : ∀ (H1 : Heap) (locs1 : List Loc), nh g (nup M a (t, .inr (ci, fs.set k v))) H1 → va_S (Ag g) s.heap H1 locs1 → W p l e R s m args below meth c H1 locs1 cells slots Q (F0 m (pc + 3) ls rest)) : W p l e R s m args below meth c H locs cells slots Q (F0 m pc ls (v :: .ref a :: rest)) := by
  have hK := C.G.K
  have hts := C.ts
  have hown := C.2.2.2.1
  have hap := va_apart (own := own) hts hin ty0 hty hnm hK hc
  obtain ⟨⟨r, h1, cell, q1, q2, q3, q4⟩, hAa⟩ := hM a t _ he
  have hr : r = (cls, T, N) := Option.some.inj (h1.symm.trans hc)
  subst hr
  obtain ⟨hS, hfc, kC, hkC, hkind⟩ := hK.1 ci _ hc
  obtain ⟨cf, kf, fi, f, hi, hsl⟩ := hS k hk
  have hlay := hts _ (hin _ (u_in_lay hk))
  unfold u_lay at hlay
  rw [if_neg (by rw [hfin]; decide)] at hlay
  have hst := (u_facts hfc hkC (u_lays hts hin hk) hi).1
  have h6 := u_store hfc hkC hkind hlay hi (hty k hk) hn hfit
  refine W.putK C.1 C.2.1 (f := f) ⟨hown, hts _ hlink, ⟨_, _, _, hsame _ hi⟩, hst⟩ (by rw [q2]; exact h6) q1 q3 (by rw [hsl]; exact k2_hasslot (q4 k hk)) rfl rfl hdg fun H' e1 e2 e3 => ?_
  rw [hsl] at e1 ⊢
  exact kk H' _ (hM.up ⟨_, hc, t_OB.to (V := updV (vp_V fs) k v) ⟨_, e1, q2, q3, t_set q4 hap hk v⟩ (fun j _ => vp_updV_set hl v j)⟩ hAa e3) (hS0.put e2 e3 hAa)
theorem g_putF (C : Cx p s m args meth c cc nL own ret g) {ref cls : String} {T : u_T} {N ci index : Nat} (hin : ∀ w ∈ u_ws cls T N, w ∈ lw_all) (ty0 : Nat → FieldType) (hty : ∀ k, k < N → parseFieldDescriptor (T k).2.2.1 = some (ty0 k)) (hnm : ∀ a, a < N → ∀ b, b < N → a ≠ b → (T a).2.1 ≠ (T b).2.1) (hM : nh g M H) (hS0 : va_S (Ag g) s.heap H locs) {t : Nat × Nat} {fs : List Value} (he : M a = some (t, .inr (ci, fs))) (hc : vwCl[ci]? = some (cls, T, N)) (k : Nat) (hk : k < N) (hlink : Cond.fieldLink own index ref (T k).2.1 (T k).2.2.1 ∈ lw_all) (hsame : ∀ x, s.fieldFound? (T k).1 (T k).2.1 (T k).2.2.1 = some x → s.fieldFound? ref (T k).2.1 (T k).2.2.1 = some x) (hfin : (T k).2.2.2 = true) (hin2 : meth.name = "<init>") (hdecl : (T k).1 = own) {v : Value} (hn : narrow (ty0 k) v = v) (hfit : fits (ty0 k) v = true) (hl : k < fs.length) (hdg : decode cc pc = .ok (.putfield index, 3))
    (kk : ∀ (H1 : Heap) (locs1 : List Loc), nh g (nup M a (t, .inr (ci, fs.set k v))) H1 → va_S (Ag g) s.heap H1 locs1 → W p l e R s m args below meth c H1 locs1 cells slots Q (F0 m (pc + 3) ls rest)) : W p l e R s m args below meth c H locs cells slots Q (F0 m pc ls (v :: .ref a :: rest)) := by
  have hK := C.G.K
  have hts := C.ts
  have hown := C.2.2.2.1
  have hap := va_apart (own := own) hts hin ty0 hty hnm hK hc
  obtain ⟨⟨r, h1, cell, q1, q2, q3, q4⟩, hAa⟩ := hM a t _ he
  have hr : r = (cls, T, N) := Option.some.inj (h1.symm.trans hc)
  subst hr
  obtain ⟨hS, hfc, kC, hkC, hkind⟩ := hK.1 ci _ hc
  obtain ⟨cf, kf, fi, f, hi, hsl⟩ := hS k hk
  have hlay := hts _ (hin _ (u_in_lay hk))
  unfold u_lay at hlay
  rw [if_pos hfin] at hlay
  have hst := (u_facts hfc hkC (u_lays hts hin hk) hi).1
  have hcf : m.cls = cf := by
    obtain ⟨_, _, c', _, _, _, -, -, hf', -, -, -, hown2, -⟩ := Cond.laysFinal_spec hlay
    have e1 : c' = cf := by have := hi.symm.trans hf'; simp at this; exact this.1.symm
    rw [hdecl] at hown2
    rw [← e1]; exact Option.some.inj (hown.symm.trans hown2)
  have h6 := u_fits hfc hkC hkind (Or.inr hlay) hi (hty k hk) hn hfit
  refine W.putFinK C.1 C.2.1 hown (hts _ hlink) (hsame _ hi) hst hcf hin2 (by rw [q2]; exact h6) q1 q3 (by rw [hsl]; exact k2_hasslot (q4 k hk)) rfl rfl hdg fun H' e1 e2 e3 => ?_
  rw [hsl] at e1 ⊢
  exact kk H' _ (hM.up ⟨_, hc, t_OB.to (V := updV (vp_V fs) k v) ⟨_, e1, q2, q3, t_set q4 hap hk v⟩ (fun j _ => vp_updV_set hl v j)⟩ hAa e3) (hS0.put e2 e3 hAa)
/-! arrays: kinds 0 int, 1 byte, 2 long; 3 Inn, 4 Object, 5 Node, 6 int[] -/
theorem g_iald (C : Cx p s m args meth c cc nL own ret g) (hM : nh g M H) {t : Nat × Nat} {n : Nat} {f : Nat → Int32} (he : M a = some (t, .inl (g.2.2.2 0, n, .inl f))) {i : Int32} (hin : vp_in i n) (hdg : decode cc pc = .ok (.iaload, 1))
    (kk : W p l e R s m args below meth c H locs cells slots Q (F0 m (pc + 1) ls (.int (f i.toNatClampNeg) :: rest))) : W p l e R s m args below meth c H locs cells slots Q (F0 m pc ls (.int i :: .ref a :: rest)) :=
  va_iald C.1 C.2.1 C.G.K (hM.one he) 0 0 rfl rfl hin hdg kk
theorem g_bald (C : Cx p s m args meth c cc nL own ret g) (hM : nh g M H) {t : Nat × Nat} {n : Nat} {f : Nat → Int32} (he : M a = some (t, .inl (g.2.2.2 1, n, .inl f))) {i : Int32} (hin : vp_in i n) (hdg : decode cc pc = .ok (.baload, 1))
    (kk : W p l e R s m args below meth c H locs cells slots Q (F0 m (pc + 1) ls (.int (f i.toNatClampNeg) :: rest))) : W p l e R s m args below meth c H locs cells slots Q (F0 m pc ls (.int i :: .ref a :: rest)) :=
  va_bald C.1 C.2.1 C.G.K (hM.one he) 0 1 rfl rfl hin hdg kk
theorem g_lald (C : Cx p s m args meth c cc nL own ret g) (hM : nh g M H) {t : Nat × Nat} {n : Nat} {f : Nat → Int64} (he : M a = some (t, .inl (g.2.2.2 2, n, .inr (.inl f)))) {i : Int32} (hin : vp_in i n) (hdg : decode cc pc = .ok (.laload, 1))
    (kk : W p l e R s m args below meth c H locs cells slots Q (F0 m (pc + 1) ls (.long (f i.toNatClampNeg) :: rest))) : W p l e R s m args below meth c H locs cells slots Q (F0 m pc ls (.int i :: .ref a :: rest)) :=
  va_lald C.1 C.2.1 C.G.K (hM.one he) 0 2 rfl rfl hin hdg kk
/-- a load of a reference: the array's kind t0 in tysG, of a class or of arrays -/
theorem g_aald (C : Cx p s m args meth c cc nL own ret g) (hM : nh g M H) (t0 : Nat) {ty : FieldType} {t : Nat × Nat} {n : Nat} {f : Nat → Option Nat} (he : M a = some (t, .inl (g.2.2.2 t0, n, .inr (.inr (.inr (.inr f)))))) (ht : (tysG g)[t0]? = some (g.2.2.2 t0, ty)) (hty : ty.isReference = true) {i : Int32} (hin : vp_in i n) (hdg : decode cc pc = .ok (.aaload, 1))
    (kk : W p l e R s m args below meth c H locs cells slots Q (F0 m (pc + 1) ls (va_rf (f i.toNatClampNeg) :: rest))) : W p l e R s m args below meth c H locs cells slots Q (F0 m pc ls (.int i :: .ref a :: rest)) := by
  have hlt : i.toNatClampNeg < n := Nat.not_le.mp fun q => hin (Or.inr q)
  exact W.aald (v := va_rf (f i.toNatClampNeg)) (ty := ty) C.1 C.2.1 (hM a t _ he).1 ((C.G.K.2 t0 _ ht).1 n (fun j => va_rf (f j))) hty (fun q => by cases q) (by show ¬ (i < 0 ∨ (arrV _ _ _).slots.size ≤ _); rw [arrV_size]; exact hin) (by show (arrV _ _ _).slots[_]? = _; rw [arrV_read _ _ hlt]) rfl rfl hdg kk
theorem g_iast (C : Cx p s m args meth c cc nL own ret g) (hM : nh g M H) (hS : va_S (Ag g) s.heap H locs) {t : Nat × Nat} {n : Nat} {f : Nat → Int32} (he : M a = some (t, .inl (g.2.2.2 0, n, .inl f))) {i x : Int32} (hin : vp_in i n) (hdg : decode cc pc = .ok (.iastore, 1))
    (kk : ∀ (H1 : Heap) (locs1 : List Loc), nh g (nup M a (t, .inl (g.2.2.2 0, n, .inl (upd f i.toNatClampNeg x)))) H1 → va_S (Ag g) s.heap H1 locs1 → W p l e R s m args below meth c H1 locs1 cells slots Q (F0 m (pc + 1) ls rest)) : W p l e R s m args below meth c H locs cells slots Q (F0 m pc ls (.int x :: .int i :: .ref a :: rest)) := by
  obtain ⟨h1, hA⟩ := hM a t _ he
  refine W.iast C.1 C.2.1 h1 ((C.G.K.2 0 _ rfl).1 n (fun j => .int (f j))) (fun q => by cases q) (by show ¬ (i < 0 ∨ (arrV _ _ _).slots.size ≤ _); rw [arrV_size]; exact hin) rfl rfl hdg fun H1 e z oq => ?_
  refine kk H1 _ (hM.up ?_ hA oq) (hS.put z oq hA)
  show H1[a]? = some (vp_cell _ _)
  rw [e, vp_cell_i, vp_cell_i, arrV_store]
  congr 2
  funext q
  by_cases hq : q = i.toNatClampNeg
  · subst hq
    simp [updV, upd]
  · simp [updV, upd, hq]
theorem g_bast (C : Cx p s m args meth c cc nL own ret g) (hM : nh g M H) (hS : va_S (Ag g) s.heap H locs) {t : Nat × Nat} {n : Nat} {f : Nat → Int32} (he : M a = some (t, .inl (g.2.2.2 1, n, .inl f))) {i x : Int32} (hin : vp_in i n) (hdg : decode cc pc = .ok (.bastore, 1))
    (kk : ∀ (H1 : Heap) (locs1 : List Loc), nh g (nup M a (t, .inl (g.2.2.2 1, n, .inl (upd f i.toNatClampNeg x.toInt8.toInt32)))) H1 → va_S (Ag g) s.heap H1 locs1 → W p l e R s m args below meth c H1 locs1 cells slots Q (F0 m (pc + 1) ls rest)) : W p l e R s m args below meth c H locs cells slots Q (F0 m pc ls (.int x :: .int i :: .ref a :: rest)) := by
  obtain ⟨h1, hA⟩ := hM a t _ he
  refine W.bast C.1 C.2.1 h1 ((C.G.K.2 1 _ rfl).1 n (fun j => .int (f j))) (fun q => by cases q) (by show ¬ (i < 0 ∨ (arrV _ _ _).slots.size ≤ _); rw [arrV_size]; exact hin) rfl rfl hdg fun H1 e z oq => ?_
  refine kk H1 _ (hM.up ?_ hA oq) (hS.put z oq hA)
  show H1[a]? = some (vp_cell _ _)
  rw [e, vp_cell_i, vp_cell_i, arrV_store]
  congr 2
  funext q
  by_cases hq : q = i.toNatClampNeg
  · subst hq
    simp [updV, upd, narrow_byte]
  · simp [updV, upd, hq]
theorem g_last (C : Cx p s m args meth c cc nL own ret g) (hM : nh g M H) (hS : va_S (Ag g) s.heap H locs) {t : Nat × Nat} {n : Nat} {f : Nat → Int64} (he : M a = some (t, .inl (g.2.2.2 2, n, .inr (.inl f)))) {i : Int32} {x : Int64} (hin : vp_in i n) (hdg : decode cc pc = .ok (.lastore, 1))
    (kk : ∀ (H1 : Heap) (locs1 : List Loc), nh g (nup M a (t, .inl (g.2.2.2 2, n, .inr (.inl (vp_updL f i.toNatClampNeg x))))) H1 → va_S (Ag g) s.heap H1 locs1 → W p l e R s m args below meth c H1 locs1 cells slots Q (F0 m (pc + 1) ls rest)) : W p l e R s m args below meth c H locs cells slots Q (F0 m pc ls (.long x :: .int i :: .ref a :: rest)) := by
  obtain ⟨h1, hA⟩ := hM a t _ he
  refine W.last C.1 C.2.1 h1 ((C.G.K.2 2 _ rfl).1 n (fun j => .long (f j))) (fun q => by cases q) (by show ¬ (i < 0 ∨ (arrV _ _ _).slots.size ≤ _); rw [arrV_size]; exact hin) rfl rfl hdg fun H1 e z oq => ?_
  refine kk H1 _ (hM.up ?_ hA oq) (hS.put z oq hA)
  show H1[a]? = some (vp_cell _ _)
  rw [e, vp_cell_l, vp_cell_l, arrV_store]
  congr 2
  funext q
  by_cases hq : q = i.toNatClampNeg
  · subst hq
    simp [updV, vp_updL]
  · simp [updV, vp_updL, hq]
/-- a store of null -/
theorem g_aastN (C : Cx p s m args meth c cc nL own ret g) (hM : nh g M H) (hS : va_S (Ag g) s.heap H locs) (t0 : Nat) {E : String} {t : Nat × Nat} {n : Nat} {f : Nat → Option Nat} (he : M a = some (t, .inl (g.2.2.2 t0, n, .inr (.inr (.inr (.inr f)))))) (ht : (tysG g)[t0]? = some (g.2.2.2 t0, .object E)) {i : Int32} (hin : vp_in i n) (hdg : decode cc pc = .ok (.aastore, 1))
    (kk : ∀ (H1 : Heap) (locs1 : List Loc), nh g (nup M a (t, .inl (g.2.2.2 t0, n, .inr (.inr (.inr (.inr (va_up f i.toNatClampNeg none))))))) H1 → va_S (Ag g) s.heap H1 locs1 → W p l e R s m args below meth c H1 locs1 cells slots Q (F0 m (pc + 1) ls rest)) : W p l e R s m args below meth c H locs cells slots Q (F0 m pc ls (.null :: .int i :: .ref a :: rest)) := by
  obtain ⟨h1, hA⟩ := hM a t _ he
  refine va_WaastN (C := E) C.1 C.2.1 h1 ((C.G.K.2 t0 _ ht).1 n (fun j => va_rf (f j))) (fun h => by cases h) (by show ¬ (i < 0 ∨ (arrV _ _ _).slots.size ≤ _); rw [arrV_size]; exact hin) rfl rfl hdg fun H1 e z oq => ?_
  refine kk H1 _ (hM.up ?_ hA oq) (hS.put z oq hA)
  show H1[a]? = some (vp_cell _ _)
  rw [e, vp_cell_q, vp_cell_q, arrV_store]
  congr 2
  funext q
  by_cases hq : q = i.toNatClampNeg
  · subst hq
    simp [updV, va_up, va_rf]
  · simp [updV, va_up, hq]
/-- a store of an object that may lie in a row of E -/
theorem g_aastM (C : Cx p s m args meth c cc nL own ret g) (hM : nh g M H) (hS : va_S (Ag g) s.heap H locs) (t0 : Nat) {E : String} {t : Nat × Nat} {n v : Nat} {f : Nat → Option Nat} (he : M a = some (t, .inl (g.2.2.2 t0, n, .inr (.inr (.inr (.inr f)))))) (ht : (tysG g)[t0]? = some (g.2.2.2 t0, .object E)) (hr : va_Any E s H v) {i : Int32} (hin : vp_in i n) (hdg : decode cc pc = .ok (.aastore, 1))
    (kk : ∀ (H1 : Heap) (locs1 : List Loc), nh g (nup M a (t, .inl (g.2.2.2 t0, n, .inr (.inr (.inr (.inr (va_up f i.toNatClampNeg (some v)))))))) H1 → va_S (Ag g) s.heap H1 locs1 → W p l e R s m args below meth c H1 locs1 cells slots Q (F0 m (pc + 1) ls rest)) : W p l e R s m args below meth c H locs cells slots Q (F0 m pc ls (.ref v :: .int i :: .ref a :: rest)) := by
  have hlt : i.toNatClampNeg < n := Nat.not_le.mp fun q => hin (Or.inr q)
  have h0 : ¬ i < 0 := fun q => hin (Or.inl q)
  obtain ⟨h1, hA⟩ := hM a t _ he
  obtain ⟨cellV, g1, g3, ⟨kC, hkC⟩, hasg⟩ := hr
  obtain ⟨kA, comp, k1, k2, k3, -⟩ := (C.G.K.2 t0 _ ht).2
  obtain ⟨kE, hkE, -⟩ := Vm.findClass_spec k3
  refine W.aast C.1 C.2.1 h1 (fun q h => by cases h) (fun h => by cases h) k1 k2 rfl hkE ⟨h0, by show _ < (arrV _ _ _).slots.size; rw [arrV_size]; exact hlt⟩ g1 (fun q h => by rw [h] at g3; cases g3) hkC (hasg _ k3) rfl rfl hdg fun H1 e z oq => ?_
  refine kk H1 _ (hM.up ?_ hA oq) (hS.put z oq hA)
  show H1[a]? = some (vp_cell _ _)
  rw [e, vp_cell_q, vp_cell_q, arrV_store]
  congr 2
  funext q
  by_cases hq : q = i.toNatClampNeg
  · subst hq
    simp [updV, va_up, va_rf]
  · simp [updV, va_up, hq]
theorem g_alen (C : Cx p s m args meth c cc nL own ret g) (hM : nh g M H) (t0 : Nat) {t : Nat × Nat} {x : vp_A} (he : M a = some (t, .inl (g.2.2.2 t0, x))) {ty : FieldType} (ht : (tysG g)[t0]? = some (g.2.2.2 t0, ty)) (hdg : decode cc pc = .ok (.arraylength, 1))
    (kk : W p l e R s m args below meth c H locs cells slots Q (F0 m (pc + 1) ls (.int (Int32.ofNat x.1) :: rest))) : W p l e R s m args below meth c H locs cells slots Q (F0 m pc ls (.ref a :: rest)) :=
  va_alen C.1 C.2.1 C.G.K (hM.one he) 0 t0 rfl ht rfl hdg kk
theorem g_new (C : Cx p s m args meth c cc nL own ret g) {cls : String} {T : u_T} {N ci index : Nat} (hin : ∀ w ∈ u_ws cls T N, w ∈ lw_all) (ty : Nat → FieldType) (hty : ∀ k, k < N → parseFieldDescriptor (T k).2.2.1 = some (ty k)) (hcl : Cond.classLink own index cls ∈ lw_all) (hinst : Cond.instantiable cls N ∈ lw_all) (hini : Cond.initialized cls ∈ lw_all) (hM : nh g M H) (hS : va_S (Ag g) s.heap H locs) (hc : vwCl[ci]? = some (cls, T, N)) {fs : List Value} (hfs : ∀ j, j < N → defaultValue (ty j) = vp_V fs j) (hcells : cells + 1 ≤ R.cells) (hslots : slots + N ≤ R.slots) (hdg : decode cc pc = .ok (.new index, 3))
    (tag : Nat → Nat × Nat) (kk : ∀ (q : Nat) (H1 : Heap), M q = none → nh g (nup M q (tag q, .inr (ci, fs))) H1 → va_S (Ag g) s.heap H1 locs → W p l e R s m args below meth c H1 locs (cells + 1) (slots + N) Q (F0 m (pc + 3) ls (.ref q :: rest))) : W p l e R s m args below meth c H locs cells slots Q (F0 m pc ls rest) := by
  have hKn := C.G.K.1 ci _ hc
  refine W.newcK C.1 C.2.1 C.2.2.2.1 (C.ts _ hcl) (C.ts _ hinst) (C.ts _ hini) rfl hdg hcells hslots hKn.2.1 rfl fun H1 kC hkC e1 z1 o1 => ?_
  exact kk H.size H1 (hM.new (Nat.le_refl _)) (hM.push _ rfl ⟨_, hc, (u_born ty C.ts hin hKn hkC e1 hty).to hfs⟩ (C.G.A _ hS.1) o1) ⟨Nat.le_trans hS.1 (by omega), fun x h1 h2 => (o1 x (Nat.lt_of_lt_of_le h1 hS.1)).trans (hS.2.1 x h1 h2), hS.2.2⟩
/-- a new array of numbers, of a kind of tysG -/
theorem g_newa (C : Cx p s m args meth c cc nL own ret g) {atype : ArrayType} (t0 : Nat) {ty : FieldType} (hty : newarray.typeOf atype = ty) (hpr : ∀ cA : ClassId, va_RA s cA ty → s.vm.findClass ("[" ++ ty.toString) = some cA) (ht : (tysG g)[t0]? = some (g.2.2.2 t0, ty)) (harr : Cond.arrayClass ty ∈ lw_all) (hM : nh g M H) (hS : va_S (Ag g) s.heap H locs)
    {n : Int32} {N' : Nat} {a0 : vp_A} (ha : ∀ cA : ClassId, vp_cell cA a0 = arrV cA N' (fun _ => defaultValue ty)) (hn : ¬ n < 0) (hN : n.toNatClampNeg = N') (hbytes : N' * componentBytes ty ≤ 536870912) (hcells : cells + 1 ≤ R.cells) (hslots : slots + N' ≤ R.slots) (hdg : decode cc pc = .ok (.newarray atype, 2)) (tag : Nat → Nat × Nat)
    (kk : ∀ (q : Nat) (H1 : Heap), M q = none → nh g (nup M q (tag q, .inl (g.2.2.2 t0, a0))) H1 → va_S (Ag g) s.heap H1 locs → W p l e R s m args below meth c H1 locs (cells + 1) (slots + N') Q (F0 m (pc + 2) ls (.ref q :: rest))) : W p l e R s m args below meth c H locs cells slots Q (F0 m pc ls (.int n :: rest)) := by
  subst hty
  refine va_newaK C.1 C.2.1 (C.ts _ harr) rfl hdg rfl hn hN hbytes hcells hslots rfl fun H1 cA e1 z1 o1 hAr hNm => ?_
  have hcA : cA = g.2.2.2 t0 := Option.some.inj (hNm.symm.trans (hpr _ (C.G.K.2 t0 _ ht).2))
  subst hcA
  exact kk H.size H1 (hM.new (Nat.le_refl _)) (hM.push _ rfl (by show H1[H.size]? = some (vp_cell _ _); rw [ha]; exact e1) (C.G.A _ hS.1) o1) ⟨Nat.le_trans hS.1 (by omega), fun x h1 h2 => (o1 x (Nat.lt_of_lt_of_le h1 hS.1)).trans (hS.2.1 x h1 h2), hS.2.2⟩
end CORE
