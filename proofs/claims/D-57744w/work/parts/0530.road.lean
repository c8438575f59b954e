set_option maxRecDepth 100000
/-! CLASS SIDE: a road on the heap. Owners (tags): a road's cells (r, 0) itself, (r, 1) inns, (r, 2) links, (r, 3) next, (r, 4) skip; an inn (b, 0), never changed -/
abbrev RA : Type := Nat × Nat × Nat × Nat
/-- a Links object: tag tl, its arrays of the owner ow -/
def LkAt (g : gG) (M : nM) (l : Nat) (tl : Nat × Nat) (ow n s : Nat) (f : Row) : Prop :=
  M l = some (tl, .inr (2, [.ref n, .ref s, .int (f 51), .int (f 52), .int (f 53)])) ∧
  (∃ h : Row, M n = some ((ow, 3), .inl (g.2.2.2 0, 12, .inl h)) ∧ ∀ k, k < 12 → h k = f (54 + k)) ∧
  (∃ h : Row, M s = some ((ow, 4), .inl (g.2.2.2 0, 12, .inl h)) ∧ ∀ k, k < 12 → h k = f (66 + k))
def InnO (M : nM) (b : Nat) (f : Row) (k : Nat) : Prop := M b = some ((b, 0), .inr (4, [.int (f (15 + k)), .int (f (27 + k)), .int (f (39 + k))]))
def InnC (M : nM) (z : Option Nat) (f : Row) (k : Nat) : Prop := (z = none ∧ f (3 + k) = 0) ∨ ∃ b, z = some b ∧ f (3 + k) = 1 ∧ InnO M b f k
def RoadAt (g : gG) (M : nM) (r : Nat) (A : RA) (f : Row) : Prop :=
  M r = some ((r, 0), .inr (1, [.ref A.1, .ref A.2.1, .int (f 0), .int (f 1), .int (f 2)])) ∧
  (∃ p : Nat → Option Nat, M A.1 = some ((r, 1), .inl (g.2.2.2 3, 12, .inr (.inr (.inr (.inr p))))) ∧ ∀ k, k < 12 → InnC M (p k) f k) ∧
  LkAt g M A.2.1 (r, 2) r A.2.2.1 A.2.2.2 f
section ROAD
variable {g : gG} {M : nM} {r : Nat} {A : RA} {f : Row}
theorem RoadAt.o (h : RoadAt g M r A f) : oC M r 1 := ⟨_, _, h.1⟩
theorem RoadAt.inns (h : RoadAt g M r A f) : fR M r 1 0 (some A.1) := ⟨_, _, h.1, rfl⟩
theorem RoadAt.lks (h : RoadAt g M r A f) : fR M r 1 1 (some A.2.1) := ⟨_, _, h.1, rfl⟩
theorem RoadAt.rng (h : RoadAt g M r A f) : fI M r 1 2 (f 0) := ⟨_, _, h.1, rfl⟩
theorem RoadAt.rid (h : RoadAt g M r A f) : fI M r 1 3 (f 1) := ⟨_, _, h.1, rfl⟩
theorem RoadAt.del (h : RoadAt g M r A f) : fI M r 1 4 (f 2) := ⟨_, _, h.1, rfl⟩
theorem RoadAt.lk (h : RoadAt g M r A f) : LkAt g M A.2.1 (r, 2) r A.2.2.1 A.2.2.2 f := h.2.2
theorem RoadAt.pl (h : RoadAt g M r A f) : ∃ p : Nat → Option Nat, aQ g M 3 A.1 12 p ∧ ∀ k, k < 12 → InnC M (p k) f k := by
  obtain ⟨-, ⟨p, h1, h2⟩, -⟩ := h
  exact ⟨p, ⟨_, h1⟩, h2⟩
variable {l ow n s : Nat} {tl : Nat × Nat}
theorem LkAt.o (h : LkAt g M l tl ow n s f) : oC M l 2 := ⟨_, _, h.1⟩
theorem LkAt.nx (h : LkAt g M l tl ow n s f) : fR M l 2 0 (some n) := ⟨_, _, h.1, rfl⟩
theorem LkAt.sk (h : LkAt g M l tl ow n s f) : fR M l 2 1 (some s) := ⟨_, _, h.1, rfl⟩
theorem LkAt.fs (h : LkAt g M l tl ow n s f) : fI M l 2 2 (f 51) := ⟨_, _, h.1, rfl⟩
theorem LkAt.se (h : LkAt g M l tl ow n s f) : fI M l 2 3 (f 52) := ⟨_, _, h.1, rfl⟩
theorem LkAt.ct (h : LkAt g M l tl ow n s f) : fI M l 2 4 (f 53) := ⟨_, _, h.1, rfl⟩
theorem LkAt.nxa (h : LkAt g M l tl ow n s f) : ∃ q : Row, aI g M n 12 q ∧ ∀ k, k < 12 → q k = f (54 + k) := by
  obtain ⟨-, ⟨q, h1, h2⟩, -⟩ := h
  exact ⟨q, ⟨_, h1⟩, h2⟩
theorem LkAt.ska (h : LkAt g M l tl ow n s f) : ∃ q : Row, aI g M s 12 q ∧ ∀ k, k < 12 → q k = f (66 + k) := by
  obtain ⟨-, -, q, h1, h2⟩ := h
  exact ⟨q, ⟨_, h1⟩, h2⟩
theorem InnO.mi {b k : Nat} (h : InnO M b f k) : fI M b 4 0 (f (15 + k)) := ⟨_, _, h, rfl⟩
theorem InnO.op {b k : Nat} (h : InnO M b f k) : fI M b 4 1 (f (27 + k)) := ⟨_, _, h, rfl⟩
theorem InnO.le {b k : Nat} (h : InnO M b f k) : fI M b 4 2 (f (39 + k)) := ⟨_, _, h, rfl⟩
theorem fI.uniq {o ci k : Nat} {x y : Int32} (h : fI M o ci k x) (h' : fI M o ci k y) : x = y := by
  obtain ⟨t, fs, h1, h2⟩ := h
  obtain ⟨t', fs', h3, h4⟩ := h'
  rw [h1] at h3
  cases h3
  rw [h2] at h4
  exact Value.int.inj (Option.some.inj h4)
end ROAD
/-- a place as an index -/
theorem pl_in {k n : Nat} (h : k < n) (hn : n < 2 ^ 31) : vp_in (nI k) n := nI_in h hn
theorem pl_12 {k : Nat} (h : k < 12) : vp_in (nI k) 12 := nI_in h (by decide)
theorem cl_12 {k : Nat} (h : k < 12) : (nI k).toNatClampNeg = k := nI_clamp (by omega)
theorem ge12 {k : Nat} (c : (12 : Int32) ≤ nI k) (h : k ≤ 12) : k = 12 := by
  have := (nI_leI (a := 12) (b := k) (by decide) (by omega)).mp c
  omega
theorem lt12 {k : Nat} (c : ¬ (12 : Int32) ≤ nI k) (h : k ≤ 12) : k < 12 :=
  Nat.not_le.mp fun z => c ((nI_leI (a := 12) (b := k) (by decide) (by omega)).mpr z)
theorem isPt_n {k : Nat} (h : k < 12) : isPt (nI k) := Or.inr ⟨k, h, rfl⟩
theorem nh.tt {g : gG} {M : nM} {H : Heap} {t : State} (h : nh g M H) (ht : t.heap = H) : nh g M t.heap := by rw [ht]; exact h
theorem isB_01 {x : Int32} (h : isB x) : x = 0 ∨ x = 1 := by
  have h : Value.int (x &&& 1) = .int x := h
  have e := Value.int.inj h
  rw [pk_and x (m := 1) 1 (by decide)] at e
  rcases Nat.mod_two_eq_zero_or_one x.toBitVec.toNat with z | z
  · rw [Nat.pow_one, z] at e
    exact Or.inl e.symm
  · rw [Nat.pow_one, z] at e
    exact Or.inr e.symm
theorem isB_fit {x : Int32} (h : isB x) : fits .boolean (.int x) = true := by
  rcases isB_01 h with rfl | rfl <;> rfl
theorem va_cat (z : Option Nat) : (va_rf z).category = 1 := by cases z <;> rfl
theorem g_obj0 {p : Program} {l : Launch} {e : Env} {R : Room} {s : State} {m : MethodId} {args : Array Value} {below : List Frame} {meth : Method} {c : Code} {H : Heap} {locs : List Loc} {cells slots : Nat} {Q : State → Prop} {cc : ByteArray} {pc : Nat} {ls : Array Slot} {rest : List Value} {g : gG} {a nL : Nat} {own : String} {ret : Option FieldType} (C : Cx p s m args meth c cc nL own ret g) (hml : nL = ls.size) {idx : Nat} (hlink : Cond.methodLink own idx Lib.objectInit ∈ lw_all) (hdg : decode cc pc = .ok (.invokespecial idx, 3)) (hframes : 1 ≤ R.frames) (hlocals : (rest.map fun v => v.category).sum + 12 ≤ R.locals)
    (kk : W p l e R s m args below meth c H locs cells slots Q (F0 m (pc + 3) ls rest)) : W p l e R s m args below meth c H locs cells slots Q (F0 m pc ls (.ref a :: rest)) :=
  W.objInit C.1 C.2.1 C.2.2.2.1 (C.ts _ hlink) (C.ts _ q121) (C.ts _ (lw_g (lw_at lw_m1 53 rfl) rfl)) (g := F0 m pc ls (.ref a :: rest)) rfl (by rw [C.2.2.1, hml]) rfl hdg hframes (by show 2 * 0 + _ + 12 ≤ _; omega) kk
