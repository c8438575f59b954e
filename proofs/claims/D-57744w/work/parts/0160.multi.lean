set_option maxRecDepth 100000
/-! an array of rows of numbers: multianewarray of two dimensions -/
theorem ov_moved {s U : State} (hal : s.vm.Alike U.vm) {args args' : Array Value} (h : (Cond.arrayOver (.array .int)).before args s = true) : (Cond.arrayOver (.array .int)).before args' U = true := by
  simp only [Cond.before, Cond.holds, Cond.value, beq_iff_eq] at h ⊢
  rw [hal.findClass, hal.findClass]
  cases hc : s.vm.findClass (FieldType.array .int).toString with
  | none => rw [hc] at h; simp at h
  | some comp =>
    rw [hc] at h
    simp only [Option.bind_some] at h ⊢
    obtain ⟨c, h1, h2⟩ := Option.bind_eq_some_iff.mp h
    refine Option.bind_eq_some_iff.mpr ⟨c, (hal.findIdx?_eqK _ (fun _ => rfl)).trans h1, ?_⟩
    obtain ⟨k, h3, h4⟩ := Option.map_eq_some_iff.mp h2
    obtain ⟨k', h5, h6⟩ := hal.2.2 _ _ h3
    refine Option.map_eq_some_iff.mpr ⟨k', h5, ?_⟩
    rw [h6]
    exact h4
theorem arrV_eq {cI : ClassId} {N : Nat} {f h : Nat → Value} (e : ∀ j, j < N → f j = h j) : arrV cI N f = arrV cI N h := by
  have : (Array.ofFn (n := N) fun j => f j.val) = Array.ofFn (n := N) fun j => h j.val := by
    congr 1
    funext j
    exact e j.val j.isLt
  show ({ cls := cI, slots := Array.ofFn (n := N) fun j => f j.val, vm := .none } : Cell) = _
  rw [this]
  rfl
theorem outer_eq (cA : ClassId) (N h0 : Nat) : ∀ i, i ≤ N → Jvm.Free.Multi.outerC cA N h0 i = arrV cA N (fun j => if j < i then .ref (h0 + 1 + j) else .null) := by
  intro i
  induction i with
  | zero =>
    intro _
    show ({ cls := cA, slots := Array.replicate N Value.null, vm := .none } : Cell) = _
    rw [show (fun j => if j < 0 then Value.ref (h0 + 1 + j) else Value.null) = fun _ => Value.null from funext fun j => if_neg (Nat.not_lt_zero _), ← arrV_new]
  | succ i ih =>
    intro hi
    show (Jvm.Free.Multi.outerC cA N h0 i).setSlot i (.ref (h0 + 1 + i)) = _
    rw [ih (by omega), arrV_store]
    refine arrV_eq (fun j _ => ?_)
    unfold updV
    dsimp only
    by_cases hj : j = i
    · rw [if_pos hj, if_pos (by omega), hj]
    · rw [if_neg hj]
      by_cases h2 : j < i
      · rw [if_pos h2, if_pos (by omega)]
      · rw [if_neg h2, if_neg (by omega)]
section MULTI
variable {p : Program} {l : Launch} {e : Env} {R : Room} {s : State} {m : MethodId} {args : Array Value} {below : List Frame} {meth : Method} {c : Code} {H : Heap} {locs : List Loc} {cells slots : Nat} {Q : State → Prop}
variable {cc : ByteArray} {pc : Nat} {ls : Array Slot} {rest : List Value} {g : gG} {M : nM} {a : Nat} {nL : Nat} {own : String} {ret : Option FieldType}
theorem g_multi (C : Cx p s m args meth c cc nL own ret g) {index : Nat} (hcl : Cond.classLink own index "[[I" ∈ lw_all) (harr : Cond.arrayClass .int ∈ lw_all) (hM : nh g M H) (hS : va_S (Ag g) s.heap H locs)
    {n k : Int32} {N K : Nat} (hN : n.toNatClampNeg = N) (hK : k.toNatClampNeg = K) (hn : ¬ n < 0) (hk : ¬ k < 0) (hb : N ≤ 1000 ∧ K ≤ 1000) (hcells : cells + (1 + N) ≤ R.cells) (hslots : slots + (N + N * K) ≤ R.slots) (hdg : decode cc pc = .ok (.multianewarray index 2, 4)) (tag : Nat → Nat × Nat)
    (kk : ∀ (q : Nat) (H1 : Heap) (M1 : nM), (∀ j, j ≤ N → M (q + j) = none) → M1 q = some (tag 0, .inl (g.2.2.2 6, N, .inr (.inr (.inr (.inr (fun j => some (q + 1 + j))))))) → (∀ j, j < N → M1 (q + 1 + j) = some (tag (j + 1), .inl (g.2.2.2 0, K, .inl (fun _ => 0)))) → (∀ b x, M b = some x → M1 b = some x) → nh g M1 H1 → va_S (Ag g) s.heap H1 locs →
      W p l e R s m args below meth c H1 locs (cells + 1 + N) (slots + N + N * K) Q (F0 m (pc + 4) ls (.ref q :: rest))) : W p l e R s m args below meth c H locs cells slots Q (F0 m pc ls (.int k :: .int n :: rest)) := by
  intro T hT X
  subst hN hK
  have hov : (Cond.arrayOver (.array .int)).before args s = true := ov_moved C.G.2.1.alike (C.G.1.2.1 _ q2325)
  obtain ⟨vm₁, cA, comp, hW, hfA, hfC, hO, hI, X1, st⟩ := X.multianewarray2F C.1 C.2.2.2.1 (ty := .int) (index := index) (C.ts _ hcl) hov (C.ts _ harr) (g := F0 m pc ls (.int k :: .int n :: rest)) rfl (by rw [C.2.1]; exact hdg) rfl hn hk (by omega) (by show k.toNatClampNeg * 4 ≤ _; omega) (by omega) rfl rfl hcells hslots
  have hcA : cA = g.2.2.2 6 := Option.some.inj (hfA.symm.trans (C.G.K.2 6 _ rfl).2)
  have hcC : comp = g.2.2.2 0 := Option.some.inj (hfC.symm.trans (C.G.K.2 0 _ rfl).2)
  subst hcA hcC
  obtain ⟨f1, f2, -, -⟩ := Jvm.Free.Multi.fill_facts (T.setVm vm₁) (g.2.2.2 6) (g.2.2.2 0) n.toNatClampNeg k.toNatClampNeg (defaultValue .int) n.toNatClampNeg
  have fo := fun (a : Addr) (ha : a < T.heap.size) => Jvm.Free.Multi.fill_old (T.setVm vm₁) (g.2.2.2 6) (g.2.2.2 0) n.toNatClampNeg k.toNatClampNeg (defaultValue .int) (a := a) ha n.toNatClampNeg
  have fi := fun (j : Nat) (hj : j < n.toNatClampNeg) => Jvm.Free.Multi.fill_inner (T.setVm vm₁) (g.2.2.2 6) (g.2.2.2 0) n.toNatClampNeg k.toNatClampNeg (defaultValue .int) n.toNatClampNeg j hj
  have f1 : (Jvm.Free.Multi.fill (T.setVm vm₁) (g.2.2.2 6) (g.2.2.2 0) n.toNatClampNeg k.toNatClampNeg (defaultValue .int) n.toNatClampNeg).heap.size = T.heap.size + 1 + n.toNatClampNeg := f1
  have f2 : (Jvm.Free.Multi.fill (T.setVm vm₁) (g.2.2.2 6) (g.2.2.2 0) n.toNatClampNeg k.toNatClampNeg (defaultValue .int) n.toNatClampNeg).heap[T.heap.size]? = some (Jvm.Free.Multi.outerC (g.2.2.2 6) n.toNatClampNeg T.heap.size n.toNatClampNeg) := f2
  have fo : ∀ a : Nat, a < T.heap.size → (Jvm.Free.Multi.fill (T.setVm vm₁) (g.2.2.2 6) (g.2.2.2 0) n.toNatClampNeg k.toNatClampNeg (defaultValue .int) n.toNatClampNeg).heap[a]? = T.heap[a]? := fo
  have fi : ∀ j : Nat, j < n.toNatClampNeg → (Jvm.Free.Multi.fill (T.setVm vm₁) (g.2.2.2 6) (g.2.2.2 0) n.toNatClampNeg k.toNatClampNeg (defaultValue .int) n.toNatClampNeg).heap[T.heap.size + 1 + j]? = some (Jvm.Free.Multi.innerC (g.2.2.2 0) k.toNatClampNeg (defaultValue .int)) := fi
  generalize (Jvm.Free.Multi.fill (T.setVm vm₁) (g.2.2.2 6) (g.2.2.2 0) n.toNatClampNeg k.toNatClampNeg (defaultValue .int) n.toNatClampNeg) = T1 at X1 st f1 f2 fo fi
  subst hT
  have eO : Jvm.Free.Multi.outerC (g.2.2.2 6) n.toNatClampNeg T.heap.size n.toNatClampNeg = arrV (g.2.2.2 6) n.toNatClampNeg (fun j => va_rf (some (T.heap.size + 1 + j))) := by
    rw [outer_eq _ _ _ _ (Nat.le_refl _)]
    exact arrV_eq (fun j hj => if_pos hj)
  have eI : Jvm.Free.Multi.innerC (g.2.2.2 0) k.toNatClampNeg (defaultValue .int) = arrV (g.2.2.2 0) k.toNatClampNeg (fun _ => .int 0) := by
    unfold Jvm.Free.Multi.innerC
    rw [← arrV_new]; rfl
  rw [eO] at f2
  rw [eI] at fi
  have hno : ∀ j, j ≤ n.toNatClampNeg → M (T.heap.size + j) = none := fun j _ => hM.new (by omega)
  obtain ⟨t, a1, b1⟩ := kk T.heap.size T1.heap (fun b => if b = T.heap.size then some (tag 0, .inl (g.2.2.2 6, n.toNatClampNeg, .inr (.inr (.inr (.inr (fun j => some (T.heap.size + 1 + j))))))) else if T.heap.size < b ∧ b ≤ T.heap.size + n.toNatClampNeg then some (tag (b - T.heap.size), .inl (g.2.2.2 0, k.toNatClampNeg, .inl (fun _ => 0))) else M b) hno (if_pos rfl) (fun j hj => by
      rw [if_neg (by omega), if_pos (by omega), show T.heap.size + 1 + j - T.heap.size = j + 1 by omega]) (fun b x hb => by
      have hlt := hM.lt (t := x.1) (x := x.2) hb
      rw [if_neg (by omega), if_neg (by omega)]; exact hb) (fun b t x hb => by
      dsimp only at hb
      by_cases h1 : b = T.heap.size
      · rw [if_pos h1] at hb
        cases hb
        subst h1
        exact ⟨f2, C.G.A _ hS.1⟩
      · rw [if_neg h1] at hb
        by_cases h2 : T.heap.size < b ∧ b ≤ T.heap.size + n.toNatClampNeg
        · rw [if_pos h2] at hb
          cases hb
          refine ⟨?_, C.G.A _ (Nat.le_trans hS.1 (Nat.le_of_lt h2.1))⟩
          have := fi (b - T.heap.size - 1) (by omega)
          rw [show T.heap.size + 1 + (b - T.heap.size - 1) = b by omega] at this
          exact this
        · rw [if_neg h2] at hb
          exact ⟨(hM b t x hb).1.kept (fo b (hM.lt hb)), (hM b t x hb).2⟩) ⟨by rw [f1]; have := hS.1; omega, fun x h1 h2 => (fo x (Nat.lt_of_lt_of_le h1 hS.1)).trans (hS.2.1 x h1 h2), hS.2.2⟩ T1 rfl X1
  exact ⟨t, st t a1, b1⟩
end MULTI
