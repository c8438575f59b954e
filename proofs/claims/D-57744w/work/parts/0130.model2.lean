set_option maxRecDepth 100000
theorem arrOverA_spec {args : Array Value} {first s : State} {o : Option Outcome} {idx : List Nat} {t : FieldType} (h : (Cond.arrayOver (.array t)).holds args first o s idx = true) :
    ∃ comp c k, s.vm.findClass (FieldType.array t).toString = some comp ∧ s.vm.classes[c]? = some k ∧ k.kind = .array comp (.array t) ∧ s.vm.findClass ("[" ++ (FieldType.array t).toString) = some c := by
  simp only [Cond.holds, Cond.value, beq_iff_eq] at h
  cases hc : s.vm.findClass (FieldType.array t).toString with
  | none => simp [hc] at h
  | some comp =>
    simp only [hc, Option.bind_some, Option.bind_eq_some_iff, Option.map_eq_some_iff] at h
    obtain ⟨c, hi, k, hk, hb⟩ := h
    obtain ⟨hlt, hp, -⟩ := Array.findIdx?_eq_some_iff_getElem.mp hi
    have hkk : s.vm.classes[c] = k := (Array.getElem?_eq_some_iff.mp hk).2
    rw [hkk] at hp
    cases hkind : k.kind with
    | array component ty =>
      rw [hkind] at hb hp
      simp at hb hp
      exact ⟨comp, c, k, rfl, hk, by rw [hkind, hp, hb.1], hb.2⟩
    | _ => rw [hkind] at hb; simp at hb
/-- rows of int rows: their class's component is the int rows' class -/
theorem Gd.ofRows {g : gG} {U : State} (h : Gd g U) : ∃ k, U.vm.classes[g.2.2.2 6]? = some k ∧ k.kind = .array (g.2.2.2 0) (.array .int) := by
  obtain ⟨comp, c, k, h1, h2, h3, h4⟩ := arrOverA_spec (t := .int) (h.1.2.1 _ q2325)
  have e6 : g.1.vm.findClass ("[" ++ (FieldType.array .int).toString) = some (g.2.2.2 6) := (h.1.1.2 6 _ rfl).2
  have e0 : g.1.vm.findClass ("[" ++ FieldType.int.toString) = some (g.2.2.2 0) := (h.1.1.2 0 _ rfl).2
  have hc : c = g.2.2.2 6 := Option.some.inj (h4.symm.trans e6)
  have hm : comp = g.2.2.2 0 := Option.some.inj (h1.symm.trans e0)
  subst hc hm
  obtain ⟨k', hk', he⟩ := h.2.1.alike.2.2 _ _ h2
  exact ⟨k', hk', by rw [he]; exact h3⟩
section MODEL2
variable {p : Program} {l : Launch} {e : Env} {R : Room} {s : State} {m : MethodId} {args : Array Value} {below : List Frame} {meth : Method} {c : Code} {H : Heap} {locs : List Loc} {cells slots : Nat} {Q : State → Prop}
variable {cc : ByteArray} {pc : Nat} {ls : Array Slot} {rest : List Value} {g : gG} {nL : Nat} {own : String} {ret : Option FieldType} {F : nM} {adr : Nat → Nat} {i : Nat → Int32} {a : Nat → Nat → Int32} {q : Nat → Nat}
/-- a row is put among the past's rows -/
theorem m_pst (C : Cx p s m args meth c cc nL own ret g) (hM : MS g F adr i a q H) (hS : va_S (Ag g) s.heap H locs) {x : Int32} {j : Nat} (hin : vp_in x 8) (hj : m78 j = true) (hdg : decode cc pc = .ok (.aastore, 1))
    (kk : ∀ (q' : Nat → Nat) (H1 : Heap) (locs1 : List Loc), q' = va_up q x.toNatClampNeg j → MS g F adr i a q' H1 → va_S (Ag g) s.heap H1 locs1 → W p l e R s m args below meth c H1 locs1 cells slots Q (F0 m (pc + 1) ls rest)) : W p l e R s m args below meth c H locs cells slots Q (F0 m pc ls (.ref (adr j) :: .int x :: .ref (adr 6) :: rest)) := by
  obtain ⟨M, hM, hA, hF, hO⟩ := hM
  have hlt : x.toNatClampNeg < 8 := Nat.not_le.mp fun q => hin (Or.inr q)
  have h0 : ¬ x < 0 := fun q => hin (Or.inl q)
  obtain ⟨h6, hA6⟩ := hM _ _ _ (hA 6 (by decide))
  have hi := m78_int hj
  obtain ⟨hj1, -⟩ := hM _ _ _ (hA j (mint_lt hi))
  rw [mcell_i hi] at hj1
  obtain ⟨k, k1, k2⟩ := C.G.ofRows
  have hI := (C.G.K.2 0 _ rfl).1 (mlen j) (fun z => .int (a j z))
  obtain ⟨-, kI, hkI, -⟩ := hI
  refine W.aast C.1 C.2.1 h6 (fun q h => by cases h) (fun h => by cases h) k1 k2 rfl hkI ⟨h0, by show _ < (arrV _ _ _).slots.size; rw [arrV_size]; exact hlt⟩ hj1 (fun q h => by cases h) hkI (va_asg _ _) rfl rfl hdg fun H1 e z oq => ?_
  refine kk _ H1 _ rfl (MS.wr (k := 6) (by decide) hA hF hO (hM.up ?_ hA6 oq) (fun r _ hr => ?_)) (hS.put z oq hA6)
  · show H1[adr 6]? = some (vp_cell _ _)
    rw [e]
    show some ((vp_cell (g.2.2.2 6) (8, .inr (.inr (.inr (.inr (fun j => some (adr (q j)))))))).setSlot x.toNatClampNeg (Value.ref (adr j))) = some (vp_cell (g.2.2.2 6) (8, .inr (.inr (.inr (.inr (fun r => some (adr (va_up q x.toNatClampNeg j r))))))))
    rw [vp_cell_q, vp_cell_q, arrV_store]
    congr 2
    funext r
    by_cases hr : r = x.toNatClampNeg
    · subst hr
      simp [updV, va_up, va_rf]
    · simp [updV, va_up, hr]
  · unfold mcell
    rw [if_neg hr, if_neg hr]
/-- isKept becomes true -/
theorem m_put1 (C : Cx p s m args meth c cc nL own ret g) (hM : MS g F adr i a q H) (hS : va_S (Ag g) s.heap H locs) {index : Nat} (hlink : Cond.fieldLink own index RX6 (TX6 8).2.1 (TX6 8).2.2.1 ∈ lw_all) (hdg : decode cc pc = .ok (.putfield index, 3))
    (kk : ∀ (i' : Nat → Int32) (H1 : Heap) (locs1 : List Loc), i' = upd i 8 1 → MS g F adr i' a q H1 → va_S (Ag g) s.heap H1 locs1 → W p l e R s m args below meth c H1 locs1 cells slots Q (F0 m (pc + 3) ls rest)) : W p l e R s m args below meth c H locs cells slots Q (F0 m pc ls (.int 1 :: .ref (adr 0) :: rest)) := by
  obtain ⟨M, hM, hA, hF, hO⟩ := hM
  refine g_put C in_X6 tyX6 tyX6_ok nmX6 hM hS (t := (adr 0, 0)) (ci := 5) (fs := mfs adr i) (hA 0 (by decide)) rfl 8 (by decide) hlink (fun x h => h) rfl rfl rfl (show 8 < 25 by decide) hdg fun H1 locs1 hM hS => ?_
  rw [mfs_set (Or.inr rfl)] at hM
  refine kk _ H1 locs1 rfl (MS.wr (k := 0) (by decide) hA hF hO hM (fun j _ hj => ?_)) hS
  unfold mcell
  rw [if_neg hj, if_neg hj]
end MODEL2
