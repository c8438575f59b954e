set_option maxRecDepth 100000
/-! the model's world: numbers i, rows a, the order q of the past's rows, addresses adr -/
def mfs (adr : Nat → Nat) (i : Nat → Int32) : List Value := [.int (i 0), .ref (adr 1), .ref (adr 2), .ref (adr 3), .ref (adr 4), .ref (adr 5), .ref (adr 6), .int (i 7), .int (i 8), .ref (adr 7), .int (i 10), .int (i 11), .int (i 12), .int (i 13), .int (i 14), .int (i 15), .ref (adr 8), .ref (adr 9), .int (i 18), .int (i 19), .int (i 20), .int (i 21), .int (i 22), .int (i 23), .int (i 24)]
def mki (k : Nat) : Bool := k == 0 || k == 7 || (9 < k && k < 16) || (17 < k && k < 25)
def mint (k : Nat) : Bool := (0 < k && k < 6) || k == 7 || (9 < k && k < 18)
def mbyt (k : Nat) : Bool := k == 8 || k == 9
def mlen (k : Nat) : Nat := if k = 7 then 12 else if k = 8 then 500 else if k = 9 then 800 else 78
def mcell (g : gG) (adr : Nat → Nat) (i : Nat → Int32) (a : Nat → Nat → Int32) (q : Nat → Nat) (k : Nat) : va_E :=
  if k = 0 then .inr (5, mfs adr i) else if k = 6 then .inl (g.2.2.2 6, 8, .inr (.inr (.inr (.inr (fun j => some (adr (q j))))))) else if mbyt k = true then .inl (g.2.2.2 1, mlen k, .inl (a k)) else .inl (g.2.2.2 0, mlen k, .inl (a k))
def MA (g : gG) (M : nM) (adr : Nat → Nat) (i : Nat → Int32) (a : Nat → Nat → Int32) (q : Nat → Nat) : Prop := ∀ k, k < 18 → M (adr k) = some ((adr 0, k), mcell g adr i a q k)
def MS (g : gG) (F : nM) (adr : Nat → Nat) (i : Nat → Int32) (a : Nat → Nat → Int32) (q : Nat → Nat) (H : Heap) : Prop :=
  ∃ M : nM, nh g M H ∧ MA g M adr i a q ∧ (∀ b c, F b = some c → M b = some c) ∧ (∀ b t x, F b = some (t, x) → t.1 ≠ adr 0)
abbrev MSt : Type := (Nat → Int32) × (Nat → Nat → Int32) × (Nat → Nat)
theorem mcell_i {g : gG} {adr : Nat → Nat} {i : Nat → Int32} {a : Nat → Nat → Int32} {q : Nat → Nat} {k : Nat} (h : mint k = true) : mcell g adr i a q k = .inl (g.2.2.2 0, mlen k, .inl (a k)) := by
  have h0 : k ≠ 0 := fun e => by rw [e] at h; exact absurd h (by decide)
  have h6 : k ≠ 6 := fun e => by rw [e] at h; exact absurd h (by decide)
  have hb : ¬ mbyt k = true := fun e => by
    simp only [mbyt, Bool.or_eq_true, beq_iff_eq] at e
    rcases e with e | e <;> (rw [e] at h; exact absurd h (by decide))
  rw [mcell, if_neg h0, if_neg h6, if_neg hb]
theorem mcell_b {g : gG} {adr : Nat → Nat} {i : Nat → Int32} {a : Nat → Nat → Int32} {q : Nat → Nat} {k : Nat} (h : mbyt k = true) : mcell g adr i a q k = .inl (g.2.2.2 1, mlen k, .inl (a k)) := by
  have h0 : k ≠ 0 := fun e => by rw [e] at h; exact absurd h (by decide)
  have h6 : k ≠ 6 := fun e => by rw [e] at h; exact absurd h (by decide)
  rw [mcell, if_neg h0, if_neg h6, if_pos h]
theorem mint_lt {k : Nat} (h : mint k = true) : k < 18 := by
  simp only [mint, Bool.or_eq_true, Bool.and_eq_true, beq_iff_eq, decide_eq_true_eq] at h
  omega
theorem mbyt_lt {k : Nat} (h : mbyt k = true) : k < 18 := by
  simp only [mbyt, Bool.or_eq_true, beq_iff_eq] at h
  omega
theorem mki_lt {k : Nat} (h : mki k = true) : k < 25 := by
  simp only [mki, Bool.or_eq_true, Bool.and_eq_true, beq_iff_eq, decide_eq_true_eq] at h
  omega
theorem mfs_set {adr : Nat → Nat} {i : Nat → Int32} {k : Nat} {x : Int32} (h : mki k = true ∨ k = 8) : (mfs adr i).set k (.int x) = mfs adr (upd i k x) := by
  have hk : k < 25 := by
    rcases h with h | h
    · exact mki_lt h
    · omega
  have key : ∀ k, k < 25 → (mki k = true ∨ k = 8) → (mfs adr i).set k (.int x) = mfs adr (upd i k x) := by
    intro k hk h
    rcases k with _ | _ | _ | _ | _ | _ | _ | _ | _ | _ | _ | _ | _ | _ | _ | _ | _ | _ | _ | _ | _ | _ | _ | _ | _ | k
    all_goals first
      | (exfalso; omega)
      | (exfalso; revert h; decide)
      | rfl
  exact key k hk h
theorem MA.inj {g : gG} {M : nM} {adr : Nat → Nat} {i : Nat → Int32} {a : Nat → Nat → Int32} {q : Nat → Nat} (h : MA g M adr i a q) {j k : Nat} (hj : j < 18) (hk : k < 18) (e : adr j = adr k) : j = k := by
  have h1 := h j hj
  rw [e, h k hk] at h1
  injection h1 with h1
  injection h1 with h1
  injection h1 with _ h1
  exact h1.symm
/-- one cell of the model written -/
theorem MS.wr {g : gG} {F M : nM} {adr : Nat → Nat} {i i' : Nat → Int32} {a a' : Nat → Nat → Int32} {q q' : Nat → Nat} {H1 : Heap} {k : Nat} (hk : k < 18) (hA : MA g M adr i a q) (hF : ∀ b c, F b = some c → M b = some c) (hO : ∀ b t x, F b = some (t, x) → t.1 ≠ adr 0)
    (hM : nh g (nup M (adr k) ((adr 0, k), mcell g adr i' a' q' k)) H1) (ho : ∀ j, j < 18 → j ≠ k → mcell g adr i' a' q' j = mcell g adr i a q j) : MS g F adr i' a' q' H1 := by
  refine ⟨_, hM, fun j hj => ?_, fun b c e => ?_, hO⟩
  · by_cases e : j = k
    · subst e
      exact nup_self
    · rw [nup_ne (fun z => e (hA.inj hj hk z)), hA j hj, ho j hj e]
  · rw [nup_ne, hF b c e]
    intro z
    have h1 := hF b c e
    rw [z, hA k hk] at h1
    cases h1
    exact hO b _ _ e rfl
section MODEL
variable {p : Program} {l : Launch} {e : Env} {R : Room} {s : State} {m : MethodId} {args : Array Value} {below : List Frame} {meth : Method} {c : Code} {H : Heap} {locs : List Loc} {cells slots : Nat} {Q : State → Prop}
variable {cc : ByteArray} {pc : Nat} {ls : Array Slot} {rest : List Value} {g : gG} {nL : Nat} {own : String} {ret : Option FieldType} {F : nM} {adr : Nat → Nat} {i : Nat → Int32} {a : Nat → Nat → Int32} {q : Nat → Nat}
theorem m_get (C : Cx p s m args meth c cc nL own ret g) (hM : MS g F adr i a q H) (k : Nat) (hk : k < 25) {index : Nat} (hlink : Cond.fieldLink own index RX6 (TX6 k).2.1 (TX6 k).2.2.1 ∈ lw_all) (hsame : (TX6 k).1 = RX6) {v : Value} (hv : (mfs adr i)[k]? = some v) (hdg : decode cc pc = .ok (.getfield index, 3))
    (kk : W p l e R s m args below meth c H locs cells slots Q (F0 m (pc + 3) ls (v :: rest))) : W p l e R s m args below meth c H locs cells slots Q (F0 m pc ls (.ref (adr 0) :: rest)) := by
  obtain ⟨M, hM, hA, -, -⟩ := hM
  exact g_get C in_X6 hM (t := (adr 0, 0)) (ci := 5) (fs := mfs adr i) (hA 0 (by decide)) rfl k hk hlink (fun x h => by rw [hsame] at h; exact h) hv hdg kk
theorem m_put (C : Cx p s m args meth c cc nL own ret g) (hM : MS g F adr i a q H) (hS : va_S (Ag g) s.heap H locs) (k : Nat) (hk : mki k = true) {index : Nat} (hlink : Cond.fieldLink own index RX6 (TX6 k).2.1 (TX6 k).2.2.1 ∈ lw_all) (hsame : (TX6 k).1 = RX6) (hfin : (TX6 k).2.2.2 = false) (hty : tyX6 k = .int) {x : Int32} (hdg : decode cc pc = .ok (.putfield index, 3))
    (kk : ∀ (i' : Nat → Int32) (H1 : Heap) (locs1 : List Loc), i' = upd i k x → MS g F adr i' a q H1 → va_S (Ag g) s.heap H1 locs1 → W p l e R s m args below meth c H1 locs1 cells slots Q (F0 m (pc + 3) ls rest)) : W p l e R s m args below meth c H locs cells slots Q (F0 m pc ls (.int x :: .ref (adr 0) :: rest)) := by
  obtain ⟨M, hM, hA, hF, hO⟩ := hM
  refine g_put C in_X6 tyX6 tyX6_ok nmX6 hM hS (t := (adr 0, 0)) (ci := 5) (fs := mfs adr i) (hA 0 (by decide)) rfl k (mki_lt hk) hlink (fun x h => by rw [hsame] at h; exact h) hfin (by rw [hty]; rfl) (by rw [hty]; rfl) (mki_lt hk) hdg fun H1 locs1 hM hS => ?_
  rw [mfs_set (Or.inl hk)] at hM
  refine kk _ H1 locs1 rfl (MS.wr (k := 0) (by decide) hA hF hO hM (fun j _ hj => ?_)) hS
  unfold mcell
  rw [if_neg hj, if_neg hj]
theorem m_ald (C : Cx p s m args meth c cc nL own ret g) (hM : MS g F adr i a q H) {j : Nat} (hj : mint j = true) {x : Int32} (hin : vp_in x (mlen j)) (hdg : decode cc pc = .ok (.iaload, 1))
    (kk : W p l e R s m args below meth c H locs cells slots Q (F0 m (pc + 1) ls (.int (a j x.toNatClampNeg) :: rest))) : W p l e R s m args below meth c H locs cells slots Q (F0 m pc ls (.int x :: .ref (adr j) :: rest)) := by
  obtain ⟨M, hM, hA, -, -⟩ := hM
  exact g_iald C hM ((hA j (mint_lt hj)).trans (by rw [mcell_i hj])) hin hdg kk
theorem m_bld (C : Cx p s m args meth c cc nL own ret g) (hM : MS g F adr i a q H) {j : Nat} (hj : mbyt j = true) {x : Int32} (hin : vp_in x (mlen j)) (hdg : decode cc pc = .ok (.baload, 1))
    (kk : W p l e R s m args below meth c H locs cells slots Q (F0 m (pc + 1) ls (.int (a j x.toNatClampNeg) :: rest))) : W p l e R s m args below meth c H locs cells slots Q (F0 m pc ls (.int x :: .ref (adr j) :: rest)) := by
  obtain ⟨M, hM, hA, -, -⟩ := hM
  exact g_bald C hM ((hA j (mbyt_lt hj)).trans (by rw [mcell_b hj])) hin hdg kk
def updA (a : Nat → Nat → Int32) (j k : Nat) (x : Int32) : Nat → Nat → Int32 := fun r => if r = j then upd (a j) k x else a r
theorem updA_self {a : Nat → Nat → Int32} {j k : Nat} {x : Int32} : updA a j k x j = upd (a j) k x := if_pos rfl
theorem updA_ne {a : Nat → Nat → Int32} {j k r : Nat} {x : Int32} (h : r ≠ j) : updA a j k x r = a r := if_neg h
theorem mcell_o {g : gG} {adr : Nat → Nat} {i : Nat → Int32} {a a' : Nat → Nat → Int32} {q : Nat → Nat} {k : Nat} (h : a' k = a k) : mcell g adr i a' q k = mcell g adr i a q k := by unfold mcell; rw [h]
theorem m_ast (C : Cx p s m args meth c cc nL own ret g) (hM : MS g F adr i a q H) (hS : va_S (Ag g) s.heap H locs) {j : Nat} (hj : mint j = true) {x y : Int32} (hin : vp_in x (mlen j)) (hdg : decode cc pc = .ok (.iastore, 1))
    (kk : ∀ (a' : Nat → Nat → Int32) (H1 : Heap) (locs1 : List Loc), a' = updA a j x.toNatClampNeg y → MS g F adr i a' q H1 → va_S (Ag g) s.heap H1 locs1 → W p l e R s m args below meth c H1 locs1 cells slots Q (F0 m (pc + 1) ls rest)) : W p l e R s m args below meth c H locs cells slots Q (F0 m pc ls (.int y :: .int x :: .ref (adr j) :: rest)) := by
  obtain ⟨M, hM, hA, hF, hO⟩ := hM
  refine g_iast C hM hS ((hA j (mint_lt hj)).trans (by rw [mcell_i hj])) hin hdg fun H1 locs1 hM hS => ?_
  refine kk _ H1 locs1 rfl (MS.wr (k := j) (mint_lt hj) hA hF hO (by rw [mcell_i hj, updA_self]; exact hM) (fun r _ hr => mcell_o (updA_ne hr))) hS
theorem m_bst (C : Cx p s m args meth c cc nL own ret g) (hM : MS g F adr i a q H) (hS : va_S (Ag g) s.heap H locs) {j : Nat} (hj : mbyt j = true) {x y : Int32} (hin : vp_in x (mlen j)) (hdg : decode cc pc = .ok (.bastore, 1))
    (kk : ∀ (a' : Nat → Nat → Int32) (H1 : Heap) (locs1 : List Loc), a' = updA a j x.toNatClampNeg y.toInt8.toInt32 → MS g F adr i a' q H1 → va_S (Ag g) s.heap H1 locs1 → W p l e R s m args below meth c H1 locs1 cells slots Q (F0 m (pc + 1) ls rest)) : W p l e R s m args below meth c H locs cells slots Q (F0 m pc ls (.int y :: .int x :: .ref (adr j) :: rest)) := by
  obtain ⟨M, hM, hA, hF, hO⟩ := hM
  refine g_bast C hM hS ((hA j (mbyt_lt hj)).trans (by rw [mcell_b hj])) hin hdg fun H1 locs1 hM hS => ?_
  refine kk _ H1 locs1 rfl (MS.wr (k := j) (mbyt_lt hj) hA hF hO (by rw [mcell_b hj, updA_self]; exact hM) (fun r _ hr => mcell_o (updA_ne hr))) hS
theorem m_pld (C : Cx p s m args meth c cc nL own ret g) (hM : MS g F adr i a q H) {x : Int32} (hin : vp_in x 8) (hdg : decode cc pc = .ok (.aaload, 1))
    (kk : W p l e R s m args below meth c H locs cells slots Q (F0 m (pc + 1) ls (.ref (adr (q x.toNatClampNeg)) :: rest))) : W p l e R s m args below meth c H locs cells slots Q (F0 m pc ls (.int x :: .ref (adr 6) :: rest)) := by
  obtain ⟨M, hM, hA, -, -⟩ := hM
  exact g_aald C hM 6 (hA 6 (by decide)) rfl rfl hin hdg kk
end MODEL
