set_option maxRecDepth 100000
/-! PURE: the state's invariant, kept by each operation that changes -/
def InvS (S : AM) : Prop := InvR S.1 ∧ (∀ k, S.2.1 = some k → InvR k) ∧ (∀ r ∈ S.2.2.1, InvR r) ∧ S.2.2.1.length ≤ 8
theorem push8_ok {l : List Row} {x : Row} (h : ∀ r ∈ l, InvR r) (hl : l.length ≤ 8) (hx : InvR x) : (∀ r ∈ push8 l x, InvR r) ∧ (push8 l x).length ≤ 8 := by
  unfold push8
  by_cases c : l.length = 8
  · rw [if_pos c]
    refine ⟨fun r hr => ?_, by rw [List.length_append, List.length_tail]; simp; omega⟩
    rcases List.mem_append.mp hr with hr | hr
    · exact h r (List.mem_of_mem_tail hr)
    · rw [List.mem_singleton.mp hr]; exact hx
  · rw [if_neg c]
    refine ⟨fun r hr => ?_, by rw [List.length_append]; simp; omega⟩
    rcases List.mem_append.mp hr with hr | hr
    · exact h r hr
    · rw [List.mem_singleton.mp hr]; exact hx
theorem InvS.chg {S : AM} (h : InvS S) {f : Row} (hf : InvR f) : InvS (S.chg f) := by
  obtain ⟨h1, h2, h3, h4⟩ := h
  obtain ⟨g1, g2⟩ := push8_ok h3 h4 h1
  exact ⟨hf, h2, g1, g2⟩
theorem inv_mend {f : Row} (h : InvR f) {c : Nat} (h1 : 51 ≤ c) (h2 : c < 78) (hs : stoF f c = true) : InvR (upd f c (rebF f c)) := by
  obtain ⟨-, g1, g2, ⟨n, hn, en⟩, g4⟩ := inv_reb h.1
  by_cases e1 : c = 51
  · subst e1; exact inv_ptr h (Or.inl (Or.inl rfl)) g1
  by_cases e2 : c = 52
  · subst e2; exact inv_ptr h (Or.inl (Or.inr rfl)) g2
  by_cases e3 : c = 53
  · subst e3; rw [en]; exact inv_cnt h hn
  by_cases e4 : c < 66
  · obtain ⟨k, rfl⟩ : ∃ k, c = 54 + k := ⟨c - 54, by omega⟩
    rw [sto_54 (by omega), decide_eq_true_eq] at hs
    exact inv_ptr h (Or.inr ⟨k, by omega, hs, Or.inl rfl⟩) (g4 k (by omega)).1
  · obtain ⟨k, rfl⟩ : ∃ k, c = 66 + k := ⟨c - 66, by omega⟩
    rw [sto_66 (by omega), decide_eq_true_eq] at hs
    exact inv_ptr h (Or.inr ⟨k, by omega, hs, Or.inr rfl⟩) (g4 k (by omega)).2.1
theorem io_load {S : AM} (h : InvS S) : InvS (opLoad S).2.2 := by
  unfold opLoad
  split
  · exact h.chg (prs_inv (by assumption))
  · exact h
theorem io_add {S : AM} (h : InvS S) (m : Int32) : InvS (opAdd S m).2.2 := by
  unfold opAdd
  split
  · rename_i c
    split
    · rename_i c2
      obtain ⟨k, hk, ek⟩ := nI_of2 (M := 999) (n := 999) rfl (Int32.not_lt.mpr c.1.1) c.1.2
      have hle := (empR_le S.1 12 0).2
      rw [ek] at c ⊢
      exact h.chg (inv_reb (rk_bld h.1.1 (by have := c2.1; omega) hk c.2))
    · exact h
  · exact h
theorem io_rem {S : AM} (h : InvS S) (x : Int32) : InvS (opRem S x).2.2 := by
  unfold opRem
  split
  · rename_i c
    split
    · obtain ⟨k, hk, ek⟩ := hasI_pl c
      have e : x.toNatClampNeg = k := by rw [ek, nI_clamp (by omega)]
      rw [e]
      exact h.chg (inv_reb (rk_rem h.1.1 hk))
    · exact h
  · exact h
theorem io_opn {S : AM} (h : InvS S) (x : Int32) {o : Int32} (ho : o = 0 ∨ o = 1) : InvS (opOpn S x o).2.2 := by
  unfold opOpn
  split
  · rename_i c
    obtain ⟨k, hk, ek⟩ := hasI_pl c
    have e : x.toNatClampNeg = k := by rw [ek, nI_clamp (by omega)]
    rw [e]
    exact h.chg (inv_opn h.1 hk ho)
  · exact h
theorem io_rng {S : AM} (h : InvS S) (x : Int32) : InvS (opRng S x).2.2 := by
  unfold opRng
  split
  · rename_i c
    obtain ⟨k, hk, ek⟩ := nI_of2 (M := 999) (n := 999) rfl (Int32.not_lt.mpr (Int32.le_trans (by decide) c.1)) c.2
    rw [ek]
    exact h.chg (inv_rng h.1 hk)
  · exact h
theorem io_ptr {S : AM} (h : InvS S) {row : Nat} (hrow : row = 54 ∨ row = 66) (x y : Int32) : InvS (opPtr S row x y).2.2 := by
  unfold opPtr
  split
  · rename_i c
    split
    · rename_i c2
      obtain ⟨k, hk, ek⟩ := hasI_pl c
      rw [ek, hasI_n hk, decide_eq_true_eq] at c
      have e : x.toNatClampNeg = k := by rw [ek, nI_clamp (by omega)]
      rw [e]
      refine h.chg (inv_ptr h.1 (Or.inr ⟨k, hk, c, ?_⟩) (isPtr_pt c2))
      rcases hrow with e | e <;> subst e
      · exact Or.inl rfl
      · exact Or.inr rfl
    · exact h
  · exact h
theorem io_hd {S : AM} (h : InvS S) {c : Nat} (hc : c = 51 ∨ c = 52) (x : Int32) : InvS (opHd S c x).2.2 := by
  unfold opHd
  split
  · exact h.chg (inv_ptr h.1 (Or.inl hc) (isPtr_pt (by assumption)))
  · exact h
theorem io_cnt {S : AM} (h : InvS S) (x : Int32) : InvS (opCnt S x).2.2 := by
  unfold opCnt
  split
  · rename_i c
    obtain ⟨k, hk, ek⟩ := nI_of2 (M := 12) (n := 12) rfl (Int32.not_lt.mpr c.1) c.2
    rw [ek]
    exact h.chg (inv_cnt h.1 hk)
  · exact h
theorem io_rep {S : AM} (h : InvS S) : InvS (opRep S).2.2 := by
  unfold opRep
  split
  · exact h
  · rename_i c
    rcases fau_spec h.1.1.1 h.1.1.2.1 with ⟨e, -⟩ | ⟨d, d1, d2, e, d3, -, -⟩
    · exact absurd e c
    · rw [e, nI_clamp (by omega)]
      exact h.chg (inv_mend h.1 d1 d2 d3)
theorem io_reb {S : AM} (h : InvS S) : InvS (opReb S).2.2 := h.chg (inv_reb h.1.1)
theorem io_let {S : AM} (h : InvS S) (x y : Int32) : InvS (opLet S x y).2.2 := by
  unfold opLet
  split
  · rename_i c
    split
    · rename_i c2
      split
      · rename_i c3
        obtain ⟨k, hk, ek⟩ := hasI_pl c
        have e : x.toNatClampNeg = k := by rw [ek, nI_clamp (by omega)]
        rw [ek, hasI_n hk, decide_eq_true_eq] at c
        obtain ⟨-, -, l, hl, el⟩ := (h.1.1.1 k hk).2 c
        obtain ⟨m, hm, em⟩ := nI_of2 (M := 99) (n := 99) rfl (Int32.not_lt.mpr (Int32.le_trans (by decide) c2.1)) c2.2
        rw [e, el, em, nI_add] at c3 ⊢
        have : l + m ≤ 99 := (nI_leI (b := 99) (by omega) (by omega)).mp c3
        exact h.chg (inv_let h.1 hk this)
      · exact h
    · exact h
  · exact h
theorem io_snd {S : AM} (h : InvS S) (x y : Int32) : InvS (opSnd S x y).2.2 := by
  unfold opSnd
  split
  · rename_i c
    split
    · exact h
    · rename_i c2
      split
      · rename_i c3
        exact h.chg (inv_snd h.1 c.1 c.2 c2 c3.2.2)
      · exact h
  · exact h
theorem io_res {S : AM} (h : InvS S) : InvS (opRes S).2.2 := by
  unfold opRes
  cases hk : S.2.1 with
  | none => exact h
  | some k => exact h.chg (h.2.1 k hk)
theorem io_undo {S : AM} (h : InvS S) : InvS (opUndo S).2.2 := by
  unfold opUndo
  split
  · exact h
  · rename_i c
    obtain ⟨h1, h2, h3, h4⟩ := h
    refine ⟨?_, h2, fun r hr => h3 r (List.dropLast_subset _ hr), by show S.2.2.1.dropLast.length ≤ 8; rw [List.length_dropLast]; omega⟩
    show InvR (S.2.2.1.getLastD S.1)
    obtain ⟨a, t, e⟩ := List.exists_cons_of_ne_nil c
    rw [e, List.getLastD_cons]
    rw [e] at h3
    cases t with
    | nil => exact h3 a List.mem_cons_self
    | cons b u =>
      rw [List.getLastD_cons]
      have : (b :: u).getLastD b ∈ (b :: u) := by
        rw [List.getLastD_eq_getLast?, List.getLast?_cons]
        exact List.mem_of_getLast? (by rw [List.getLast?_cons]; rfl)
      rw [List.getLastD_cons] at this
      exact h3 _ (List.mem_cons_of_mem _ this)
theorem io_save {S : AM} (h : InvS S) : InvS (opSave S).2.2 := ⟨h.1, fun k e => (Option.some.inj e) ▸ h.1, h.2.2.1, h.2.2.2⟩
theorem io_snw {S : AM} (h : InvS S) (x y : Int32) : InvS (opSnw S x y).2.2 := by
  unfold opSnw
  split
  · exact h.chg (inv_snw h.1 x y)
  · exact h
theorem io_thw {S : AM} (h : InvS S) : InvS (opThw S).2.2 := h.chg (inv_thw h.1)
theorem io_app {S : AM} (h : InvS S) (v0 v1 v2 v3 v4 : Int32) : InvS (opApp S v0 v1 v2 v3 v4).2.2 := by
  unfold opApp
  split
  · exact h
  · exact h
theorem io_tru {S : AM} (h : InvS S) (v : Int32) : InvS (opTru S v).2.2 := by
  unfold opTru
  split
  · exact h
  · exact h
theorem invS_S0 : InvS S0 := ⟨inv_S0, fun k e => absurd e (by simp [S0]), fun r hr => absurd hr (by simp [S0]), Nat.zero_le _⟩
