set_option maxRecDepth 100000
/-! PURE: the least and the most mile are those of the first and the last inn by miles -/
theorem le_tr32 {a b c : Int32} (h : a ≤ b) (h2 : b ≤ c) : a ≤ c := Int32.le_trans h h2
theorem mn_spec (f : Row) : ∀ n, (∀ y, y < n → f (3 + y) = 1 → mnF f n ≤ f (15 + y)) ∧ (mnF f n = 999 ∨ ∃ y, y < n ∧ f (3 + y) = 1 ∧ mnF f n = f (15 + y)) := by
  intro n
  induction n with
  | zero => exact ⟨fun y h => absurd h (Nat.not_lt_zero _), Or.inl rfl⟩
  | succ n ih =>
    obtain ⟨h1, h2⟩ := ih
    have e : mnF f (n + 1) = if f (3 + n) = 1 then (if f (15 + n) < mnF f n then f (15 + n) else mnF f n) else mnF f n := rfl
    rw [e]
    by_cases c : f (3 + n) = 1
    · rw [if_pos c]
      by_cases c2 : f (15 + n) < mnF f n
      · rw [if_pos c2]
        refine ⟨fun y hy hy1 => ?_, Or.inr ⟨n, Nat.lt_succ_self _, c, rfl⟩⟩
        by_cases ey : y = n
        · subst ey; exact Int32.le_refl _
        · exact le_tr32 (Int32.le_of_lt c2) (h1 y (by omega) hy1)
      · rw [if_neg c2]
        refine ⟨fun y hy hy1 => ?_, ?_⟩
        · by_cases ey : y = n
          · subst ey; exact Int32.not_lt.mp c2
          · exact h1 y (by omega) hy1
        · rcases h2 with h | ⟨y, hy, hy1, hy2⟩
          · exact Or.inl h
          · exact Or.inr ⟨y, by omega, hy1, hy2⟩
    · rw [if_neg c]
      refine ⟨fun y hy hy1 => ?_, ?_⟩
      · by_cases ey : y = n
        · subst ey; exact absurd hy1 c
        · exact h1 y (by omega) hy1
      · rcases h2 with h | ⟨y, hy, hy1, hy2⟩
        · exact Or.inl h
        · exact Or.inr ⟨y, by omega, hy1, hy2⟩
theorem mx_spec (f : Row) : ∀ n, (∀ y, y < n → f (3 + y) = 1 → f (15 + y) ≤ mxF f n) ∧ (mxF f n = 0 ∨ ∃ y, y < n ∧ f (3 + y) = 1 ∧ mxF f n = f (15 + y)) := by
  intro n
  induction n with
  | zero => exact ⟨fun y h => absurd h (Nat.not_lt_zero _), Or.inl rfl⟩
  | succ n ih =>
    obtain ⟨h1, h2⟩ := ih
    have e : mxF f (n + 1) = if f (3 + n) = 1 then (if mxF f n < f (15 + n) then f (15 + n) else mxF f n) else mxF f n := rfl
    rw [e]
    by_cases c : f (3 + n) = 1
    · rw [if_pos c]
      by_cases c2 : mxF f n < f (15 + n)
      · rw [if_pos c2]
        refine ⟨fun y hy hy1 => ?_, Or.inr ⟨n, Nat.lt_succ_self _, c, rfl⟩⟩
        by_cases ey : y = n
        · subst ey; exact Int32.le_refl _
        · exact le_tr32 (h1 y (by omega) hy1) (Int32.le_of_lt c2)
      · rw [if_neg c2]
        refine ⟨fun y hy hy1 => ?_, ?_⟩
        · by_cases ey : y = n
          · subst ey; exact Int32.not_lt.mp c2
          · exact h1 y (by omega) hy1
        · rcases h2 with h | ⟨y, hy, hy1, hy2⟩
          · exact Or.inl h
          · exact Or.inr ⟨y, by omega, hy1, hy2⟩
    · rw [if_neg c]
      refine ⟨fun y hy hy1 => ?_, ?_⟩
      · by_cases ey : y = n
        · subst ey; exact absurd hy1 c
        · exact h1 y (by omega) hy1
      · rcases h2 with h | ⟨y, hy, hy1, hy2⟩
        · exact Or.inl h
        · exact Or.inr ⟨y, by omega, hy1, hy2⟩
theorem le_anti32 {a b : Int32} (h : a ≤ b) (h2 : b ≤ a) : a = b := by
  rw [Int32.le_iff_toInt_le] at h h2
  exact Int32.toInt_inj.mp (by omega)
/-- the first inn by miles has the least mile, the last the most -/
theorem gap_list {f : Row} (hR : RowOK f) (hD : MD f) {x z : Nat} (hx : (bmL f 12)[0]? = some x) (hz : (bmL f 12)[(bmL f 12).length - 1]? = some z) : mnF f 12 = f (15 + x) ∧ mxF f 12 = f (15 + z) := by
  have hasc := bmL_asc hD 12 (Nat.le_refl _)
  obtain ⟨x1, x2⟩ := bmL_mem.mp (List.mem_of_getElem? hx)
  obtain ⟨z1, z2⟩ := bmL_mem.mp (List.mem_of_getElem? hz)
  obtain ⟨hx0, ex⟩ := List.getElem?_eq_some_iff.mp hx
  obtain ⟨hz0, ez⟩ := List.getElem?_eq_some_iff.mp hz
  have lo : ∀ y, y < 12 → f (3 + y) = 1 → f (15 + x) ≤ f (15 + y) := fun y hy hy1 => by
    obtain ⟨j, hj⟩ := List.getElem?_of_mem (bmL_mem.mpr ⟨hy, hy1⟩)
    obtain ⟨hjl, ej⟩ := List.getElem?_eq_some_iff.mp hj
    rcases Nat.eq_zero_or_pos j with e | hp
    · subst e
      rw [← ex, ← ej]; exact Int32.le_refl _
    · have := List.pairwise_iff_getElem.mp hasc 0 j hx0 hjl hp
      rw [ex, ej] at this
      exact Int32.le_of_lt this
  have hi : ∀ y, y < 12 → f (3 + y) = 1 → f (15 + y) ≤ f (15 + z) := fun y hy hy1 => by
    obtain ⟨j, hj⟩ := List.getElem?_of_mem (bmL_mem.mpr ⟨hy, hy1⟩)
    obtain ⟨hjl, ej⟩ := List.getElem?_eq_some_iff.mp hj
    by_cases e : j = (bmL f 12).length - 1
    · subst e
      rw [← ez, ← ej]; exact Int32.le_refl _
    · have := List.pairwise_iff_getElem.mp hasc j _ hjl hz0 (by omega)
      rw [ej, ez] at this
      exact Int32.le_of_lt this
  obtain ⟨a1, a2⟩ := mn_spec f 12
  obtain ⟨b1, b2⟩ := mx_spec f 12
  constructor
  · refine le_anti32 (a1 x x1 x2) ?_
    rcases a2 with e | ⟨y, hy, hy1, e⟩
    · rw [e]
      obtain ⟨⟨m, hm, em⟩, -⟩ := (hR x x1).2 x2
      rw [em]
      exact (nI_leI (b := 999) (by omega) (by omega)).mpr hm
    · rw [e]; exact lo y hy hy1
  · refine le_anti32 ?_ (b1 z z1 z2)
    rcases b2 with e | ⟨y, hy, hy1, e⟩
    · rw [e]
      obtain ⟨⟨m, hm, em⟩, -⟩ := (hR z z1).2 z2
      rw [em]
      exact nI_pos' (by omega)
    · rw [e]; exact hi y hy hy1
