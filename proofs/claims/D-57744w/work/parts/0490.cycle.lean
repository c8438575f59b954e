set_option maxRecDepth 100000
/-! PURE: the chain's end, told by its last place -/
theorem chn_end {f : Row} : ∀ {l : List Nat} {x e : Int32}, Chn f x l e → ∀ z, l.getLast? = some z → e = f (54 + z) := by
  intro l
  induction l with
  | nil => intro x e _ z h; simp at h
  | cons y t ih =>
    intro x e h z hz
    obtain ⟨h1, h2, h3, h4⟩ := h
    cases t with
    | nil =>
      have : y = z := by simpa using hz
      subst this
      exact h4.symm
    | cons w u =>
      refine ih h4 z ?_
      rw [List.getLast?_cons_cons] at hz
      exact hz
theorem cyc_iff (f : Row) : hasI f (chF f).2 = match (chF f).1.getLast? with
    | none => false
    | some z => hasI f (f (54 + z)) := by
  cases h : (chF f).1.getLast? with
  | some z =>
    show hasI f (chF f).2 = hasI f (f (54 + z))
    rw [chn_end (chF_chn f) z h]
  | none =>
    have hnil : (chF f).1 = [] := List.getLast?_eq_none_iff.mp h
    have e : chF f = if hasI f (f 51) = true ∧ (f 51).toNatClampNeg ∉ ([] : List Nat) then chG f 12 ([] ++ [(f 51).toNatClampNeg]) (f (54 + (f 51).toNatClampNeg)) else ([], f 51) := rfl
    by_cases c : hasI f (f 51) = true
    · rw [if_pos ⟨c, by simp⟩] at e
      obtain ⟨t, h1, -⟩ := chG_chn f 12 ([] ++ [(f 51).toNatClampNeg]) (f (54 + (f 51).toNatClampNeg))
      rw [← e, hnil] at h1
      simp at h1
    · rw [if_neg (fun z => c z.1)] at e
      rw [e]
      exact Bool.eq_false_iff.mpr c
