set_option maxRecDepth 100000
/-! PURE: the inns by ascending miles (what the class's byMiles lays), against behN and rebF -/
def bmI (f : Row) (p : Nat) : List Nat → List Nat
  | [] => [p]
  | y :: t => if f (15 + p) < f (15 + y) then p :: y :: t else y :: bmI f p t
def bmL (f : Row) : Nat → List Nat
  | 0 => []
  | k + 1 => if f (3 + k) = 1 then bmI f k (bmL f k) else bmL f k
def elemI (l : List Nat) (k : Nat) : Int32 := match l[k]? with
  | some y => nI y
  | none => -1
/-- the miles of inns differ -/
def MD (f : Row) : Prop := ∀ x y, x < 12 → y < 12 → f (3 + x) = 1 → f (3 + y) = 1 → f (15 + x) = f (15 + y) → x = y
abbrev Asc (f : Row) (l : List Nat) : Prop := l.Pairwise (fun y z => f (15 + y) < f (15 + z))
theorem lt_tr {a b c : Int32} (h : a < b) (h2 : b < c) : a < c := by
  rw [Int32.lt_iff_toInt_lt] at h h2 ⊢
  omega
theorem lt_or_eq {a b : Int32} (h : ¬ b < a) : a = b ∨ a < b := by
  by_cases e : a = b
  · exact Or.inl e
  · refine Or.inr ?_
    rw [Int32.lt_iff_toInt_lt] at h ⊢
    have : a.toInt ≠ b.toInt := fun z => e (Int32.toInt_inj.mp z)
    omega
theorem bmI_mem {f : Row} {p y : Nat} : ∀ {l : List Nat}, y ∈ bmI f p l ↔ y = p ∨ y ∈ l := by
  intro l
  induction l with
  | nil => simp [bmI]
  | cons z t ih =>
    unfold bmI
    split
    · simp
    · rw [List.mem_cons, ih, List.mem_cons]
      constructor
      · rintro (h | h | h)
        · exact Or.inr (Or.inl h)
        · exact Or.inl h
        · exact Or.inr (Or.inr h)
      · rintro (h | h | h)
        · exact Or.inr (Or.inl h)
        · exact Or.inl h
        · exact Or.inr (Or.inr h)
theorem bmI_asc {f : Row} {p : Nat} : ∀ {l : List Nat}, Asc f l → (∀ y ∈ l, f (15 + y) ≠ f (15 + p)) → Asc f (bmI f p l) := by
  intro l
  induction l with
  | nil => intro _ _; exact List.pairwise_singleton _ _
  | cons z t ih =>
    intro h hn
    obtain ⟨h1, h2⟩ := List.pairwise_cons.mp h
    unfold bmI
    split
    · rename_i hlt
      refine List.pairwise_cons.mpr ⟨fun y hy => ?_, h⟩
      rcases List.mem_cons.mp hy with e | hy
      · rw [e]; exact hlt
      · exact lt_tr hlt (h1 y hy)
    · rename_i hlt
      refine List.pairwise_cons.mpr ⟨fun y hy => ?_, ih h2 (fun y hy => hn y (List.mem_cons_of_mem _ hy))⟩
      rcases bmI_mem.mp hy with e | hy
      · rw [e]
        exact (lt_or_eq hlt).resolve_left (hn z List.mem_cons_self)
      · exact h1 y hy
theorem bmI_len {f : Row} {p : Nat} : ∀ {l : List Nat}, (bmI f p l).length = l.length + 1 := by
  intro l
  induction l with
  | nil => rfl
  | cons z t ih =>
    unfold bmI
    split
    · rfl
    · rw [List.length_cons, ih, List.length_cons]
theorem bmL_mem {f : Row} {y : Nat} : ∀ {n : Nat}, y ∈ bmL f n ↔ y < n ∧ f (3 + y) = 1 := by
  intro n
  induction n with
  | zero => simp [bmL]
  | succ n ih =>
    unfold bmL
    split
    · rename_i h
      rw [bmI_mem, ih]
      constructor
      · rintro (e | ⟨h1, h2⟩)
        · subst e; exact ⟨Nat.lt_succ_self _, h⟩
        · exact ⟨by omega, h2⟩
      · rintro ⟨h1, h2⟩
        by_cases e : y = n
        · exact Or.inl e
        · exact Or.inr ⟨by omega, h2⟩
    · rename_i h
      rw [ih]
      constructor
      · rintro ⟨h1, h2⟩; exact ⟨by omega, h2⟩
      · rintro ⟨h1, h2⟩
        refine ⟨?_, h2⟩
        have : y ≠ n := fun e => h (e ▸ h2)
        omega
theorem bmL_asc {f : Row} (hD : MD f) : ∀ n, n ≤ 12 → Asc f (bmL f n) := by
  intro n
  induction n with
  | zero => intro _; exact List.Pairwise.nil
  | succ n ih =>
    intro hn
    unfold bmL
    split
    · rename_i h
      refine bmI_asc (ih (by omega)) (fun y hy e => ?_)
      obtain ⟨h1, h2⟩ := bmL_mem.mp hy
      have := hD y n (by omega) (by omega) h2 h e
      omega
    · exact ih (by omega)
theorem bmL_len {f : Row} (hR : RowOK f) : ∀ n, n ≤ 12 → innsN f n = nI (bmL f n).length := by
  intro n
  induction n with
  | zero => intro _; rfl
  | succ n ih =>
    intro hn
    show innsN f n + f (3 + n) = _
    rw [ih (by omega), show bmL f (n + 1) = if f (3 + n) = 1 then bmI f n (bmL f n) else bmL f n from rfl]
    by_cases h : f (3 + n) = 1
    · rw [if_pos h, h, bmI_len, nI_1]
    · rw [if_neg h, (hR n (by omega)).1.resolve_right h]
      exact Int32.add_zero _
/-- what behN answers -/
theorem beh_spec (f : Row) (m : Int32) : ∀ n, n ≤ 12 → (behN f m n = -1 ∧ ∀ y, y < n → f (3 + y) = 1 → ¬ m < f (15 + y)) ∨ ∃ y, y < n ∧ behN f m n = nI y ∧ f (3 + y) = 1 ∧ m < f (15 + y) ∧ ∀ z, z < n → f (3 + z) = 1 → m < f (15 + z) → ¬ f (15 + z) < f (15 + y) := by
  intro n
  induction n with
  | zero => intro _; exact Or.inl ⟨rfl, fun y h => absurd h (Nat.not_lt_zero _)⟩
  | succ n ih =>
    intro hn
    have e : behN f m (n + 1) = if f (3 + n) = 1 ∧ m < f (15 + n) ∧ (behN f m n = -1 ∨ f (15 + n) < f (15 + (behN f m n).toNatClampNeg)) then nI n else behN f m n := rfl
    rcases ih (by omega) with ⟨h1, h2⟩ | ⟨y, hy, h1, h2, h3, h4⟩
    · by_cases c : f (3 + n) = 1 ∧ m < f (15 + n)
      · rw [e, if_pos ⟨c.1, c.2, Or.inl h1⟩]
        refine Or.inr ⟨n, Nat.lt_succ_self _, rfl, c.1, c.2, fun z hz h5 h6 => ?_⟩
        by_cases e2 : z = n
        · subst e2; exact Int32.lt_irrefl
        · exact absurd h6 (h2 z (by omega) h5)
      · rw [e, if_neg (fun z => c ⟨z.1, z.2.1⟩)]
        refine Or.inl ⟨h1, fun y hy h5 => ?_⟩
        by_cases e2 : y = n
        · subst e2; exact fun h6 => c ⟨h5, h6⟩
        · exact h2 y (by omega) h5
    · have hc : (behN f m n).toNatClampNeg = y := by rw [h1, nI_clamp (by omega)]
      have hne : behN f m n ≠ -1 := by
        rw [h1]
        have : ∀ y, y < 12 → nI y ≠ -1 := by decide
        exact this y (by omega)
      rw [hc] at e
      by_cases c : f (3 + n) = 1 ∧ m < f (15 + n) ∧ f (15 + n) < f (15 + y)
      · rw [e, if_pos ⟨c.1, c.2.1, Or.inr c.2.2⟩]
        refine Or.inr ⟨n, Nat.lt_succ_self _, rfl, c.1, c.2.1, fun z hz h5 h6 h7 => ?_⟩
        by_cases e2 : z = n
        · subst e2; exact Int32.lt_irrefl h7
        · exact h4 z (by omega) h5 h6 (lt_tr h7 c.2.2)
      · rw [e, if_neg (fun z => c ⟨z.1, z.2.1, z.2.2.resolve_left hne⟩)]
        refine Or.inr ⟨y, by omega, h1, h2, h3, fun z hz h5 h6 h7 => ?_⟩
        by_cases e2 : z = n
        · subst e2; exact c ⟨h5, h6, h7⟩
        · exact h4 z (by omega) h5 h6 h7
/-- in an ascending list of all inns: behind the first k -/
theorem beh_list {f : Row} (hD : MD f) {m : Int32} {k : Nat} (h1 : ∀ j y, (bmL f 12)[j]? = some y → j < k → ¬ m < f (15 + y)) (h2 : ∀ j y, (bmL f 12)[j]? = some y → k ≤ j → m < f (15 + y)) : behN f m 12 = elemI (bmL f 12) k := by
  have hasc := bmL_asc hD 12 (Nat.le_refl _)
  unfold elemI
  rcases beh_spec f m 12 (Nat.le_refl _) with ⟨e, hno⟩ | ⟨y, hy, e, h3, h4, h5⟩
  · rw [e]
    cases hk : (bmL f 12)[k]? with
    | none => rfl
    | some z =>
      obtain ⟨q1, q2⟩ := bmL_mem.mp (List.mem_of_getElem? hk)
      exact absurd (h2 k z hk (Nat.le_refl _)) (hno z q1 q2)
  · have hmem : y ∈ bmL f 12 := bmL_mem.mpr ⟨hy, h3⟩
    obtain ⟨j, hj⟩ := List.getElem?_of_mem hmem
    have hkj : k ≤ j := by
      rcases Nat.lt_or_ge j k with hlt | hge
      · exact absurd h4 (h1 j y hj hlt)
      · exact hge
    rcases Nat.lt_or_ge k j with hlt | hge
    · have hjl := (List.getElem?_eq_some_iff.mp hj).1
      have hkl : k < (bmL f 12).length := by omega
      have hz := List.getElem?_eq_getElem hkl
      obtain ⟨q1, q2⟩ := bmL_mem.mp (List.getElem_mem hkl)
      have h6 := List.pairwise_iff_getElem.mp hasc k j hkl hjl hlt
      rw [(List.getElem?_eq_some_iff.mp hj).2] at h6
      exact absurd h6 (h5 _ q1 q2 (h2 k _ hz (Nat.le_refl _)))
    · have : j = k := by omega
      subst this
      rw [hj, e]
theorem beh_first {f : Row} (hR : RowOK f) (hD : MD f) : behN f (-1) 12 = elemI (bmL f 12) 0 := by
  refine beh_list hD (fun j y _ h => absurd h (Nat.not_lt_zero _)) (fun j y h _ => ?_)
  obtain ⟨q1, q2⟩ := bmL_mem.mp (List.mem_of_getElem? h)
  obtain ⟨⟨m, hm, em⟩, -⟩ := (hR y q1).2 q2
  rw [em]
  have : ∀ m, m < 1000 → (-1 : Int32) < nI m := by decide
  exact this m (by omega)
theorem beh_next {f : Row} (hD : MD f) {k y : Nat} (hk : (bmL f 12)[k]? = some y) : behN f (f (15 + y)) 12 = elemI (bmL f 12) (k + 1) := by
  have hasc := bmL_asc hD 12 (Nat.le_refl _)
  obtain ⟨hkl, ek⟩ := List.getElem?_eq_some_iff.mp hk
  refine beh_list hD (fun j z h hj h6 => ?_) (fun j z h hj => ?_)
  · obtain ⟨hjl, ej⟩ := List.getElem?_eq_some_iff.mp h
    rcases Nat.lt_or_ge j k with hlt | hge
    · have := List.pairwise_iff_getElem.mp hasc j k hjl hkl hlt
      rw [ek, ej] at this
      exact Int32.lt_irrefl (lt_tr this h6)
    · have : j = k := by omega
      subst this
      rw [← ek, ← ej] at h6
      exact Int32.lt_irrefl h6
  · obtain ⟨hjl, ej⟩ := List.getElem?_eq_some_iff.mp h
    have := List.pairwise_iff_getElem.mp hasc k j hkl hjl (by omega)
    rw [ek, ej] at this
    exact this
theorem nx_list {f : Row} (hD : MD f) {k y : Nat} (hk : (bmL f 12)[k]? = some y) : nxF f y = elemI (bmL f 12) (k + 1) := by
  unfold nxF
  rw [if_pos (bmL_mem.mp (List.mem_of_getElem? hk)).2]
  exact beh_next hD hk
/-- the road as it should be, told by the list of the inns by miles -/
theorem reb_list {f : Row} (hR : RowOK f) (hD : MD f) : rebF f 51 = elemI (bmL f 12) 0 ∧ rebF f 52 = elemI (bmL f 12) 1 ∧ rebF f 53 = nI (bmL f 12).length ∧
    ∀ k y, (bmL f 12)[k]? = some y → rebF f (54 + y) = elemI (bmL f 12) (k + 1) ∧ rebF f (66 + y) = elemI (bmL f 12) (k + 2) := by
  have hne : ∀ y, y < 12 → nI y ≠ -1 := by decide
  have step : ∀ k, (if elemI (bmL f 12) k = -1 then -1 else nxF f (elemI (bmL f 12) k).toNatClampNeg) = elemI (bmL f 12) (k + 1) := by
    intro k
    cases hk : (bmL f 12)[k]? with
    | none =>
      have e1 : elemI (bmL f 12) k = -1 := by unfold elemI; rw [hk]
      have e2 : elemI (bmL f 12) (k + 1) = -1 := by
        unfold elemI
        rw [List.getElem?_eq_none (by have := List.getElem?_eq_none_iff.mp hk; omega)]
      rw [e1, e2, if_pos rfl]
    | some y =>
      have e1 : elemI (bmL f 12) k = nI y := by unfold elemI; rw [hk]
      have hy := (bmL_mem.mp (List.mem_of_getElem? hk)).1
      rw [e1, if_neg (hne y hy), nI_clamp (by omega), nx_list hD hk]
  have h51 : rebF f 51 = elemI (bmL f 12) 0 := beh_first hR hD
  refine ⟨h51, ?_, ?_, fun k y hk => ?_⟩
  · have : rebF f 52 = if behN f (-1) 12 = -1 then -1 else nxF f (behN f (-1) 12).toNatClampNeg := rfl
    rw [this, beh_first hR hD]
    exact step 0
  · exact bmL_len hR 12 (Nat.le_refl _)
  · have hy := (bmL_mem.mp (List.mem_of_getElem? hk)).1
    have e54 : rebF f (54 + y) = nxF f y := by
      unfold rebF
      rw [if_neg (by omega), if_neg (by omega), if_neg (by omega), if_pos (by omega), show 54 + y - 54 = y by omega]
    have e66 : rebF f (66 + y) = if nxF f y = -1 then -1 else nxF f (nxF f y).toNatClampNeg := by
      unfold rebF
      rw [if_neg (by omega), if_neg (by omega), if_neg (by omega), if_neg (by omega), if_pos (by omega), show 66 + y - 66 = y by omega]
    rw [e54, e66, nx_list hD hk]
    exact ⟨rfl, step (k + 1)⟩
