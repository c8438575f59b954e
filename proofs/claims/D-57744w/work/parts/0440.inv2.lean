set_option maxRecDepth 100000
/-! PURE: the operations keep the row's invariant -/
theorem inv_rng {f : Row} (h : InvR f) {r : Nat} (hr : r ≤ 999) : InvR (upd f 0 (nI r)) := by
  obtain ⟨⟨h1, h2, h3⟩, h4⟩ := h
  have u : ∀ x, x ≠ 0 → upd f 0 (nI r) x = f x := fun x hx => upd_n (f := f) hx
  refine ⟨⟨fun k hk => ?_, fun x y hx hy => ?_, r, hr, upd_s (f := f)⟩, h4.congr (fun x hx _ => u x (by omega)) (fun k _ => u _ (by omega))⟩
  · rw [u _ (by omega), u _ (by omega), u _ (by omega), u _ (by omega)]; exact h1 k hk
  · rw [u _ (by omega), u _ (by omega), u _ (by omega), u _ (by omega)]; exact h2 x y hx hy
theorem inv_opn {f : Row} (h : InvR f) {k : Nat} {v : Int32} (hk : k < 12) (hv : v = 0 ∨ v = 1) : InvR (upd f (27 + k) v) := by
  obtain ⟨⟨h1, h2, h3⟩, h4⟩ := h
  have u : ∀ x, x ≠ 27 + k → upd f (27 + k) v x = f x := fun x hx => upd_n (f := f) hx
  refine ⟨⟨fun j hj => ?_, fun x y hx hy => ?_, by rw [u 0 (by omega)]; exact h3⟩, h4.congr (fun x hx _ => u x (by omega)) (fun k _ => u _ (by omega))⟩
  · rw [u (3 + j) (by omega), u (15 + j) (by omega), u (39 + j) (by omega)]
    obtain ⟨g1, g2⟩ := h1 j hj
    refine ⟨g1, fun e => ⟨(g2 e).1, ?_, (g2 e).2.2⟩⟩
    by_cases ej : j = k
    · subst ej
      rw [upd_s (f := f)]; exact hv
    · rw [u _ (by omega)]; exact (g2 e).2.1
  · rw [u _ (by omega), u _ (by omega), u _ (by omega), u _ (by omega)]; exact h2 x y hx hy
theorem inv_let {f : Row} (h : InvR f) {k l : Nat} (hk : k < 12) (hl : l ≤ 99) : InvR (upd f (39 + k) (nI l)) := by
  obtain ⟨⟨h1, h2, h3⟩, h4⟩ := h
  have u : ∀ x, x ≠ 39 + k → upd f (39 + k) (nI l) x = f x := fun x hx => upd_n (f := f) hx
  refine ⟨⟨fun j hj => ?_, fun x y hx hy => ?_, by rw [u 0 (by omega)]; exact h3⟩, h4.congr (fun x hx _ => u x (by omega)) (fun k _ => u _ (by omega))⟩
  · rw [u (3 + j) (by omega), u (15 + j) (by omega), u (27 + j) (by omega)]
    obtain ⟨g1, g2⟩ := h1 j hj
    refine ⟨g1, fun e => ⟨(g2 e).1, (g2 e).2.1, ?_⟩⟩
    by_cases ej : j = k
    · subst ej
      exact ⟨l, hl, upd_s (f := f)⟩
    · rw [u _ (by omega)]; exact (g2 e).2.2
  · rw [u _ (by omega), u _ (by omega), u _ (by omega), u _ (by omega)]; exact h2 x y hx hy
/-- counters -/
theorem inv_ctr {f : Row} (h : InvR f) {c : Nat} {v : Int32} (hc : c = 1 ∨ c = 2) : InvR (upd f c v) := by
  obtain ⟨⟨h1, h2, h3⟩, h4⟩ := h
  have u : ∀ x, x ≠ c → upd f c v x = f x := fun x hx => upd_n (f := f) hx
  refine ⟨⟨fun k hk => ?_, fun x y hx hy => ?_, by rw [u 0 (by omega)]; exact h3⟩, h4.congr (fun x hx _ => u x (by omega)) (fun k _ => u _ (by omega))⟩
  · rw [u _ (by omega), u _ (by omega), u _ (by omega), u _ (by omega)]; exact h1 k hk
  · rw [u _ (by omega), u _ (by omega), u _ (by omega), u _ (by omega)]; exact h2 x y hx hy
theorem rk_rem {f : Row} (h : RK f) {k : Nat} (hk : k < 12) : RK (upd f (3 + k) 0) := by
  obtain ⟨h1, h2, h3⟩ := h
  have u : ∀ x, x ≠ 3 + k → upd f (3 + k) 0 x = f x := fun x hx => upd_n (f := f) hx
  have z : ∀ j, upd f (3 + k) 0 (3 + j) = 1 → f (3 + j) = 1 := fun j e => by
    by_cases ej : j = k
    · subst ej
      rw [upd_s (f := f)] at e
      exact absurd e (by decide)
    · rwa [u _ (by omega)] at e
  refine ⟨fun j hj => ⟨?_, fun e => ?_⟩, fun x y hx hy e1 e2 => ?_, by rw [u 0 (by omega)]; exact h3⟩
  · by_cases ej : j = k
    · subst ej
      exact Or.inl (upd_s (f := f))
    · rw [u _ (by omega)]; exact (h1 j hj).1
  · rw [u _ (by omega), u _ (by omega), u _ (by omega)]
    exact (h1 j hj).2 (z j e)
  · rw [u (15 + x) (by omega), u (15 + y) (by omega)]
    exact h2 x y hx hy (z x e1) (z y e2)
/-- no inn at the mile m -/
theorem atR_none {f : Row} {m : Int32} : ∀ n k, atR f m n k = -1 → k + n ≤ 12 → ∀ x, k ≤ x → x < k + n → f (3 + x) = 1 → f (15 + x) ≠ m := by
  intro n
  induction n with
  | zero => intro k _ _ x h1 h2; omega
  | succ n ih =>
    intro k h hk x h1 h2 h3
    have e : atR f m (n + 1) k = if f (3 + k) = 1 ∧ f (15 + k) = m then nI k else atR f m n (k + 1) := rfl
    rw [e] at h
    by_cases c : f (3 + k) = 1 ∧ f (15 + k) = m
    · rw [if_pos c] at h
      have : ∀ y, y < 12 → nI y ≠ -1 := by decide
      exact absurd h (this k (by omega))
    · rw [if_neg c] at h
      by_cases ex : x = k
      · subst ex; exact fun e2 => c ⟨h3, e2⟩
      · exact ih (k + 1) h (by omega) x (by omega) (by omega) h3
theorem rk_bld {f : Row} (h : RK f) {k m : Nat} (hk : k < 12) (hm : m ≤ 999) (hat : atR f (nI m) 12 0 = -1) : RK (bldF f k (nI m)) := by
  obtain ⟨h1, h2, h3⟩ := h
  have hno := atR_none 12 0 hat (by omega)
  have b : ∀ x, bldF f k (nI m) x = if x = 39 + k then 0 else if x = 27 + k then 1 else if x = 15 + k then nI m else if x = 3 + k then 1 else f x := fun x => rfl
  refine ⟨fun j hj => ?_, fun x y hx hy => ?_, ?_⟩
  · rw [b, b, b, b]
    by_cases ej : j = k
    · subst ej
      rw [if_neg (by omega), if_neg (by omega), if_neg (by omega), if_pos rfl, if_neg (by omega), if_neg (by omega), if_pos rfl, if_neg (by omega), if_pos rfl, if_pos rfl]
      exact ⟨Or.inr rfl, fun _ => ⟨⟨m, hm, rfl⟩, Or.inr rfl, 0, by omega, rfl⟩⟩
    · rw [if_neg (by omega), if_neg (by omega), if_neg (by omega), if_neg (by omega), if_neg (by omega), if_neg (by omega), if_neg (by omega), if_neg (by omega), if_neg (by omega), if_neg (by omega), if_neg (by omega), if_neg (by omega), if_neg (by omega), if_neg (by omega), if_neg (by omega), if_neg (by omega)]
      exact h1 j hj
  · have b3 : ∀ j, j ≠ k → j < 12 → bldF f k (nI m) (3 + j) = f (3 + j) := fun j hj hj2 => by rw [b, if_neg (by omega), if_neg (by omega), if_neg (by omega), if_neg (by omega)]
    have b15 : ∀ j, j ≠ k → j < 12 → bldF f k (nI m) (15 + j) = f (15 + j) := fun j hj hj2 => by rw [b, if_neg (by omega), if_neg (by omega), if_neg (by omega), if_neg (by omega)]
    have bk : bldF f k (nI m) (15 + k) = nI m := by rw [b, if_neg (by omega), if_neg (by omega), if_pos rfl]
    intro e1 e2 e3
    by_cases ex : x = k
    · by_cases ey : y = k
      · rw [ex, ey]
      · rw [ex, bk, b15 y ey hy] at e3
        rw [b3 y ey hy] at e2
        exact absurd e3.symm (hno y (Nat.zero_le _) (by omega) e2)
    · by_cases ey : y = k
      · rw [ey, bk, b15 x ex hx] at e3
        rw [b3 x ex hx] at e1
        exact absurd e3 (hno x (Nat.zero_le _) (by omega) e1)
      · rw [b3 x ex hx] at e1
        rw [b3 y ey hy] at e2
        rw [b15 x ex hx, b15 y ey hy] at e3
        exact h2 x y hx hy e1 e2 e3
  · rw [b, if_neg (by omega), if_neg (by omega), if_neg (by omega), if_neg (by omega)]; exact h3
theorem inv_snw {f : Row} (h : InvR f) (lo hi : Int32) : InvR (snwF f lo hi 12) := by
  obtain ⟨⟨h1, h2, h3⟩, h4⟩ := h
  have u : ∀ x, ¬ (27 ≤ x ∧ x < 39) → snwF f lo hi 12 x = f x := fun x hx => if_neg (fun z => hx ⟨z.1, by omega⟩)
  refine ⟨⟨fun j hj => ?_, fun x y hx hy => ?_, by rw [u 0 (by omega)]; exact h3⟩, h4.congr (fun x hx _ => u x (by omega)) (fun k _ => u _ (by omega))⟩
  · rw [u (3 + j) (by omega), u (15 + j) (by omega), u (39 + j) (by omega)]
    obtain ⟨g1, g2⟩ := h1 j hj
    refine ⟨g1, fun e => ⟨(g2 e).1, ?_, (g2 e).2.2⟩⟩
    unfold snwF
    split
    · exact Or.inl rfl
    · exact (g2 e).2.1
  · rw [u _ (by omega), u _ (by omega), u _ (by omega), u _ (by omega)]; exact h2 x y hx hy
theorem inv_thw {f : Row} (h : InvR f) : InvR (thwF f 12) := by
  obtain ⟨⟨h1, h2, h3⟩, h4⟩ := h
  have u : ∀ x, ¬ (27 ≤ x ∧ x < 39) → thwF f 12 x = f x := fun x hx => if_neg (fun z => hx ⟨z.1, by omega⟩)
  refine ⟨⟨fun j hj => ?_, fun x y hx hy => ?_, by rw [u 0 (by omega)]; exact h3⟩, h4.congr (fun x hx _ => u x (by omega)) (fun k _ => u _ (by omega))⟩
  · rw [u (3 + j) (by omega), u (15 + j) (by omega), u (39 + j) (by omega)]
    obtain ⟨g1, g2⟩ := h1 j hj
    refine ⟨g1, fun e => ⟨(g2 e).1, Or.inr ?_, (g2 e).2.2⟩⟩
    exact if_pos ⟨by omega, by omega⟩
  · rw [u _ (by omega), u _ (by omega), u _ (by omega), u _ (by omega)]; exact h2 x y hx hy
