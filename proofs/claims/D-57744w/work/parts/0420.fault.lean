set_option maxRecDepth 100000
/-! PURE: the single fault: exactly one wrong stored value -/
section UPD
variable {f : Row} {c : Nat} {v : Int32}
theorem up_lo (hc : 51 ≤ c) {x : Nat} (hx : x < 51) : upd f c v x = f x := upd_n (f := f) (by omega)
theorem beh_upd (hc : 51 ≤ c) (m : Int32) : ∀ n, n ≤ 12 → behN (upd f c v) m n = behN f m n := by
  intro n
  induction n with
  | zero => intro _; rfl
  | succ n ih =>
    intro hn
    have e : ∀ g : Row, behN g m (n + 1) = if g (3 + n) = 1 ∧ m < g (15 + n) ∧ (behN g m n = -1 ∨ g (15 + n) < g (15 + (behN g m n).toNatClampNeg)) then nI n else behN g m n := fun _ => rfl
    rw [e, e, ih (by omega), up_lo hc (by omega), up_lo hc (by omega)]
    rcases beh_spec f m n (by omega) with ⟨h1, -⟩ | ⟨y, hy, h1, -⟩
    · rw [h1]
      have hl : ∀ P Q R S : Prop, P → ((R ∧ S ∧ (P ∨ Q)) ↔ (R ∧ S)) := fun P Q R S hP => ⟨fun z => ⟨z.1, z.2.1⟩, fun z => ⟨z.1, z.2, Or.inl hP⟩⟩
      by_cases h : f (3 + n) = 1 ∧ m < f (15 + n)
      · rw [if_pos ⟨h.1, h.2, Or.inl rfl⟩, if_pos ⟨h.1, h.2, Or.inl rfl⟩]
      · rw [if_neg (fun z => h ⟨z.1, z.2.1⟩), if_neg (fun z => h ⟨z.1, z.2.1⟩)]
    · rw [h1, nI_clamp (by omega), up_lo hc (by omega)]
theorem inns_upd (hc : 51 ≤ c) : ∀ n, n ≤ 12 → innsN (upd f c v) n = innsN f n := by
  intro n
  induction n with
  | zero => intro _; rfl
  | succ n ih =>
    intro hn
    show innsN (upd f c v) n + upd f c v (3 + n) = innsN f n + f (3 + n)
    rw [ih (by omega), up_lo hc (by omega)]
theorem nx_upd (hc : 51 ≤ c) {k : Nat} (hk : k < 36) : nxF (upd f c v) k = nxF f k := by
  unfold nxF
  rw [up_lo hc (by omega), up_lo hc (by omega), beh_upd hc _ 12 (by omega)]
theorem beh_pt (f : Row) (m : Int32) : behN f m 12 = -1 ∨ (behN f m 12).toNatClampNeg < 12 := by
  rcases beh_spec f m 12 (by omega) with ⟨h1, -⟩ | ⟨y, hy, h1, -⟩
  · exact Or.inl h1
  · exact Or.inr (by rw [h1, nI_clamp (by omega)]; exact hy)
theorem nx_pt (f : Row) (k : Nat) : nxF f k = -1 ∨ (nxF f k).toNatClampNeg < 12 := by
  unfold nxF
  split
  · exact beh_pt f _
  · exact Or.inl rfl
theorem reb_upd (hc : 51 ≤ c) {x : Nat} (h1 : 51 ≤ x) (h2 : x < 78) : rebF (upd f c v) x = rebF f x := by
  unfold rebF
  rw [beh_upd hc _ 12 (by omega), inns_upd hc 12 (by omega)]
  by_cases e1 : x = 51
  · rw [if_pos e1, if_pos e1]
  rw [if_neg e1, if_neg e1]
  by_cases e2 : x = 52
  · rw [if_pos e2, if_pos e2]
    rcases beh_pt f (-1) with h | h
    · rw [if_pos h, if_pos h]
    · rw [nx_upd hc (by omega)]
  rw [if_neg e2, if_neg e2]
  by_cases e3 : x = 53
  · rw [if_pos e3, if_pos e3]
  rw [if_neg e3, if_neg e3]
  by_cases e4 : 54 ≤ x ∧ x < 66
  · rw [if_pos e4, if_pos e4, nx_upd hc (by omega)]
  have e5 : 66 ≤ x ∧ x < 78 := by omega
  rw [if_neg e4, if_neg e4, if_pos e5, if_pos e5, nx_upd hc (by omega)]
  rcases nx_pt f (x - 66) with h | h
  · rw [if_pos h, if_pos h]
  · rw [nx_upd hc (by omega)]
theorem sto_upd (hc : 51 ≤ c) {x : Nat} : stoF (upd f c v) x = stoF f x := by
  unfold stoF
  rw [up_lo hc (show 3 + (x - 54) % 12 < 51 by omega)]
theorem RowOK.upd (hc : 51 ≤ c) (h : RowOK f) : RowOK (upd f c v) := by
  intro k hk
  rw [up_lo hc (by omega), up_lo hc (by omega), up_lo hc (by omega), up_lo hc (by omega)]
  exact h k hk
theorem MD.upd (hc : 51 ≤ c) (h : MD f) : MD (upd f c v) := by
  intro x y hx hy
  rw [up_lo hc (by omega), up_lo hc (by omega), up_lo hc (by omega), up_lo hc (by omega)]
  exact h x y hx hy
end UPD
theorem wro_fix {f : Row} {k0 : Nat} (h0 : k0 < 27) (hs : stoF f (51 + k0) = true) (hw : f (51 + k0) ≠ rebF f (51 + k0)) : ∀ n, n ≤ 27 → wroN f n = wroN (upd f (51 + k0) (rebF f (51 + k0))) n + (if k0 < n then 1 else 0) := by
  intro n
  induction n with
  | zero => intro _; rfl
  | succ n ih =>
    intro hn
    have e : ∀ g : Row, wroN g (n + 1) = wroN g n + (if stoF g (51 + n) = true ∧ g (51 + n) ≠ rebF g (51 + n) then 1 else 0) := fun _ => rfl
    rw [e, e, ih (by omega), sto_upd (by omega), reb_upd (by omega) (by omega) (by omega)]
    by_cases hk : n = k0
    · subst hk
      have u : upd f (51 + n) (rebF f (51 + n)) (51 + n) = rebF f (51 + n) := upd_s (f := f)
      have i1 : (if n < n then 1 else 0 : Nat) = 0 := if_neg (Nat.lt_irrefl _)
      have i2 : (if n < n + 1 then 1 else 0 : Nat) = 1 := if_pos (Nat.lt_succ_self _)
      have i3 : (if stoF f (51 + n) = true ∧ f (51 + n) ≠ rebF f (51 + n) then 1 else 0 : Nat) = 1 := if_pos ⟨hs, hw⟩
      have i4 : (if stoF f (51 + n) = true ∧ rebF f (51 + n) ≠ rebF f (51 + n) then 1 else 0 : Nat) = 0 := if_neg (fun z => z.2 rfl)
      rw [u, i1, i2, i3, i4]
    · have u : upd f (51 + k0) (rebF f (51 + k0)) (51 + n) = f (51 + n) := upd_n (f := f) (by omega)
      have i1 : (if k0 < n + 1 then 1 else 0 : Nat) = if k0 < n then 1 else 0 := by
        by_cases h : k0 < n
        · rw [if_pos h, if_pos (by omega)]
        · rw [if_neg h, if_neg (by omega)]
      rw [u, i1]
      exact Nat.add_right_comm _ _ _
/-- a cell's change mends the road just if it's the only wrong value -/
theorem mend_iff {f : Row} (hR : RowOK f) (hD : MD f) {c : Nat} (h1 : 51 ≤ c) (h2 : c < 78) (hs : stoF f c = true) (hw : f c ≠ rebF f c) : souF (upd f c (rebF f c)) = true ↔ wroN f 27 = 1 := by
  obtain ⟨k, rfl⟩ : ∃ k, c = 51 + k := ⟨c - 51, by omega⟩
  rw [sou_wro (hR.upd h1) (hD.upd h1), wro_fix (by omega) hs hw 27 (Nat.le_refl _), if_pos (by omega)]
  omega
theorem fauR_spec {f : Row} (hR : RowOK f) (hD : MD f) : ∀ n c, 51 ≤ c → c + n = 78 → (fauR f n c = -1 ∧ (wroN f 27 = 1 → ∀ x, c ≤ x → x < 78 → stoF f x = true → f x = rebF f x)) ∨
    (∃ d, c ≤ d ∧ d < 78 ∧ fauR f n c = nI d ∧ stoF f d = true ∧ f d ≠ rebF f d ∧ wroN f 27 = 1) := by
  intro n
  induction n with
  | zero => intro c _ h; exact Or.inl ⟨rfl, fun _ x h1 h2 => by omega⟩
  | succ n ih =>
    intro c h1 h2
    have e : fauR f (n + 1) c = if stoF f c = true ∧ f c ≠ rebF f c ∧ souF (upd f c (rebF f c)) = true then nI c else fauR f n (c + 1) := rfl
    rw [e]
    by_cases hc : stoF f c = true ∧ f c ≠ rebF f c ∧ souF (upd f c (rebF f c)) = true
    · rw [if_pos hc]
      exact Or.inr ⟨c, Nat.le_refl _, by omega, rfl, hc.1, hc.2.1, (mend_iff hR hD h1 (by omega) hc.1 hc.2.1).mp hc.2.2⟩
    · rw [if_neg hc]
      rcases ih (c + 1) (by omega) (by omega) with ⟨g1, g2⟩ | ⟨d, g1, g2, g3⟩
      · refine Or.inl ⟨g1, fun hw x hx1 hx2 hx3 => ?_⟩
        by_cases ex : x = c
        · subst ex
          by_cases e2 : f x = rebF f x
          · exact e2
          · exact absurd ⟨hx3, e2, (mend_iff hR hD h1 (by omega) hx3 e2).mpr hw⟩ hc
        · exact g2 hw x (by omega) hx2 hx3
      · exact Or.inr ⟨d, by omega, g2, g3⟩
/-- the single fault -/
theorem fau_spec {f : Row} (hR : RowOK f) (hD : MD f) : (fauF f = -1 ∧ wroN f 27 ≠ 1) ∨ ∃ d, 51 ≤ d ∧ d < 78 ∧ fauF f = nI d ∧ stoF f d = true ∧ f d ≠ rebF f d ∧ wroN f 27 = 1 := by
  unfold fauF
  by_cases hs : souF f = true
  · rw [if_pos hs]
    exact Or.inl ⟨rfl, by rw [(sou_wro hR hD).mp hs]; decide⟩
  · rw [if_neg hs]
    rcases fauR_spec hR hD 27 51 (Nat.le_refl _) rfl with ⟨g1, g2⟩ | g
    · refine Or.inl ⟨g1, fun hw => ?_⟩
      have : wroN f 27 = 0 := (wroN_0 f 27).mpr (fun k hk hst => g2 hw (51 + k) (by omega) (by omega) hst)
      omega
    · exact Or.inr g
