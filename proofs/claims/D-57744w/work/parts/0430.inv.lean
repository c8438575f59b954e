set_option maxRecDepth 100000
/-! PURE: what every row keeps -/
def RK (f : Row) : Prop := RowOK f ∧ MD f ∧ ∃ r, r ≤ 999 ∧ f 0 = nI r
def PT (f : Row) : Prop := isPt (f 51) ∧ isPt (f 52) ∧ (∃ c, c ≤ 12 ∧ f 53 = nI c) ∧ ∀ k, k < 12 → isPt (f (54 + k)) ∧ isPt (f (66 + k)) ∧ (f (3 + k) ≠ 1 → f (54 + k) = -1 ∧ f (66 + k) = -1)
def InvR (f : Row) : Prop := RK f ∧ PT f
theorem InvR.pt {f : Row} (h : InvR f) : RowPt f := ⟨h.1.2.2, h.2.1, h.2.2.1, h.2.2.2.1, fun k hk => ⟨(h.2.2.2.2 k hk).1, (h.2.2.2.2 k hk).2.1⟩⟩
theorem reb_lo {f : Row} {x : Nat} (hx : x < 51) : rebF f x = f x := by
  unfold rebF
  rw [if_neg (by omega), if_neg (by omega), if_neg (by omega), if_neg (by omega), if_neg (by omega)]
theorem RK.congr {f h : Row} (hk : RK f) (e : ∀ x, x < 51 → h x = f x) : RK h := by
  obtain ⟨h1, h2, h3⟩ := hk
  refine ⟨fun k hk => ?_, fun x y hx hy => ?_, by rw [e 0 (by omega)]; exact h3⟩
  · rw [e _ (by omega), e _ (by omega), e _ (by omega), e _ (by omega)]
    exact h1 k hk
  · rw [e _ (by omega), e _ (by omega), e _ (by omega), e _ (by omega)]
    exact h2 x y hx hy
theorem beh_isPt (f : Row) (m : Int32) : isPt (behN f m 12) := by
  rcases beh_spec f m 12 (by omega) with ⟨h1, -⟩ | ⟨y, hy, h1, -⟩
  · exact Or.inl h1
  · exact Or.inr ⟨y, hy, h1⟩
theorem nx_isPt (f : Row) (k : Nat) : isPt (nxF f k) := by
  unfold nxF
  split
  · exact beh_isPt f _
  · exact Or.inl rfl
theorem inv_reb {f : Row} (h : RK f) : InvR (rebF f) := by
  refine ⟨h.congr (fun x hx => reb_lo hx), beh_isPt f (-1), ?_, ?_, fun k hk => ?_⟩
  · have : rebF f 52 = if behN f (-1) 12 = -1 then -1 else nxF f (behN f (-1) 12).toNatClampNeg := rfl
    rw [this]
    split
    · exact Or.inl rfl
    · exact nx_isPt f _
  · obtain ⟨c, hc, ec⟩ := innsN_ok h.1 12 (Nat.le_refl _)
    exact ⟨c, hc, ec⟩
  · have e54 : rebF f (54 + k) = nxF f k := by
      unfold rebF
      rw [if_neg (by omega), if_neg (by omega), if_neg (by omega), if_pos (by omega), show 54 + k - 54 = k by omega]
    have e66 : rebF f (66 + k) = if nxF f k = -1 then -1 else nxF f (nxF f k).toNatClampNeg := by
      unfold rebF
      rw [if_neg (by omega), if_neg (by omega), if_neg (by omega), if_neg (by omega), if_pos (by omega), show 66 + k - 66 = k by omega]
    rw [e54, e66, reb_lo (by omega)]
    refine ⟨nx_isPt f k, ?_, fun hn => ?_⟩
    · split
      · exact Or.inl rfl
      · exact nx_isPt f _
    · have : nxF f k = -1 := by unfold nxF; rw [if_neg hn]
      rw [this, if_pos rfl]
      exact ⟨rfl, rfl⟩
theorem PT.congr {f h : Row} (hk : PT f) (e : ∀ x, 51 ≤ x → x < 78 → h x = f x) (e3 : ∀ k, k < 12 → h (3 + k) = f (3 + k)) : PT h := by
  obtain ⟨h1, h2, h3, h4⟩ := hk
  refine ⟨by rw [e 51 (by omega) (by omega)]; exact h1, by rw [e 52 (by omega) (by omega)]; exact h2, by rw [e 53 (by omega) (by omega)]; exact h3, fun k hk => ?_⟩
  rw [e _ (by omega) (by omega), e _ (by omega) (by omega), e3 k hk]
  exact h4 k hk
/-- a header's pointer or an inn's pointer is set -/
theorem inv_ptr {f : Row} (h : InvR f) {c : Nat} {v : Int32} (hc : (c = 51 ∨ c = 52) ∨ ∃ k, k < 12 ∧ f (3 + k) = 1 ∧ (c = 54 + k ∨ c = 66 + k)) (hv : isPt v) : InvR (upd f c v) := by
  have hc51 : 51 ≤ c := by
    rcases hc with (e | e) | ⟨k, hk, -, e | e⟩ <;> omega
  obtain ⟨h1, h2, h3, h4, h5⟩ := h
  have u : ∀ x, isPt (f x) → isPt (upd f c v x) := fun x hx => by
    unfold upd
    split
    · exact hv
    · exact hx
  refine ⟨h1.congr (fun x hx => up_lo hc51 hx), u _ h2, u _ h3, ?_, fun k hk => ⟨u _ (h5 k hk).1, u _ (h5 k hk).2.1, fun hn => ?_⟩⟩
  · have : upd f c v 53 = f 53 := upd_n (f := f) (by rcases hc with (e | e) | ⟨k, hk, -, e | e⟩ <;> omega)
    rw [this]; exact h4
  · rw [up_lo hc51 (by omega)] at hn
    have hne : ∀ x, (x = 54 + k ∨ x = 66 + k) → x ≠ c := fun x hx e => by
      rcases hc with (e2 | e2) | ⟨j, hj, hj1, e2⟩
      · omega
      · omega
      · have : j = k := by omega
        subst this
        exact hn hj1
    rw [upd_n (f := f) (hne _ (Or.inl rfl)), upd_n (f := f) (hne _ (Or.inr rfl))]
    exact (h5 k hk).2.2 hn
theorem inv_cnt {f : Row} (h : InvR f) {c : Nat} (hc : c ≤ 12) : InvR (upd f 53 (nI c)) := by
  obtain ⟨h1, h2, h3, h4, h5⟩ := h
  refine ⟨h1.congr (fun x hx => up_lo (by omega) hx), ?_, ?_, ⟨c, hc, upd_s (f := f)⟩, fun k hk => ?_⟩
  · rw [upd_n (f := f) (by decide)]; exact h2
  · rw [upd_n (f := f) (by decide)]; exact h3
  · rw [upd_n (f := f) (by omega), upd_n (f := f) (by omega), upd_n (f := f) (by omega)]
    exact h5 k hk
