set_option maxRecDepth 100000
/-! PURE: a parsed row keeps the invariant -/
theorem rk_opn {f : Row} (h : RK f) {k : Nat} {v : Int32} (hk : k < 12) (hv : v = 0 ∨ v = 1) : RK (upd f (27 + k) v) := by
  obtain ⟨h1, h2, h3⟩ := h
  have u : ∀ x, x ≠ 27 + k → upd f (27 + k) v x = f x := fun x hx => upd_n (f := f) hx
  refine ⟨fun j hj => ?_, fun x y hx hy => ?_, by rw [u 0 (by omega)]; exact h3⟩
  · rw [u (3 + j) (by omega), u (15 + j) (by omega), u (39 + j) (by omega)]
    obtain ⟨g1, g2⟩ := h1 j hj
    refine ⟨g1, fun e => ⟨(g2 e).1, ?_, (g2 e).2.2⟩⟩
    by_cases ej : j = k
    · subst ej
      rw [upd_s (f := f)]; exact hv
    · rw [u _ (by omega)]; exact (g2 e).2.1
  · rw [u _ (by omega), u _ (by omega), u _ (by omega), u _ (by omega)]; exact h2 x y hx hy
theorem rk_let {f : Row} (h : RK f) {k l : Nat} (hk : k < 12) (hl : l ≤ 99) : RK (upd f (39 + k) (nI l)) := by
  obtain ⟨h1, h2, h3⟩ := h
  have u : ∀ x, x ≠ 39 + k → upd f (39 + k) (nI l) x = f x := fun x hx => upd_n (f := f) hx
  refine ⟨fun j hj => ?_, fun x y hx hy => ?_, by rw [u 0 (by omega)]; exact h3⟩
  · rw [u (3 + j) (by omega), u (15 + j) (by omega), u (27 + j) (by omega)]
    obtain ⟨g1, g2⟩ := h1 j hj
    refine ⟨g1, fun e => ⟨(g2 e).1, (g2 e).2.1, ?_⟩⟩
    by_cases ej : j = k
    · subst ej
      exact ⟨l, hl, upd_s (f := f)⟩
    · rw [u _ (by omega)]; exact (g2 e).2.2
  · rw [u _ (by omega), u _ (by omega), u _ (by omega), u _ (by omega)]; exact h2 x y hx hy
theorem isNu_nat {b : Row} {T : Tk} {lo M : Int32} {n : Nat} (h : isNuF b T lo M = true) (hlo : 0 ≤ lo) (hM : M.toInt = n) : ∃ k, k ≤ n ∧ numF b T = nI k := by
  have h1 := isNu_rng h
  exact nI_of2 hM (Int32.not_lt.mpr (Int32.le_trans hlo h1.1)) h1.2
theorem let_rk {b : Row} {L p : Nat} {f : Row} {T : Tk} {la : Int32} (h : RK f) (hp : p < 12) (hR : (letP b L p f T la).1 = true) : RK (letP b L p f T la).2.2.1 := by
  unfold letP at hR ⊢
  by_cases c : wrdF b T tx_letters = true
  · rw [if_pos c] at hR ⊢
    by_cases c2 : isNuF b (nxT b L T) 1 99 = true
    · rw [if_pos c2] at hR ⊢
      obtain ⟨k, hk, ek⟩ := isNu_nat (n := 99) c2 (by decide) rfl
      show RK (upd f (39 + p) (numF b (nxT b L T)))
      rw [ek]
      exact rk_let h hp hk
    · rw [if_neg c2] at hR; exact Bool.noConfusion hR
  · rw [if_neg c]; exact h
theorem inn_rk {b : Row} {L : Nat} {f : Row} {T : Tk} {la : Int32} (h : RK f) (hla : isPt la) (hR : (innP b L f T la).1 = true) : RK (innP b L f T la).2.2.1 := by
  unfold innP at hR ⊢
  by_cases c : isNuF b T (la + 1) 11 = true
  · rw [if_pos c] at hR ⊢
    obtain ⟨p, hp, ep⟩ := isNu_pl c (isPt_1 hla)
    by_cases c2 : isNuF b (nxT b L T) 0 999 = true
    · rw [if_pos c2] at hR ⊢
      obtain ⟨m, hm, em⟩ := isNu_nat (n := 999) c2 (by decide) rfl
      by_cases c3 : atR f (numF b (nxT b L T)) 12 0 = -1
      · rw [if_pos c3] at hR ⊢
        rw [ep, em, nI_clamp (by omega)] at hR ⊢
        rw [em] at c3
        have hb := rk_bld h hp hm c3
        by_cases c4 : wrdF b (nxT b L (nxT b L T)) tx_closed = true
        · rw [if_pos c4] at hR ⊢
          exact let_rk (rk_opn hb hp (Or.inl rfl)) hp hR
        · rw [if_neg c4] at hR ⊢
          exact let_rk (rk_opn hb hp (Or.inr rfl)) hp hR
      · rw [if_neg c3] at hR; exact Bool.noConfusion hR
    · rw [if_neg c2] at hR; exact Bool.noConfusion hR
  · rw [if_neg c] at hR; exact Bool.noConfusion hR
theorem ptr_inv {b : Row} {L c : Nat} {f : Row} {T : Tk} {la : Int32} (h : InvR f) (hc : (c = 51 ∨ c = 52) ∨ ∃ k, k < 12 ∧ f (3 + k) = 1 ∧ (c = 54 + k ∨ c = 66 + k)) : InvR (ptrP b L c f T la).2.2.1 := by
  unfold ptrP
  by_cases g : sgnF b T 45 = true
  · rw [if_pos g]; exact inv_ptr h hc (Or.inl rfl)
  rw [if_neg g]
  by_cases g : isNuF b T 0 11 = true
  · rw [if_pos g]; exact inv_ptr h hc (Or.inr (isNu_pl g (by decide)))
  · rw [if_neg g]; exact h
theorem own_inv {b : Row} {L row : Nat} {f : Row} {T : Tk} {la : Int32} (h : InvR f) (hla : isPt la) (hrow : row = 54 ∨ row = 66) : InvR (ownP b L row f T la).2.2.1 := by
  unfold ownP
  by_cases g : isNuF b T (la + 1) 11 = true
  · rw [if_pos g]
    obtain ⟨p, hp, ep⟩ := isNu_pl g (isPt_1 hla)
    rw [ep, nI_clamp (by omega)]
    by_cases c : f (3 + p) = 0
    · rw [if_pos c]; exact h
    · rw [if_neg c]
      have h1 : f (3 + p) = 1 := (h.1.1 p hp).1.resolve_left c
      refine ptr_inv h (Or.inr ⟨p, hp, h1, ?_⟩)
      rcases hrow with e | e <;> subst e
      · exact Or.inl rfl
      · exact Or.inr rfl
  · rw [if_neg g]; exact h
theorem cnt_inv {b : Row} {L : Nat} {f : Row} {T : Tk} {la : Int32} (h : InvR f) : InvR (cntP b L f T la).2.2.1 := by
  unfold cntP
  by_cases g : isNuF b T 0 12 = true
  · rw [if_pos g]
    obtain ⟨k, hk, ek⟩ := isNu_nat (n := 12) g (by decide) rfl
    show InvR (upd f 53 (numF b T))
    rw [ek]
    exact inv_cnt h hk
  · rw [if_neg g]; exact h
theorem prt_inv {b : Row} {L : Nat} {k : Int32} {f : Row} {T : Tk} {la : Int32} (h : InvR f) (hla : isPt la) (hk : k ≠ 0) : InvR (prtP b L k f T la).2.2.1 := by
  unfold prtP
  rw [if_neg hk]
  split
  · exact ptr_inv h (Or.inl (Or.inl rfl))
  split
  · exact ptr_inv h (Or.inl (Or.inr rfl))
  split
  · exact cnt_inv h
  split
  · exact own_inv h hla (Or.inl rfl)
  · exact own_inv h hla (Or.inr rfl)
/-- the parser's loop: before the first stored value the row has inns alone -/
theorem lop_inv {b : Row} {L : Nat} : ∀ (n : Nat) (T : Tk) (f : Row) (la part : Int32) (reb : Bool), TKK L T → isPt la → (reb = false ∧ RK f ∧ part = 0) ∨ (reb = true ∧ InvR f ∧ 0 < part) → (lopP b L n T f la part reb).1 = true → InvR (lopP b L n T f la part reb).2.2.1 := by
  intro n
  induction n with
  | zero => intro T f la part reb _ _ _ h; exact Bool.noConfusion h
  | succ n ih =>
    intro T f la part reb hT hla hi h
    unfold lopP at h ⊢
    by_cases c : T.2.1 = 0
    · rw [if_pos c]
      rcases hi with ⟨h1, h2, -⟩ | ⟨h1, h2, -⟩
      · subst h1; exact inv_reb h2
      · subst h1; exact h2
    rw [if_neg c] at h ⊢
    by_cases c2 : sgnF b T 59 = true
    rotate_left
    · rw [if_neg c2] at h; exact Bool.noConfusion h
    rw [if_pos c2] at h ⊢
    obtain ⟨its, eits⟩ : ∃ its, its = prtK b (nxT b L T) := ⟨_, rfl⟩
    rw [← eits] at h ⊢
    by_cases c3 : mayP its part = true
    rotate_left
    · rw [if_neg c3] at h; exact Bool.noConfusion h
    rw [if_pos c3] at h ⊢
    dsimp only at h ⊢
    have hla1 : isPt (if its = part then la else -1) := by
      split
      · exact hla
      · exact Or.inl rfl
    have hT2 := (hT.nx (b := b)).nx (b := b)
    obtain ⟨g1, -, g3⟩ := prtP_ok (b := b) (k := its) (f := if 0 < its ∧ reb = false then rebF f else f) hT2 hla1
    obtain ⟨R, eR⟩ : ∃ R, R = prtP b L its (if 0 < its ∧ reb = false then rebF f else f) (nxT b L (nxT b L T)) (if its = part then la else -1) := ⟨_, rfl⟩
    rw [← eR] at h g1 g3 ⊢
    by_cases c4 : R.1 = true
    rotate_left
    · rw [if_neg c4] at h; exact Bool.noConfusion h
    rw [if_pos c4] at h ⊢
    have hne : its ≠ -1 := by
      unfold mayP at c3
      rw [Bool.and_eq_true] at c3
      exact of_decide_eq_true c3.1
    have hin := (prtK_in (b := b) (T := nxT b L T) (by rw [← eits]; exact hne)).1
    rw [← eits] at hin
    refine ih _ _ _ _ _ g1 (g3 c4) ?_ h
    by_cases hpos : 0 < its
    · rw [decide_eq_true hpos, Bool.or_true]
      refine Or.inr ⟨rfl, ?_, hpos⟩
      rw [eR]
      refine prt_inv ?_ hla1 (fun e => by rw [e] at hpos; exact absurd hpos (by decide))
      rcases hi with ⟨h1, h2, -⟩ | ⟨h1, h2, -⟩
      · rw [if_pos ⟨hpos, h1⟩]; exact inv_reb h2
      · rw [if_neg (fun z => by rw [h1] at z; exact Bool.noConfusion z.2)]; exact h2
    · have hz : its = 0 := by
        rcases lt_or_eq hpos with e | e
        · exact e
        · exact absurd e (Int32.not_lt.mpr hin.1)
      rw [decide_eq_false hpos, Bool.or_false]
      rcases hi with ⟨h1, h2, h3⟩ | ⟨h1, h2, h3⟩
      · refine Or.inl ⟨h1, ?_, hz⟩
        rw [eR] at c4 ⊢
        have ef : (if 0 < its ∧ reb = false then rebF f else f) = f := if_neg (fun z => hpos z.1)
        rw [ef] at c4 ⊢
        unfold prtP at c4 ⊢
        rw [if_pos hz] at c4 ⊢
        exact inn_rk h2 hla1 c4
      · exfalso
        unfold mayP at c3
        rw [Bool.and_eq_true, Bool.or_eq_true, Bool.and_eq_true] at c3
        rcases c3.2 with e | ⟨e, -⟩
        · have := of_decide_eq_true e
          rw [hz] at this
          exact absurd (lt_tr h3 this) Int32.lt_irrefl
        · have := of_decide_eq_true e
          rw [← this, hz] at h3
          exact absurd h3 (by decide)
theorem prs_inv {b : Row} {L : Nat} (h : (prsP b L).1 = true) : InvR (prsP b L).2.2.1 := by
  unfold prsP at h ⊢
  have hT0 : TKK L (lexF b L 0) := by
    have := (nx_le (b := b) (L := L) (T := (0, 0, 0)) ⟨Nat.le_refl _, Nat.zero_le _, fun z => absurd rfl z, Nat.zero_le _⟩)
    exact TKK.nx (T := (0, 0, 0)) ⟨Nat.le_refl _, Nat.zero_le _, fun z => absurd rfl z, Nat.zero_le _⟩
  by_cases c : wrdF b (lexF b L 0) tx_road = true
  · rw [if_pos c] at h ⊢
    by_cases c2 : isNuF b (nxT b L (lexF b L 0)) 1 999 = true
    · rw [if_pos c2] at h ⊢
      obtain ⟨r, hr, er⟩ := isNu_nat (n := 999) c2 (by decide) rfl
      refine lop_inv 501 _ _ _ _ _ hT0.nx.nx (Or.inl rfl) (Or.inl ⟨rfl, ?_, rfl⟩) h
      rw [er]
      have z : ∀ k, k < 12 → upd (fun _ => (0 : Int32)) 0 (nI r) (3 + k) = 0 := fun k hk => upd_n (f := fun _ => 0) (by omega)
      refine ⟨fun k hk => ⟨Or.inl (z k hk), fun e => ?_⟩, fun x y hx hy e1 => ?_, r, hr, rfl⟩
      · rw [z k hk] at e; exact absurd e (by decide)
      · rw [z x hx] at e1; exact absurd e1 (by decide)
    · rw [if_neg c2] at h; exact Bool.noConfusion h
  · rw [if_neg c] at h; exact Bool.noConfusion h
