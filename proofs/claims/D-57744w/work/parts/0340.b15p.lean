def wp_X6_openShare (post : UInt32 → MSt → Prop) (i : Nat → Int32) (a : Nat → Nat → Int32) (q : Nat → Nat)  : Prop :=
  ∀ i1, i1 = upd i 0 0 → ∀ r2, post_X6_innsOf i1 a q 1 r2 → (¬ r2 = 0 → ∀ r4, post_X6_openOnes i1 a q  r4 → ∀ r5, post_X6_innsOf i1 a q 1 r5 → vf_n32 (FP.fdiv (FP.i2f r4) (FP.i2f r5)) ∧ post (FP.fdiv (FP.i2f r4) (FP.i2f r5)) (i1, a, q)) ∧ (r2 = 0 → post FP.fconst0 (i1, a, q))

def wpb_X6_meanGap_78 (post : UInt64 → MSt → Prop) (K13 : (Nat → Int32) → (Nat → Nat → Int32) → (Nat → Nat) → Int32 → Int32 → Int32 → Prop)  (i : Nat → Int32) (a : Nat → Nat → Int32) (q : Nat → Nat) (x1 : Int32) (x3 : Int32) (s0 : Int32) : Prop :=
  ∀ z7, z7 = x3 + 1 → K13 i a q x1 s0 z7
def wpb_X6_meanGap_48 (post : UInt64 → MSt → Prop) (K13 : (Nat → Int32) → (Nat → Nat → Int32) → (Nat → Nat) → Int32 → Int32 → Int32 → Prop)  (i : Nat → Int32) (a : Nat → Nat → Int32) (q : Nat → Nat) (x2 : Int32) (x3 : Int32) (s0 : Int32) : Prop :=
  vp_in (3 + x3) 78 ∧ (¬ (a 1 (3 + x3).toNatClampNeg) = 1 → wpb_X6_meanGap_78 post K13  i a q s0 x3 x2) ∧ ((a 1 (3 + x3).toNatClampNeg) = 1 → vp_in (15 + x3) 78 ∧ wpb_X6_meanGap_78 post K13  i a q s0 x3 (if x2 < (a 1 (15 + x3).toNatClampNeg) then (a 1 (15 + x3).toNatClampNeg) else x2))
def wpb_X6_meanGap_13 (post : UInt64 → MSt → Prop)   : Nat → (Nat → Int32) → (Nat → Nat → Int32) → (Nat → Nat) → Int32 → Int32 → Int32 → Prop
  | 0 => fun _ _ _ _ _ _ => False
  | n + 1 => fun i a q x1 x2 x3 => (12 ≤ x3 → ∀ r3, post_X6_innsOf i a q 1 r3 → (2 ≤ r3 → vf_n64 (FP.ddiv (FP.i2d (x2 - x1)) (FP.i2d (r3 - 1))) ∧ post (FP.ddiv (FP.i2d (x2 - x1)) (FP.i2d (r3 - 1))) (i, a, q)) ∧ (¬ 2 ≤ r3 → post FP.dconst0 (i, a, q))) ∧ (¬ 12 ≤ x3 → vp_in (3 + x3) 78 ∧ (¬ (a 1 (3 + x3).toNatClampNeg) = 1 → wpb_X6_meanGap_48 post (wpb_X6_meanGap_13 post   n)  i a q x2 x3 x1) ∧ ((a 1 (3 + x3).toNatClampNeg) = 1 → vp_in (15 + x3) 78 ∧ wpb_X6_meanGap_48 post (wpb_X6_meanGap_13 post   n)  i a q x2 x3 (if (a 1 (15 + x3).toNatClampNeg) < x1 then (a 1 (15 + x3).toNatClampNeg) else x1)))
def wp_X6_meanGap (post : UInt64 → MSt → Prop) (i : Nat → Int32) (a : Nat → Nat → Int32) (q : Nat → Nat)  : Prop :=
  ∀ i1, i1 = upd i 0 0 → ∃ n, wpb_X6_meanGap_13 post   n i1 a q 999 0 0
theorem dd_all : ((List.range 1000).all fun k => (List.range 11).all fun n => decide ((FP.ddiv (FP.i2d (nI k)) (FP.i2d (nI (n + 1)))) &&& 0x7fffffffffffffff ≤ 0x7ff0000000000000)) = true := by decide +kernel
theorem dd_ok {k n : Nat} (hk : k < 1000) (hn : n < 11) : vf_n64 (FP.ddiv (FP.i2d (nI k)) (FP.i2d (nI (n + 1)))) := by
  have := List.all_eq_true.mp (List.all_eq_true.mp dd_all k (List.mem_range.mpr hk)) n (List.mem_range.mpr hn)
  unfold vf_n64
  exact of_decide_eq_true this
theorem ff_all : ((List.range 13).all fun k => (List.range 12).all fun n => decide ((FP.fdiv (FP.i2f (nI k)) (FP.i2f (nI (n + 1)))) &&& 0x7fffffff ≤ 0x7f800000)) = true := by decide +kernel
theorem ff_ok {k n : Nat} (hk : k < 13) (hn : n < 12) : vf_n32 (FP.fdiv (FP.i2f (nI k)) (FP.i2f (nI (n + 1)))) := by
  have := List.all_eq_true.mp (List.all_eq_true.mp ff_all k (List.mem_range.mpr hk)) n (List.mem_range.mpr hn)
  unfold vf_n32
  exact of_decide_eq_true this
theorem innsN_ok {f : Row} (h : RowOK f) : ∀ k, k ≤ 12 → ∃ c, c ≤ k ∧ innsN f k = nI c := by
  intro k
  induction k with
  | zero => intro _; exact ⟨0, Nat.le_refl _, rfl⟩
  | succ k ih =>
    intro hk
    obtain ⟨c, hc, ec⟩ := ih (by omega)
    show ∃ d, d ≤ k + 1 ∧ innsN f k + f (3 + k) = nI d
    rcases (h k (by omega)).1 with e | e
    · exact ⟨c, by omega, by rw [e, ec]; exact Int32.add_zero _⟩
    · exact ⟨c + 1, by omega, by rw [e, ec, nI_1]⟩
theorem opnN_ok {f : Row} (h : RowOK f) : ∀ k, k ≤ 12 → ∃ c, c ≤ k ∧ opnN f k = nI c := by
  intro k
  induction k with
  | zero => intro _; exact ⟨0, Nat.le_refl _, rfl⟩
  | succ k ih =>
    intro hk
    obtain ⟨c, hc, ec⟩ := ih (by omega)
    show ∃ d, d ≤ k + 1 ∧ (opnN f k + if f (3 + k) = 1 then f (27 + k) else 0) = nI d
    by_cases h3 : f (3 + k) = 1
    · rw [if_pos h3]
      rcases ((h k (by omega)).2 h3).2.1 with e | e
      · exact ⟨c, by omega, by rw [e, ec]; exact Int32.add_zero _⟩
      · exact ⟨c + 1, by omega, by rw [e, ec, nI_1]⟩
    · rw [if_neg h3]
      exact ⟨c, by omega, by rw [ec]; exact Int32.add_zero _⟩
/-- least and most: within the miles; ordered if there's an inn -/
theorem mnmx {f : Row} (h : RowOK f) : ∀ k, k ≤ 12 → (∃ m, m ≤ 999 ∧ mnF f k = nI m) ∧ (∃ m, m ≤ 999 ∧ mxF f k = nI m) ∧ (innsN f k ≠ 0 → mnF f k ≤ mxF f k) ∧ ∃ c, c ≤ k ∧ innsN f k = nI c := by
  intro k
  induction k with
  | zero => intro _; exact ⟨⟨999, Nat.le_refl _, rfl⟩, ⟨0, by omega, rfl⟩, fun z => absurd rfl z, 0, Nat.le_refl _, rfl⟩
  | succ k ih =>
    intro hk
    obtain ⟨⟨m, hm, em⟩, ⟨x, hx, ex⟩, h3, ⟨c, hc, ec⟩⟩ := ih (by omega)
    show (∃ m, m ≤ 999 ∧ (if f (3 + k) = 1 then (if f (15 + k) < mnF f k then f (15 + k) else mnF f k) else mnF f k) = nI m) ∧ (∃ m, m ≤ 999 ∧ (if f (3 + k) = 1 then (if mxF f k < f (15 + k) then f (15 + k) else mxF f k) else mxF f k) = nI m) ∧
      (innsN f k + f (3 + k) ≠ 0 → (if f (3 + k) = 1 then (if f (15 + k) < mnF f k then f (15 + k) else mnF f k) else mnF f k) ≤ (if f (3 + k) = 1 then (if mxF f k < f (15 + k) then f (15 + k) else mxF f k) else mxF f k)) ∧ ∃ c, c ≤ k + 1 ∧ innsN f k + f (3 + k) = nI c
    by_cases e3 : f (3 + k) = 1
    · obtain ⟨⟨y, hy, ey⟩, -⟩ := (h k (by omega)).2 e3
      rw [if_pos e3, if_pos e3, e3, ey, em, ex, ec, nI_1]
      have l1 : nI y < nI m ↔ y < m := nI_ltI (by omega) (by omega)
      have l2 : nI x < nI y ↔ x < y := nI_ltI (by omega) (by omega)
      simp only [l1, l2]
      refine ⟨?_, ?_, fun _ => ?_, c + 1, by omega, rfl⟩
      · split
        · exact ⟨y, hy, rfl⟩
        · exact ⟨m, hm, rfl⟩
      · split
        · exact ⟨y, hy, rfl⟩
        · exact ⟨x, hx, rfl⟩
      · split <;> split <;> (refine (nI_leI (by omega) (by omega)).mpr ?_) <;> omega
    · rw [if_neg e3, if_neg e3]
      have e0 : f (3 + k) = 0 := (h k (by omega)).1.resolve_right e3
      rw [e0, Int32.add_zero]
      exact ⟨⟨m, hm, em⟩, ⟨x, hx, ex⟩, h3, c, by omega, ec⟩
theorem pr_X6_openShare (i : Nat → Int32) (a : Nat → Nat → Int32) (q : Nat → Nat)  (hpre : pre_X6_openShare i a q ) : wp_X6_openShare (fun r u => post_X6_openShare i a q  r u) i a q  := by
  obtain ⟨⟨t0, S, h0⟩, hR⟩ := hpre
  intro i1 e1 r2 h2
  subst e1
  have h2 : r2 = innsN (a 1) 12 := h2
  subst h2
  obtain ⟨c, hc, ec⟩ := innsN_ok hR 12 (by omega)
  obtain ⟨o, ho, eo⟩ := opnN_ok hR 12 (by omega)
  refine ⟨fun z r4 h4 r5 h5 => ?_, fun z t S' hS => ?_⟩
  · have h4 : r4 = opnN (a 1) 12 := h4
    have h5 : r5 = innsN (a 1) 12 := h5
    subst h4 h5
    have hc0 : c ≠ 0 := fun w => z (by rw [ec, w]; rfl)
    obtain ⟨m, rfl⟩ : ∃ m, c = m + 1 := ⟨_, (Nat.succ_pred hc0).symm⟩
    refine ⟨by rw [eo, ec]; exact ff_ok (by omega) (by omega), fun t S' hS => ⟨?_, hS.thr⟩⟩
    unfold shaD
    rw [← hS.2.1, if_neg z]
  · refine ⟨?_, hS.thr⟩
    unfold shaD
    rw [← hS.2.1, if_pos z]
theorem pr_X6_meanGap (i : Nat → Int32) (a : Nat → Nat → Int32) (q : Nat → Nat)  (hpre : pre_X6_meanGap i a q ) : wp_X6_meanGap (fun r u => post_X6_meanGap i a q  r u) i a q  := by
  obtain ⟨⟨t0, S, h0⟩, hR⟩ := hpre
  intro i1 e1
  subst e1
  have key : ∀ n k, k + n = 12 → wpb_X6_meanGap_13 (fun r u => post_X6_meanGap i a q r u) (n + 1) (upd i 0 0) a q (mnF (a 1) k) (mxF (a 1) k) (nI k) := by
    intro n
    induction n with
    | zero =>
      intro k hk
      have : k = 12 := by omega
      subst this
      refine ⟨fun _ r3 h3 => ?_, fun h => absurd (by decide) h⟩
      have h3 : r3 = innsN (a 1) 12 := h3
      subst h3
      obtain ⟨⟨m, hm, em⟩, ⟨x, hx, ex⟩, hle, ⟨c, hc, ec⟩⟩ := mnmx hR 12 (by omega)
      refine ⟨fun z => ?_, fun z t S' hS => ?_⟩
      · have hc2 : 2 ≤ c := by
          rw [ec] at z
          exact (nI_leI (a := 2) (by omega) (by omega)).mp z
        obtain ⟨d, rfl⟩ : ∃ d, c = d + 2 := ⟨c - 2, by omega⟩
        have h5 := hle (by rw [ec]; exact fun w => absurd ((nI_eq (b := 0) (by omega) (by omega)).mp w) (by omega))
        rw [em, ex] at h5
        have h6 : m ≤ x := (nI_leI (by omega) (by omega)).mp h5
        have e1 : nI x - nI m = nI (x - m) := pk_sub h6
        have e2 : nI (d + 2) - 1 = nI (d + 1) := by rw [show d + 2 = d + 1 + 1 from rfl, ← nI_1]; exact Int32.add_sub_cancel _ _
        refine ⟨by rw [em, ex, ec, e1, e2]; exact dd_ok (by omega) (by omega), fun t S' hS => ⟨?_, hS.thr⟩⟩
        unfold gapD
        rw [← hS.2.1, if_pos z]
      · refine ⟨?_, hS.thr⟩
        unfold gapD
        rw [← hS.2.1, if_neg z]
    | succ n ih =>
      intro k hk
      refine ⟨fun h => absurd h (nI_ge (b := 12) (by omega) (by omega)), fun _ => ?_⟩
      rw [a3, a15, nI_clamp (by omega), nI_clamp (by omega)]
      have nx : ∀ v w, v = mxF (a 1) (k + 1) → w = mnF (a 1) (k + 1) → wpb_X6_meanGap_78 (fun r u => post_X6_meanGap i a q r u) (wpb_X6_meanGap_13 (fun r u => post_X6_meanGap i a q r u) (n + 1)) (upd i 0 0) a q w (nI k) v := by
        intro v w hv hw z7 e7
        rw [e7, nI_1, hv, hw]
        exact ih (k + 1) (by omega)
      have n48 : ∀ w, w = mnF (a 1) (k + 1) → wpb_X6_meanGap_48 (fun r u => post_X6_meanGap i a q r u) (wpb_X6_meanGap_13 (fun r u => post_X6_meanGap i a q r u) (n + 1)) (upd i 0 0) a q (mxF (a 1) k) (nI k) w := by
        intro w hw
        unfold wpb_X6_meanGap_48
        rw [a3, a15, nI_clamp (by omega), nI_clamp (by omega)]
        refine ⟨vp_in_nI (by omega) (by omega), fun c => nx _ _ ?_ hw, fun c => ⟨vp_in_nI (by omega) (by omega), nx _ _ ?_ hw⟩⟩
        · show _ = if _ then _ else _
          rw [if_neg c]
        · show _ = if _ then _ else _
          rw [if_pos c]
      refine ⟨vp_in_nI (by omega) (by omega), fun c => n48 _ ?_, fun c => ⟨vp_in_nI (by omega) (by omega), n48 _ ?_⟩⟩
      · show _ = if _ then _ else _
        rw [if_neg c]
      · show _ = if _ then _ else _
        rw [if_pos c]
  exact ⟨13, key 12 0 rfl⟩
