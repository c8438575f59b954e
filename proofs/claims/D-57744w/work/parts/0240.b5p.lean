def wpb_X6_isWord_28 (post : Int32 → Prop)  (i : Nat → Int32) (a : Nat → Nat → Int32) (q : Nat → Nat) (w : List Int32) : Nat → Int32 → Prop
  | 0 => fun _ => False
  | n + 1 => fun x2 => ∀ r4, r4 = nI (w).length → (r4 ≤ x2 → isB 1 ∧ post 1) ∧ (¬ r4 ≤ x2 → vp_in ((i 21) + x2) 500 ∧ vp_in x2 (w).length ∧ ∀ r6, r6 = (w).getD x2.toNatClampNeg 0 → ((a 8 ((i 21) + x2).toNatClampNeg) = r6 → ∀ z8, z8 = x2 + 1 → (wpb_X6_isWord_28 post  i a q w n) z8) ∧ (¬ (a 8 ((i 21) + x2).toNatClampNeg) = r6 → isB 0 ∧ post 0))
def wp_X6_isWord (post : Int32 → Prop) (i : Nat → Int32) (a : Nat → Nat → Int32) (q : Nat → Nat) (w : List Int32) : Prop :=
  (¬ (i 22) = 1 → isB 0 ∧ post 0) ∧ ((i 22) = 1 → ∀ r2, r2 = nI (w).length → (((i 20) - (i 21)) = r2 → ∃ n, wpb_X6_isWord_28 post  i a q w n 0) ∧ (¬ ((i 20) - (i 21)) = r2 → isB 0 ∧ post 0))

def wp_X6_readsWord (post : Int32 → MSt → Prop) (i : Nat → Int32) (a : Nat → Nat → Int32) (q : Nat → Nat) (w : List Int32) : Prop :=
  pre_X6_isWord i a q w ∧ ∀ r1, post_X6_isWord i a q w r1 → (¬ r1 = 0 → pre_X6_advances i a q  ∧ ∀ i4 a5 q6, post_X6_advances i a q  (i4, a5, q6) → isB 1 ∧ post 1 (i4, a5, q6)) ∧ (r1 = 0 → isB 0 ∧ post 0 (i, a, q))

def wp_X6_isSign (post : Int32 → Prop) (i : Nat → Int32) (a : Nat → Nat → Int32) (q : Nat → Nat) (x : Int32) : Prop :=
  (¬ (i 22) = 3 → isB 0 ∧ post 0) ∧ ((i 22) = 3 → vp_in (i 21) 500 ∧ (¬ (a 8 (i 21).toNatClampNeg) = x → isB 0 ∧ post 0) ∧ ((a 8 (i 21).toNatClampNeg) = x → isB 1 ∧ post 1))

def wpb_X6_isNumber_33 (post : Int32 → MSt → Prop)  (x : Int32) (y : Int32) : Nat → (Nat → Int32) → (Nat → Nat → Int32) → (Nat → Nat) → Int32 → Prop
  | 0 => fun _ _ _ _ => False
  | n + 1 => fun i a q x3 => ((i 20) ≤ x3 → ∀ r6, post_X6_isIn  ((i 23).toInt64) x.toInt64 y.toInt64 r6 → isB r6 ∧ post r6 (i, a, q)) ∧ (¬ (i 20) ≤ x3 → vp_in x3 500 ∧ ∀ i7, i7 = upd i 23 (((10 * (i 23)) + (a 8 x3.toNatClampNeg)) - 48) → ∀ z8, z8 = x3 + 1 → (wpb_X6_isNumber_33 post  x y n) i7 a q z8)
def wp_X6_isNumber (post : Int32 → MSt → Prop) (i : Nat → Int32) (a : Nat → Nat → Int32) (q : Nat → Nat) (x : Int32) (y : Int32) : Prop :=
  (¬ (i 22) = 2 → isB 0 ∧ post 0 (i, a, q)) ∧ ((i 22) = 2 → (((i 20) - (i 21)) ≤ 3 → ∀ i3, i3 = upd i 23 0 → ∀ z4, z4 = (i3 21) → ∃ n, wpb_X6_isNumber_33 post  x y n i3 a q z4) ∧ (¬ ((i 20) - (i 21)) ≤ 3 → isB 0 ∧ post 0 (i, a, q)))

def wp_X6_readsNumber (post : Int32 → MSt → Prop) (i : Nat → Int32) (a : Nat → Nat → Int32) (q : Nat → Nat) (x : Int32) (y : Int32) : Prop :=
  pre_X6_isNumber i a q x y ∧ ∀ r1 i2 a3 q4, post_X6_isNumber i a q x y r1 (i2, a3, q4) → (¬ r1 = 0 → pre_X6_advances i2 a3 q4  ∧ ∀ i7 a8 q9, post_X6_advances i2 a3 q4  (i7, a8, q9) → isB 1 ∧ post 1 (i7, a8, q9)) ∧ (r1 = 0 → isB 0 ∧ post 0 (i2, a3, q4))
theorem TOK.uniq {i : Nat → Int32} {T T' : Tk} (hB : blen i ≤ 500) (h : TOK i T) (h' : TOK i T') : T = T' := by
  obtain ⟨a1, a2, a3, a4, a5, -, a7⟩ := h
  obtain ⟨b1, b2, b3, b4, b5, -, b7⟩ := h'
  obtain ⟨s, k, e⟩ := T
  obtain ⟨s', k', e'⟩ := T'
  simp only at a1 a2 a3 a4 a5 a7 b1 b2 b3 b4 b5 b7
  have h1 : e = e' := (nI_eq (by omega) (by omega)).mp (a1.symm.trans b1)
  have h2 : s = s' := (nI_eq (by omega) (by omega)).mp (a2.symm.trans b2)
  have h3 : k = k' := (nI_eq (by omega) (by omega)).mp (a3.symm.trans b3)
  rw [h1, h2, h3]
theorem pr_X6_isWord (i : Nat → Int32) (a : Nat → Nat → Int32) (q : Nat → Nat) (w : List Int32) (hpre : pre_X6_isWord i a q w) : wp_X6_isWord (fun r => post_X6_isWord i a q w r) i a q w := by
  obtain ⟨hB, ⟨T, hT⟩, hw⟩ := hpre
  obtain ⟨hL, h18⟩ := hB.len
  have hu := fun T' h' => TOK.uniq (T := T) hL hT (T' := T') h'
  obtain ⟨b, eb⟩ : ∃ b, b = trB i a := ⟨_, rfl⟩
  have P : ∀ r, r = b2i (wrdF b T w) → post_X6_isWord i a q w r := fun r h T' h' => by rw [← hu T' h', ← eb]; exact h
  obtain ⟨h20, h21, h22, hse, heL, -, -⟩ := id hT
  obtain ⟨s, k, e⟩ := T
  simp only at h20 h21 h22 hse heL
  unfold wp_X6_isWord
  rw [h20, h21, h22]
  have hk1 : nI k = 1 ↔ k = 1 := by
    have hk : k ≤ 3 := hT.2.2.2.2.2.2
    exact nI_eq (b := 1) (by omega) (by omega)
  rw [hk1]
  refine ⟨fun h => ⟨isB_0, P 0 ?_⟩, fun h => ?_⟩
  · show 0 = b2i (decide (k = 1) && _ && _)
    rw [decide_eq_false h]; rfl
  intro r2 e2
  have es : nI e - nI s = nI (e - s) := pk_sub hse
  rw [es, e2]
  have hlen : nI (e - s) = nI w.length ↔ e - s = w.length := nI_eq (by omega) (by omega)
  rw [hlen]
  have hF : e - s = w.length → wrdF b (s, k, e) w = (List.range w.length).all (fun k => decide (b (s + k) = w.getD k 0)) := by
    intro h2
    show (decide (k = 1) && decide (e - s = w.length) && _) = _
    rw [decide_eq_true h, decide_eq_true h2]; rfl
  refine ⟨fun h2 => ⟨w.length + 1, ?_⟩, fun h2 => ⟨isB_0, P 0 ?_⟩⟩
  rotate_left
  · show 0 = b2i (decide (k = 1) && decide (e - s = w.length) && _)
    rw [decide_eq_false h2]; simp [b2i]
  have key : ∀ n m, m + n = w.length → (∀ z, z < m → b (s + z) = w.getD z 0) → wpb_X6_isWord_28 (fun r => post_X6_isWord i a q w r) i a q w (n + 1) (nI m) := by
    intro n
    induction n with
    | zero =>
      intro m hm hz r4 e4
      have : m = w.length := by omega
      rw [e4, this]
      refine ⟨fun _ => ⟨isB_1, P 1 ?_⟩, fun h => absurd (Int32.le_refl _) h⟩
      rw [hF h2, List.all_eq_true.mpr (fun z hzm => decide_eq_true (hz z (by have := List.mem_range.mp hzm; omega)))]
      rfl
    | succ n ih =>
      intro m hm hz r4 e4
      rw [e4]
      refine ⟨fun h => absurd h (nI_ge (by omega) (by omega)), fun _ => ?_⟩
      rw [h21, nI_add, nI_clamp (by omega), nI_clamp (by omega)]
      have rd : a 8 (s + m) = b (s + m) := by rw [eb]; exact (trB_in (by omega)).symm
      rw [rd]
      refine ⟨vp_in_nI (by omega) (by omega), vp_in_nI (by omega) (by omega), fun r6 e6 => ⟨fun h3 z8 e8 => ?_, fun h3 => ⟨isB_0, P 0 ?_⟩⟩⟩
      · rw [e8, nI_1]
        refine ih (m + 1) (by omega) (fun z hzm => ?_)
        by_cases hzz : z = m
        · rw [hzz, h3, e6]
        · exact hz z (by omega)
      · rw [hF h2]
        have : (List.range w.length).all (fun k => decide (b (s + k) = w.getD k 0)) = false := by
          rw [List.all_eq_false]
          exact ⟨m, List.mem_range.mpr (by omega), by rw [decide_eq_false (fun z => h3 (z.trans e6.symm))]; exact Bool.noConfusion⟩
        rw [this]; rfl
  exact key w.length 0 (by omega) (fun z hz => absurd hz (Nat.not_lt_zero _))
theorem pr_X6_readsWord (i : Nat → Int32) (a : Nat → Nat → Int32) (q : Nat → Nat) (w : List Int32) (hpre : pre_X6_readsWord i a q w) : wp_X6_readsWord (fun r u => post_X6_readsWord i a q w r u) i a q w := by
  obtain ⟨hB, ⟨T, hT⟩, hw⟩ := id hpre
  obtain ⟨hL, h18⟩ := hB.len
  have hu := fun T' h' => TOK.uniq (T := T) hL hT (T' := T') h'
  refine ⟨hpre, fun r1 h1 => ?_⟩
  rw [h1 T hT]
  refine ⟨fun h => ⟨⟨hB, T.2.2, hT.2.2.2.2.1, hT.1⟩, fun i4 a5 q6 h2 => ⟨isB_1, ?_⟩⟩, fun h => ⟨isB_0, ?_⟩⟩
  · intro T' h'
    rw [← hu T' h', b2i_1 h]
    refine ⟨rfl, ?_⟩
    unfold post_X6_advances at h2
    rw [h2, if_pos rfl, hT.1, nI_clamp (by have := hT.2.2.2.2.1; omega)]
  · intro T' h'
    rw [← hu T' h', b2i_0 h]
    exact ⟨rfl, rfl⟩
theorem pr_X6_isSign (i : Nat → Int32) (a : Nat → Nat → Int32) (q : Nat → Nat) (x : Int32) (hpre : pre_X6_isSign i a q x) : wp_X6_isSign (fun r => post_X6_isSign i a q x r) i a q x := by
  obtain ⟨hB, ⟨T, hT⟩⟩ := hpre
  obtain ⟨hL, h18⟩ := hB.len
  have hu := fun T' h' => TOK.uniq (T := T) hL hT (T' := T') h'
  have P : ∀ r, r = b2i (sgnF (trB i a) T x) → post_X6_isSign i a q x r := fun r h T' h' => by rw [← hu T' h']; exact h
  obtain ⟨h20, h21, h22, hse, heL, hlt, h3⟩ := id hT
  unfold wp_X6_isSign
  rw [h21, h22]
  have hk : nI T.2.1 = 3 ↔ T.2.1 = 3 := nI_eq (b := 3) (by omega) (by omega)
  rw [hk]
  refine ⟨fun h => ⟨isB_0, P 0 (by unfold sgnF; rw [decide_eq_false h]; rfl)⟩, fun h => ?_⟩
  have h1 : T.1 < blen i := by have := hlt (by omega); omega
  rw [nI_clamp (by omega)]
  refine ⟨vp_in_nI (by omega) (by omega), fun h2 => ⟨isB_0, P 0 ?_⟩, fun h2 => ⟨isB_1, P 1 ?_⟩⟩
  · unfold sgnF
    rw [trB_in h1, decide_eq_false h2]; simp [b2i]
  · unfold sgnF
    rw [trB_in h1, decide_eq_true h, decide_eq_true h2]; rfl
theorem TOK.n23 {i : Nat → Int32} {T : Tk} {v : Int32} (h : TOK i T) : TOK (upd i 23 v) T := h
theorem BOK.n23 {i : Nat → Int32} {v : Int32} (h : BOK i) : BOK (upd i 23 v) := h
theorem pr_X6_isNumber (i : Nat → Int32) (a : Nat → Nat → Int32) (q : Nat → Nat) (x : Int32) (y : Int32) (hpre : pre_X6_isNumber i a q x y) : wp_X6_isNumber (fun r u => post_X6_isNumber i a q x y r u) i a q x y := by
  obtain ⟨hB, ⟨T, hT⟩⟩ := hpre
  obtain ⟨hL, h18⟩ := hB.len
  have hu := fun T' h' => TOK.uniq (T := T) hL hT (T' := T') h'
  obtain ⟨b, eb⟩ : ∃ b, b = trB i a := ⟨_, rfl⟩
  have P : ∀ r u, r = b2i (isNuF b T x y) → (∃ v, u = (upd i 23 v, a, q) ∧ (isNuF b T x y = true → v = numF b T)) → post_X6_isNumber i a q x y r u := fun r u h h1 T' h' => by rw [← hu T' h', ← eb]; exact ⟨h, h1⟩
  have i23 : upd i 23 (i 23) = i := by
    funext k
    unfold upd
    by_cases hk : k = 23
    · rw [if_pos hk, hk]
    · rw [if_neg hk]
  obtain ⟨h20, h21, h22, hse, heL, -, h3⟩ := id hT
  unfold wp_X6_isNumber
  rw [h20, h21, h22]
  have hk2 : nI T.2.1 = 2 ↔ T.2.1 = 2 := nI_eq (b := 2) (by omega) (by omega)
  have es : nI T.2.2 - nI T.1 = nI (T.2.2 - T.1) := pk_sub hse
  have hl3 : nI (T.2.2 - T.1) ≤ 3 ↔ T.2.2 - T.1 ≤ 3 := nI_leI (b := 3) (by omega) (by omega)
  rw [hk2, es, hl3]
  refine ⟨fun h => ⟨isB_0, P _ _ (by unfold isNuF; rw [decide_eq_false h]; rfl) ⟨i 23, by rw [i23], fun z => ?_⟩⟩, fun h => ⟨fun h2 i3 e3 z4 e4 => ⟨T.2.2 - T.1 + 1, ?_⟩, fun h2 => ⟨isB_0, P _ _ (by unfold isNuF; rw [decide_eq_false h2]; simp [b2i]) ⟨i 23, by rw [i23], fun z => ?_⟩⟩⟩⟩
  · unfold isNuF at z
    rw [decide_eq_false h] at z
    exact Bool.noConfusion z
  · have key : ∀ n m, m + n = T.2.2 - T.1 → wpb_X6_isNumber_33 (fun r u => post_X6_isNumber i a q x y r u) x y (n + 1) (upd i 23 (numG b T.1 m)) a q (nI (T.1 + m)) := by
      intro n
      induction n with
      | zero =>
        intro m hm
        have f20 : upd i 23 (numG b T.1 m) 20 = nI T.2.2 := h20
        have f23 : upd i 23 (numG b T.1 m) 23 = numG b T.1 m := rfl
        unfold wpb_X6_isNumber_33
        simp only [f20, f23]
        refine ⟨fun _ r6 e6 => ?_, fun h => absurd (by rw [show T.1 + m = T.2.2 by omega]; exact Int32.le_refl _) h⟩
        unfold post_X6_isIn at e6
        have e7 : r6 = b2i (decide (x ≤ numG b T.1 m ∧ numG b T.1 m ≤ y)) := e6.trans (congrArg b2i (decide_eq_decide.mpr (i2l_in (numG b T.1 m) (lo := x.toInt64) (hi := y.toInt64) x y rfl rfl)))
        clear e6
        have hm2 : numG b T.1 m = numF b T := by unfold numF; rw [show m = T.2.2 - T.1 by omega]
        rw [hm2] at e7
        rw [e7]
        refine ⟨isB_b _, P _ _ ?_ ⟨_, rfl, fun _ => hm2⟩⟩
        unfold isNuF
        rw [decide_eq_true h, decide_eq_true h2]; rfl
      | succ n ih =>
        intro m hm
        have f20 : upd i 23 (numG b T.1 m) 20 = nI T.2.2 := h20
        have f23 : upd i 23 (numG b T.1 m) 23 = numG b T.1 m := rfl
        have rd : a 8 (T.1 + m) = b (T.1 + m) := by rw [eb]; exact (trB_in (by omega)).symm
        unfold wpb_X6_isNumber_33
        simp only [f20, f23]
        rw [nI_clamp (by omega), rd]
        refine ⟨fun h => absurd h (nI_ge (by omega) (by omega)), fun _ => ⟨vp_in_nI (by omega) (by omega), fun i7 e7 z8 e8 => ?_⟩⟩
        rw [e7, e8, nI_1, upd_upd]
        exact ih (m + 1) (by omega)
    rw [e4, e3]
    have := key (T.2.2 - T.1) 0 (by omega)
    rw [Nat.add_zero] at this
    show wpb_X6_isNumber_33 _ x y _ (upd i 23 0) a q (i 21)
    rw [h21]
    exact this
  · unfold isNuF at z
    rw [decide_eq_false h2] at z
    simp at z
theorem pr_X6_readsNumber (i : Nat → Int32) (a : Nat → Nat → Int32) (q : Nat → Nat) (x : Int32) (y : Int32) (hpre : pre_X6_readsNumber i a q x y) : wp_X6_readsNumber (fun r u => post_X6_readsNumber i a q x y r u) i a q x y := by
  obtain ⟨hB, ⟨T, hT⟩⟩ := id hpre
  obtain ⟨hL, h18⟩ := hB.len
  have hu := fun T' h' => TOK.uniq (T := T) hL hT (T' := T') h'
  refine ⟨hpre, fun r1 i2 a3 q4 h1 => ?_⟩
  obtain ⟨e1, v, e2, e3⟩ := h1 T hT
  cases e2
  rw [e1]
  refine ⟨fun h => ⟨⟨hB, T.2.2, hT.2.2.2.2.1, hT.1⟩, fun i7 a8 q9 h2 => ⟨isB_1, ?_⟩⟩, fun h => ⟨isB_0, ?_⟩⟩
  · intro T' h'
    rw [← hu T' h', b2i_1 h]
    refine ⟨rfl, ?_⟩
    unfold post_X6_advances at h2
    rw [h2, if_pos rfl, show upd i 23 v 20 = nI T.2.2 from hT.1, nI_clamp (by have := hT.2.2.2.2.1; omega), e3 (b2i_1 h)]
    rfl
  · intro T' h'
    rw [← hu T' h', b2i_0 h]
    exact ⟨rfl, v, rfl⟩
