def wpb_X6_addInn_78 (post : Int32 → MSt → Prop)  (x : Int32) (i : Nat → Int32) (a : Nat → Nat → Int32) (q : Nat → Nat)  : Prop :=
  ∀ r27 i28 a29 q30, post_X6_fails i a q 2 r27 (i28, a29, q30) → post r27 (i28, a29, q30)
def wpb_X6_addInn_61 (post : Int32 → MSt → Prop)  (x : Int32) (i : Nat → Int32) (a : Nat → Nat → Int32) (q : Nat → Nat) (x2 : Int32) : Prop :=
  (x2 = 12 → wpb_X6_addInn_78 post  x i a q) ∧ (¬ x2 = 12 → pre_X6_isSound i a q 1 ∧ ∀ r10 i11 a12 q13, post_X6_isSound i a q 1 r10 (i11, a12, q13) → (¬ r10 = 0 → pre_X6_remembers i11 a12 q13  ∧ ∀ i16 a17 q18, post_X6_remembers i11 a12 q13  (i16, a17, q18) → pre_X6_builds i16 a17 q18 1 x2 x ∧ ∀ i20 a21 q22, post_X6_builds i16 a17 q18 1 x2 x (i20, a21, q22) → ∀ i24 a25 q26, post_X6_rebuilds i20 a21 q22 1 (i24, a25, q26) → post x2 (i24, a25, q26)) ∧ (r10 = 0 → wpb_X6_addInn_78 post  x i11 a12 q13))
def wpb_X6_addInn_37 (post : Int32 → MSt → Prop)  (x : Int32) : Nat → (Nat → Int32) → (Nat → Nat → Int32) → (Nat → Nat) → Int32 → Prop
  | 0 => fun _ _ _ _ => False
  | n + 1 => fun i a q x2 => (12 ≤ x2 → wpb_X6_addInn_61 post  x i a q x2) ∧ (¬ 12 ≤ x2 → vp_in (3 + x2) 78 ∧ (¬ (a 1 (3 + x2).toNatClampNeg) = 1 → wpb_X6_addInn_61 post  x i a q x2) ∧ ((a 1 (3 + x2).toNatClampNeg) = 1 → ∀ z8, z8 = x2 + 1 → (wpb_X6_addInn_37 post  x n) i a q z8))
def wpb_X6_addInn_29 (post : Int32 → MSt → Prop)  (x : Int32) (i : Nat → Int32) (a : Nat → Nat → Int32) (q : Nat → Nat)  : Prop :=
  ∀ r31 i32 a33 q34, post_X6_fails i a q 1 r31 (i32, a33, q34) → post r31 (i32, a33, q34)
def wp_X6_addInn (post : Int32 → MSt → Prop) (i : Nat → Int32) (a : Nat → Nat → Int32) (q : Nat → Nat) (x : Int32) : Prop :=
  ∀ i1, i1 = upd i 0 0 → ∀ r2, post_X6_isIn  x.toInt64 0 999 r2 → (r2 = 0 → wpb_X6_addInn_29 post  x i1 a q) ∧ (¬ r2 = 0 → ∀ r4, post_X6_atMile i1 a q 1 x r4 → (r4 = (-1) → ∃ n, wpb_X6_addInn_37 post  x n i1 a q 0) ∧ (¬ r4 = (-1) → wpb_X6_addInn_29 post  x i1 a q))

def wp_X6_removeInn (post : Int32 → MSt → Prop) (i : Nat → Int32) (a : Nat → Nat → Int32) (q : Nat → Nat) (x : Int32) : Prop :=
  ∀ i1, i1 = upd i 0 0 → ∀ r2, post_X6_hasInnAt i1 a q 1 x r2 → (¬ r2 = 0 → pre_X6_isSound i1 a q 1 ∧ ∀ r4 i5 a6 q7, post_X6_isSound i1 a q 1 r4 (i5, a6, q7) → (¬ r4 = 0 → pre_X6_remembers i5 a6 q7  ∧ ∀ i10 a11 q12, post_X6_remembers i5 a6 q7  (i10, a11, q12) → vp_in (3 + x) 78 ∧ ∀ a13, a13 = updA a11 1 (3 + x).toNatClampNeg 0 → ∀ i15 a16 q17, post_X6_rebuilds i10 a13 q12 1 (i15, a16, q17) → vp_in (39 + x) 78 ∧ post (a16 1 (39 + x).toNatClampNeg) (i15, a16, q17)) ∧ (r4 = 0 → ∀ r18 i19 a20 q21, post_X6_fails i5 a6 q7 2 r18 (i19, a20, q21) → post r18 (i19, a20, q21))) ∧ (r2 = 0 → ∀ r22 i23 a24 q25, post_X6_fails i1 a q 1 r22 (i23, a24, q25) → post r22 (i23, a24, q25))

def wp_X6_repair (post : Int32 → MSt → Prop) (i : Nat → Int32) (a : Nat → Nat → Int32) (q : Nat → Nat)  : Prop :=
  ∀ i1, i1 = upd i 0 0 → pre_X6_fault i1 a q  ∧ ∀ r2 i3 a4 q5, post_X6_fault i1 a q  r2 (i3, a4, q5) → (¬ r2 = (-1) → pre_X6_remembers i3 a4 q5  ∧ ∀ i8 a9 q10, post_X6_remembers i3 a4 q5  (i8, a9, q10) → vp_in r2 78 ∧ vp_in r2 78 ∧ ∀ a11, a11 = updA a9 1 r2.toNatClampNeg (a9 4 r2.toNatClampNeg) → vp_in r2 78 ∧ post (a11 1 r2.toNatClampNeg) (i8, a11, q10)) ∧ (r2 = (-1) → ∀ r12 i13 a14 q15, post_X6_fails i3 a4 q5 1 r12 (i13, a14, q15) → post r12 (i13, a14, q15))

def wp_X6_rebuild (post : Int32 → MSt → Prop) (i : Nat → Int32) (a : Nat → Nat → Int32) (q : Nat → Nat)  : Prop :=
  ∀ i1, i1 = upd i 0 0 → ∀ r2 i3 a4 q5, post_X6_wrongOnes i1 a q  r2 (i3, a4, q5) → pre_X6_remembers i3 a4 q5  ∧ ∀ i7 a8 q9, post_X6_remembers i3 a4 q5  (i7, a8, q9) → ∀ i11 a12 q13, post_X6_rebuilds i7 a8 q9 1 (i11, a12, q13) → post r2 (i11, a12, q13)

def wp_X6_leaveLetters (post : Int32 → MSt → Prop) (i : Nat → Int32) (a : Nat → Nat → Int32) (q : Nat → Nat) (x : Int32) (y : Int32) : Prop :=
  ∀ i1, i1 = upd i 0 0 → ∀ r2, post_X6_hasInnAt i1 a q 1 x r2 → (¬ r2 = 0 → ∀ r4, post_X6_isIn  y.toInt64 1 99 r4 → (¬ r4 = 0 → vp_in (39 + x) 78 ∧ (((a 1 (39 + x).toNatClampNeg) + y) ≤ 99 → pre_X6_remembers i1 a q  ∧ ∀ i8 a9 q10, post_X6_remembers i1 a q  (i8, a9, q10) → vp_in (39 + x) 78 ∧ vp_in (39 + x) 78 ∧ ∀ a11, a11 = updA a9 1 (39 + x).toNatClampNeg ((a9 1 (39 + x).toNatClampNeg) + y) → vp_in (39 + x) 78 ∧ post (a11 1 (39 + x).toNatClampNeg) (i8, a11, q10)) ∧ (¬ ((a 1 (39 + x).toNatClampNeg) + y) ≤ 99 → ∀ r12 i13 a14 q15, post_X6_fails i1 a q 3 r12 (i13, a14, q15) → post r12 (i13, a14, q15))) ∧ (r4 = 0 → ∀ r16 i17 a18 q19, post_X6_fails i1 a q 2 r16 (i17, a18, q19) → post r16 (i17, a18, q19))) ∧ (r2 = 0 → ∀ r20 i21 a22 q23, post_X6_fails i1 a q 1 r20 (i21, a22, q23) → post r20 (i21, a22, q23))

def wp_X6_restore (post : Int32 → MSt → Prop) (i : Nat → Int32) (a : Nat → Nat → Int32) (q : Nat → Nat)  : Prop :=
  ∀ i1, i1 = upd i 0 0 → (¬ (i1 8) = 0 → pre_X6_remembers i1 a q  ∧ ∀ i4 a5 q6, post_X6_remembers i1 a q  (i4, a5, q6) → ∀ i8 a9 q10, post_X6_copies i4 a5 q6 2 1 (i8, a9, q10) → ∀ r11, post_X6_innsOf i8 a9 q10 1 r11 → post r11 (i8, a9, q10)) ∧ ((i1 8) = 0 → ∀ r12 i13 a14 q15, post_X6_fails i1 a q 1 r12 (i13, a14, q15) → post r12 (i13, a14, q15))

def wp_X6_undo (post : Int32 → MSt → Prop) (i : Nat → Int32) (a : Nat → Nat → Int32) (q : Nat → Nat)  : Prop :=
  ∀ i1, i1 = upd i 0 0 → (¬ (i1 7) = 0 → ∀ i3, i3 = upd i1 7 ((i1 7) - 1) → vp_in (i3 7) 8 ∧ m78 (q (i3 7).toNatClampNeg) = true ∧ ∀ i6 a7 q8, post_X6_copies i3 a q (q (i3 7).toNatClampNeg) 1 (i6, a7, q8) → post (i6 7) (i6, a7, q8)) ∧ ((i1 7) = 0 → ∀ r9 i10 a11 q12, post_X6_fails i1 a q 1 r9 (i10, a11, q12) → post r9 (i10, a11, q12))

def wp_X6_undoCount (post : Int32 → MSt → Prop) (i : Nat → Int32) (a : Nat → Nat → Int32) (q : Nat → Nat)  : Prop :=
  ∀ i1, i1 = upd i 0 0 → post (i1 7) (i1, a, q)

def wp_X6_save (post : Int32 → MSt → Prop) (i : Nat → Int32) (a : Nat → Nat → Int32) (q : Nat → Nat)  : Prop :=
  ∀ i1, i1 = upd i 0 0 → ∀ i3 a4 q5, post_X6_copies i1 a q 1 2 (i3, a4, q5) → ∀ i6, i6 = upd i3 8 1 → ∀ r7, post_X6_innsOf i6 a4 q5 1 r7 → post r7 (i6, a4, q5)
section MAB2
variable {i : Nat → Int32} {a : Nat → Nat → Int32} {q : Nat → Nat} {t : Int32} {S : AM} {i' : Nat → Int32} {a' : Nat → Nat → Int32} {q' : Nat → Nat}
theorem MAb.snd (h : MAb i a q t S) {r : Int32} (hs : post_X6_isSound i a q 1 r (i', a', q')) : r = b2i (souF S.1) ∧ MAb i' a' q' t S := by
  obtain ⟨h1, h2, h3, h4⟩ := hs
  dsimp only at h2 h3 h4
  subst h4
  exact ⟨by rw [h1, h.2.1], h.scr ((h2 0 (by decide) (by decide)).trans h.1) ⟨h2 7 (by decide) (by decide), h2 8 (by decide) (by decide), h2 18 (by decide) (by decide), h2 19 (by decide) (by decide)⟩ (fun j _ _ _ h => h3 j h)⟩
theorem MAb.flt (h : MAb i a q t S) {r : Int32} (hs : post_X6_fault i a q r (i', a', q')) : r = fauF S.1 ∧ MAb i' a' q' t S ∧ (r ≠ -1 → a' 4 = rebF S.1) := by
  obtain ⟨h1, h2, h3, h4, h5⟩ := hs
  dsimp only at h2 h3 h4 h5
  subst h4
  exact ⟨by rw [h1, h.2.1], h.scr ((h2 0 (by decide) (by decide)).trans h.1) ⟨h2 7 (by decide) (by decide), h2 8 (by decide) (by decide), h2 18 (by decide) (by decide), h2 19 (by decide) (by decide)⟩ (fun j _ h h' h'' => h3 j h h' h''), fun z => by rw [h5 z, h.2.1]⟩
theorem MAb.rds (h : MAb i a q t S) {x y r : Int32} (hs : post_X6_rides i a q 1 x y r (i', a', q')) : r = b2i (rdO S.1 x y).1 ∧ MAb i' a' q' t S ∧ i' = rdI i (rdO S.1 x y) ∧ a' = a := by
  obtain ⟨h1, h2⟩ := hs
  cases h2
  rw [h.2.1] at h1 ⊢
  exact ⟨h1, h.scr h.1 ⟨rfl, rfl, rfl, rfl⟩ (fun j _ _ _ _ => rfl), rfl, rfl⟩
theorem MAb.due (h : MAb i a q t S) {f : Row} : MAb i (setR a 4 f) q t S := h.scr h.1 ⟨rfl, rfl, rfl, rfl⟩ (fun _ _ h _ _ => setR_ne h)
theorem MAb.trl (h : MAb i a q t S) {f : Row} : MAb i (setR a 5 f) q t S := h.scr h.1 ⟨rfl, rfl, rfl, rfl⟩ (fun _ _ _ h _ => setR_ne h)
end MAB2
theorem fauR_rng (f : Row) : ∀ n c, fauR f n c = -1 ∨ ∃ d, c ≤ d ∧ d < c + n ∧ fauR f n c = nI d := by
  intro n
  induction n with
  | zero => intro c; exact Or.inl rfl
  | succ n ih =>
    intro c
    unfold fauR
    split
    · exact Or.inr ⟨c, Nat.le_refl _, by omega, rfl⟩
    · rcases ih (c + 1) with h | ⟨d, h1, h2, h3⟩
      · exact Or.inl h
      · exact Or.inr ⟨d, by omega, by omega, h3⟩
theorem fauF_rng {f : Row} (h : fauF f ≠ -1) : ∃ d, 51 ≤ d ∧ d < 78 ∧ fauF f = nI d := by
  revert h
  unfold fauF
  split
  · intro h; exact absurd rfl h
  · intro h
    rcases fauR_rng f 27 51 with z | ⟨d, h1, h2, h3⟩
    · exact absurd z h
    · exact ⟨d, h1, by omega, h3⟩
theorem empR_le (f : Row) : ∀ n k, k ≤ empR f n k ∧ empR f n k ≤ k + n := by
  intro n
  induction n with
  | zero => intro k; exact ⟨Nat.le_refl _, Nat.le_refl _⟩
  | succ n ih =>
    intro k
    unfold empR
    split
    · have := ih (k + 1); omega
    · omega
theorem pr_X6_addInn (i : Nat → Int32) (a : Nat → Nat → Int32) (q : Nat → Nat) (x : Int32) (hpre : pre_X6_addInn i a q x) : wp_X6_addInn (fun r u => post_X6_addInn i a q x r u) i a q x := by
  obtain ⟨t0, S0, h0⟩ := hpre
  intro i1 e1 r2 h2
  subst e1
  have h2 := isIn_of (0 : Int32) (999 : Int32) rfl rfl h2
  subst h2
  refine ⟨fun c r31 i32 a33 q34 h31 t S hS => ?_, fun c r4 h4 => ?_⟩
  · unfold opAdd
    rw [if_neg (fun z => of_decide_eq_false (b2i_0 c) z.1)]
    exact (hS.thr (t' := 0)).fail h31
  have c := of_decide_eq_true (b2i_1 c)
  unfold post_X6_atMile at h4
  subst h4
  refine ⟨fun c2 => ?_, fun c2 r31 i32 a33 q34 h31 t S hS => ?_⟩
  rotate_left
  · unfold opAdd
    rw [hS.2.1] at c2
    rw [if_neg (fun z => c2 z.2)]
    exact (hS.thr (t' := 0)).fail h31
  have P : ∀ t S, MAb i a q t S → opAdd S x = if empR S.1 12 0 ≠ 12 ∧ souF S.1 = true then (0, nI (empR S.1 12 0), S.chg (rebF (bldF S.1 (empR S.1 12 0) x))) else bad 2 S := by
    intro t S hS
    unfold opAdd
    rw [hS.2.1] at c2
    rw [if_pos ⟨c, c2⟩]
  have hle := (empR_le (a 1) 12 0).2
  have k61 : wpb_X6_addInn_61 (fun r u => post_X6_addInn i a q x r u) x (upd i 0 0) a q (nI (empR (a 1) 12 0)) := by
    refine ⟨fun c3 r27 i28 a29 q30 h27 t S hS => ?_, fun c3 => ⟨trivial, fun r10 i11 a12 q13 h10 => ?_⟩⟩
    · rw [P t S hS, if_neg]
      · exact (hS.thr (t' := 0)).fail h27
      · intro z
        rw [hS.2.1] at c3 hle
        exact z.1 ((nI_eq (b := 12) (by omega) (by omega)).mp c3)
    · obtain ⟨e10, h11⟩ := (h0.thr (t' := 0)).snd h10
      have e10' : ∀ {t S}, MAb i a q t S → r10 = b2i (souF S.1) := fun hS => ((hS.thr (t' := 0)).snd h10).1
      refine ⟨fun c4 => ⟨h11.pr, fun i16 a17 q18 h16 => ⟨⟨empR (a 1) 12 0, ?_, rfl⟩, fun i20 a21 q22 h20 i24 a25 q26 h24 t S hS => ?_⟩⟩, fun c4 r27 i28 a29 q30 h27 t S hS => ?_⟩
      · have : empR (a 1) 12 0 ≠ 12 := fun z => c3 (by rw [z]; rfl)
        omega
      · have h12 := (((hS.thr (t' := 0)).snd h10).2).rem h16
        have h20 : (i20, a21, q22) = (i16, setR a17 1 (bldF (a17 1) (nI (empR (a 1) 12 0)).toNatClampNeg x), q18) := h20
        rw [nI_clamp (by omega)] at h20
        cases h20
        have h24 : (i24, a25, q26) = (i16, setR (setR a17 1 (bldF (a17 1) (empR (a 1) 12 0) x)) 1 (rebF (setR a17 1 (bldF (a17 1) (empR (a 1) 12 0) x) 1)), q18) := h24
        rw [setR_setR, setR_self] at h24
        cases h24
        rw [P t S hS, if_pos]
        · refine ⟨by rw [hS.2.1], ?_⟩
          have := h12.row (rebF (bldF (a17 1) (empR (a 1) 12 0) x))
          have e17 : a17 1 = S.1 := h12.2.1
          rw [e17, hS.2.1] at this ⊢
          exact this
        · rw [hS.2.1] at c3
          refine ⟨fun z => c3 (by rw [z]; rfl), ?_⟩
          rw [e10' hS] at c4
          exact b2i_1 c4
      · rw [P t S hS, if_neg]
        · exact ((hS.thr (t' := 0)).snd h10).2.fail h27
        · rw [e10' hS] at c4
          exact fun z => b2i_f c4 z.2
  have key : ∀ n k, k + n = 12 → empR (a 1) 12 0 = empR (a 1) n k → wpb_X6_addInn_37 (fun r u => post_X6_addInn i a q x r u) x (n + 1) (upd i 0 0) a q (nI k) := by
    intro n
    induction n with
    | zero =>
      intro k hk he
      have : k = 12 := by omega
      subst this
      refine ⟨fun _ => ?_, fun h => absurd (Int32.le_refl _) h⟩
      rw [he] at k61
      exact k61
    | succ n ih =>
      intro k hk he
      have he : empR (a 1) 12 0 = if a 1 (3 + k) = 1 then empR (a 1) n (k + 1) else k := he
      refine ⟨fun h => absurd h (nI_ge (b := 12) (by omega) (by omega)), fun _ => ?_⟩
      rw [a3, nI_clamp (by omega)]
      refine ⟨vp_in_nI (by omega) (by omega), fun c3 => ?_, fun c3 z8 e8 => ?_⟩
      · rw [if_neg c3] at he
        rw [he] at k61
        exact k61
      · rw [if_pos c3] at he
        rw [e8, nI_1]
        exact ih (k + 1) (by omega) he
  exact ⟨13, key 12 0 rfl rfl⟩
theorem pr_X6_removeInn (i : Nat → Int32) (a : Nat → Nat → Int32) (q : Nat → Nat) (x : Int32) (hpre : pre_X6_removeInn i a q x) : wp_X6_removeInn (fun r u => post_X6_removeInn i a q x r u) i a q x := by
  obtain ⟨t0, S0, h0⟩ := hpre
  intro i1 e1 r2 h2
  subst e1
  unfold post_X6_hasInnAt at h2
  subst h2
  refine ⟨fun c => ⟨trivial, fun r4 i5 a6 q7 h4 => ?_⟩, fun c r22 i23 a24 q25 h22 t S hS => ?_⟩
  rotate_left
  · unfold opRem
    rw [← hS.2.1, if_neg (b2i_f c)]
    exact (hS.thr (t' := 0)).fail h22
  obtain ⟨e4, h5⟩ := (h0.thr (t' := 0)).snd h4
  have e4' : ∀ {t S}, MAb i a q t S → r4 = b2i (souF S.1) := fun hS => ((hS.thr (t' := 0)).snd h4).1
  obtain ⟨k, hk, ek⟩ := hasI_pl (b2i_1 c)
  have hx3 : (3 + x).toNatClampNeg = 3 + x.toNatClampNeg := by rw [ek, a3, nI_clamp (by omega), nI_clamp (by omega)]
  have hx39 : (39 + x).toNatClampNeg = 39 + x.toNatClampNeg := by rw [ek, a39, nI_clamp (by omega), nI_clamp (by omega)]
  refine ⟨fun c4 => ⟨h5.pr, fun i10 a11 q12 h10 => ⟨by rw [ek, a3]; exact vp_in_nI (by omega) (by omega), fun a13 e13 i15 a16 q17 h15 => ⟨by rw [ek, a39]; exact vp_in_nI (by omega) (by omega), fun t S hS => ?_⟩⟩⟩, fun c4 r18 i19 a20 q21 h18 t S hS => ?_⟩
  · have h12 := (((hS.thr (t' := 0)).snd h4).2).rem h10
    rw [hx3, updA_setR, h12.2.1] at e13
    have h15 : (i15, a16, q17) = (i10, setR a13 1 (rebF (a13 1)), q12) := h15
    rw [e13, setR_setR, setR_self] at h15
    cases h15
    unfold opRem
    rw [e4' hS] at c4
    rw [← hS.2.1, if_pos (b2i_1 c), hS.2.1, if_pos (b2i_1 c4)]
    refine ⟨?_, h12.row _⟩
    rw [hx39, setR_self]
    show rebF (upd S.1 (3 + x.toNatClampNeg) 0) (39 + x.toNatClampNeg) = S.1 (39 + x.toNatClampNeg)
    rw [ek, nI_clamp (by omega)]
    unfold rebF
    rw [if_neg (by omega), if_neg (by omega), if_neg (by omega), if_neg (by omega), if_neg (by omega)]
    unfold upd
    rw [if_neg (by omega)]
  · unfold opRem
    rw [e4' hS] at c4
    rw [← hS.2.1, if_pos (b2i_1 c), hS.2.1, if_neg (b2i_f c4)]
    exact ((hS.thr (t' := 0)).snd h4).2.fail h18
theorem pr_X6_repair (i : Nat → Int32) (a : Nat → Nat → Int32) (q : Nat → Nat)  (hpre : pre_X6_repair i a q ) : wp_X6_repair (fun r u => post_X6_repair i a q  r u) i a q  := by
  obtain ⟨t0, S0, h0⟩ := hpre
  intro i1 e1
  subst e1
  refine ⟨trivial, fun r2 i3 a4 q5 h2 => ?_⟩
  obtain ⟨e2, h3, g4⟩ := (h0.thr (t' := 0)).flt h2
  refine ⟨fun c => ⟨h3.pr, fun i8 a9 q10 h8 => ?_⟩, fun c r12 i13 a14 q15 h12 t S hS => ?_⟩
  · obtain ⟨d, hd1, hd2, ed⟩ := fauF_rng (f := S0.1) (fun z => c (e2.trans z))
    rw [e2, ed, nI_clamp (by omega)]
    have hin : vp_in (nI d) 78 := vp_in_nI (by omega) (by omega)
    refine ⟨hin, hin, fun a11 e11 => ⟨hin, fun t S hS => ?_⟩⟩
    obtain ⟨e2', h3', g4'⟩ := (hS.thr (t' := 0)).flt h2
    have h9 := h3'.rem h8
    have e44 : a9 4 = a4 4 := h8.2.2.1 4 (by decide)
    rw [e44, g4' c] at e11
    have ed' : fauF S.1 = nI d := e2'.symm.trans (e2.trans ed)
    unfold opRep
    rw [if_neg (fun z => c (e2'.trans z)), ed', nI_clamp (by omega), e11]
    refine ⟨?_, h9.set⟩
    rw [updA_self]
    exact if_pos rfl
  · obtain ⟨e2', h3', -⟩ := (hS.thr (t' := 0)).flt h2
    unfold opRep
    rw [if_pos (e2'.symm.trans c)]
    exact h3'.fail h12
theorem pr_X6_rebuild (i : Nat → Int32) (a : Nat → Nat → Int32) (q : Nat → Nat)  (hpre : pre_X6_rebuild i a q ) : wp_X6_rebuild (fun r u => post_X6_rebuild i a q  r u) i a q  := by
  obtain ⟨t0, S0, h0⟩ := hpre
  intro i1 e1 r2 i3 a4 q5 h2
  subst e1
  obtain ⟨e2, e3⟩ := h2
  cases e3
  refine ⟨((h0.thr (t' := 0)).due (f := rebF (a 1))).pr, fun i7 a8 q9 h7 i11 a12 q13 h11 t S hS => ?_⟩
  have h8 := ((hS.thr (t' := 0)).due (f := rebF (a 1))).rem h7
  have h11 : (i11, a12, q13) = (i7, setR a8 1 (rebF (a8 1)), q9) := h11
  cases h11
  have := h8.row (rebF (a8 1))
  have e8 : a8 1 = S.1 := h8.2.1
  rw [e8] at this ⊢
  exact ⟨by rw [e2, hS.2.1]; rfl, this⟩
theorem pr_X6_leaveLetters (i : Nat → Int32) (a : Nat → Nat → Int32) (q : Nat → Nat) (x : Int32) (y : Int32) (hpre : pre_X6_leaveLetters i a q x y) : wp_X6_leaveLetters (fun r u => post_X6_leaveLetters i a q x y r u) i a q x y := by
  obtain ⟨t0, S0, h0⟩ := hpre
  intro i1 e1 r2 h2
  subst e1
  unfold post_X6_hasInnAt at h2
  subst h2
  refine ⟨fun c r4 h4 => ?_, fun c r20 i21 a22 q23 h20 t S hS => ?_⟩
  rotate_left
  · unfold opLet
    rw [← hS.2.1, if_neg (b2i_f c)]
    exact (hS.thr (t' := 0)).fail h20
  have h4 := isIn_of (1 : Int32) (99 : Int32) rfl rfl h4
  subst h4
  obtain ⟨k, hk, ek⟩ := hasI_pl (b2i_1 c)
  have hx39 : (39 + x).toNatClampNeg = 39 + x.toNatClampNeg := by rw [ek, a39, nI_clamp (by omega), nI_clamp (by omega)]
  have hin : vp_in (39 + x) 78 := by rw [ek, a39]; exact vp_in_nI (by omega) (by omega)
  refine ⟨fun c2 => ⟨hin, fun c3 => ⟨(h0.thr (t' := 0)).pr, fun i8 a9 q10 h8 => ⟨hin, hin, fun a11 e11 => ⟨hin, fun t S hS => ?_⟩⟩⟩, fun c3 r12 i13 a14 q15 h12 t S hS => ?_⟩, fun c2 r16 i17 a18 q19 h16 t S hS => ?_⟩
  · have h9 := (hS.thr (t' := 0)).rem h8
    have e9 : a9 1 = S.1 := h9.2.1
    rw [hx39, hS.2.1] at c3
    unfold opLet
    rw [← hS.2.1, if_pos (b2i_1 c), hS.2.1, if_pos (of_decide_eq_true (b2i_1 c2)), if_pos c3]
    rw [hx39, e9] at e11
    rw [e11, hx39]
    refine ⟨?_, h9.set⟩
    rw [updA_self]
    exact if_pos rfl
  · rw [hx39, hS.2.1] at c3
    unfold opLet
    rw [← hS.2.1, if_pos (b2i_1 c), hS.2.1, if_pos (of_decide_eq_true (b2i_1 c2)), if_neg c3]
    exact (hS.thr (t' := 0)).fail h12
  · unfold opLet
    rw [← hS.2.1, if_pos (b2i_1 c), if_neg (of_decide_eq_false (b2i_0 c2))]
    exact (hS.thr (t' := 0)).fail h16
theorem pr_X6_restore (i : Nat → Int32) (a : Nat → Nat → Int32) (q : Nat → Nat)  (hpre : pre_X6_restore i a q ) : wp_X6_restore (fun r u => post_X6_restore i a q  r u) i a q  := by
  obtain ⟨t0, S0, h0⟩ := hpre
  intro i1 e1
  subst e1
  have f8 : upd i 0 0 8 = i 8 := rfl
  rw [f8]
  refine ⟨fun c => ⟨(h0.thr (t' := 0)).pr, fun i4 a5 q6 h4 i8 a9 q10 h8 r11 h11 t S hS => ?_⟩, fun c r12 i13 a14 q15 h12 t S hS => ?_⟩
  · have h8 : (i8, a9, q10) = (i4, setR a5 1 (a5 2), q6) := h8
    cases h8
    have h11 : r11 = innsN (setR a5 1 (a5 2) 1) 12 := h11
    rw [setR_self] at h11
    have h5 := (hS.thr (t' := 0)).rem h4
    have e52 : a5 2 = a 2 := h4.2.2.1 2 (by decide)
    unfold opRes
    cases hk : S.2.1 with
    | none => exact absurd (hS.2.2.1 hk) c
    | some k =>
      have e2 := (hS.2.2.2.1 k hk).2
      dsimp only
      rw [e52, e2] at h11 ⊢
      exact ⟨h11, h5.row k⟩
  · unfold opRes
    cases hk : S.2.1 with
    | none => exact (hS.thr (t' := 0)).fail h12
    | some k => exact absurd (((hS.2.2.2.1 k hk).1).symm.trans c) (by decide)
theorem hisL_len {i : Nat → Int32} {a : Nat → Nat → Int32} {q : Nat → Nat} (h : HistOK i q) : i 7 = nI (hisL i a q).length ∧ (hisL i a q).length ≤ 8 := by
  obtain ⟨⟨n, hn, e⟩, -⟩ := h
  unfold hisL
  rw [List.length_map, List.length_range, e, nI_clamp (by omega)]
  exact ⟨rfl, hn⟩
theorem pr_X6_undo (i : Nat → Int32) (a : Nat → Nat → Int32) (q : Nat → Nat)  (hpre : pre_X6_undo i a q ) : wp_X6_undo (fun r u => post_X6_undo i a q  r u) i a q  := by
  obtain ⟨t0, S0, h0⟩ := hpre
  intro i1 e1
  subst e1
  have f7 : upd i 0 0 7 = i 7 := rfl
  rw [f7]
  obtain ⟨⟨n, hn, en⟩, hq, hq2⟩ := h0.his
  rw [en]
  refine ⟨fun c i3 e3 => ?_, fun c r9 i10 a11 q12 h9 t S hS => ?_⟩
  · obtain ⟨m, rfl⟩ : ∃ m, n = m + 1 := ⟨n - 1, by have : n ≠ 0 := fun z => c (by rw [z]; rfl); omega⟩
    have em : nI (m + 1) - 1 = nI m := by rw [← nI_1]; exact Int32.add_sub_cancel _ _
    rw [em] at e3
    have f37 : i3 7 = nI m := by rw [e3]; rfl
    rw [f37, nI_clamp (by omega)]
    have hm := hq m (by omega)
    refine ⟨vp_in_nI (by omega) (by omega), by unfold m78; simp only [Bool.or_eq_true, Bool.and_eq_true, decide_eq_true_eq]; omega, fun i6 a7 q8 h6 t S hS => ?_⟩
    have h6 : (i6, a7, q8) = (i3, setR a 1 (a (q m)), q) := h6
    cases h6
    have hL : S.2.2.1 = (List.range m).map (fun k => a (q k)) ++ [a (q m)] := by
      rw [← hS.2.2.2.2.2.1]
      unfold hisL
      rw [en, nI_clamp (by omega), List.range_succ, List.map_append]
      rfl
    unfold opUndo
    have hne : ¬ S.2.2.1 = [] := by rw [hL]; simp
    rw [if_neg hne, hL]
    have hr : i3 7 = nI (((List.range m).map (fun k => a (q k)) ++ [a (q m)]).length - 1) := by rw [f37]; simp
    refine ⟨hr, ?_⟩
    rw [List.dropLast_concat, List.getLastD_concat]
    obtain ⟨g0, g1, g2, g3, g4, g5, g6, g7, g8, g9⟩ := hS.thr (t' := 0)
    subst e3
    refine ⟨g0, show setR a 1 (a (q m)) 1 = a (q m) from setR_self, g2, g3, ⟨⟨m, by omega, f37⟩, hq, hq2⟩, ?_, g6, g7, g8, g9⟩
    show hisL _ _ _ = _
    unfold hisL
    dsimp only
    rw [f37, nI_clamp (by omega)]
    refine List.map_congr_left (fun k hk => setR_ne ?_)
    have := hq k (by have := List.mem_range.mp hk; omega)
    omega
  · have : n = 0 := (nI_eq (b := 0) (by omega) (by omega)).mp c
    subst this
    have hL : S.2.2.1 = [] := by
      rw [← hS.2.2.2.2.2.1]
      unfold hisL
      rw [en]; rfl
    unfold opUndo
    rw [if_pos hL]
    exact (hS.thr (t' := 0)).fail h9
theorem pr_X6_undoCount (i : Nat → Int32) (a : Nat → Nat → Int32) (q : Nat → Nat)  (hpre : pre_X6_undoCount i a q ) : wp_X6_undoCount (fun r u => post_X6_undoCount i a q  r u) i a q  := by
  intro i1 e1 t S hS
  subst e1
  refine ⟨?_, hS.thr⟩
  rw [show upd i 0 0 7 = i 7 from rfl, (hisL_len (a := a) hS.his).1, hS.2.2.2.2.2.1]; rfl
theorem MAb.sav {i : Nat → Int32} {a : Nat → Nat → Int32} {q : Nat → Nat} {t : Int32} {S : AM} (h : MAb i a q t S) : MAb (upd i 8 1) (setR a 2 S.1) q t (S.1, some S.1, S.2.2) := by
  obtain ⟨g0, g1, g2, g3, g4, g5, g6, g7, g8, g9⟩ := h
  have e1 : setR a 2 S.1 1 = a 1 := setR_ne (by decide)
  have e2 : setR a 2 S.1 2 = S.1 := setR_self
  have e8 : setR a 2 S.1 8 = a 8 := setR_ne (by decide)
  have e9 : setR a 2 S.1 9 = a 9 := setR_ne (by decide)
  have eh : hisL (upd i 8 1) (setR a 2 S.1) q = hisL i a q := hisL_congr g4 rfl (fun j h1 h2 => setR_ne (by omega))
  refine ⟨g0, e1.trans g1, fun z => absurd (show some S.1 = none from z) (by simp), fun k ek => ⟨rfl, e2.trans (Option.some.inj ek)⟩, g4, eh.trans g5, g6, e8.trans g7, g8, e9.trans g9⟩
theorem pr_X6_save (i : Nat → Int32) (a : Nat → Nat → Int32) (q : Nat → Nat)  (hpre : pre_X6_save i a q ) : wp_X6_save (fun r u => post_X6_save i a q  r u) i a q  := by
  intro i1 e1 i3 a4 q5 h3 i6 e6 r7 h7 t S hS
  have h3 : (i3, a4, q5) = (i1, setR a 2 (a 1), q) := h3
  obtain ⟨x1, x2⟩ := Prod.mk.inj h3
  obtain ⟨x2, x3⟩ := Prod.mk.inj x2
  have y1 : a4 1 = a 1 := by rw [x2]; exact setR_ne (by decide)
  have h7 : r7 = innsN (a4 1) 12 := h7
  rw [y1, hS.2.1] at h7
  have h8 := (hS.thr (t' := 0)).sav
  rw [e6, x1, x2, x3, e1, hS.2.1]
  exact ⟨h7, h8⟩
