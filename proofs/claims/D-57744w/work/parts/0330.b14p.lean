set_option maxRecDepth 100000
/-! PURE 14: the least and the most mile, shares -/
def RowOK (f : Row) : Prop := ∀ k, k < 12 → (f (3 + k) = 0 ∨ f (3 + k) = 1) ∧ (f (3 + k) = 1 → (∃ m, m ≤ 999 ∧ f (15 + k) = nI m) ∧ (f (27 + k) = 0 ∨ f (27 + k) = 1) ∧ ∃ l, l ≤ 99 ∧ f (39 + k) = nI l)
def mnF (f : Row) : Nat → Int32
  | 0 => 999
  | k + 1 => if f (3 + k) = 1 then (if f (15 + k) < mnF f k then f (15 + k) else mnF f k) else mnF f k
def mxF (f : Row) : Nat → Int32
  | 0 => 0
  | k + 1 => if f (3 + k) = 1 then (if mxF f k < f (15 + k) then f (15 + k) else mxF f k) else mxF f k
def gapD (f : Row) : UInt64 := if 2 ≤ innsN f 12 then FP.ddiv (FP.i2d (mxF f 12 - mnF f 12)) (FP.i2d (innsN f 12 - 1)) else FP.dconst0
def shaD (f : Row) : UInt32 := if innsN f 12 = 0 then FP.fconst0 else FP.fdiv (FP.i2f (opnN f 12)) (FP.i2f (innsN f 12))
def pre_X6_meanGap (i : Nat → Int32) (a : Nat → Nat → Int32) (q : Nat → Nat) : Prop := (∃ t S, MAb i a q t S) ∧ RowOK (a 1)
def post_X6_meanGap (i : Nat → Int32) (a : Nat → Nat → Int32) (q : Nat → Nat) (r : UInt64) (u : MSt) : Prop := ∀ t S, MAb i a q t S → r = gapD S.1 ∧ MAb u.1 u.2.1 u.2.2 0 S
def pre_X6_openShare (i : Nat → Int32) (a : Nat → Nat → Int32) (q : Nat → Nat) : Prop := (∃ t S, MAb i a q t S) ∧ RowOK (a 1)
def post_X6_openShare (i : Nat → Int32) (a : Nat → Nat → Int32) (q : Nat → Nat) (r : UInt32) (u : MSt) : Prop := ∀ t S, MAb i a q t S → r = shaD S.1 ∧ MAb u.1 u.2.1 u.2.2 0 S
def wpb_X6_nearestOpenInn_130 (post : Int32 → MSt → Prop) (K26 : (Nat → Int32) → (Nat → Nat → Int32) → (Nat → Nat) → Int32 → Int32 → Prop) (x : Int32) (i : Nat → Int32) (a : Nat → Nat → Int32) (q : Nat → Nat) (x2 : Int32) (x3 : Int32) : Prop :=
  ∀ z15, z15 = x3 + 1 → K26 i a q x2 z15
def wpb_X6_nearestOpenInn_129 (post : Int32 → MSt → Prop) (K26 : (Nat → Int32) → (Nat → Nat → Int32) → (Nat → Nat) → Int32 → Int32 → Prop) (x : Int32) (i : Nat → Int32) (a : Nat → Nat → Int32) (q : Nat → Nat) (x3 : Int32) (s0 : Int32) : Prop :=
  wpb_X6_nearestOpenInn_130 post K26 x i a q s0 x3
def wpb_X6_nearestOpenInn_128 (post : Int32 → MSt → Prop) (K26 : (Nat → Int32) → (Nat → Nat → Int32) → (Nat → Nat) → Int32 → Int32 → Prop) (x : Int32) (i : Nat → Int32) (a : Nat → Nat → Int32) (q : Nat → Nat) (x2 : Int32) (x3 : Int32) : Prop :=
  wpb_X6_nearestOpenInn_129 post K26 x i a q x3 x2
def wpb_X6_nearestOpenInn_124 (post : Int32 → MSt → Prop) (K26 : (Nat → Int32) → (Nat → Nat → Int32) → (Nat → Nat) → Int32 → Int32 → Prop) (x : Int32) (i : Nat → Int32) (a : Nat → Nat → Int32) (q : Nat → Nat) (x3 : Int32) : Prop :=
  wpb_X6_nearestOpenInn_129 post K26 x i a q x3 x3
def wpb_X6_nearestOpenInn_91 (post : Int32 → MSt → Prop) (K26 : (Nat → Int32) → (Nat → Nat → Int32) → (Nat → Nat) → Int32 → Int32 → Prop) (x : Int32) (i : Nat → Int32) (a : Nat → Nat → Int32) (q : Nat → Nat) (x2 : Int32) (x3 : Int32) (s0 : Int32) : Prop :=
  (0 < s0 → wpb_X6_nearestOpenInn_124 post K26 x i a q x3) ∧ (¬ 0 < s0 → (¬ s0 = 0 → wpb_X6_nearestOpenInn_128 post K26 x i a q x2 x3) ∧ (s0 = 0 → vp_in (15 + x3) 78 ∧ vp_in (15 + x2) 78 ∧ ((a 1 (15 + x2).toNatClampNeg) ≤ (a 1 (15 + x3).toNatClampNeg) → wpb_X6_nearestOpenInn_128 post K26 x i a q x2 x3) ∧ (¬ (a 1 (15 + x2).toNatClampNeg) ≤ (a 1 (15 + x3).toNatClampNeg) → wpb_X6_nearestOpenInn_124 post K26 x i a q x3)))
def wpb_X6_nearestOpenInn_26 (post : Int32 → MSt → Prop)  (x : Int32) : Nat → (Nat → Int32) → (Nat → Nat → Int32) → (Nat → Nat) → Int32 → Int32 → Prop
  | 0 => fun _ _ _ _ _ => False
  | n + 1 => fun i a q x2 x3 => (12 ≤ x3 → post x2 (i, a, q)) ∧ (¬ 12 ≤ x3 → (x3 = x → wpb_X6_nearestOpenInn_130 post (wpb_X6_nearestOpenInn_26 post  x n) x i a q x2 x3) ∧ (¬ x3 = x → vp_in (3 + x3) 78 ∧ ((a 1 (3 + x3).toNatClampNeg) = 0 → wpb_X6_nearestOpenInn_130 post (wpb_X6_nearestOpenInn_26 post  x n) x i a q x2 x3) ∧ (¬ (a 1 (3 + x3).toNatClampNeg) = 0 → vp_in (27 + x3) 78 ∧ (¬ (a 1 (27 + x3).toNatClampNeg) = 0 → (¬ x2 = (-1) → pre_X6_stage i a q 1 x x2 ∧ ∀ r13, post_X6_stage i a q 1 x x2 r13 → pre_X6_stage i a q 1 x x3 ∧ ∀ r14, post_X6_stage i a q 1 x x3 r14 → wpb_X6_nearestOpenInn_91 post (wpb_X6_nearestOpenInn_26 post  x n) x i a q x2 x3 (r13 - r14)) ∧ (x2 = (-1) → wpb_X6_nearestOpenInn_91 post (wpb_X6_nearestOpenInn_26 post  x n) x i a q x2 x3 1)) ∧ ((a 1 (27 + x3).toNatClampNeg) = 0 → wpb_X6_nearestOpenInn_130 post (wpb_X6_nearestOpenInn_26 post  x n) x i a q x2 x3))))
def wp_X6_nearestOpenInn (post : Int32 → MSt → Prop) (i : Nat → Int32) (a : Nat → Nat → Int32) (q : Nat → Nat) (x : Int32) : Prop :=
  ∀ i1, i1 = upd i 0 0 → ∀ r2, post_X6_hasInnAt i1 a q 1 x r2 → (¬ r2 = 0 → ∃ n, wpb_X6_nearestOpenInn_26 post  x n i1 a q (-1) 0) ∧ (r2 = 0 → ∀ r4 i5 a6 q7, post_X6_fails i1 a q 1 r4 (i5, a6, q7) → post r4 (i5, a6, q7))

def wpb_X6_written_67 (post : Int32 → MSt → Prop) (K36 : (Nat → Int32) → (Nat → Nat → Int32) → (Nat → Nat) → Int32 → Int32 → Prop) (x : Int32) (i : Nat → Int32) (a : Nat → Nat → Int32) (q : Nat → Nat) (x3 : Int32) (s0 : Int32) (s1 : Int32) : Prop :=
  ∀ z7, z7 = (s1 ||| s0) → ∀ z8, z8 = x3 + 1 → K36 i a q z7 z8
def wpb_X6_written_36 (post : Int32 → MSt → Prop)  (x : Int32) : Nat → (Nat → Int32) → (Nat → Nat → Int32) → (Nat → Nat) → Int32 → Int32 → Prop
  | 0 => fun _ _ _ _ _ => False
  | n + 1 => fun i a q x2 x3 => (((4 * x) + 4) ≤ x3 → post x2 (i, a, q)) ∧ (¬ ((4 * x) + 4) ≤ x3 → ((i 19) ≤ x3 → wpb_X6_written_67 post (wpb_X6_written_36 post  x n) x i a q x3 0 (x2 <<< (8 &&& 31))) ∧ (¬ (i 19) ≤ x3 → vp_in x3 800 ∧ wpb_X6_written_67 post (wpb_X6_written_36 post  x n) x i a q x3 (a 9 x3.toNatClampNeg) (x2 <<< (8 &&& 31))))
def wpb_X6_written_24 (post : Int32 → MSt → Prop)  (x : Int32) (i : Nat → Int32) (a : Nat → Nat → Int32) (q : Nat → Nat)  : Prop :=
  ∀ r9 i10 a11 q12, post_X6_fails i a q 1 r9 (i10, a11, q12) → post r9 (i10, a11, q12)
def wp_X6_written (post : Int32 → MSt → Prop) (i : Nat → Int32) (a : Nat → Nat → Int32) (q : Nat → Nat) (x : Int32) : Prop :=
  ∀ i1, i1 = upd i 0 0 → (x < 0 → wpb_X6_written_24 post  x i1 a q) ∧ (¬ x < 0 → ((lg_cmp (4 * x.toInt64) ((i1 19).toInt64)) < 0 → ∀ z4, z4 = (4 * x) → ∃ n, wpb_X6_written_36 post  x n i1 a q 0 z4) ∧ (¬ (lg_cmp (4 * x.toInt64) ((i1 19).toInt64)) < 0 → wpb_X6_written_24 post  x i1 a q))

def wpb_X6_descents_64 (post : Int32 → MSt → Prop) (K17 : (Nat → Int32) → (Nat → Nat → Int32) → (Nat → Nat) → Int32 → Int32 → Prop)  (i : Nat → Int32) (a : Nat → Nat → Int32) (q : Nat → Nat) (x2 : Int32) (s0 : Int32) (s1 : Int32) : Prop :=
  ∀ z8, z8 = (s1 + s0) → ∀ z9, z9 = x2 + 1 → K17 i a q z8 z9
def wpb_X6_descents_17 (post : Int32 → MSt → Prop)   : Nat → (Nat → Int32) → (Nat → Nat → Int32) → (Nat → Nat) → Int32 → Int32 → Prop
  | 0 => fun _ _ _ _ _ => False
  | n + 1 => fun i a q x1 x2 => ((i 10) ≤ x2 → post x1 (i, a, q)) ∧ (¬ (i 10) ≤ x2 → vp_in x2 12 ∧ vp_in (15 + (a 7 x2.toNatClampNeg)) 78 ∧ vp_in (x2 - 1) 12 ∧ vp_in (15 + (a 7 (x2 - 1).toNatClampNeg)) 78 ∧ ((a 1 (15 + (a 7 (x2 - 1).toNatClampNeg)).toNatClampNeg) ≤ (a 1 (15 + (a 7 x2.toNatClampNeg)).toNatClampNeg) → wpb_X6_descents_64 post (wpb_X6_descents_17 post   n)  i a q x2 0 x1) ∧ (¬ (a 1 (15 + (a 7 (x2 - 1).toNatClampNeg)).toNatClampNeg) ≤ (a 1 (15 + (a 7 x2.toNatClampNeg)).toNatClampNeg) → wpb_X6_descents_64 post (wpb_X6_descents_17 post   n)  i a q x2 1 x1))
def wp_X6_descents (post : Int32 → MSt → Prop) (i : Nat → Int32) (a : Nat → Nat → Int32) (q : Nat → Nat)  : Prop :=
  ∀ i1, i1 = upd i 0 0 → ∀ i3 a4 q5, post_X6_laysChain i1 a q 1 (i3, a4, q5) → ∃ n, wpb_X6_descents_17 post   n i3 a4 q5 0 1

def wpb_X6_snow_110 (post : Int32 → MSt → Prop) (K45 : (Nat → Int32) → (Nat → Nat → Int32) → (Nat → Nat) → Int32 → Int32 → Prop) (x : Int32) (y : Int32) (i : Nat → Int32) (a : Nat → Nat → Int32) (q : Nat → Nat) (x3 : Int32) (x4 : Int32) : Prop :=
  ∀ z16, z16 = x4 + 1 → K45 i a q x3 z16
def wpb_X6_snow_45 (post : Int32 → MSt → Prop)  (x : Int32) (y : Int32) : Nat → (Nat → Int32) → (Nat → Nat → Int32) → (Nat → Nat) → Int32 → Int32 → Prop
  | 0 => fun _ _ _ _ _ => False
  | n + 1 => fun i a q x3 x4 => (12 ≤ x4 → post x3 (i, a, q)) ∧ (¬ 12 ≤ x4 → vp_in (3 + x4) 78 ∧ (¬ (a 1 (3 + x4).toNatClampNeg) = 1 → wpb_X6_snow_110 post (wpb_X6_snow_45 post  x y n) x y i a q x3 x4) ∧ ((a 1 (3 + x4).toNatClampNeg) = 1 → vp_in (15 + x4) 78 ∧ ∀ r12, post_X6_isIn  ((a 1 (15 + x4).toNatClampNeg).toInt64) x.toInt64 y.toInt64 r12 → (r12 = 0 → wpb_X6_snow_110 post (wpb_X6_snow_45 post  x y n) x y i a q x3 x4) ∧ (¬ r12 = 0 → vp_in (27 + x4) 78 ∧ ∀ z14, z14 = (x3 + (a 1 (27 + x4).toNatClampNeg)) → vp_in (27 + x4) 78 ∧ ∀ a15, a15 = updA a 1 (27 + x4).toNatClampNeg 0 → wpb_X6_snow_110 post (wpb_X6_snow_45 post  x y n) x y i a15 q z14 x4)))
def wpb_X6_snow_30 (post : Int32 → MSt → Prop)  (x : Int32) (y : Int32) (i : Nat → Int32) (a : Nat → Nat → Int32) (q : Nat → Nat)  : Prop :=
  ∀ r17 i18 a19 q20, post_X6_fails i a q 1 r17 (i18, a19, q20) → post r17 (i18, a19, q20)
def wp_X6_snow (post : Int32 → MSt → Prop) (i : Nat → Int32) (a : Nat → Nat → Int32) (q : Nat → Nat) (x : Int32) (y : Int32) : Prop :=
  ∀ i1, i1 = upd i 0 0 → ∀ r2, post_X6_isIn  x.toInt64 0 999 r2 → (r2 = 0 → wpb_X6_snow_30 post  x y i1 a q) ∧ (¬ r2 = 0 → ∀ r4, post_X6_isIn  y.toInt64 x.toInt64 999 r4 → (¬ r4 = 0 → pre_X6_remembers i1 a q  ∧ ∀ i7 a8 q9, post_X6_remembers i1 a q  (i7, a8, q9) → ∃ n, wpb_X6_snow_45 post  x y n i7 a8 q9 0 0) ∧ (r4 = 0 → wpb_X6_snow_30 post  x y i1 a q))

def wpb_X6_thaw_49 (post : Int32 → MSt → Prop) (K13 : (Nat → Int32) → (Nat → Nat → Int32) → (Nat → Nat) → Int32 → Int32 → Prop)  (i : Nat → Int32) (a : Nat → Nat → Int32) (q : Nat → Nat) (x2 : Int32) (s0 : Int32) (s1 : Int32) : Prop :=
  ∀ z9, z9 = (s1 + s0) → vp_in (27 + x2) 78 ∧ ∀ a10, a10 = updA a 1 (27 + x2).toNatClampNeg 1 → ∀ z11, z11 = x2 + 1 → K13 i a10 q z9 z11
def wpb_X6_thaw_48 (post : Int32 → MSt → Prop) (K13 : (Nat → Int32) → (Nat → Nat → Int32) → (Nat → Nat) → Int32 → Int32 → Prop)  (i : Nat → Int32) (a : Nat → Nat → Int32) (q : Nat → Nat) (x2 : Int32) (s0 : Int32) : Prop :=
  wpb_X6_thaw_49 post K13  i a q x2 0 s0
def wpb_X6_thaw_13 (post : Int32 → MSt → Prop)   : Nat → (Nat → Int32) → (Nat → Nat → Int32) → (Nat → Nat) → Int32 → Int32 → Prop
  | 0 => fun _ _ _ _ _ => False
  | n + 1 => fun i a q x1 x2 => (12 ≤ x2 → post x1 (i, a, q)) ∧ (¬ 12 ≤ x2 → vp_in (3 + x2) 78 ∧ (¬ (a 1 (3 + x2).toNatClampNeg) = 1 → wpb_X6_thaw_48 post (wpb_X6_thaw_13 post   n)  i a q x2 x1) ∧ ((a 1 (3 + x2).toNatClampNeg) = 1 → vp_in (27 + x2) 78 ∧ (¬ (a 1 (27 + x2).toNatClampNeg) = 0 → wpb_X6_thaw_48 post (wpb_X6_thaw_13 post   n)  i a q x2 x1) ∧ ((a 1 (27 + x2).toNatClampNeg) = 0 → wpb_X6_thaw_49 post (wpb_X6_thaw_13 post   n)  i a q x2 1 x1)))
def wp_X6_thaw (post : Int32 → MSt → Prop) (i : Nat → Int32) (a : Nat → Nat → Int32) (q : Nat → Nat)  : Prop :=
  ∀ i1, i1 = upd i 0 0 → pre_X6_remembers i1 a q  ∧ ∀ i3 a4 q5, post_X6_remembers i1 a q  (i3, a4, q5) → ∃ n, wpb_X6_thaw_13 post   n i3 a4 q5 0 0
theorem lt_of_le_of_lt32 {a b c : Int32} (h : a ≤ b) (h2 : b < c) : a < c := by
  rw [Int32.le_iff_toInt_le] at h
  rw [Int32.lt_iff_toInt_lt] at h2 ⊢
  omega
theorem pr_X6_nearestOpenInn (i : Nat → Int32) (a : Nat → Nat → Int32) (q : Nat → Nat) (x : Int32) (hpre : pre_X6_nearestOpenInn i a q x) : wp_X6_nearestOpenInn (fun r u => post_X6_nearestOpenInn i a q x r u) i a q x := by
  obtain ⟨t0, S, h0⟩ := hpre
  have P : ∀ r u, OpR (opNea S x) r u → (fun r u => post_X6_nearestOpenInn i a q x r u) r u := fun r u h t S' hS => by rw [hS.uniq h0]; exact h
  obtain ⟨post, ep⟩ : ∃ post : Int32 → MSt → Prop, post = fun r u => post_X6_nearestOpenInn i a q x r u := ⟨_, rfl⟩
  rw [← ep] at P ⊢
  unfold opNea at P
  intro i1 e1 r2 h2
  have hM : MAb i1 a q 0 S := by rw [e1]; exact h0.thr
  unfold post_X6_hasInnAt at h2
  rw [h0.2.1] at h2
  subst h2
  refine ⟨fun c => ?_, fun c r8 i9 a10 q11 h8 => P _ _ ?_⟩
  rotate_left
  · rw [if_neg (b2i_f c)]
    exact hM.fail h8
  rw [if_pos (b2i_1 c)] at P
  have hpl := hasI_pl (b2i_1 c)
  have rg : ∀ k, k ≤ 12 → neaN S.1 x k = -1 ∨ isPl (neaN S.1 x k) := by
    intro k
    induction k with
    | zero => intro _; exact Or.inl rfl
    | succ k ih =>
      intro hk
      unfold neaN
      split
      · exact Or.inr ⟨k, by omega, rfl⟩
      · exact ih (by omega)
  have key : ∀ n k, k + n = 12 → wpb_X6_nearestOpenInn_26 post x (n + 1) i1 a q (neaN S.1 x k) (nI k) := by
    intro n
    induction n with
    | zero =>
      intro k hk
      have : k = 12 := by omega
      subst this
      exact ⟨fun _ => P _ _ ⟨rfl, hM⟩, fun h => absurd (by decide) h⟩
    | succ n ih =>
      intro k hk
      refine ⟨fun h => absurd h (nI_ge (b := 12) (by omega) (by omega)), fun _ => ?_⟩
      rw [a3, a27, nI_clamp (by omega), nI_clamp (by omega), h0.2.1]
      have nx : ∀ v, v = neaN S.1 x (k + 1) → wpb_X6_nearestOpenInn_130 post (wpb_X6_nearestOpenInn_26 post x (n + 1)) x i1 a q v (nI k) := by
        intro v hv z15 e15
        rw [e15, nI_1, hv]
        exact ih (k + 1) (by omega)
      have en : neaN S.1 x (k + 1) = if (nI k ≠ x ∧ S.1 (3 + k) ≠ 0 ∧ S.1 (27 + k) ≠ 0) ∧ (neaN S.1 x k = -1 ∨ 0 < dstF S.1 x.toNatClampNeg (neaN S.1 x k).toNatClampNeg - dstF S.1 x.toNatClampNeg k ∨ (dstF S.1 x.toNatClampNeg (neaN S.1 x k).toNatClampNeg - dstF S.1 x.toNatClampNeg k = 0 ∧ S.1 (15 + k) < S.1 (15 + (neaN S.1 x k).toNatClampNeg))) then nI k else neaN S.1 x k := rfl
      refine ⟨fun c2 => nx _ (by rw [en, if_neg (fun z => z.1.1 c2)]), fun c2 => ⟨vp_in_nI (by omega) (by omega), fun c3 => nx _ (by rw [en, if_neg (fun z => z.1.2.1 c3)]), fun c3 => ⟨vp_in_nI (by omega) (by omega), fun c4 => ?_, fun c4 => nx _ (by rw [en, if_neg (fun z => z.1.2.2 c4)])⟩⟩⟩
      obtain ⟨b, eb⟩ : ∃ b, b = neaN S.1 x k := ⟨_, rfl⟩
      have hb := rg k (by omega)
      rw [← eb] at en hb ⊢
      refine ⟨fun c5 => ?_, fun c5 => ?_⟩
      · rcases hb with hb | hb
        · exact absurd hb c5
        refine ⟨⟨hpl, hb⟩, fun r13 h13 => ⟨⟨hpl, k, by omega, rfl⟩, fun r14 h14 => ?_⟩⟩
        have h13 : r13 = dstF (a 1) x.toNatClampNeg b.toNatClampNeg := h13
        have h14 : r14 = dstF (a 1) x.toNatClampNeg (nI k).toNatClampNeg := h14
        rw [h0.2.1] at h13 h14
        rw [nI_clamp (by omega)] at h14
        rw [h13, h14]
        obtain ⟨m, hm, em⟩ := hb
        refine ⟨fun c6 => nx _ (by rw [en, if_pos ⟨⟨c2, c3, c4⟩, Or.inr (Or.inl c6)⟩]), fun c6 => ⟨fun c7 => nx _ ?_, fun c7 => ?_⟩⟩
        · rw [en, if_neg]
          rintro ⟨-, z | z | z⟩
          · exact c5 z
          · exact c6 z
          · exact c7 z.1
        · rw [em, a15, a15, nI_clamp (by omega), nI_clamp (by omega), h0.2.1]
          rw [em] at en c5 c6 c7
          rw [nI_clamp (by omega)] at en c6 c7
          refine ⟨vp_in_nI (by omega) (by omega), vp_in_nI (by omega) (by omega), fun c8 => nx _ ?_, fun c8 => nx _ ?_⟩
          · rw [en, if_neg]
            rintro ⟨-, z | z | z⟩
            · exact c5 z
            · exact c6 z
            · exact Int32.not_lt.mpr c8 z.2
          · rw [en, if_pos ⟨⟨c2, c3, c4⟩, Or.inr (Or.inr ⟨c7, Int32.not_le.mp c8⟩)⟩]
      · refine ⟨fun _ => nx _ (by rw [en, if_pos ⟨⟨c2, c3, c4⟩, Or.inl c5⟩]), fun h => absurd (by decide) h⟩
  exact ⟨13, key 12 0 rfl⟩
theorem wri_lt {k N : Nat} (hk : k < 2 ^ 31) (hN : N ≤ 800) : (lg_cmp (4 * (nI k).toInt64) ((nI N).toInt64) < 0) ↔ 4 * k < N := by
  rw [lg_cmp_lt, nI_l hk, nI_l (by omega), show (4 : Int64) = lN 4 from rfl, lN_mul, Int64.lt_iff_toInt_lt, lN_toInt (n := N) (by omega)]
  have : (lN (4 * k)).toInt = ((4 * k : Nat) : Int) := lg_ofNat_toInt (by omega)
  rw [this]
  omega
theorem pr_X6_written (i : Nat → Int32) (a : Nat → Nat → Int32) (q : Nat → Nat) (x : Int32) (hpre : pre_X6_written i a q x) : wp_X6_written (fun r u => post_X6_written i a q x r u) i a q x := by
  obtain ⟨t0, S, h0⟩ := hpre
  have P : ∀ r u, OpR (opWri S x) r u → (fun r u => post_X6_written i a q x r u) r u := fun r u h t S' hS => by rw [hS.uniq h0]; exact h
  obtain ⟨post, ep⟩ : ∃ post : Int32 → MSt → Prop, post = fun r u => post_X6_written i a q x r u := ⟨_, rfl⟩
  rw [← ep] at P ⊢
  unfold opWri at P
  intro i1 e1
  have hM : MAb i1 a q 0 S := by rw [e1]; exact h0.thr
  obtain ⟨-, -, -, -, -, -, -, -, ⟨h19, hN⟩, h9⟩ := id hM
  rw [h19]
  refine ⟨fun c r9 i10 a11 q12 h9' => P _ _ ?_, fun c => ?_⟩
  · rw [if_neg (fun z => Int32.not_lt.mpr z.1 c)]
    exact hM.fail h9'
  obtain ⟨k, hk, ek⟩ := nI_of c
  rw [ek, nI_clamp (by omega)] at P
  rw [ek, wri_lt hk hN]
  refine ⟨fun c2 z4 e4 => ?_, fun c2 r9 i10 a11 q12 h9' => P _ _ ?_⟩
  rotate_left
  · rw [if_neg (fun z => c2 z.2)]
    exact hM.fail h9'
  rw [if_pos ⟨nI_pos' (by omega), c2⟩] at P
  have e4 : z4 = nI (4 * k) := by
    rw [e4]
    show nI 4 * nI k = _
    exact (Int32.ofNat_mul 4 k).symm
  have e44 : (4 : Int32) * nI k + 4 = nI (4 * k + 4) := by
    rw [show (4 : Int32) * nI k = nI (4 * k) from (Int32.ofNat_mul 4 k).symm]
    exact nI_add _ 4
  have key : ∀ n m, m + n = 4 → wpb_X6_written_36 post (nI k) (n + 1) i1 a q (grpR S.2.2.2.2.2 S.2.2.2.2.1 (4 * k) m) (nI (4 * k + m)) := by
    intro n
    induction n with
    | zero =>
      intro m hm
      have : m = 4 := by omega
      subst this
      refine ⟨fun _ => P _ _ ⟨rfl, hM⟩, fun h => absurd ?_ h⟩
      rw [e44]; exact Int32.le_refl _
    | succ n ih =>
      intro m hm
      unfold wpb_X6_written_36
      rw [e44, h19]
      refine ⟨fun h => absurd h (nI_ge (by omega) (by omega)), fun _ => ?_⟩
      have nx : ∀ v, v = grpC S.2.2.2.2.2 S.2.2.2.2.1 (4 * k + m) → wpb_X6_written_67 post (wpb_X6_written_36 post (nI k) (n + 1)) (nI k) i1 a q (nI (4 * k + m)) v (grpR S.2.2.2.2.2 S.2.2.2.2.1 (4 * k) m <<< (8 &&& 31)) := by
        intro v hv z7 e7 z8 e8
        rw [e8, nI_1, e7, hv]
        exact ih (m + 1) (by omega)
      have hle : nI S.2.2.2.2.1 ≤ nI (4 * k + m) ↔ S.2.2.2.2.1 ≤ 4 * k + m := nI_leI (by omega) (by omega)
      rw [hle]
      refine ⟨fun c3 => nx _ ?_, fun c3 => ?_⟩
      · unfold grpC
        rw [if_neg (by omega)]
      · rw [nI_clamp (by omega)]
        refine ⟨vp_in_nI (by omega) (by omega), nx _ ?_⟩
        unfold grpC
        rw [if_pos (by omega), h9]
  rw [e4]
  exact ⟨5, key 4 0 rfl⟩
theorem pr_X6_descents (i : Nat → Int32) (a : Nat → Nat → Int32) (q : Nat → Nat)  (hpre : pre_X6_descents i a q ) : wp_X6_descents (fun r u => post_X6_descents i a q  r u) i a q  := by
  obtain ⟨t0, S, h0⟩ := hpre
  have P : ∀ r u, OpR (0, dscL S.1 none (chF S.1).1, S) r u → (fun r u => post_X6_descents i a q r u) r u := fun r u h t S' hS => by rw [hS.uniq h0]; exact h
  obtain ⟨post, ep⟩ : ∃ post : Int32 → MSt → Prop, post = fun r u => post_X6_descents i a q r u := ⟨_, rfl⟩
  rw [← ep] at P ⊢
  intro i1 e1 i3 a4 q5 h3
  subst e1
  obtain ⟨hM, h10, -, hc, h1⟩ := (h0.thr (t' := 0)).lay h3
  obtain ⟨hlt, -, hlen⟩ := chF_mem S.1
  obtain ⟨l, el⟩ : ∃ l, l = (chF S.1).1 := ⟨_, rfl⟩
  rw [← el] at h10 hc hlt hlen P
  have step : ∀ k, (hk : k + 1 < l.length) → dscL S.1 (some l[k]) (l.drop (k + 1)) = (if S.1 (15 + l[k + 1]) < S.1 (15 + l[k]) then 1 else 0) + dscL S.1 (some l[k + 1]) (l.drop (k + 2)) := by
    intro k hk
    rw [List.drop_eq_getElem_cons hk]; rfl
  have key : ∀ n k acc, (hk : k < l.length) → k + 1 + n = l.length → acc + dscL S.1 (some l[k]) (l.drop (k + 1)) = dscL S.1 none l → wpb_X6_descents_17 post (n + 1) i3 a4 q5 acc (nI (k + 1)) := by
    intro n
    induction n with
    | zero =>
      intro k acc hk hn hacc
      unfold wpb_X6_descents_17
      rw [h10]
      rw [List.drop_of_length_le (by omega)] at hacc
      have hacc : acc + 0 = dscL S.1 none l := hacc
      rw [Int32.add_zero] at hacc
      refine ⟨fun _ => P _ _ ⟨hacc, hM⟩, fun h => absurd ?_ h⟩
      rw [show k + 1 = l.length by omega]; exact Int32.le_refl _
    | succ n ih =>
      intro k acc hk hn hacc
      have hk1 : k + 1 < l.length := by omega
      have y0 := hlt _ (List.getElem_mem hk)
      have y1 := hlt _ (List.getElem_mem hk1)
      unfold wpb_X6_descents_17
      rw [h10]
      refine ⟨fun h => absurd h (nI_ge (by omega) (by omega)), fun _ => ?_⟩
      have em : nI (k + 1) - 1 = nI k := by rw [← nI_1]; exact Int32.add_sub_cancel _ _
      rw [em, nI_clamp (by omega), nI_clamp (by omega), hc k _ (List.getElem?_eq_getElem hk), hc (k + 1) _ (List.getElem?_eq_getElem hk1), a15, a15, nI_clamp (by omega), nI_clamp (by omega), h1]
      rw [step k hk1] at hacc
      refine ⟨vp_in_nI (by omega) (by omega), vp_in_nI (by omega) (by omega), vp_in_nI (by omega) (by omega), vp_in_nI (by omega) (by omega), fun c z8 e8 z9 e9 => ?_, fun c z8 e8 z9 e9 => ?_⟩
      · rw [if_neg (Int32.not_lt.mpr c)] at hacc
        rw [e8, e9, nI_1]
        exact ih (k + 1) _ hk1 (by omega) (by rw [← hacc, Int32.add_assoc])
      · rw [if_pos (Int32.not_le.mp c)] at hacc
        rw [e8, e9, nI_1]
        exact ih (k + 1) _ hk1 (by omega) (by rw [← hacc, Int32.add_assoc])
  by_cases hz : l.length = 0
  · refine ⟨1, ?_⟩
    unfold wpb_X6_descents_17
    rw [h10]
    have : l = [] := List.length_eq_zero_iff.mp hz
    refine ⟨fun _ => P _ _ ⟨by rw [this]; rfl, hM⟩, fun h => absurd ?_ h⟩
    rw [hz]; decide
  · obtain ⟨m, em⟩ : ∃ m, l.length = m + 1 := ⟨_, (Nat.succ_pred hz).symm⟩
    refine ⟨m + 1, key m 0 0 (by omega) (by omega) ?_⟩
    rw [Int32.zero_add]
    have : l = l[0] :: l.drop 1 := by rw [← List.drop_eq_getElem_cons (by omega)]; rfl
    conv => rhs; rw [this]
    rfl
theorem pr_X6_snow (i : Nat → Int32) (a : Nat → Nat → Int32) (q : Nat → Nat) (x : Int32) (y : Int32) (hpre : pre_X6_snow i a q x y) : wp_X6_snow (fun r u => post_X6_snow i a q x y r u) i a q x y := by
  obtain ⟨t0, S, h0⟩ := hpre
  have P : ∀ r u, OpR (opSnw S x y) r u → (fun r u => post_X6_snow i a q x y r u) r u := fun r u h t S' hS => by rw [hS.uniq h0]; exact h
  obtain ⟨post, ep⟩ : ∃ post : Int32 → MSt → Prop, post = fun r u => post_X6_snow i a q x y r u := ⟨_, rfl⟩
  rw [← ep] at P ⊢
  unfold opSnw at P
  intro i1 e1 r2 h2
  have hM : MAb i1 a q 0 S := by rw [e1]; exact h0.thr
  have h2 := isIn_of (0 : Int32) (999 : Int32) rfl rfl h2
  subst h2
  refine ⟨fun c r17 i18 a19 q20 h17 => P _ _ ?_, fun c r4 h4 => ?_⟩
  · rw [if_neg (fun z => of_decide_eq_false (b2i_0 c) z.1)]
    exact hM.fail h17
  have h4 := isIn_of x (999 : Int32) rfl rfl h4
  subst h4
  refine ⟨fun c2 => ⟨hM.pr, fun i7 a8 q9 h7 => ?_⟩, fun c2 r17 i18 a19 q20 h17 => P _ _ ?_⟩
  rotate_left
  · rw [if_neg (fun z => of_decide_eq_false (b2i_0 c2) z.2)]
    exact hM.fail h17
  rw [if_pos ⟨of_decide_eq_true (b2i_1 c), of_decide_eq_true (b2i_1 c2)⟩] at P
  have hM1 := hM.rem h7
  have e0 : ∀ k, snwF S.1 x y 0 k = S.1 k := fun k => if_neg (by omega)
  have key : ∀ n k a', k + n = 12 → MAb i7 a' q9 0 (S.chg (snwF S.1 x y k)) → wpb_X6_snow_45 post x y (n + 1) i7 a' q9 (snwN S.1 x y k) (nI k) := by
    intro n
    induction n with
    | zero =>
      intro k a' hk hM
      have : k = 12 := by omega
      subst this
      exact ⟨fun _ => P _ _ ⟨rfl, hM⟩, fun h => absurd (by decide) h⟩
    | succ n ih =>
      intro k a' hk hM
      have ea : a' 1 = snwF S.1 x y k := hM.2.1
      refine ⟨fun h => absurd h (nI_ge (b := 12) (by omega) (by omega)), fun _ => ?_⟩
      rw [a3, a15, a27, nI_clamp (by omega), nI_clamp (by omega), nI_clamp (by omega), ea]
      have r3 : snwF S.1 x y k (3 + k) = S.1 (3 + k) := if_neg (by omega)
      have r15 : snwF S.1 x y k (15 + k) = S.1 (15 + k) := if_neg (by omega)
      have r27 : snwF S.1 x y k (27 + k) = S.1 (27 + k) := if_neg (by omega)
      rw [r3, r15, r27]
      have eN : snwN S.1 x y (k + 1) = if S.1 (3 + k) = 1 ∧ x ≤ S.1 (15 + k) ∧ S.1 (15 + k) ≤ y then snwN S.1 x y k + S.1 (27 + k) else snwN S.1 x y k := rfl
      have same : ¬ (S.1 (3 + k) = 1 ∧ x ≤ S.1 (15 + k) ∧ S.1 (15 + k) ≤ y) → snwF S.1 x y (k + 1) = snwF S.1 x y k := by
        intro hno
        funext j
        unfold snwF
        by_cases hj : j = 27 + k
        · rw [if_neg, if_neg (by omega)]
          rintro ⟨-, -, z⟩
          rw [hj, show 27 + k - 27 = k by omega] at z
          exact hno z
        · by_cases hc : 27 ≤ j ∧ j < 27 + k ∧ S.1 (3 + (j - 27)) = 1 ∧ x ≤ S.1 (15 + (j - 27)) ∧ S.1 (15 + (j - 27)) ≤ y
          · rw [if_pos hc, if_pos ⟨hc.1, by omega, hc.2.2⟩]
          · rw [if_neg hc, if_neg (fun z => hc ⟨z.1, by omega, z.2.2⟩)]
      have other : ∀ v, v = snwN S.1 x y k → ¬ (S.1 (3 + k) = 1 ∧ x ≤ S.1 (15 + k) ∧ S.1 (15 + k) ≤ y) → wpb_X6_snow_110 post (wpb_X6_snow_45 post x y (n + 1)) x y i7 a' q9 v (nI k) := by
        intro v hv hno z16 e16
        rw [e16, nI_1, hv]
        have := ih (k + 1) a' (by omega) (by rw [same hno]; exact hM)
        rw [eN, if_neg hno] at this
        exact this
      refine ⟨vp_in_nI (by omega) (by omega), fun c3 => other _ rfl (fun z => c3 z.1), fun c3 => ⟨vp_in_nI (by omega) (by omega), fun r12 h12 => ?_⟩⟩
      have h12 := isIn_of x y rfl rfl h12
      subst h12
      refine ⟨fun c4 => other _ rfl (fun z => of_decide_eq_false (b2i_0 c4) z.2), fun c4 => ⟨vp_in_nI (by omega) (by omega), fun z14 e14 => ⟨vp_in_nI (by omega) (by omega), fun a15' e15 z16 e16 => ?_⟩⟩⟩
      have hyes : S.1 (3 + k) = 1 ∧ x ≤ S.1 (15 + k) ∧ S.1 (15 + k) ≤ y := ⟨c3, of_decide_eq_true (b2i_1 c4)⟩
      rw [e16, nI_1, e14]
      have eF : upd (snwF S.1 x y k) (27 + k) 0 = snwF S.1 x y (k + 1) := by
        funext j
        unfold upd
        by_cases hj : j = 27 + k
        · rw [if_pos hj]
          unfold snwF
          rw [if_pos]
          rw [hj, show 27 + k - 27 = k by omega]
          exact ⟨by omega, by omega, hyes⟩
        · rw [if_neg hj]
          unfold snwF
          by_cases hc : 27 ≤ j ∧ j < 27 + k ∧ S.1 (3 + (j - 27)) = 1 ∧ x ≤ S.1 (15 + (j - 27)) ∧ S.1 (15 + (j - 27)) ≤ y
          · rw [if_pos hc, if_pos ⟨hc.1, by omega, hc.2.2⟩]
          · rw [if_neg hc, if_neg (fun z => hc ⟨z.1, by omega, z.2.2⟩)]
      have := ih (k + 1) a15' (by omega) (by rw [e15, ← eF]; exact hM.set)
      rw [eN, if_pos hyes] at this
      exact this
  have e00 : snwF S.1 x y 0 = S.1 := funext e0
  exact ⟨13, key 12 0 _ rfl (by rw [e00]; exact hM1)⟩
theorem pr_X6_thaw (i : Nat → Int32) (a : Nat → Nat → Int32) (q : Nat → Nat)  (hpre : pre_X6_thaw i a q ) : wp_X6_thaw (fun r u => post_X6_thaw i a q  r u) i a q  := by
  obtain ⟨t0, S, h0⟩ := hpre
  have P : ∀ r u, OpR (opThw S) r u → (fun r u => post_X6_thaw i a q r u) r u := fun r u h t S' hS => by rw [hS.uniq h0]; exact h
  obtain ⟨post, ep⟩ : ∃ post : Int32 → MSt → Prop, post = fun r u => post_X6_thaw i a q r u := ⟨_, rfl⟩
  rw [← ep] at P ⊢
  intro i1 e1
  have hM : MAb i1 a q 0 S := by rw [e1]; exact h0.thr
  refine ⟨hM.pr, fun i7 a8 q9 h7 => ?_⟩
  have hM1 := hM.rem h7
  have key : ∀ n k a', k + n = 12 → MAb i7 a' q9 0 (S.chg (thwF S.1 k)) → wpb_X6_thaw_13 post (n + 1) i7 a' q9 (thwN S.1 k) (nI k) := by
    intro n
    induction n with
    | zero =>
      intro k a' hk hM
      have : k = 12 := by omega
      subst this
      exact ⟨fun _ => P _ _ ⟨rfl, hM⟩, fun h => absurd (by decide) h⟩
    | succ n ih =>
      intro k a' hk hM
      have ea : a' 1 = thwF S.1 k := hM.2.1
      refine ⟨fun h => absurd h (nI_ge (b := 12) (by omega) (by omega)), fun _ => ?_⟩
      rw [a3, a27, nI_clamp (by omega), nI_clamp (by omega), ea]
      have r3 : thwF S.1 k (3 + k) = S.1 (3 + k) := if_neg (by omega)
      have r27 : thwF S.1 k (27 + k) = S.1 (27 + k) := if_neg (by omega)
      rw [r3, r27]
      have eF : upd (thwF S.1 k) (27 + k) 1 = thwF S.1 (k + 1) := by
        funext j
        unfold upd thwF
        by_cases hj : j = 27 + k
        · rw [if_pos hj, if_pos (by omega)]
        · rw [if_neg hj]
          by_cases hc : 27 ≤ j ∧ j < 27 + k
          · rw [if_pos hc, if_pos ⟨hc.1, by omega⟩]
          · rw [if_neg hc, if_neg (by omega)]
      have nx : ∀ w, w = (if S.1 (3 + k) = 1 ∧ S.1 (27 + k) = 0 then 1 else 0) → wpb_X6_thaw_49 post (wpb_X6_thaw_13 post (n + 1)) i7 a' q9 (nI k) w (thwN S.1 k) := by
        intro w hw z9 e9
        rw [a27, nI_clamp (by omega)]
        refine ⟨vp_in_nI (by omega) (by omega), fun a10 e10 z11 e11 => ?_⟩
        rw [e11, nI_1, e9, hw]
        exact ih (k + 1) a10 (by omega) (by rw [e10, ← eF]; exact hM.set)
      refine ⟨vp_in_nI (by omega) (by omega), fun c => nx _ (by rw [if_neg (fun z => c z.1)]), fun c => ⟨vp_in_nI (by omega) (by omega), fun c2 => nx _ (by rw [if_neg (fun z => c2 z.2)]), fun c2 => nx _ (by rw [if_pos ⟨c, c2⟩])⟩⟩
  have e00 : thwF S.1 0 = S.1 := funext fun k => if_neg (by omega)
  exact ⟨13, key 12 0 _ rfl (by rw [e00]; exact hM1)⟩
