set_option maxRecDepth 100000
/-! PURE 9: the parser's loop -/
theorem zero78 {a : Nat → Nat → Int32} (h : ∀ k, 78 ≤ k → a 3 k = 0) : (fun k => if k < 78 then 0 else a 3 k) = fun _ => (0 : Int32) := by
  funext k
  by_cases c : k < 78
  · simp only [c, if_true, reduceIte]
  · simp only [c, if_false, reduceIte]; exact h k (by omega)
def wpb_X6_reads_179 (post : Int32 → MSt → Prop) (K71 : (Nat → Int32) → (Nat → Nat → Int32) → (Nat → Nat) → Int32 → Int32 → Prop)  (i : Nat → Int32) (a : Nat → Nat → Int32) (q : Nat → Nat) (x2 : Int32) (x3 : Int32) (s0 : Int32) : Prop :=
  ∀ i49, i49 = upd i 24 s0 → pre_X6_advances i49 a q  ∧ ∀ i51 a52 q53, post_X6_advances i49 a q  (i51, a52, q53) → pre_X6_readsPart i51 a52 q53 x3 (i51 24) ∧ ∀ r54 i55 a56 q57, post_X6_readsPart i51 a52 q53 x3 (i51 24) r54 (i55, a56, q57) → (¬ r54 = 0 → K71 i55 a56 q57 x3 x2) ∧ (r54 = 0 → isB 0 ∧ post 0 (i55, a56, q57))
def wpb_X6_reads_165 (post : Int32 → MSt → Prop) (K71 : (Nat → Int32) → (Nat → Nat → Int32) → (Nat → Nat) → Int32 → Int32 → Prop)  (i : Nat → Int32) (a : Nat → Nat → Int32) (q : Nat → Nat) (x1 : Int32) (x2 : Int32) (x3 : Int32) : Prop :=
  (¬ x3 = x1 → wpb_X6_reads_179 post K71  i a q x2 x3 (-1)) ∧ (x3 = x1 → wpb_X6_reads_179 post K71  i a q x2 x3 (i 24))
def wpb_X6_reads_139 (post : Int32 → MSt → Prop) (K71 : (Nat → Int32) → (Nat → Nat → Int32) → (Nat → Nat) → Int32 → Int32 → Prop)  (i : Nat → Int32) (a : Nat → Nat → Int32) (q : Nat → Nat) (x1 : Int32) (x2 : Int32) (x3 : Int32) (s0 : Int32) : Prop :=
  (¬ s0 = 0 → (x3 ≤ 0 → wpb_X6_reads_165 post K71  i a q x1 x2 x3) ∧ (¬ x3 ≤ 0 → (¬ x2 = 0 → wpb_X6_reads_165 post K71  i a q x1 x2 x3) ∧ (x2 = 0 → ∀ i45 a46 q47, post_X6_rebuilds i a q 3 (i45, a46, q47) → wpb_X6_reads_165 post K71  i45 a46 q47 x1 1 x3))) ∧ (s0 = 0 → isB 0 ∧ post 0 (i, a, q))
def wpb_X6_reads_138 (post : Int32 → MSt → Prop) (K71 : (Nat → Int32) → (Nat → Nat → Int32) → (Nat → Nat) → Int32 → Int32 → Prop)  (i : Nat → Int32) (a : Nat → Nat → Int32) (q : Nat → Nat) (x1 : Int32) (x2 : Int32) (x3 : Int32) : Prop :=
  wpb_X6_reads_139 post K71  i a q x1 x2 x3 0
def wpb_X6_reads_134 (post : Int32 → MSt → Prop) (K71 : (Nat → Int32) → (Nat → Nat → Int32) → (Nat → Nat) → Int32 → Int32 → Prop)  (i : Nat → Int32) (a : Nat → Nat → Int32) (q : Nat → Nat) (x1 : Int32) (x2 : Int32) (x3 : Int32) : Prop :=
  wpb_X6_reads_139 post K71  i a q x1 x2 x3 1
def wpb_X6_reads_112 (post : Int32 → MSt → Prop) (K71 : (Nat → Int32) → (Nat → Nat → Int32) → (Nat → Nat) → Int32 → Int32 → Prop)  (i : Nat → Int32) (a : Nat → Nat → Int32) (q : Nat → Nat) (x1 : Int32) (x2 : Int32) (x3 : Int32) (s0 : Int32) : Prop :=
  (x3 = (-1) → wpb_X6_reads_138 post K71  i a q x1 x2 x3) ∧ (¬ x3 = (-1) → (x1 < x3 → wpb_X6_reads_134 post K71  i a q x1 x2 x3) ∧ (¬ x1 < x3 → (¬ x3 = x1 → wpb_X6_reads_138 post K71  i a q x1 x2 x3) ∧ (x3 = x1 → (s0 = 0 → wpb_X6_reads_138 post K71  i a q x1 x2 x3) ∧ (¬ s0 = 0 → wpb_X6_reads_134 post K71  i a q x1 x2 x3))))
def wpb_X6_reads_107 (post : Int32 → MSt → Prop) (K71 : (Nat → Int32) → (Nat → Nat → Int32) → (Nat → Nat) → Int32 → Int32 → Prop)  (i : Nat → Int32) (a : Nat → Nat → Int32) (q : Nat → Nat) (x1 : Int32) (x2 : Int32) (x3 : Int32) : Prop :=
  wpb_X6_reads_112 post K71  i a q x1 x2 x3 1
def wpb_X6_reads_71 (post : Int32 → MSt → Prop)   : Nat → (Nat → Int32) → (Nat → Nat → Int32) → (Nat → Nat) → Int32 → Int32 → Prop
  | 0 => fun _ _ _ _ _ => False
  | n + 1 => fun i a q x1 x2 => ((i 22) = 0 → (¬ x2 = 0 → isB 1 ∧ post 1 (i, a, q)) ∧ (x2 = 0 → ∀ i25 a26 q27, post_X6_rebuilds i a q 3 (i25, a26, q27) → isB 1 ∧ post 1 (i25, a26, q27))) ∧ (¬ (i 22) = 0 → pre_X6_isSign i a q 59 ∧ ∀ r28, post_X6_isSign i a q 59 r28 → (¬ r28 = 0 → pre_X6_advances i a q  ∧ ∀ i31 a32 q33, post_X6_advances i a q  (i31, a32, q33) → pre_X6_partAt i31 a32 q33  ∧ ∀ r34, post_X6_partAt i31 a32 q33  r34 → (r34 = 0 → wpb_X6_reads_107 post (wpb_X6_reads_71 post   n)  i31 a32 q33 x1 x2 r34) ∧ (¬ r34 = 0 → (r34 ≤ 3 → wpb_X6_reads_112 post (wpb_X6_reads_71 post   n)  i31 a32 q33 x1 x2 r34 0) ∧ (¬ r34 ≤ 3 → wpb_X6_reads_107 post (wpb_X6_reads_71 post   n)  i31 a32 q33 x1 x2 r34))) ∧ (r28 = 0 → isB 0 ∧ post 0 (i, a, q)))
def wpb_X6_reads_2 (post : Int32 → MSt → Prop)   : Nat → (Nat → Int32) → (Nat → Nat → Int32) → (Nat → Nat) → Int32 → Prop
  | 0 => fun _ _ _ _ => False
  | n + 1 => fun i a q x1 => (78 ≤ x1 → ∀ i2, i2 = upd i 20 0 → pre_X6_advances i2 a q  ∧ ∀ i4 a5 q6, post_X6_advances i2 a q  (i4, a5, q6) → pre_X6_readsWord i4 a5 q6 tx_road ∧ ∀ r8 i9 a10 q11, post_X6_readsWord i4 a5 q6 tx_road r8 (i9, a10, q11) → (r8 = 0 → isB 0 ∧ post 0 (i9, a10, q11)) ∧ (¬ r8 = 0 → pre_X6_readsNumber i9 a10 q11 1 999 ∧ ∀ r13 i14 a15 q16, post_X6_readsNumber i9 a10 q11 1 999 r13 (i14, a15, q16) → (¬ r13 = 0 → vp_in 0 78 ∧ ∀ a18, a18 = updA a15 3 (0 : Int32).toNatClampNeg (i14 23) → ∀ i19, i19 = upd i14 24 (-1) → ∃ n, wpb_X6_reads_71 post   n i19 a18 q16 0 0) ∧ (r13 = 0 → isB 0 ∧ post 0 (i14, a15, q16)))) ∧ (¬ 78 ≤ x1 → vp_in x1 78 ∧ ∀ a20, a20 = updA a 3 x1.toNatClampNeg 0 → ∀ z21, z21 = x1 + 1 → (wpb_X6_reads_2 post   n) i a20 q z21)
def wp_X6_reads (post : Int32 → MSt → Prop) (i : Nat → Int32) (a : Nat → Nat → Int32) (q : Nat → Nat)  : Prop :=
  ∃ n, wpb_X6_reads_2 post   n i a q 0
theorem tok_pF {i : Nat → Int32} {T : Tk} {z : Int32} : tokF (upd i 20 z) T = pF i T (i 23) (i 24) := by
  funext k
  unfold tokF pF
  by_cases h0 : k = 20
  · rw [if_pos h0, if_pos h0]
  rw [if_neg h0, if_neg h0]
  by_cases h1 : k = 21
  · rw [if_pos h1, if_pos h1]
  rw [if_neg h1, if_neg h1]
  by_cases h2 : k = 22
  · rw [if_pos h2, if_pos h2]
  rw [if_neg h2, if_neg h2, show upd i 20 z k = i k from if_neg h0]
  by_cases h3 : k = 23
  · rw [if_pos h3, h3]
  rw [if_neg h3]
  by_cases h4 : k = 24
  · rw [if_pos h4, h4]
  rw [if_neg h4]
theorem nx_le {b : Nat → Int32} {L : Nat} {T : Tk} (h : TKK L T) : T.2.2 ≤ (nxT b L T).1 ∧ T.2.2 ≤ (nxT b L T).2.2 := by
  have h0 := lex_le (b := b) (L := L) h.2.1
  exact ⟨h0.1, Nat.le_trans h0.1 h0.2.1⟩
/-- a part's token: good, behind the one before -/
def PRok (L e : Nat) (R : PR) : Prop := TKK L R.2.1 ∧ e ≤ R.2.1.2.2 ∧ (R.1 = true → isPt R.2.2.2)
theorem ptrP_ok {b : Nat → Int32} {L c : Nat} {f : Nat → Int32} {T : Tk} {la : Int32} (hT : TKK L T) (hla : isPt la) : PRok L T.2.2 (ptrP b L c f T la) := by
  unfold ptrP
  by_cases h : sgnF b T 45 = true
  · rw [if_pos h]; exact ⟨hT.nx, (nx_le hT).2, fun _ => hla⟩
  rw [if_neg h]
  by_cases h : isNuF b T 0 11 = true
  · rw [if_pos h]; exact ⟨hT.nx, (nx_le hT).2, fun _ => hla⟩
  · rw [if_neg h]; exact ⟨hT, Nat.le_refl _, fun z => Bool.noConfusion z⟩
theorem ownP_ok {b : Nat → Int32} {L row : Nat} {f : Nat → Int32} {T : Tk} {la : Int32} (hT : TKK L T) (hla : isPt la) : PRok L T.2.2 (ownP b L row f T la) := by
  unfold ownP
  by_cases h : isNuF b T (la + 1) 11 = true
  · rw [if_pos h]
    by_cases h2 : f (3 + (numF b T).toNatClampNeg) = 0
    · rw [if_pos h2]; exact ⟨hT, Nat.le_refl _, fun z => Bool.noConfusion z⟩
    · rw [if_neg h2]
      obtain ⟨h3, h4, h5⟩ := ptrP_ok (b := b) (c := row + (numF b T).toNatClampNeg) (f := f) (hT.nx (b := b)) (Or.inr (isNu_pl h (isPt_1 hla)))
      exact ⟨h3, Nat.le_trans (nx_le hT).2 h4, h5⟩
  · rw [if_neg h]; exact ⟨hT, Nat.le_refl _, fun z => Bool.noConfusion z⟩
theorem letP_ok {b : Nat → Int32} {L p : Nat} {f : Nat → Int32} {T : Tk} {la : Int32} (hT : TKK L T) (hla : isPt la) : PRok L T.2.2 (letP b L p f T la) := by
  unfold letP
  by_cases h : wrdF b T tx_letters = true
  · rw [if_pos h]
    by_cases h2 : isNuF b (nxT b L T) 1 99 = true
    · rw [if_pos h2]; exact ⟨hT.nx.nx, Nat.le_trans (nx_le hT).2 (nx_le hT.nx).2, fun _ => hla⟩
    · rw [if_neg h2]; exact ⟨hT.nx, (nx_le hT).2, fun z => Bool.noConfusion z⟩
  · rw [if_neg h]; exact ⟨hT, Nat.le_refl _, fun _ => hla⟩
theorem innP_ok {b : Nat → Int32} {L : Nat} {f : Nat → Int32} {T : Tk} {la : Int32} (hT : TKK L T) (hla : isPt la) : PRok L T.2.2 (innP b L f T la) := by
  unfold innP
  have n1 := nx_le (b := b) hT
  have n2 := nx_le (b := b) (hT.nx (b := b))
  have n3 := nx_le (b := b) (T := nxT b L (nxT b L T)) (hT.nx (b := b)).nx
  by_cases h : isNuF b T (la + 1) 11 = true
  · rw [if_pos h]
    have hp : isPt (numF b T) := Or.inr (isNu_pl h (isPt_1 hla))
    by_cases h2 : isNuF b (nxT b L T) 0 999 = true
    · rw [if_pos h2]
      by_cases h3 : atR f (numF b (nxT b L T)) 12 0 = -1
      · rw [if_pos h3]
        by_cases h4 : wrdF b (nxT b L (nxT b L T)) tx_closed = true
        · rw [if_pos h4]
          obtain ⟨g1, g2, g3⟩ := letP_ok (b := b) (p := (numF b T).toNatClampNeg) (f := upd (bldF f (numF b T).toNatClampNeg (numF b (nxT b L T))) (27 + (numF b T).toNatClampNeg) 0) (hT.nx (b := b)).nx.nx hp
          exact ⟨g1, by omega, g3⟩
        · rw [if_neg h4]
          obtain ⟨g1, g2, g3⟩ := letP_ok (b := b) (p := (numF b T).toNatClampNeg) (f := upd (bldF f (numF b T).toNatClampNeg (numF b (nxT b L T))) (27 + (numF b T).toNatClampNeg) 1) (hT.nx (b := b)).nx hp
          exact ⟨g1, by omega, g3⟩
      · rw [if_neg h3]; exact ⟨hT.nx, n1.2, fun z => Bool.noConfusion z⟩
    · rw [if_neg h2]; exact ⟨hT.nx, n1.2, fun z => Bool.noConfusion z⟩
  · rw [if_neg h]; exact ⟨hT, Nat.le_refl _, fun z => Bool.noConfusion z⟩
theorem cntP_ok {b : Nat → Int32} {L : Nat} {f : Nat → Int32} {T : Tk} {la : Int32} (hT : TKK L T) (hla : isPt la) : PRok L T.2.2 (cntP b L f T la) := by
  unfold cntP
  by_cases h : isNuF b T 0 12 = true
  · rw [if_pos h]; exact ⟨hT.nx, (nx_le hT).2, fun _ => hla⟩
  · rw [if_neg h]; exact ⟨hT, Nat.le_refl _, fun z => Bool.noConfusion z⟩
theorem prtP_ok {b : Nat → Int32} {L : Nat} {k : Int32} {f : Nat → Int32} {T : Tk} {la : Int32} (hT : TKK L T) (hla : isPt la) : PRok L T.2.2 (prtP b L k f T la) := by
  unfold prtP
  split
  · exact innP_ok hT hla
  split
  · exact ptrP_ok hT hla
  split
  · exact ptrP_ok hT hla
  split
  · exact cntP_ok hT hla
  split
  · exact ownP_ok hT hla
  · exact ownP_ok hT hla
theorem prtK_in {b : Nat → Int32} {T : Tk} (h : prtK b T ≠ -1) : (0 ≤ prtK b T ∧ prtK b T ≤ 5) ∧ T.2.1 = 1 := by
  have W : ∀ w, wrdF b T w = true → T.2.1 = 1 := fun w h => by
    unfold wrdF at h
    rw [Bool.and_eq_true, Bool.and_eq_true] at h
    exact of_decide_eq_true h.1.1
  revert h
  unfold prtK
  split
  · intro _; exact ⟨by decide, W _ ‹_›⟩
  split
  · intro _; exact ⟨by decide, W _ ‹_›⟩
  split
  · intro _; exact ⟨by decide, W _ ‹_›⟩
  split
  · intro _; exact ⟨by decide, W _ ‹_›⟩
  split
  · intro _; exact ⟨by decide, W _ ‹_›⟩
  split
  · intro _; exact ⟨by decide, W _ ‹_›⟩
  · intro h; exact absurd rfl h
theorem nf_lop (post : Int32 → MSt → Prop) (i : Nat → Int32) (a : Nat → Nat → Int32) (q : Nat → Nat) (hB : BOK i) : ∀ (n : Nat) (T : Tk) (v la part : Int32) (f : Nat → Int32) (reb : Bool), TKK (blen i) T → isPt la → blen i < n + T.2.2 →
    (∀ r u, PPost i a q (lopP (trB i a) (blen i) n T f la part reb) r u → post r u) → wpb_X6_reads_71 post n (pF i T v la) (setR a 3 f) q part (b2i reb) := by
  intro n
  induction n with
  | zero => intro T v la part f reb hT _ hn; have := hT.2.1; omega
  | succ n ih =>
    intro T v la part f reb hT hla hn P
    unfold lopP at P
    have f22 : pF i T v la 22 = nI T.2.1 := rfl
    have hk : nI T.2.1 = 0 ↔ T.2.1 = 0 := nI_eq (b := 0) (by have := hT.2.2.2; omega) (by omega)
    unfold wpb_X6_reads_71
    rw [f22, hk]
    refine ⟨fun h => ?_, fun h => ?_⟩
    · rw [if_pos h] at P
      refine ⟨fun c => ⟨isB_1, P _ _ ?_⟩, fun c i25 a26 q27 h25 => ⟨isB_1, P _ _ ?_⟩⟩
      · rw [if_pos (b2i_1 c)]
        exact ⟨rfl, v, la, f, rfl, fun _ => ⟨rfl, rfl⟩⟩
      · have h25 : (i25, a26, q27) = (pF i T v la, setR (setR a 3 f) 3 (rebF (setR a 3 f 3)), q) := h25
        rw [setR_self, setR_setR] at h25
        rw [h25, if_neg (b2i_f c)]
        exact ⟨rfl, v, la, _, rfl, fun _ => ⟨rfl, rfl⟩⟩
    rw [if_neg h] at P
    refine ⟨⟨hB, T, hT.ok⟩, fun r28 h28 => ?_⟩
    have h28 := n_sgn hT h28
    subst h28
    refine ⟨fun c => ?_, fun c => ⟨isB_0, P _ _ ?_⟩⟩
    rotate_left
    · rw [if_neg (b2i_f c)]
      exact ⟨rfl, v, la, f, rfl, fun z => Bool.noConfusion z⟩
    rw [if_pos (b2i_1 c)] at P
    have hT1 := hT.nx (b := trB i a)
    have hn1 := nx_le (b := trB i a) hT
    refine ⟨n_padv hB hT, fun i31 a32 q33 h31 => ?_⟩
    have h31 := n_adv hB hT h31
    cases h31
    refine ⟨⟨hB, _, hT1.ok⟩, fun r34 h34 => ?_⟩
    have h34 := n_prk hT1 h34
    obtain ⟨its, eits⟩ : ∃ its, its = prtK (trB i a) (nxT (trB i a) (blen i) T) := ⟨_, rfl⟩
    rw [← eits] at h34 P
    subst h34
    -- the rest: behind the question whether the part may follow
    have k139 : ∀ (m : Bool), m = mayP r34 part → wpb_X6_reads_139 post (wpb_X6_reads_71 post n) (pF i (nxT (trB i a) (blen i) T) v la) (setR a 3 f) q part (b2i reb) r34 (b2i m) := by
      intro m hm
      refine ⟨fun c2 => ?_, fun c2 => ⟨isB_0, P _ _ ?_⟩⟩
      rotate_left
      · rw [if_neg (by rw [← hm]; exact b2i_f c2)]
        exact ⟨rfl, v, la, f, rfl, fun z => Bool.noConfusion z⟩
      have hmay : mayP r34 part = true := hm.symm.trans (b2i_1 c2)
      rw [if_pos hmay] at P
      have hne : r34 ≠ -1 := by
        unfold mayP at hmay
        rw [Bool.and_eq_true] at hmay
        exact of_decide_eq_true hmay.1
      have hin := prtK_in (b := trB i a) (T := nxT (trB i a) (blen i) T) (by rw [← eits]; exact hne)
      rw [← eits] at hin
      have hT2 := hT1.nx (b := trB i a)
      have hn2 := nx_le (b := trB i a) hT1
      have hlt : T.2.2 < (nxT (trB i a) (blen i) T).2.2 := by have := hT1.2.2.1 (by rw [hin.2]; decide); omega
      -- behind a rebuild
      have k165 : ∀ (f1 : Nat → Int32) (reb1 : Bool), f1 = (if 0 < r34 ∧ reb = false then rebF f else f) → reb1 = (reb || decide (0 < r34)) → wpb_X6_reads_165 post (wpb_X6_reads_71 post n) (pF i (nxT (trB i a) (blen i) T) v la) (setR a 3 f1) q part (b2i reb1) r34 := by
        intro f1 reb1 ef er
        rw [← ef, ← er] at P
        have k179 : ∀ l1, isPt l1 → l1 = (if r34 = part then la else -1) → wpb_X6_reads_179 post (wpb_X6_reads_71 post n) (pF i (nxT (trB i a) (blen i) T) v la) (setR a 3 f1) q (b2i reb1) r34 l1 := by
          intro l1 hl1 el i49 e49
          rw [← el] at P
          rw [pF_24] at e49
          subst e49
          refine ⟨n_padv hB hT1, fun i51 a52 q53 h51 => ?_⟩
          have h51 := n_adv hB hT1 h51
          cases h51
          refine ⟨⟨hB, ⟨_, hT2.ok⟩, hin.1.1, hin.1.2, hl1, rfl⟩, fun r54 i55 a56 q57 h54 => ?_⟩
          have h54 : post_X6_readsPart (pF i (nxT (trB i a) (blen i) (nxT (trB i a) (blen i) T)) v l1) (setR a 3 f1) q r34 l1 r54 (i55, a56, q57) := h54
          have h54 := n_prt hT2 h54
          obtain ⟨g1, g2, g3⟩ := prtP_ok (b := trB i a) (k := r34) (f := f1) hT2 hl1
          obtain ⟨R, eR⟩ : ∃ R, R = prtP (trB i a) (blen i) r34 f1 (nxT (trB i a) (blen i) (nxT (trB i a) (blen i) T)) l1 := ⟨_, rfl⟩
          simp only [← eR] at P h54 g1 g2 g3
          obtain ⟨e1, v', la', f', e2, e3⟩ := h54
          cases e2
          subst e1
          refine ⟨fun c3 => ?_, fun c3 => ⟨isB_0, P _ _ ?_⟩⟩
          · obtain ⟨e4, e5⟩ := e3 (b2i_1 c3)
            rw [e4, e5]
            refine ih _ _ _ _ _ _ g1 (g3 (b2i_1 c3)) (by omega) (fun r u h => P r u ?_)
            rw [if_pos (b2i_1 c3)]
            exact h
          · rw [if_neg (b2i_f c3)]
            exact ⟨rfl, v', la', f', rfl, fun z => Bool.noConfusion z⟩
        refine ⟨fun c3 => k179 _ (Or.inl rfl) (by rw [if_neg c3]), fun c3 => ?_⟩
        exact k179 la hla (by rw [if_pos c3])
      refine ⟨fun c3 => ?_, fun c3 => ⟨fun c4 => ?_, fun c4 i45 a46 q47 h45 => ?_⟩⟩
      · have h0 : ¬ 0 < r34 := Int32.not_lt.mpr c3
        exact k165 f reb (by rw [if_neg (fun z => h0 z.1)]) (by rw [decide_eq_false h0, Bool.or_false])
      · have h1 := b2i_1 c4
        exact k165 f reb (by rw [if_neg (fun z => Bool.noConfusion (h1.symm.trans z.2))]) (by rw [h1]; rfl)
      · have h0 : 0 < r34 := Int32.not_le.mp c3
        have h1 := b2i_0 c4
        have h45 : (i45, a46, q47) = (pF i (nxT (trB i a) (blen i) T) v la, setR (setR a 3 f) 3 (rebF (setR a 3 f 3)), q) := h45
        rw [setR_self, setR_setR] at h45
        cases h45
        exact k165 (rebF f) true (by rw [if_pos ⟨h0, h1⟩]) (by rw [decide_eq_true h0, Bool.or_true])
    have k112 : ∀ (m : Bool), m = (decide (r34 = 0) || decide (3 < r34)) → wpb_X6_reads_112 post (wpb_X6_reads_71 post n) (pF i (nxT (trB i a) (blen i) T) v la) (setR a 3 f) q part (b2i reb) r34 (b2i m) := by
      intro m hm
      have mp : mayP r34 part = (decide (r34 ≠ -1) && (decide (part < r34) || (decide (r34 = part) && m))) := by unfold mayP; rw [hm]
      refine ⟨fun c2 => k139 false (by rw [mp, decide_eq_false (fun z => z c2)]; rfl), fun c2 => ?_⟩
      rw [decide_eq_true c2, Bool.true_and] at mp
      refine ⟨fun c3 => k139 true (by rw [mp, decide_eq_true c3]; rfl), fun c3 => ?_⟩
      rw [decide_eq_false c3, Bool.false_or] at mp
      refine ⟨fun c4 => k139 false (by rw [mp, decide_eq_false c4]; rfl), fun c4 => ?_⟩
      rw [decide_eq_true c4, Bool.true_and] at mp
      exact ⟨fun c5 => k139 false (by rw [mp, b2i_0 c5]), fun c5 => k139 true (by rw [mp, b2i_1 c5])⟩
    refine ⟨fun c2 => ?_, fun c2 => ⟨fun c3 => ?_, fun c3 => ?_⟩⟩
    · exact k112 true (by rw [decide_eq_true c2]; rfl)
    · exact k112 false (by rw [decide_eq_false c2, decide_eq_false (Int32.not_lt.mpr c3)]; rfl)
    · exact k112 true (by rw [decide_eq_true (Int32.not_le.mp c3), Bool.or_true])
theorem prz_X6_reads (i : Nat → Int32) (a : Nat → Nat → Int32) (q : Nat → Nat)  (hB : BOK i) (hz : ∀ k, 78 ≤ k → a 3 k = 0) : wp_X6_reads (fun r u => post_X6_reads i a q  r u) i a q  := by
  obtain ⟨post, ep⟩ : ∃ post : Int32 → MSt → Prop, post = fun r u => post_X6_reads i a q r u := ⟨_, rfl⟩
  have P : ∀ r u, PPost i a q (prsP (trB i a) (blen i)) r u → post r u := fun r u h => by rw [ep]; exact h
  rw [← ep]
  have st : ∀ n m, m + n = 78 → wpb_X6_reads_2 post (n + 1) i (setR a 3 (fun k => if k < m then 0 else a 3 k)) q (nI m) := by
    intro n
    induction n with
    | succ n ih =>
      intro m hm
      refine ⟨fun h => absurd h (nI_ge (b := 78) (by omega) (by omega)), fun _ => ?_⟩
      rw [nI_clamp (by omega)]
      refine ⟨vp_in_nI (by omega) (by omega), fun a20 e20 z21 e21 => ?_⟩
      rw [e21, nI_1, e20, n_upd]
      have : upd (fun k => if k < m then 0 else a 3 k) m 0 = fun k => if k < m + 1 then 0 else a 3 k := by
        funext k
        unfold upd
        dsimp only
        by_cases h1 : k = m
        · rw [if_pos h1, if_pos (by omega)]
        · rw [if_neg h1]
          by_cases h2 : k < m
          · rw [if_pos h2, if_pos (by omega)]
          · rw [if_neg h2, if_neg (by omega)]
      rw [this]
      exact ih (m + 1) (by omega)
    | zero =>
      intro m hm
      have em : m = 78 := by omega
      subst em
      rw [zero78 hz]
      refine ⟨fun _ i2 e2 => ?_, fun h => absurd (Int32.le_refl _) h⟩
      subst e2
      refine ⟨⟨hB, 0, Nat.zero_le _, rfl⟩, fun i4 a5 q6 h4 => ?_⟩
      have h4 : (i4, a5, q6) = (tokF (upd i 20 0) (lexF (trB i a) (blen i) 0), setR a 3 (fun _ => 0), q) := h4
      have hT0 : TKK (blen i) (lexF (trB i a) (blen i) 0) := (tok_of (i := i) (b := trB i a) (Nat.zero_le _)).kk
      have e0 : tokF (upd i 20 0) (lexF (trB i a) (blen i) 0) = pF i (lexF (trB i a) (blen i) 0) (i 23) (i 24) := by
        exact tok_pF
      rw [e0] at h4
      cases h4
      unfold prsP at P
      refine ⟨⟨hB, ⟨_, hT0.ok⟩, by decide⟩, fun r8 i9 a10 q11 h8 => ?_⟩
      obtain ⟨e1, e2⟩ := n_rwd hT0 h8
      subst e1
      cases e2
      refine ⟨fun c => ⟨isB_0, P _ _ ?_⟩, fun c => ?_⟩
      · rw [if_neg (b2i_f c), if_neg (b2i_f c)]
        exact ⟨rfl, _, _, _, rfl, fun z => Bool.noConfusion z⟩
      rw [if_pos (b2i_1 c)] at P ⊢
      have hT1 := hT0.nx (b := trB i a)
      refine ⟨⟨hB, _, hT1.ok⟩, fun r13 i14 a15' q16 h13 => ?_⟩
      obtain ⟨e1, w, e2, e3⟩ := n_rnu hT1 h13
      subst e1
      cases e2
      refine ⟨fun c2 => ⟨by unfold vp_in; decide, fun a18 e18 i19 e19 => ?_⟩, fun c2 => ⟨isB_0, P _ _ ?_⟩⟩
      · rw [if_pos (b2i_1 c2)] at P e19 
        have e18 : a18 = updA (setR a 3 fun _ => 0) 3 0 w := e18
        rw [n_upd] at e18
        rw [pF_24] at e19
        subst e18 e19
        rw [← e3 (b2i_1 c2)] at P
        exact ⟨501, nf_lop post i a q hB 501 _ w (-1) 0 _ false hT1.nx (Or.inl rfl) (by have := hB.len.1; omega) P⟩
      · rw [if_neg (b2i_f c2), if_neg (b2i_f c2)]
        exact ⟨rfl, _, _, _, rfl, fun z => Bool.noConfusion z⟩
  have h0 := st 78 0 rfl
  have e0 : setR a 3 (fun k => if k < 0 then 0 else a 3 k) = a := by
    rw [show (fun k => if k < 0 then 0 else a 3 k) = a 3 from funext fun k => if_neg (Nat.not_lt_zero _), setR_id]
  rw [e0] at h0
  exact ⟨79, h0⟩
