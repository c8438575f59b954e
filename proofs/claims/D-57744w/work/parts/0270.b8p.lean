theorem sw_cases (x : Int32) (lo hi : Int) (_ : lo ≤ hi) : (x.toInt < lo ∨ hi < x.toInt) ∨ (lo ≤ x.toInt ∧ x.toInt ≤ hi) := by omega
theorem sw_5 {z : Int} (h : 0 ≤ z ∧ z ≤ 4) : z = 0 ∨ z = 1 ∨ z = 2 ∨ z = 3 ∨ z = 4 := by omega
def wpb_X6_readsInn_104 (post : Int32 → MSt → Prop)  (x : Int32) (i : Nat → Int32) (a : Nat → Nat → Int32) (q : Nat → Nat) (x2 : Int32) : Prop :=
  pre_X6_readsWord i a q tx_letters ∧ ∀ r35 i36 a37 q38, post_X6_readsWord i a q tx_letters r35 (i36, a37, q38) → (r35 = 0 → isB 1 ∧ post 1 (i36, a37, q38)) ∧ (¬ r35 = 0 → pre_X6_readsNumber i36 a37 q38 1 99 ∧ ∀ r40 i41 a42 q43, post_X6_readsNumber i36 a37 q38 1 99 r40 (i41, a42, q43) → (¬ r40 = 0 → vp_in (39 + x2) 78 ∧ ∀ a45, a45 = updA a42 3 (39 + x2).toNatClampNeg (i41 23) → isB 1 ∧ post 1 (i41, a45, q43)) ∧ (r40 = 0 → isB 0 ∧ post 0 (i41, a42, q43)))
def wpb_X6_readsInn_90 (post : Int32 → MSt → Prop)  (x : Int32) (i : Nat → Int32) (a : Nat → Nat → Int32) (q : Nat → Nat) (x2 : Int32) (s0 : Int32) (s1 : Int32) : Prop :=
  vp_in s1 78 ∧ ∀ a26, a26 = updA a 3 s1.toNatClampNeg s0 → pre_X6_isWord i a26 q tx_closed ∧ ∀ r28, post_X6_isWord i a26 q tx_closed r28 → (r28 = 0 → wpb_X6_readsInn_104 post  x i a26 q x2) ∧ (¬ r28 = 0 → pre_X6_advances i a26 q  ∧ ∀ i31 a32 q33, post_X6_advances i a26 q  (i31, a32, q33) → wpb_X6_readsInn_104 post  x i31 a32 q33 x2)
def wp_X6_readsInn (post : Int32 → MSt → Prop) (i : Nat → Int32) (a : Nat → Nat → Int32) (q : Nat → Nat) (x : Int32) : Prop :=
  pre_X6_readsNumber i a q (x + 1) 11 ∧ ∀ r1 i2 a3 q4, post_X6_readsNumber i a q (x + 1) 11 r1 (i2, a3, q4) → (¬ r1 = 0 → ∀ z6, z6 = (i2 23) → pre_X6_isNumber i2 a3 q4 0 999 ∧ ∀ r7 i8 a9 q10, post_X6_isNumber i2 a3 q4 0 999 r7 (i8, a9, q10) → (r7 = 0 → isB 0 ∧ post 0 (i8, a9, q10)) ∧ (¬ r7 = 0 → ∀ r12, post_X6_atMile i8 a9 q10 3 (i8 23) r12 → (r12 = (-1) → pre_X6_builds i8 a9 q10 3 z6 (i8 23) ∧ ∀ i15 a16 q17, post_X6_builds i8 a9 q10 3 z6 (i8 23) (i15, a16, q17) → ∀ i18, i18 = upd i15 24 z6 → pre_X6_advances i18 a16 q17  ∧ ∀ i20 a21 q22, post_X6_advances i18 a16 q17  (i20, a21, q22) → pre_X6_isWord i20 a21 q22 tx_closed ∧ ∀ r24, post_X6_isWord i20 a21 q22 tx_closed r24 → (r24 = 0 → wpb_X6_readsInn_90 post  x i20 a21 q22 z6 1 (27 + z6)) ∧ (¬ r24 = 0 → wpb_X6_readsInn_90 post  x i20 a21 q22 z6 0 (27 + z6))) ∧ (¬ r12 = (-1) → isB 0 ∧ post 0 (i8, a9, q10)))) ∧ (r1 = 0 → isB 0 ∧ post 0 (i2, a3, q4))

def wp_X6_readsPart (post : Int32 → MSt → Prop) (i : Nat → Int32) (a : Nat → Nat → Int32) (q : Nat → Nat) (x : Int32) (y : Int32) : Prop :=
  ((x.toInt < 0 ∨ 4 < x.toInt) → pre_X6_readsOwnPointer i a q 66 y ∧ ∀ r1 i2 a3 q4, post_X6_readsOwnPointer i a q 66 y r1 (i2, a3, q4) → isB r1 ∧ post r1 (i2, a3, q4)) ∧ (x.toInt = 0 → pre_X6_readsInn i a q y ∧ ∀ r5 i6 a7 q8, post_X6_readsInn i a q y r5 (i6, a7, q8) → isB r5 ∧ post r5 (i6, a7, q8)) ∧ (x.toInt = 1 → pre_X6_readsPointer i a q 51 ∧ ∀ r9 i10 a11 q12, post_X6_readsPointer i a q 51 r9 (i10, a11, q12) → isB r9 ∧ post r9 (i10, a11, q12)) ∧ (x.toInt = 2 → pre_X6_readsPointer i a q 52 ∧ ∀ r13 i14 a15 q16, post_X6_readsPointer i a q 52 r13 (i14, a15, q16) → isB r13 ∧ post r13 (i14, a15, q16)) ∧ (x.toInt = 3 → pre_X6_readsNumber i a q 0 12 ∧ ∀ r17 i18 a19 q20, post_X6_readsNumber i a q 0 12 r17 (i18, a19, q20) → vp_in 53 78 ∧ ∀ a21, a21 = updA a19 3 (53 : Int32).toNatClampNeg (i18 23) → isB r17 ∧ post r17 (i18, a21, q20)) ∧ (x.toInt = 4 → pre_X6_readsOwnPointer i a q 54 y ∧ ∀ r22 i23 a24 q25, post_X6_readsOwnPointer i a q 54 y r22 (i23, a24, q25) → isB r22 ∧ post r22 (i23, a24, q25))
theorem nf_104 (post : Int32 → MSt → Prop) (x : Int32) (i : Nat → Int32) (a : Nat → Nat → Int32) (q : Nat → Nat) (T : Tk) (v la : Int32) (f : Nat → Int32) (p : Nat) (hB : BOK i) (hT : TKK (blen i) T) (hp : p < 12)
    (P : ∀ r u, PPost i a q (letP (trB i a) (blen i) p f T la) r u → post r u) : wpb_X6_readsInn_104 post x (pF i T v la) (setR a 3 f) q (nI p) := by
  refine ⟨⟨hB, ⟨T, hT.ok⟩, by decide⟩, fun r35 i36 a37 q38 h1 => ?_⟩
  obtain ⟨e1, e2⟩ := n_rwd hT h1
  subst e1
  cases e2
  refine ⟨fun c => ⟨isB_1, P _ _ ?_⟩, fun c => ?_⟩
  · unfold letP
    rw [if_neg (b2i_f c), if_neg (b2i_f c)]
    exact ⟨rfl, v, la, f, rfl, fun _ => ⟨rfl, rfl⟩⟩
  unfold letP at P
  rw [if_pos (b2i_1 c)] at P ⊢
  refine ⟨⟨hB, ⟨_, hT.nx.ok⟩⟩, fun r40 i41 a42 q43 h2 => ?_⟩
  obtain ⟨e1, w, e2, e3⟩ := n_rnu hT.nx h2
  subst e1
  cases e2
  refine ⟨fun c2 => ?_, fun c2 => ⟨isB_0, P _ _ ?_⟩⟩
  · rw [a39, nI_clamp (by omega)]
    refine ⟨vp_in_nI (by omega) (by omega), fun a45 e45 => ⟨isB_1, P _ _ ?_⟩⟩
    rw [n_upd] at e45
    subst e45
    rw [if_pos (b2i_1 c2), if_pos (b2i_1 c2)]
    exact ⟨rfl, w, la, _, rfl, fun _ => ⟨by rw [← e3 (b2i_1 c2)]; rfl, rfl⟩⟩
  · rw [if_neg (b2i_f c2), if_neg (b2i_f c2)]
    exact ⟨rfl, w, la, f, rfl, fun z => Bool.noConfusion z⟩
theorem nf_90 (post : Int32 → MSt → Prop) (x : Int32) (i : Nat → Int32) (a : Nat → Nat → Int32) (q : Nat → Nat) (T : Tk) (v la s0 : Int32) (f : Nat → Int32) (p : Nat) (hB : BOK i) (hT : TKK (blen i) T) (hp : p < 12)
    (P : ∀ r u, PPost i a q (letP (trB i a) (blen i) p (upd f (27 + p) s0) (if wrdF (trB i a) T tx_closed = true then nxT (trB i a) (blen i) T else T) la) r u → post r u) : wpb_X6_readsInn_90 post x (pF i T v la) (setR a 3 f) q (nI p) s0 (27 + nI p) := by
  unfold wpb_X6_readsInn_90
  rw [a27, nI_clamp (by omega)]
  refine ⟨vp_in_nI (by omega) (by omega), fun a26 e26 => ?_⟩
  rw [n_upd] at e26
  subst e26
  refine ⟨⟨hB, ⟨T, hT.ok⟩, by decide⟩, fun r28 h28 => ?_⟩
  have h28 := n_wrd hT h28
  subst h28
  refine ⟨fun c => ?_, fun c => ⟨n_padv hB hT, fun i31 a32 q33 h31 => ?_⟩⟩
  · rw [if_neg (b2i_f c)] at P
    exact nf_104 post x i a q T v la _ p hB hT hp P
  · rw [if_pos (b2i_1 c)] at P
    have h31 := n_adv hB hT h31
    cases h31
    exact nf_104 post x i a q _ v la _ p hB hT.nx hp P
theorem nf_X6_readsInn (post : Int32 → MSt → Prop) (i : Nat → Int32) (a : Nat → Nat → Int32) (q : Nat → Nat) (T : Tk) (v la x : Int32) (f : Nat → Int32) (hB : BOK i) (hT : TKK (blen i) T) (hx : isPt x)
    (P : ∀ r u, PPost i a q (innP (trB i a) (blen i) f T x) r u → post r u) : wp_X6_readsInn post (pF i T v la) (setR a 3 f) q x := by
  refine ⟨⟨hB, T, hT.ok⟩, fun r1 i2 a3' q4 h1 => ?_⟩
  obtain ⟨e1, w, e2, e3⟩ := n_rnu hT h1
  cases e2
  subst e1
  unfold innP at P
  refine ⟨fun h => ?_, fun h => ⟨isB_0, P _ _ ?_⟩⟩
  rotate_left
  · rw [if_neg (b2i_f h), if_neg (b2i_f h)]
    exact ⟨rfl, w, la, f, rfl, fun z => Bool.noConfusion z⟩
  have hN := b2i_1 h
  obtain ⟨p, hp, ep⟩ := isNu_pl hN (isPt_1 hx)
  have ew : w = nI p := (e3 hN).trans ep
  subst ew
  rw [if_pos hN] at P ⊢
  rw [ep, nI_clamp (by omega)] at P
  have hT1 := hT.nx (b := trB i a)
  intro z6 e6
  have e6 : z6 = nI p := e6
  subst e6
  refine ⟨⟨hB, _, hT1.ok⟩, fun r7 i8 a9 q10 h7 => ?_⟩
  obtain ⟨e1, w8, e2, e38⟩ := n_num hT1 h7
  cases e2
  subst e1
  refine ⟨fun c => ⟨isB_0, P _ _ ?_⟩, fun c => ?_⟩
  · rw [if_neg (b2i_f c)]
    exact ⟨rfl, w8, la, f, rfl, fun z => Bool.noConfusion z⟩
  have ew8 := e38 (b2i_1 c)
  rw [if_pos (b2i_1 c)] at P
  intro r12 h12
  have h12 : r12 = atR (setR a 3 f 3) w8 12 0 := h12
  rw [setR_self] at h12
  subst h12
  rw [← ew8] at P
  refine ⟨fun c2 => ?_, fun c2 => ⟨isB_0, P _ _ ?_⟩⟩
  rotate_left
  · rw [if_neg c2]
    exact ⟨rfl, w8, la, f, rfl, fun z => Bool.noConfusion z⟩
  rw [if_pos c2] at P
  refine ⟨⟨p, hp, rfl⟩, fun i15 a16 q17 h15 i18 e18 => ?_⟩
  have h15 : (i15, a16, q17) = (pF i (nxT (trB i a) (blen i) T) w8 la, setR (setR a 3 f) 3 (bldF (setR a 3 f 3) (nI p).toNatClampNeg w8), q) := h15
  rw [setR_self, setR_setR, nI_clamp (by omega)] at h15
  cases h15
  rw [pF_24] at e18
  subst e18
  refine ⟨n_padv hB hT1, fun i20 a21 q22 h20 => ?_⟩
  have h20 := n_adv hB hT1 h20
  cases h20
  refine ⟨⟨hB, ⟨_, hT1.nx.ok⟩, by decide⟩, fun r24 h24 => ?_⟩
  have h24 := n_wrd hT1.nx h24
  subst h24
  refine ⟨fun c3 => ?_, fun c3 => ?_⟩
  · rw [if_neg (b2i_f c3)] at P
    refine nf_90 post x i a q _ w8 (nI p) 1 _ p hB hT1.nx hp (fun r u h => P r u ?_)
    rw [if_neg (b2i_f c3)] at h
    exact h
  · rw [if_pos (b2i_1 c3)] at P
    refine nf_90 post x i a q _ w8 (nI p) 0 _ p hB hT1.nx hp (fun r u h => P r u ?_)
    rw [if_pos (b2i_1 c3)] at h
    exact h
theorem tI (x : Int32) (n : Int32) {z : Int} (hz : n.toInt = z) : x.toInt = z ↔ x = n := by rw [← hz, Int32.toInt_inj]
theorem nf_X6_readsPart (post : Int32 → MSt → Prop) (i : Nat → Int32) (a : Nat → Nat → Int32) (q : Nat → Nat) (T : Tk) (v x y : Int32) (f : Nat → Int32) (hB : BOK i) (hT : TKK (blen i) T) (hx : 0 ≤ x ∧ x ≤ 5) (hy : isPt y)
    (P : ∀ r u, PPost i a q (prtP (trB i a) (blen i) x f T y) r u → post r u) : wp_X6_readsPart post (pF i T v y) (setR a 3 f) q x y := by
  unfold wp_X6_readsPart
  rw [tI x 0 (z := 0) rfl, tI x 1 (z := 1) rfl, tI x 2 (z := 2) rfl, tI x 3 (z := 3) rfl, tI x 4 (z := 4) rfl]
  unfold prtP at P
  have B : ∀ {R : PR} {r : Int32} {u : MSt}, PPost i a q R r u → isB r := fun h => by rw [h.1]; exact isB_b _
  refine ⟨fun c => ?_, fun c => ?_, fun c => ?_, fun c => ?_, fun c => ?_, fun c => ?_⟩
  · have h5 : x ≠ 0 ∧ x ≠ 1 ∧ x ≠ 2 ∧ x ≠ 3 ∧ x ≠ 4 := by
      refine ⟨?_, ?_, ?_, ?_, ?_⟩ <;> (intro e; subst e; revert c; decide)
    rw [if_neg h5.1, if_neg h5.2.1, if_neg h5.2.2.1, if_neg h5.2.2.2.1, if_neg h5.2.2.2.2] at P
    refine ⟨⟨hB, ⟨T, hT.ok⟩, Or.inr rfl, hy⟩, fun r1 i2 a3 q4 h1 => ?_⟩
    have h1 := n_own hT h1
    exact ⟨B h1, P _ _ h1⟩
  · subst c
    refine ⟨⟨hB, ⟨T, hT.ok⟩, hy⟩, fun r1 i2 a3 q4 h1 => ?_⟩
    have h1 := n_inn hT h1
    exact ⟨B h1, P _ _ h1⟩
  · subst c
    refine ⟨⟨hB, ⟨T, hT.ok⟩, 51, by omega, rfl⟩, fun r1 i2 a3 q4 h1 => ?_⟩
    have h1 := n_ptr hT h1
    exact ⟨B h1, P _ _ h1⟩
  · subst c
    refine ⟨⟨hB, ⟨T, hT.ok⟩, 52, by omega, rfl⟩, fun r1 i2 a3 q4 h1 => ?_⟩
    have h1 := n_ptr hT h1
    exact ⟨B h1, P _ _ h1⟩
  · subst c
    refine ⟨⟨hB, ⟨T, hT.ok⟩⟩, fun r1 i2 a3 q4 h1 => ⟨by unfold vp_in; decide, fun a21 e21 => ?_⟩⟩
    obtain ⟨e1, w, e2, e3⟩ := n_rnu hT h1
    cases e2
    subst e1
    have e21 : a21 = updA (setR a 3 f) 3 53 w := e21
    rw [n_upd] at e21
    subst e21
    refine ⟨isB_b _, P _ _ ?_⟩
    rw [if_neg (by decide), if_neg (by decide), if_neg (by decide), if_pos rfl]
    unfold cntP
    by_cases c : isNuF (trB i a) T 0 12 = true
    · rw [if_pos c, if_pos c, c]
      exact ⟨rfl, w, y, _, rfl, fun _ => ⟨by rw [e3 c], rfl⟩⟩
    · rw [if_neg c, if_neg c]
      exact ⟨by rw [Bool.eq_false_iff.mpr c], w, y, _, rfl, fun z => Bool.noConfusion z⟩
  · subst c
    refine ⟨⟨hB, ⟨T, hT.ok⟩, Or.inl rfl, hy⟩, fun r1 i2 a3 q4 h1 => ?_⟩
    have h1 := n_own hT h1
    exact ⟨B h1, P _ _ h1⟩
theorem pr_X6_readsInn (i : Nat → Int32) (a : Nat → Nat → Int32) (q : Nat → Nat) (x : Int32) (hpre : pre_X6_readsInn i a q x) : wp_X6_readsInn (fun r u => post_X6_readsInn i a q x r u) i a q x := by
  obtain ⟨hB, ⟨T, hT⟩, hx⟩ := hpre
  have hu := fun T' h' => TOK.uniq (T := T) hB.len.1 hT (T' := T') h'
  have P : ∀ r u, PPost i a q (innP (trB i a) (blen i) (a 3) T x) r u → (fun r u => post_X6_readsInn i a q x r u) r u := fun r u h T' h' => by rw [← hu T' h']; exact h
  have := nf_X6_readsInn _ i a q T (i 23) (i 24) x (a 3) hB hT.kk hx P
  rw [pF_self hT, setR_id] at this
  exact this
theorem pr_X6_readsPart (i : Nat → Int32) (a : Nat → Nat → Int32) (q : Nat → Nat) (x : Int32) (y : Int32) (hpre : pre_X6_readsPart i a q x y) : wp_X6_readsPart (fun r u => post_X6_readsPart i a q x y r u) i a q x y := by
  obtain ⟨hB, ⟨T, hT⟩, hx0, hx5, hy, h24⟩ := hpre
  have hu := fun T' h' => TOK.uniq (T := T) hB.len.1 hT (T' := T') h'
  have P : ∀ r u, PPost i a q (prtP (trB i a) (blen i) x (a 3) T y) r u → (fun r u => post_X6_readsPart i a q x y r u) r u := fun r u h T' h' => by rw [← hu T' h']; exact h
  have := nf_X6_readsPart _ i a q T (i 23) x y (a 3) hB hT.kk ⟨hx0, hx5⟩ hy P
  rw [← h24, pF_self hT, setR_id, h24] at this
  exact this
