def wpb_X6_remembers_62 (post : MSt → Prop)   (i : Nat → Int32) (a : Nat → Nat → Int32) (q : Nat → Nat)  : Prop :=
  vp_in (i 7) 8 ∧ m78 (q (i 7).toNatClampNeg) = true ∧ ∀ i5 a6 q7, post_X6_copies i a q 1 (q (i 7).toNatClampNeg) (i5, a6, q7) → ∀ i8, i8 = upd i5 7 ((i5 7) + 1) → post (i8, a6, q7)
def wpb_X6_remembers_18 (post : MSt → Prop)   : Nat → (Nat → Int32) → (Nat → Nat → Int32) → (Nat → Nat) → Nat → Int32 → Prop
  | 0 => fun _ _ _ _ _ => False
  | n + 1 => fun i a q x1 x2 => (7 ≤ x2 → vp_in 7 8 ∧ m78 x1 = true ∧ ∀ q10, q10 = va_up q (7 : Int32).toNatClampNeg x1 → ∀ i11, i11 = upd i 7 ((i 7) - 1) → wpb_X6_remembers_62 post   i11 a q10) ∧ (¬ 7 ≤ x2 → vp_in (x2 + 1) 8 ∧ vp_in x2 8 ∧ m78 (q (x2 + 1).toNatClampNeg) = true ∧ ∀ q12, q12 = va_up q x2.toNatClampNeg (q (x2 + 1).toNatClampNeg) → ∀ z13, z13 = x2 + 1 → (wpb_X6_remembers_18 post   n) i a q12 x1 z13)
def wp_X6_remembers (post : MSt → Prop) (i : Nat → Int32) (a : Nat → Nat → Int32) (q : Nat → Nat)  : Prop :=
  (¬ (i 7) = 8 → wpb_X6_remembers_62 post   i a q) ∧ ((i 7) = 8 → vp_in 0 8 ∧ ∀ j2, j2 = (q (0 : Int32).toNatClampNeg) → ∃ n, wpb_X6_remembers_18 post   n i a q j2 0)

def wpb_X6_isSound_98 (post : Int32 → MSt → Prop) (K54 : (Nat → Int32) → (Nat → Nat → Int32) → (Nat → Nat) → Int32 → Prop) (j : Nat) (i : Nat → Int32) (a : Nat → Nat → Int32) (q : Nat → Nat) (x2 : Int32) (s0 : Int32) : Prop :=
  (s0 = 0 → isB 0 ∧ post 0 (i, a, q)) ∧ (¬ s0 = 0 → vp_in x2 12 ∧ vp_in (66 + (a 7 x2.toNatClampNeg)) 78 ∧ vp_in x2 12 ∧ vp_in (54 + (a 7 x2.toNatClampNeg)) 78 ∧ ∀ r15, post_X6_nextOf i a q j (a j (54 + (a 7 x2.toNatClampNeg)).toNatClampNeg) r15 → ((a j (66 + (a 7 x2.toNatClampNeg)).toNatClampNeg) = r15 → ∀ z17, z17 = x2 + 1 → K54 i a q z17) ∧ (¬ (a j (66 + (a 7 x2.toNatClampNeg)).toNatClampNeg) = r15 → isB 0 ∧ post 0 (i, a, q)))
def wpb_X6_isSound_93 (post : Int32 → MSt → Prop) (K54 : (Nat → Int32) → (Nat → Nat → Int32) → (Nat → Nat) → Int32 → Prop) (j : Nat) (i : Nat → Int32) (a : Nat → Nat → Int32) (q : Nat → Nat) (x2 : Int32) : Prop :=
  wpb_X6_isSound_98 post K54 j i a q x2 1
def wpb_X6_isSound_54 (post : Int32 → MSt → Prop)  (j : Nat) : Nat → (Nat → Int32) → (Nat → Nat → Int32) → (Nat → Nat) → Int32 → Prop
  | 0 => fun _ _ _ _ => False
  | n + 1 => fun i a q x2 => ((i 10) ≤ x2 → isB 1 ∧ post 1 (i, a, q)) ∧ (¬ (i 10) ≤ x2 → (x2 = 0 → wpb_X6_isSound_93 post (wpb_X6_isSound_54 post  j n) j i a q x2) ∧ (¬ x2 = 0 → vp_in (x2 - 1) 12 ∧ vp_in (15 + (a 7 (x2 - 1).toNatClampNeg)) 78 ∧ vp_in x2 12 ∧ vp_in (15 + (a 7 x2.toNatClampNeg)) 78 ∧ ((a j (15 + (a 7 x2.toNatClampNeg)).toNatClampNeg) ≤ (a j (15 + (a 7 (x2 - 1).toNatClampNeg)).toNatClampNeg) → wpb_X6_isSound_98 post (wpb_X6_isSound_54 post  j n) j i a q x2 0) ∧ (¬ (a j (15 + (a 7 x2.toNatClampNeg)).toNatClampNeg) ≤ (a j (15 + (a 7 (x2 - 1).toNatClampNeg)).toNatClampNeg) → wpb_X6_isSound_93 post (wpb_X6_isSound_54 post  j n) j i a q x2)))
def wp_X6_isSound (post : Int32 → MSt → Prop) (i : Nat → Int32) (a : Nat → Nat → Int32) (q : Nat → Nat) (j : Nat) : Prop :=
  ∀ i2 a3 q4, post_X6_laysChain i a q j (i2, a3, q4) → ∀ r5, post_X6_innsOf i2 a3 q4 j r5 → (¬ (i2 10) = r5 → isB 0 ∧ post 0 (i2, a3, q4)) ∧ ((i2 10) = r5 → (¬ (i2 11) = (-1) → isB 0 ∧ post 0 (i2, a3, q4)) ∧ ((i2 11) = (-1) → vp_in 53 78 ∧ (¬ (a3 j (53 : Int32).toNatClampNeg) = (i2 10) → isB 0 ∧ post 0 (i2, a3, q4)) ∧ ((a3 j (53 : Int32).toNatClampNeg) = (i2 10) → vp_in 52 78 ∧ vp_in 51 78 ∧ ∀ r9, post_X6_nextOf i2 a3 q4 j (a3 j (51 : Int32).toNatClampNeg) r9 → ((a3 j (52 : Int32).toNatClampNeg) = r9 → ∃ n, wpb_X6_isSound_54 post  j n i2 a3 q4 0) ∧ (¬ (a3 j (52 : Int32).toNatClampNeg) = r9 → isB 0 ∧ post 0 (i2, a3, q4)))))

def wpb_X6_fault_88 (post : Int32 → MSt → Prop) (K20 : (Nat → Int32) → (Nat → Nat → Int32) → (Nat → Nat) → Int32 → Prop)  (i : Nat → Int32) (a : Nat → Nat → Int32) (q : Nat → Nat) (x1 : Int32) : Prop :=
  ∀ z24, z24 = x1 + 1 → K20 i a q z24
def wpb_X6_fault_20 (post : Int32 → MSt → Prop)   : Nat → (Nat → Int32) → (Nat → Nat → Int32) → (Nat → Nat) → Int32 → Prop
  | 0 => fun _ _ _ _ => False
  | n + 1 => fun i a q x1 => (78 ≤ x1 → post (-1) (i, a, q)) ∧ (¬ 78 ≤ x1 → pre_X6_isStored i a q 1 x1 ∧ ∀ r11, post_X6_isStored i a q 1 x1 r11 → (r11 = 0 → wpb_X6_fault_88 post (wpb_X6_fault_20 post   n)  i a q x1) ∧ (¬ r11 = 0 → vp_in x1 78 ∧ vp_in x1 78 ∧ ((a 1 x1.toNatClampNeg) = (a 4 x1.toNatClampNeg) → wpb_X6_fault_88 post (wpb_X6_fault_20 post   n)  i a q x1) ∧ (¬ (a 1 x1.toNatClampNeg) = (a 4 x1.toNatClampNeg) → ∀ i15 a16 q17, post_X6_copies i a q 1 5 (i15, a16, q17) → vp_in x1 78 ∧ vp_in x1 78 ∧ ∀ a18, a18 = updA a16 5 x1.toNatClampNeg (a16 4 x1.toNatClampNeg) → pre_X6_isSound i15 a18 q17 5 ∧ ∀ r19 i20 a21 q22, post_X6_isSound i15 a18 q17 5 r19 (i20, a21, q22) → (r19 = 0 → wpb_X6_fault_88 post (wpb_X6_fault_20 post   n)  i20 a21 q22 x1) ∧ (¬ r19 = 0 → post x1 (i20, a21, q22)))))
def wp_X6_fault (post : Int32 → MSt → Prop) (i : Nat → Int32) (a : Nat → Nat → Int32) (q : Nat → Nat)  : Prop :=
  pre_X6_isSound i a q 1 ∧ ∀ r1 i2 a3 q4, post_X6_isSound i a q 1 r1 (i2, a3, q4) → (r1 = 0 → ∀ i7 a8 q9, post_X6_laysDue i2 a3 q4  (i7, a8, q9) → ∃ n, wpb_X6_fault_20 post   n i7 a8 q9 51) ∧ (¬ r1 = 0 → post (-1) (i2, a3, q4))
/-- the past's rows moved by one place, the first k of them -/
def rotQ (q : Nat → Nat) (k : Nat) : Nat → Nat := fun r => if r < k then q (r + 1) else q r
theorem remembers_end (i : Nat → Int32) (a : Nat → Nat → Int32) (q : Nat → Nat) (post : MSt → Prop) (n : Nat) (hn : n < 8) (h7 : i 7 = nI n) (hq : ∀ k, k < 8 → 10 ≤ q k ∧ q k < 18) (h : post (upd i 7 (nI (n + 1)), setR a (q n) (a 1), q)) : wpb_X6_remembers_62 post i a q := by
  unfold wpb_X6_remembers_62
  rw [h7, nI_clamp (by omega)]
  have hqn := hq n hn
  refine ⟨vp_in_nI (by omega) (by omega), ?_, fun i5 a6 q7 h1 i8 e8 => ?_⟩
  · unfold m78
    rw [Bool.or_eq_true, Bool.and_eq_true, Bool.and_eq_true, decide_eq_true_eq, decide_eq_true_eq, decide_eq_true_eq, decide_eq_true_eq]
    omega
  · unfold post_X6_copies at h1
    cases h1
    subst e8
    rw [h7, nI_1]
    exact h
theorem pr_X6_remembers (i : Nat → Int32) (a : Nat → Nat → Int32) (q : Nat → Nat) (hpre : pre_X6_remembers i a q) : wp_X6_remembers (fun u => post_X6_remembers i a q u) i a q := by
  obtain ⟨⟨n, hn, h7⟩, hq, hinj⟩ := hpre
  have out : ∀ k, k < 8 → ∀ j, j < 10 → j ≠ q k := fun k hk j hj e => by have := hq k hk; omega
  have c8 : i 7 = 8 ↔ n = 8 := by rw [h7]; exact nI_eq (b := 8) (by omega) (by omega)
  refine ⟨fun h => ?_, fun h => ⟨by unfold vp_in; decide, fun j2 e2 => ⟨8, ?_⟩⟩⟩
  · have hn8 : n < 8 := by
      have : ¬ n = 8 := fun e => h (c8.mpr e)
      omega
    refine remembers_end i a q _ n hn8 h7 hq ⟨⟨⟨n + 1, by omega, upd_s (f := i) (k := 7)⟩, hq, hinj⟩, fun k hk => upd_n (f := i) hk, fun j hj => setR_ne (out n hn8 j hj), ?_⟩
    unfold hisL push8
    dsimp only
    rw [upd_s, h7, nI_clamp (by omega), nI_clamp (by omega), List.length_map, List.length_range, if_neg (by omega), List.range_succ, List.map_append]
    congr 1
    · refine List.map_congr_left (fun k hk => ?_)
      have hk := List.mem_range.mp hk
      refine setR_ne (fun e => ?_)
      have := hinj k n (by omega) hn8 e
      omega
    · simp [setR_self]
  · have hn8 : n = 8 := c8.mp h
    subst hn8
    have key : ∀ m k, k + m = 7 → wpb_X6_remembers_18 (fun u => post_X6_remembers i a q u) (m + 1) i a (rotQ q k) j2 (nI k) := by
      intro m
      induction m with
      | zero =>
        intro k hk
        have : k = 7 := by omega
        subst this
        refine ⟨fun _ => ?_, fun h => absurd (by decide) h⟩
        have hq0 := hq 0 (by omega)
        have ej : j2 = q 0 := e2
        refine ⟨by unfold vp_in; decide, ?_, fun q10 e10 i11 e11 => ?_⟩
        · rw [ej]
          unfold m78
          rw [Bool.or_eq_true, Bool.and_eq_true, Bool.and_eq_true, decide_eq_true_eq, decide_eq_true_eq, decide_eq_true_eq, decide_eq_true_eq]
          omega
        · have hqq : ∀ k, k < 8 → q10 k = if k < 7 then q (k + 1) else q 0 := by
            intro k hk
            rw [e10, ej]
            show (if k = 7 then q 0 else rotQ q 7 k) = _
            unfold rotQ
            by_cases h1 : k = 7
            · rw [if_pos h1, if_neg (by omega)]
            · rw [if_neg h1, if_pos (by omega), if_pos (by omega)]
          have hr : ∀ k, k < 8 → 10 ≤ q10 k ∧ q10 k < 18 := by
            intro k hk
            rw [hqq k hk]
            split
            · exact hq _ (by omega)
            · exact hq0
          have hinj2 : ∀ k m, k < 8 → m < 8 → q10 k = q10 m → k = m := by
            intro k m hk hm e
            rw [hqq k hk, hqq m hm] at e
            by_cases h1 : k < 7 <;> by_cases h2 : m < 7
            · rw [if_pos h1, if_pos h2] at e
              have := hinj _ _ (by omega) (by omega) e
              omega
            · rw [if_pos h1, if_neg h2] at e
              have := hinj _ _ (by omega) (by omega) e
              omega
            · rw [if_neg h1, if_pos h2] at e
              have := hinj _ _ (by omega) (by omega) e
              omega
            · omega
          have e7 : i11 7 = nI 7 := by rw [e11, h7]; rfl
          refine remembers_end i11 a q10 _ 7 (by omega) e7 hr ⟨⟨⟨8, by omega, upd_s (f := i11) (k := 7)⟩, hr, hinj2⟩, fun k hk => (upd_n (f := i11) hk).trans (by rw [e11, upd_n hk]), fun j hj => setR_ne (fun e => by have := hr 7 (by omega); omega), ?_⟩
          unfold hisL push8
          dsimp only
          rw [show (upd i11 7 (nI (7 + 1)) 7) = nI 8 from rfl, h7, nI_clamp (by omega), List.length_map, List.length_range, if_pos rfl]
          have e1 : ∀ k, k < 7 → setR a (q10 7) (a 1) (q10 k) = a (q (k + 1)) := by
            intro k hk
            rw [setR_ne (fun e => by have := hinj2 k 7 (by omega) (by omega) e; omega), hqq k (by omega), if_pos hk]
          show [setR a (q10 7) (a 1) (q10 0), setR a (q10 7) (a 1) (q10 1), setR a (q10 7) (a 1) (q10 2), setR a (q10 7) (a 1) (q10 3), setR a (q10 7) (a 1) (q10 4), setR a (q10 7) (a 1) (q10 5), setR a (q10 7) (a 1) (q10 6), setR a (q10 7) (a 1) (q10 7)] = [a (q 1), a (q 2), a (q 3), a (q 4), a (q 5), a (q 6), a (q 7), a 1]
          rw [e1 0 (by omega), e1 1 (by omega), e1 2 (by omega), e1 3 (by omega), e1 4 (by omega), e1 5 (by omega), e1 6 (by omega), setR_self]
      | succ m ih =>
        intro k hk
        refine ⟨fun h => absurd h (nI_ge (b := 7) (by omega) (by omega)), fun _ => ?_⟩
        rw [nI_1, nI_clamp (by omega), nI_clamp (by omega)]
        have e1 : rotQ q k (k + 1) = q (k + 1) := by unfold rotQ; rw [if_neg (by omega)]
        rw [e1]
        have hqk := hq (k + 1) (by omega)
        refine ⟨vp_in_nI (by omega) (by omega), vp_in_nI (by omega) (by omega), ?_, fun q12 e12 z13 e13 => ?_⟩
        · unfold m78
          rw [Bool.or_eq_true, Bool.and_eq_true, Bool.and_eq_true, decide_eq_true_eq, decide_eq_true_eq, decide_eq_true_eq, decide_eq_true_eq]
          omega
        · have e14 : q12 = rotQ q (k + 1) := by
            rw [e12]
            funext r
            unfold va_up rotQ
            by_cases h1 : r = k
            · subst h1
              rw [if_pos rfl, if_pos (by omega)]
            · rw [if_neg h1]
              by_cases h2 : r < k
              · rw [if_pos h2, if_pos (by omega)]
              · rw [if_neg h2, if_neg (by omega)]
          subst e13
          rw [e14]
          exact ih (k + 1) (by omega)
    have h0 : rotQ q 0 = q := by
      funext r
      unfold rotQ
      rw [if_neg (by omega)]
    have := key 7 0 rfl
    rw [h0] at this
    exact this
theorem chG_mem (f : Nat → Int32) : ∀ n l x, (∀ y ∈ l, y < 12) → l.Nodup → l.length ≤ 12 → (∀ y ∈ (chG f n l x).1, y < 12) ∧ (chG f n l x).1.Nodup := by
  intro n
  induction n with
  | zero => intro l x hl hd _; exact ⟨hl, hd⟩
  | succ n ih =>
    intro l x hl hd hlen
    rw [show chG f (n + 1) l x = if hasI f x = true ∧ x.toNatClampNeg ∉ l then chG f n (l ++ [x.toNatClampNeg]) (f (54 + x.toNatClampNeg)) else (l, x) from rfl]
    split
    · rename_i h
      obtain ⟨y, hy, rfl⟩ := hasI_pl h.1
      rw [nI_clamp (by omega)] at h ⊢
      have hd2 : (l ++ [y]).Nodup := List.nodup_append.mpr ⟨hd, List.nodup_cons.mpr ⟨List.not_mem_nil, List.nodup_nil⟩, fun w hw v hv => by
        rw [List.mem_singleton.mp hv]
        exact fun e => h.2 (e ▸ hw)⟩
      have hl2 : ∀ w ∈ l ++ [y], w < 12 := fun w hw => by
        rcases List.mem_append.mp hw with e | e
        · exact hl w e
        · rw [List.mem_singleton.mp e]; exact hy
      exact ih _ _ hl2 hd2 (nodup_lt 12 _ hd2 hl2)
    · exact ⟨hl, hd⟩
theorem chF_mem (f : Nat → Int32) : (∀ y ∈ (chF f).1, y < 12) ∧ (chF f).1.Nodup ∧ (chF f).1.length ≤ 12 := by
  have h := chG_mem f 13 [] (f 51) (fun _ h => absurd h List.not_mem_nil) List.nodup_nil (by simp)
  exact ⟨h.1, h.2, nodup_lt 12 _ h.2 h.1⟩
theorem pr_X6_isSound (i : Nat → Int32) (a : Nat → Nat → Int32) (q : Nat → Nat) (j : Nat) (hj_j : m78 j = true) (hpre : pre_X6_isSound i a q j) : wp_X6_isSound (fun r u => post_X6_isSound i a q j r u) i a q j := by
  have hj7 : j ≠ 7 := fun e => by rw [e] at hj_j; exact absurd hj_j (by decide)
  intro i2 a3 q4 h1
  obtain ⟨e1, ⟨c, e2, hc⟩, e3⟩ := h1
  obtain ⟨f, hf⟩ : ∃ f, f = a j := ⟨_, rfl⟩
  rw [← hf] at e1 hc
  obtain ⟨hm, hd, hlen⟩ := chF_mem f
  obtain ⟨l, hl⟩ : ∃ l, l = (chF f).1 := ⟨_, rfl⟩
  obtain ⟨x, hx⟩ : ∃ x, x = (chF f).2 := ⟨_, rfl⟩
  rw [← hl] at e1 hc hm hd hlen
  rw [← hx] at e1
  simp only at e1 e2 e3
  subst e1 e2 e3
  have sc : (∀ k, k ≠ 10 → k ≠ 11 → upd (upd i 10 (nI l.length)) 11 x k = i k) ∧ (∀ k, k ≠ 7 → setR a 7 c k = a k) ∧ q4 = q4 :=
    ⟨fun k h10 h11 => by rw [upd_n h11, upd_n h10], fun k hk => setR_ne hk, rfl⟩
  have i10 : upd (upd i 10 (nI l.length)) 11 x 10 = nI l.length := rfl
  have i11 : upd (upd i 10 (nI l.length)) 11 x 11 = x := rfl
  have rj : setR a 7 c j = f := by rw [setR_ne hj7, hf]
  have sF : souF f = (decide (nI l.length = innsN f 12) && decide (x = -1) && decide (f 53 = nI l.length) && decide (f 52 = nxO f (f 51)) && souR f none l) := by rw [hl, hx]; rfl
  -- the answers
  have no : souF f = false → isB 0 ∧ post_X6_isSound i a q4 j 0 (upd (upd i 10 (nI l.length)) 11 x, setR a 7 c, q4) := fun h => ⟨isB_0, by rw [← hf, h]; rfl, sc⟩
  have yes : souF f = true → isB 1 ∧ post_X6_isSound i a q4 j 1 (upd (upd i 10 (nI l.length)) 11 x, setR a 7 c, q4) := fun h => ⟨isB_1, by rw [← hf, h]; rfl, sc⟩
  intro r5 h5
  unfold post_X6_innsOf at h5
  rw [rj] at h5
  rw [i10, i11, rj, h5]
  refine ⟨fun h => no (by rw [sF, decide_eq_false h]; rfl), fun hA => ⟨fun h => no (by rw [sF, decide_eq_false h]; simp), fun hB => ⟨by unfold vp_in; decide, fun h => no ?_, fun hC => ⟨by unfold vp_in; decide, by unfold vp_in; decide, fun r9 h9 => ?_⟩⟩⟩⟩
  · have h : ¬ f 53 = nI l.length := h
    rw [sF, decide_eq_false h]; simp
  have hC : f 53 = nI l.length := hC
  unfold post_X6_nextOf at h9
  rw [rj] at h9
  have h9 : r9 = nxO f (f 51) := h9
  refine ⟨fun hE => ?_, fun h => no ?_⟩
  rotate_left
  · have h : ¬ f 52 = nxO f (f 51) := by rw [← h9]; exact h
    rw [sF, decide_eq_false h]; simp
  have hE : f 52 = nxO f (f 51) := by rw [← h9]; exact hE
  have sF2 : souF f = souR f none l := by rw [sF, decide_eq_true hA, decide_eq_true hB, decide_eq_true hC, decide_eq_true hE]; rfl
  have key : ∀ m k p, k + m = l.length → (∀ z, p = some z → 0 < k ∧ l[k - 1]? = some z) → (p = none → k = 0) → souR f p (l.drop k) = souF f →
      wpb_X6_isSound_54 (fun r u => post_X6_isSound i a q4 j r u) j (m + 1) (upd (upd i 10 (nI l.length)) 11 x) (setR a 7 c) q4 (nI k) := by
    intro m
    induction m with
    | zero =>
      intro k p hk hp hp0 hs
      have : k = l.length := by omega
      subst this
      refine ⟨fun _ => yes ?_, fun h => absurd (by rw [i10]; exact Int32.le_refl _) h⟩
      rw [← hs, List.drop_length]
      cases p <;> rfl
    | succ m ih =>
      intro k p hk hp hp0 hs
      have hkl : k < l.length := by omega
      have hlk : l[k]? = some l[k] := List.getElem?_eq_getElem hkl
      have h12 := hm _ (List.getElem_mem hkl)
      have ck := hc k _ hlk
      have hdrop : l.drop k = l[k] :: l.drop (k + 1) := List.drop_eq_getElem_cons hkl
      rw [hdrop] at hs
      refine ⟨fun h => absurd h (by rw [i10]; exact nI_ge (by omega) (by omega)), fun _ => ?_⟩
      -- behind the order
      have go : ∀ b : Bool, b = ordR f p l[k] → wpb_X6_isSound_98 (fun r u => post_X6_isSound i a q4 j r u) (wpb_X6_isSound_54 (fun r u => post_X6_isSound i a q4 j r u) j (m + 1)) j (upd (upd i 10 (nI l.length)) 11 x) (setR a 7 c) q4 (nI k) (b2i b) := by
        intro b hb
        have hs2 : (b && decide (f (66 + l[k]) = nxO f (f (54 + l[k]))) && souR f (some l[k]) (l.drop (k + 1))) = souF f := by rw [← hs, hb]; rfl
        unfold wpb_X6_isSound_98
        simp (disch := omega) only [nI_clamp, setR_self, rj, ck, a54, a66]
        refine ⟨fun h => no (by rw [← hs2, b2i_0 h]; rfl), fun h => ⟨vp_in_nI (by omega) (by omega), vp_in_nI (by omega) (by omega), vp_in_nI (by omega) (by omega), vp_in_nI (by omega) (by omega), fun r15 h15 => ?_⟩⟩
        unfold post_X6_nextOf at h15
        rw [rj] at h15
        rw [h15]
        refine ⟨fun h2 z17 e17 => ?_, fun h2 => no (by rw [← hs2, decide_eq_false h2]; simp)⟩
        subst e17
        rw [nI_1]
        refine ih (k + 1) (some l[k]) (by omega) (fun z hz => ⟨by omega, ?_⟩) (fun h => by cases h) ?_
        · cases hz
          rw [Nat.add_sub_cancel]
          exact hlk
        · rw [← hs2, b2i_1 h, decide_eq_true h2]; rfl
      have kz : nI k = 0 ↔ k = 0 := nI_eq (b := 0) (by omega) (by omega)
      refine ⟨fun h => ?_, fun h => ?_⟩
      · have hk0 : k = 0 := kz.mp h
        cases p with
        | none => exact go true rfl
        | some z => have := (hp z rfl).1; omega
      · have hk0 : ¬ k = 0 := fun e => h (kz.mpr e)
        cases p with
        | none => exact absurd (hp0 rfl) hk0
        | some z =>
          obtain ⟨-, hz⟩ := hp z rfl
          have hz12 := hm z (List.mem_of_getElem? hz)
          have cz := hc _ _ hz
          have e1 : nI k - 1 = nI (k - 1) := pk_sub (b := 1) (by omega)
          rw [e1]
          simp (disch := omega) only [nI_clamp, setR_self, rj, ck, cz, a15]
          refine ⟨vp_in_nI (by omega) (by omega), vp_in_nI (by omega) (by omega), vp_in_nI (by omega) (by omega), vp_in_nI (by omega) (by omega), fun h2 => go false ?_, fun h2 => go true ?_⟩
          · exact (decide_eq_false (Int32.not_lt.mpr h2)).symm
          · exact (decide_eq_true (Int32.not_le.mp h2)).symm
  exact ⟨l.length + 1, key l.length 0 none (by omega) (fun z h => by cases h) (fun _ => rfl) (by rw [List.drop_zero]; exact sF2.symm)⟩
theorem pr_X6_fault (i : Nat → Int32) (a : Nat → Nat → Int32) (q : Nat → Nat) (hpre : pre_X6_fault i a q) : wp_X6_fault (fun r u => post_X6_fault i a q r u) i a q := by
  obtain ⟨f, hf⟩ : ∃ f, f = a 1 := ⟨_, rfl⟩
  refine ⟨trivial, fun r1 i2 a3 q4 h1 => ?_⟩
  obtain ⟨e1, s1, s2, s3⟩ := h1
  simp only at s1 s2 s3
  rw [← hf] at e1
  rw [e1]
  refine ⟨fun h i7 a8 q9 h2 => ?_, fun h => ⟨?_, s1, fun k _ _ h7 => s2 k h7, s3, fun h => absurd rfl h⟩⟩
  rotate_left
  · show (-1 : Int32) = fauF (a 1)
    rw [← hf]
    unfold fauF
    rw [if_pos (b2i_1 h)]
  unfold post_X6_laysDue at h2
  cases h2
  have hs := b2i_0 h
  have hF : fauF f = fauR f 27 51 := by unfold fauF; rw [if_neg (by rw [hs]; exact Bool.noConfusion)]
  have key : ∀ m k i2 (a3 : Nat → Nat → Int32) q4, k + m = 27 → (∀ k, k ≠ 10 → k ≠ 11 → i2 k = i k) → (∀ k, k ≠ 4 → k ≠ 5 → k ≠ 7 → a3 k = a k) → q4 = q → a3 4 = rebF f → fauR f m (51 + k) = fauF f →
      wpb_X6_fault_20 (fun r u => post_X6_fault i a q r u) (m + 1) i2 a3 q4 (nI (51 + k)) := by
    intro m
    induction m with
    | zero =>
      intro k i2 a3 q4 hk s1 s2 s3 h4 hr
      have : k = 27 := by omega
      subst this
      exact ⟨fun _ => ⟨by rw [← hf, ← hr]; rfl, s1, s2, s3, fun h => absurd rfl h⟩, fun h => absurd (by decide) h⟩
    | succ m ih =>
      intro k i2 a3 q4 hk s1 s2 s3 h4 hr
      have a31 : a3 1 = f := by rw [s2 1 (by decide) (by decide) (by decide), hf]
      rw [show fauR f (m + 1) (51 + k) = if stoF f (51 + k) = true ∧ f (51 + k) ≠ rebF f (51 + k) ∧ souF (upd f (51 + k) (rebF f (51 + k))) = true then nI (51 + k) else fauR f m (51 + k + 1) from rfl] at hr
      have go : ∀ i2 (a3 : Nat → Nat → Int32) q4, (∀ k, k ≠ 10 → k ≠ 11 → i2 k = i k) → (∀ k, k ≠ 4 → k ≠ 5 → k ≠ 7 → a3 k = a k) → q4 = q → a3 4 = rebF f → ¬ (stoF f (51 + k) = true ∧ f (51 + k) ≠ rebF f (51 + k) ∧ souF (upd f (51 + k) (rebF f (51 + k))) = true) →
          wpb_X6_fault_88 (fun r u => post_X6_fault i a q r u) (wpb_X6_fault_20 (fun r u => post_X6_fault i a q r u) (m + 1)) i2 a3 q4 (nI (51 + k)) := by
        intro i2 a3 q4 s1 s2 s3 h4 hno z24 e24
        subst e24
        rw [nI_1]
        rw [if_neg hno] at hr
        exact ih (k + 1) i2 a3 q4 (by omega) s1 s2 s3 h4 hr
      refine ⟨fun h => absurd h (nI_ge (b := 78) (by omega) (by omega)), fun _ => ⟨⟨51 + k, by omega, rfl⟩, fun r11 h11 => ?_⟩⟩
      unfold post_X6_isStored at h11
      rw [a31, nI_clamp (by omega)] at h11
      rw [h11]
      simp (disch := omega) only [nI_clamp, a31, h4]
      refine ⟨fun h => go i2 a3 q4 s1 s2 s3 h4 (fun z => by rw [b2i_0 h] at z; exact Bool.noConfusion z.1), fun h => ⟨vp_in_nI (by omega) (by omega), vp_in_nI (by omega) (by omega), fun h5 => go i2 a3 q4 s1 s2 s3 h4 (fun z => z.2.1 h5), fun h5 i15 a16 q17 h15 => ?_⟩⟩
      unfold post_X6_copies at h15
      cases h15
      simp only [setR_ne (show (4 : Nat) ≠ 5 by decide), h4, updA_setR, setR_self, setR_setR, a31, forall_eq]
      refine ⟨vp_in_nI (by omega) (by omega), vp_in_nI (by omega) (by omega), trivial, fun r19 i20 a21 q22 h19 => ?_⟩
      obtain ⟨g1, g2, g3, g4⟩ := h19
      rw [setR_self] at g1
      simp only at g2 g3 g4
      have t1 : ∀ k, k ≠ 10 → k ≠ 11 → i20 k = i k := fun k x y => by rw [g2 k x y, s1 k x y]
      have t2 : ∀ k, k ≠ 4 → k ≠ 5 → k ≠ 7 → a21 k = a k := fun k x y z => by rw [g3 k z, setR_ne y, s2 k x y z]
      have t4 : a21 4 = rebF f := by rw [g3 4 (by decide), setR_ne (by decide), h4]
      rw [g1]
      refine ⟨fun h6 => go i20 a21 q22 t1 t2 (g4.trans s3) t4 (fun z => by rw [b2i_0 h6] at z; exact Bool.noConfusion z.2.2), fun h6 => ?_⟩
      rw [if_pos ⟨b2i_1 h, h5, b2i_1 h6⟩] at hr
      exact ⟨by rw [← hf]; exact hr, t1, t2, g4.trans s3, fun _ => by rw [← hf]; exact t4⟩
  have a3f : a3 1 = f := by rw [s2 1 (by decide), hf]
  refine ⟨28, key 27 0 i2 (setR a3 4 (rebF (a3 1))) q4 rfl s1 (fun k h4 _ h7 => by rw [setR_ne h4, s2 k h7]) s3 (by rw [setR_self, a3f]) hF.symm⟩
