set_option maxRecDepth 100000
/-! PURE: a ride of 24 stages that hasn't arrived isn't stuck -/
def gs (f : Row) (e : Nat) : Nat := (ndF f e).toNatClampNeg
def itR (f : Row) : Nat → Nat → Nat
  | 0, e => e
  | k + 1, e => itR f k (gs f e)
theorem itR_add (f : Row) : ∀ a b e, itR f (a + b) e = itR f b (itR f a e) := by
  intro a
  induction a with
  | zero => intro b e; rw [Nat.zero_add]; rfl
  | succ a ih =>
    intro b e
    rw [show a + 1 + b = (a + b) + 1 by omega]
    exact ih b (gs f e)
theorem rd_run (f : Row) (y : Int32) : ∀ n e mi sk, (rdG f y n e mi sk).1 = false → (rdG f y n e mi sk).2.1 = 0 → (∀ k, k < n → canF f (nI (itR f k e)) (ndF f (itR f k e)) = true) ∧ (rdG f y n e mi sk).2.2.1 = itR f n e := by
  intro n
  induction n with
  | zero => intro e mi sk _ _; exact ⟨fun k h => absurd h (Nat.not_lt_zero _), rfl⟩
  | succ n ih =>
    intro e mi sk h1 h2
    have ed : rdG f y (n + 1) e mi sk = if nI e = y then (true, n + 1, e, mi, sk) else if canF f (nI e) (ndF f e) = true then rdG f y n (ndF f e).toNatClampNeg (mi + dstF f e (ndF f e).toNatClampNeg) (sk + if canF f (nI e) (f (54 + e)) = true then 0 else 1) else (false, n + 1, e, mi, sk) := rfl
    rw [ed] at h1 h2 ⊢
    by_cases c : nI e = y
    · rw [if_pos c] at h1; exact Bool.noConfusion h1
    rw [if_neg c] at h1 h2 ⊢
    by_cases c2 : canF f (nI e) (ndF f e) = true
    · rw [if_pos c2] at h1 h2 ⊢
      obtain ⟨g1, g2⟩ := ih _ _ _ h1 h2
      refine ⟨fun k hk => ?_, g2⟩
      cases k with
      | zero => exact c2
      | succ k => exact g1 k (by omega)
    · rw [if_neg c2] at h2
      exact absurd h2 (by show ¬ n + 1 = 0; omega)
theorem not_stuck {f : Row} {x y : Int32} (hx : isPl x) (h1 : (rdO f x y).1 = false) (h2 : (rdO f x y).2.1 = 0) : canF f (nI (rdO f x y).2.2.1) (ndF f (rdO f x y).2.2.1) = true := by
  obtain ⟨e, he, ex⟩ := hx
  have e0 : rdO f x y = rdG f y 24 e 0 0 := by unfold rdO; rw [ex, nI_clamp (by omega)]
  rw [e0] at h1 h2 ⊢
  obtain ⟨g1, g2⟩ := rd_run f y 24 e 0 0 h1 h2
  rw [g2]
  have hlt : ∀ k, k ≤ 24 → itR f k e < 12 := by
    intro k
    cases k with
    | zero => intro _; exact he
    | succ k =>
      intro hk
      rw [itR_add f k 1 e]
      obtain ⟨j, hj, ej⟩ := canF_pl (g1 k (by omega))
      show (ndF f (itR f k e)).toNatClampNeg < 12
      rw [ej, nI_clamp (by omega)]; exact hj
  have hrep : ∃ i j, i < j ∧ j ≤ 12 ∧ itR f i e = itR f j e := by
    apply Classical.byContradiction
    intro hno
    have hn : ((List.range 13).map (fun k => itR f k e)).Nodup := by
      refine List.pairwise_iff_getElem.mpr (fun i j hi hj hij => ?_)
      rw [List.length_map, List.length_range] at hi hj
      rw [List.getElem_map, List.getElem_map, List.getElem_range, List.getElem_range]
      exact fun z => hno ⟨i, j, hij, by omega, z⟩
    have := nodup_lt 12 _ hn (fun z hz => by
      obtain ⟨k, hk, e2⟩ := List.mem_map.mp hz
      rw [← e2]
      exact hlt k (by have := List.mem_range.mp hk; omega))
    rw [List.length_map, List.length_range] at this
    omega
  obtain ⟨i, j, hij, hj, e2⟩ := hrep
  have e3 : itR f 24 e = itR f (24 - (j - i)) e := by
    have a1 := itR_add f j (24 - j) e
    have a2 := itR_add f i (24 - j) e
    rw [show j + (24 - j) = 24 by omega] at a1
    rw [show i + (24 - j) = 24 - (j - i) by omega] at a2
    rw [a1, a2, e2]
  rw [e3]
  exact g1 _ (by omega)
