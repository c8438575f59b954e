set_option maxRecDepth 100000
/-! PURE 2: rides, the history, the conditions of a sound road, the single fault -/
def ndF (f : Nat → Int32) (e : Nat) : Int32 := if canF f (nI e) (f (54 + e)) = true then f (54 + e) else f (66 + e)
/-- a ride to y from the place e, n stages left: (arrived, stages left, end, miles, skips) -/
def rdG (f : Nat → Int32) (y : Int32) : Nat → Nat → Int32 → Nat → Bool × Nat × Nat × Int32 × Nat
  | 0, e, mi, sk => (decide (nI e = y), 0, e, mi, sk)
  | n + 1, e, mi, sk =>
    if nI e = y then (true, n + 1, e, mi, sk)
    else if canF f (nI e) (ndF f e) = true then rdG f y n (ndF f e).toNatClampNeg (mi + dstF f e (ndF f e).toNatClampNeg) (sk + if canF f (nI e) (f (54 + e)) = true then 0 else 1)
    else (false, n + 1, e, mi, sk)
/-- the numbers of a ride -/
def rdI (i : Nat → Int32) (R : Bool × Nat × Nat × Int32 × Nat) : Nat → Int32 := upd (upd (upd (upd i 12 (nI (24 - R.2.1))) 13 R.2.2.2.1) 14 (nI R.2.2.2.2)) 15 (nI R.2.2.1)
def pre_X6_rides (_ : Nat → Int32) (_ : Nat → Nat → Int32) (_ : Nat → Nat) (_ : Nat) (x _ : Int32) : Prop := isPl x
def post_X6_rides (i : Nat → Int32) (a : Nat → Nat → Int32) (q : Nat → Nat) (j : Nat) (x y r : Int32) (u : MSt) : Prop :=
  r = b2i (rdG (a j) y 24 x.toNatClampNeg 0 0).1 ∧ u = (rdI i (rdG (a j) y 24 x.toNatClampNeg 0 0), a, q)
/-- the past: its n rows, of eight different ones -/
def HistOK (i : Nat → Int32) (q : Nat → Nat) : Prop := (∃ n, n ≤ 8 ∧ i 7 = nI n) ∧ (∀ k, k < 8 → 10 ≤ q k ∧ q k < 18) ∧ ∀ k m, k < 8 → m < 8 → q k = q m → k = m
def hisL (i : Nat → Int32) (a : Nat → Nat → Int32) (q : Nat → Nat) : List (Nat → Int32) := (List.range (i 7).toNatClampNeg).map (fun k => a (q k))
def push8 {α : Type} (l : List α) (x : α) : List α := if l.length = 8 then l.tail ++ [x] else l ++ [x]
def pre_X6_remembers (i : Nat → Int32) (_ : Nat → Nat → Int32) (q : Nat → Nat) : Prop := HistOK i q
def post_X6_remembers (i : Nat → Int32) (a : Nat → Nat → Int32) (q : Nat → Nat) (u : MSt) : Prop :=
  HistOK u.1 u.2.2 ∧ (∀ k, k ≠ 7 → u.1 k = i k) ∧ (∀ j, j < 10 → u.2.1 j = a j) ∧ hisL u.1 u.2.1 u.2.2 = push8 (hisL i a q) (a 1)
/-- the conditions of a sound road, along the chain -/
def ordR (f : Nat → Int32) : Option Nat → Nat → Bool
  | none, _ => true
  | some z, y => decide (f (15 + z) < f (15 + y))
def souR (f : Nat → Int32) : Option Nat → List Nat → Bool
  | _, [] => true
  | p, y :: t => ordR f p y && decide (f (66 + y) = nxO f (f (54 + y))) && souR f (some y) t
def souF (f : Nat → Int32) : Bool := decide (nI (chF f).1.length = innsN f 12) && decide ((chF f).2 = -1) && decide (f 53 = nI (chF f).1.length) && decide (f 52 = nxO f (f 51)) && souR f none (chF f).1
def pre_X6_isSound (_ : Nat → Int32) (_ : Nat → Nat → Int32) (_ : Nat → Nat) (_ : Nat) : Prop := True
def post_X6_isSound (i : Nat → Int32) (a : Nat → Nat → Int32) (q : Nat → Nat) (j : Nat) (r : Int32) (u : MSt) : Prop :=
  r = b2i (souF (a j)) ∧ (∀ k, k ≠ 10 → k ≠ 11 → u.1 k = i k) ∧ (∀ k, k ≠ 7 → u.2.1 k = a k) ∧ u.2.2 = q
def fauR (f : Nat → Int32) : Nat → Nat → Int32
  | 0, _ => -1
  | n + 1, c => if stoF f c = true ∧ f c ≠ rebF f c ∧ souF (upd f c (rebF f c)) = true then nI c else fauR f n (c + 1)
def fauF (f : Nat → Int32) : Int32 := if souF f = true then -1 else fauR f 27 51
def pre_X6_fault (_ : Nat → Int32) (_ : Nat → Nat → Int32) (_ : Nat → Nat) : Prop := True
def post_X6_fault (i : Nat → Int32) (a : Nat → Nat → Int32) (q : Nat → Nat) (r : Int32) (u : MSt) : Prop :=
  r = fauF (a 1) ∧ (∀ k, k ≠ 10 → k ≠ 11 → u.1 k = i k) ∧ (∀ k, k ≠ 4 → k ≠ 5 → k ≠ 7 → u.2.1 k = a k) ∧ u.2.2 = q ∧ (r ≠ -1 → u.2.1 4 = rebF (a 1))
def wpb_X6_laysChain_57 (post : MSt → Prop)  (j : Nat) (i : Nat → Int32) (a : Nat → Nat → Int32) (q : Nat → Nat) (x2 : Int32) : Prop :=
  ∀ i10, i10 = upd i 11 x2 → post (i10, a, q)
def wpb_X6_laysChain_10 (post : MSt → Prop)  (j : Nat) : Nat → (Nat → Int32) → (Nat → Nat → Int32) → (Nat → Nat) → Int32 → Prop
  | 0 => fun _ _ _ _ => False
  | n + 1 => fun i a q x2 => ∀ r3, post_X6_hasInnAt i a q j x2 r3 → (r3 = 0 → wpb_X6_laysChain_57 post  j i a q x2) ∧ (¬ r3 = 0 → pre_X6_positionOf i a q x2 ∧ ∀ r5, post_X6_positionOf i a q x2 r5 → (¬ r5 = (-1) → wpb_X6_laysChain_57 post  j i a q x2) ∧ (r5 = (-1) → vp_in (i 10) 12 ∧ ∀ a7, a7 = updA a 7 (i 10).toNatClampNeg x2 → ∀ i8, i8 = upd i 10 ((i 10) + 1) → vp_in (54 + x2) 78 ∧ ∀ z9, z9 = (a7 j (54 + x2).toNatClampNeg) → (wpb_X6_laysChain_10 post  j n) i8 a7 q z9))
def wp_X6_laysChain (post : MSt → Prop) (i : Nat → Int32) (a : Nat → Nat → Int32) (q : Nat → Nat) (j : Nat) : Prop :=
  ∀ i1, i1 = upd i 10 0 → vp_in 51 78 ∧ ∀ z2, z2 = (a j (51 : Int32).toNatClampNeg) → ∃ n, wpb_X6_laysChain_10 post  j n i1 a q z2

def wp_X6_nextOf (post : Int32 → Prop) (i : Nat → Int32) (a : Nat → Nat → Int32) (q : Nat → Nat) (j : Nat) (x : Int32) : Prop :=
  ∀ r1, post_X6_hasInnAt i a q j x r1 → (r1 = 0 → post (-1)) ∧ (¬ r1 = 0 → vp_in (54 + x) 78 ∧ post (a j (54 + x).toNatClampNeg))

def wp_X6_stage (post : Int32 → Prop) (i : Nat → Int32) (a : Nat → Nat → Int32) (q : Nat → Nat) (j : Nat) (x : Int32) (y : Int32) : Prop :=
  vp_in (15 + x) 78 ∧ vp_in (15 + y) 78 ∧ post (if 0 ≤ ((a j (15 + x).toNatClampNeg) - (a j (15 + y).toNatClampNeg)) then ((a j (15 + x).toNatClampNeg) - (a j (15 + y).toNatClampNeg)) else 0 - ((a j (15 + x).toNatClampNeg) - (a j (15 + y).toNatClampNeg)))

def wp_X6_canRide (post : Int32 → Prop) (i : Nat → Int32) (a : Nat → Nat → Int32) (q : Nat → Nat) (j : Nat) (x : Int32) (y : Int32) : Prop :=
  ∀ r1, post_X6_hasInnAt i a q j y r1 → (r1 = 0 → isB 0 ∧ post 0) ∧ (¬ r1 = 0 → vp_in (27 + y) 78 ∧ (¬ (a j (27 + y).toNatClampNeg) = 1 → isB 0 ∧ post 0) ∧ ((a j (27 + y).toNatClampNeg) = 1 → pre_X6_stage i a q j x y ∧ ∀ r4, post_X6_stage i a q j x y r4 → vp_in 0 78 ∧ ((a j (0 : Int32).toNatClampNeg) < r4 → isB 0 ∧ post 0) ∧ (¬ (a j (0 : Int32).toNatClampNeg) < r4 → isB 1 ∧ post 1)))

def wpb_X6_rides_156 (post : Int32 → MSt → Prop)  (j : Nat) (x : Int32) (y : Int32) (i : Nat → Int32) (a : Nat → Nat → Int32) (q : Nat → Nat)  : Prop :=
  (¬ (i 15) = y → isB 0 ∧ post 0 (i, a, q)) ∧ ((i 15) = y → isB 1 ∧ post 1 (i, a, q))
def wpb_X6_rides_114 (post : Int32 → MSt → Prop) (K20 : (Nat → Int32) → (Nat → Nat → Int32) → (Nat → Nat) → Prop) (j : Nat) (x : Int32) (y : Int32) (i : Nat → Int32) (a : Nat → Nat → Int32) (q : Nat → Nat) (x5 : Int32) (s0 : Int32) (s1 : Int32) : Prop :=
  ∀ i13, i13 = upd i 14 (s1 + s0) → pre_X6_stage i13 a q j (i13 15) x5 ∧ ∀ r14, post_X6_stage i13 a q j (i13 15) x5 r14 → ∀ i15, i15 = upd i13 13 ((i13 13) + r14) → ∀ i16, i16 = upd i15 15 x5 → ∀ i17, i17 = upd i16 12 ((i16 12) + 1) → K20 i17 a q
def wpb_X6_rides_82 (post : Int32 → MSt → Prop) (K20 : (Nat → Int32) → (Nat → Nat → Int32) → (Nat → Nat) → Prop) (j : Nat) (x : Int32) (y : Int32) (i : Nat → Int32) (a : Nat → Nat → Int32) (q : Nat → Nat) (x4 : Int32) (s0 : Int32) : Prop :=
  pre_X6_canRide i a q j (i 15) s0 ∧ ∀ r10, post_X6_canRide i a q j (i 15) s0 r10 → (¬ r10 = 0 → (x4 = 0 → wpb_X6_rides_114 post K20 j x y i a q s0 1 (i 14)) ∧ (¬ x4 = 0 → wpb_X6_rides_114 post K20 j x y i a q s0 0 (i 14))) ∧ (r10 = 0 → isB 0 ∧ post 0 (i, a, q))
def wpb_X6_rides_20 (post : Int32 → MSt → Prop)  (j : Nat) (x : Int32) (y : Int32) : Nat → (Nat → Int32) → (Nat → Nat → Int32) → (Nat → Nat) → Prop
  | 0 => fun _ _ _ => False
  | n + 1 => fun i a q  => ((i 15) = y → wpb_X6_rides_156 post  j x y i a q) ∧ (¬ (i 15) = y → (24 ≤ (i 12) → wpb_X6_rides_156 post  j x y i a q) ∧ (¬ 24 ≤ (i 12) → vp_in (54 + (i 15)) 78 ∧ pre_X6_canRide i a q j (i 15) (a j (54 + (i 15)).toNatClampNeg) ∧ ∀ r7, post_X6_canRide i a q j (i 15) (a j (54 + (i 15)).toNatClampNeg) r7 → (r7 = 0 → vp_in (66 + (i 15)) 78 ∧ wpb_X6_rides_82 post (wpb_X6_rides_20 post  j x y n) j x y i a q r7 (a j (66 + (i 15)).toNatClampNeg)) ∧ (¬ r7 = 0 → vp_in (54 + (i 15)) 78 ∧ wpb_X6_rides_82 post (wpb_X6_rides_20 post  j x y n) j x y i a q r7 (a j (54 + (i 15)).toNatClampNeg))))
def wp_X6_rides (post : Int32 → MSt → Prop) (i : Nat → Int32) (a : Nat → Nat → Int32) (q : Nat → Nat) (j : Nat) (x : Int32) (y : Int32) : Prop :=
  ∀ i1, i1 = upd i 12 0 → ∀ i2, i2 = upd i1 13 0 → ∀ i3, i3 = upd i2 14 0 → ∀ i4, i4 = upd i3 15 x → ∃ n, wpb_X6_rides_20 post  j x y n i4 a q
theorem nodup_lt : ∀ (N : Nat) (l : List Nat), l.Nodup → (∀ x ∈ l, x < N) → l.length ≤ N := by
  intro N
  induction N with
  | zero =>
    intro l _ h
    cases l with
    | nil => exact Nat.le_refl _
    | cons a t => exact absurd (h a List.mem_cons_self) (Nat.not_lt_zero _)
  | succ N ih =>
    intro l hn h
    by_cases hm : N ∈ l
    · have h1 := ih (l.erase N) (hn.erase N) (fun x hx => by
        have h2 := (hn.mem_erase_iff).mp hx
        have := h x h2.2
        omega)
      rw [List.length_erase_of_mem hm] at h1
      omega
    · have := ih l hn (fun x hx => by
        have h3 := h x hx
        have : x ≠ N := fun e => hm (e ▸ hx)
        omega)
      omega
/-- where the chain's row holds l: a place's position -/
theorem posR_spec {c : Nat → Int32} {l : List Nat} (hc : chH c l) (hl : ∀ y ∈ l, y < 12) {x : Nat} (hx : x < 12) : ∀ (n k : Nat), k + n = l.length → (∀ z y, z < k → l[z]? = some y → y ≠ x) →
    (posR c (nI x) n k = -1 ∧ x ∉ l) ∨ ∃ z, posR c (nI x) n k = nI z ∧ l[z]? = some x ∧ z < l.length := by
  intro n
  induction n with
  | zero =>
    intro k hk hno
    refine Or.inl ⟨rfl, fun hm => ?_⟩
    obtain ⟨z, hz⟩ := List.getElem?_of_mem hm
    have := (List.getElem?_eq_some_iff.mp hz).1
    exact hno z x (by omega) hz rfl
  | succ n ih =>
    intro k hk hno
    have hkl : k < l.length := by omega
    have h1 : l[k]? = some l[k] := List.getElem?_eq_getElem hkl
    have h2 := hc k _ h1
    have h3 := hl _ (List.getElem_mem hkl)
    rw [show posR c (nI x) (n + 1) k = if c k = nI x then nI k else posR c (nI x) n (k + 1) from rfl]
    by_cases e : l[k] = x
    · refine Or.inr ⟨k, ?_, by rw [h1, e], hkl⟩
      rw [if_pos (by rw [h2, e])]
    · rw [if_neg (fun z => e ((nI_eq (by omega) (by omega)).mp (h2.symm.trans z)))]
      refine ih (k + 1) (by omega) (fun z y hz hy => ?_)
      by_cases hzk : z = k
      · subst hzk
        rw [h1] at hy
        cases hy
        exact e
      · exact hno z y (by omega) hy
theorem chH_push {c : Nat → Int32} {l : List Nat} {y : Nat} (h : chH c l) : chH (upd c l.length (nI y)) (l ++ [y]) := by
  intro k z hk
  unfold upd
  by_cases e : k = l.length
  · subst e
    rw [List.getElem?_append_right (Nat.le_refl _), Nat.sub_self] at hk
    cases hk
    rw [if_pos rfl]
  · have hkl : k < l.length := by
      have := (List.getElem?_eq_some_iff.mp hk).1
      rw [List.length_append] at this
      simp at this
      omega
    rw [List.getElem?_append_left hkl] at hk
    rw [if_neg e]
    exact h k z hk
theorem upd_upd {f : Nat → Int32} {k : Nat} {x y : Int32} : upd (upd f k x) k y = upd f k y := by
  funext r
  unfold upd
  by_cases h : r = k <;> simp [h]
theorem upd_s {f : Nat → Int32} {k : Nat} {x : Int32} : upd f k x k = x := if_pos rfl
theorem upd_n {f : Nat → Int32} {k r : Nat} {x : Int32} (h : r ≠ k) : upd f k x r = f r := if_neg h
theorem pr_X6_laysChain (i : Nat → Int32) (a : Nat → Nat → Int32) (q : Nat → Nat) (j : Nat) (hj_j : m78 j = true) : wp_X6_laysChain (fun u => post_X6_laysChain i a q j u) i a q j := by
  have hj7 : j ≠ 7 := fun e => by rw [e] at hj_j; exact absurd hj_j (by decide)
  have key : ∀ n l x c, n + l.length = 13 → l.Nodup → (∀ y ∈ l, y < 12) → chH c l → chG (a j) n l x = chF (a j) →
      wpb_X6_laysChain_10 (fun u => post_X6_laysChain i a q j u) j (n + 1) (upd i 10 (nI l.length)) (setR a 7 c) q x := by
    intro n
    induction n with
    | zero =>
      intro l x c hn hd hl hc he
      have := nodup_lt 12 l hd hl
      omega
    | succ n ih =>
      intro l x c hn hd hl hc he r3 h3
      have hlen := nodup_lt 12 l hd hl
      unfold post_X6_hasInnAt at h3
      rw [setR_ne hj7] at h3
      have done : (l, x) = chF (a j) → wpb_X6_laysChain_57 (fun u => post_X6_laysChain i a q j u) j (upd i 10 (nI l.length)) (setR a 7 c) q x := by
        intro e i10 e10
        subst e10
        unfold post_X6_laysChain
        rw [← e]
        exact ⟨rfl, ⟨c, rfl, hc⟩, rfl⟩
      rw [show chG (a j) (n + 1) l x = if hasI (a j) x = true ∧ x.toNatClampNeg ∉ l then chG (a j) n (l ++ [x.toNatClampNeg]) (a j (54 + x.toNatClampNeg)) else (l, x) from rfl] at he
      rw [h3]
      refine ⟨fun h => done ?_, fun h => ⟨⟨l.length, hlen, by rw [upd_s]⟩, fun r5 h5 => ?_⟩⟩
      · rw [if_neg (fun z => by rw [b2i_0 h] at z; exact Bool.noConfusion z.1)] at he
        exact he
      · have hh := b2i_1 h
        obtain ⟨y, hy, rfl⟩ := hasI_pl hh
        unfold post_X6_positionOf at h5
        rw [upd_s, nI_clamp (by omega), setR_self] at h5
        rw [nI_clamp (by omega)] at he
        rcases posR_spec hc hl hy l.length 0 (by omega) (fun z _ hz => absurd hz (Nat.not_lt_zero _)) with ⟨p1, p2⟩ | ⟨z, p1, p2, p3⟩
        · rw [if_pos ⟨hh, p2⟩] at he
          rw [h5, p1]
          refine ⟨fun z => absurd rfl z, fun _ => ?_⟩
          have hlen2 := nodup_lt 12 (y :: l) (List.nodup_cons.mpr ⟨p2, hd⟩) (fun w hw => by
            rcases List.mem_cons.mp hw with e | e
            · rw [e]; exact hy
            · exact hl w e)
          rw [List.length_cons] at hlen2
          rw [upd_s, nI_clamp (by omega)]
          refine ⟨vp_in_nI (by omega) (by omega), fun a7 e7 i8 e8 => ?_⟩
          subst e7 e8
          simp (disch := omega) only [a54, nI_clamp, updA_setR, setR_self, setR_setR, upd_upd, nI_1, setR_ne hj7]
          refine ⟨vp_in_nI (by omega) (by omega), fun z9 e9 => ?_⟩
          subst e9
          have hl1 : (l ++ [y]).length = l.length + 1 := by simp
          have := ih (l ++ [y]) (a j (54 + y)) (upd c l.length (nI y)) (by rw [hl1]; omega) (List.nodup_append.mpr ⟨hd, List.nodup_cons.mpr ⟨List.not_mem_nil, List.nodup_nil⟩, fun w hw v hv => by
            rw [List.mem_singleton.mp hv]
            exact fun e => p2 (e ▸ hw)⟩) (fun w hw => by
            rcases List.mem_append.mp hw with e | e
            · exact hl w e
            · rw [List.mem_singleton.mp e]; exact hy) (chH_push hc) he
          rw [hl1] at this
          exact this
        · rw [h5, p1]
          have hm : y ∈ l := List.mem_of_getElem? p2
          rw [if_neg (fun z => z.2 hm)] at he
          exact ⟨fun _ => done he, fun e => absurd e (fun e => by
            have h1 := nI_pos' (n := z) (by omega)
            rw [e] at h1
            exact absurd h1 (by decide))⟩
  intro i1 e1
  refine ⟨by unfold vp_in; decide, fun z2 e2 => ⟨14, ?_⟩⟩
  subst e1 e2
  have := key 13 [] (a j 51) (a 7) rfl List.nodup_nil (fun _ h => absurd h List.not_mem_nil) (fun k y h => by simp at h) rfl
  rw [setR_id] at this
  exact this
theorem pr_X6_nextOf (i : Nat → Int32) (a : Nat → Nat → Int32) (q : Nat → Nat) (j : Nat) (hj_j : m78 j = true) (x : Int32) : wp_X6_nextOf (fun r => post_X6_nextOf i a q j x r) i a q j x := by
  intro r1 h1
  unfold post_X6_hasInnAt at h1
  unfold post_X6_nextOf nxO
  rw [h1]
  refine ⟨fun h => ?_, fun h => ?_⟩
  · rw [if_neg (by rw [b2i_0 h]; exact Bool.noConfusion)]
  · have hh := b2i_1 h
    rw [if_pos hh]
    obtain ⟨y, hy, rfl⟩ := hasI_pl hh
    simp (disch := omega) only [a54, nI_clamp, and_true]
    exact vp_in_nI (by omega) (by omega)
theorem pr_X6_stage (i : Nat → Int32) (a : Nat → Nat → Int32) (q : Nat → Nat) (j : Nat) (hj_j : m78 j = true) (x : Int32) (y : Int32) (hpre : pre_X6_stage i a q j x y) : wp_X6_stage (fun r => post_X6_stage i a q j x y r) i a q j x y := by
  obtain ⟨⟨k, hk, rfl⟩, ⟨z, hz, rfl⟩⟩ := hpre
  unfold wp_X6_stage post_X6_stage dstF absI
  simp (disch := omega) only [a15, nI_clamp]
  exact ⟨vp_in_nI (by omega) (by omega), vp_in_nI (by omega) (by omega), trivial⟩
theorem pr_X6_canRide (i : Nat → Int32) (a : Nat → Nat → Int32) (q : Nat → Nat) (j : Nat) (hj_j : m78 j = true) (x : Int32) (y : Int32) (hpre : pre_X6_canRide i a q j x y) : wp_X6_canRide (fun r => post_X6_canRide i a q j x y r) i a q j x y := by
  intro r1 h1
  unfold post_X6_hasInnAt at h1
  unfold post_X6_canRide canF
  rw [h1]
  refine ⟨fun h => ⟨isB_0, by rw [b2i_0 h]; rfl⟩, fun h => ?_⟩
  have hh := b2i_1 h
  obtain ⟨z, hz, rfl⟩ := hasI_pl hh
  rw [hh]
  simp (disch := omega) only [a27, nI_clamp]
  refine ⟨vp_in_nI (by omega) (by omega), fun h2 => ⟨isB_0, by rw [decide_eq_false h2]; rfl⟩, fun h2 => ⟨⟨hpre, ⟨z, hz, rfl⟩⟩, fun r4 h4 => ?_⟩⟩
  unfold post_X6_stage at h4
  rw [nI_clamp (n := z) (by omega)] at h4
  rw [decide_eq_true h2, h4]
  refine ⟨by unfold vp_in; decide, fun h5 => ⟨isB_0, ?_⟩, fun h5 => ⟨isB_1, ?_⟩⟩
  · show 0 = b2i (true && true && decide (dstF (a j) x.toNatClampNeg z ≤ a j (0 : Int32).toNatClampNeg))
    rw [decide_eq_false (Int32.not_le.mpr h5)]; rfl
  · show 1 = b2i (true && true && decide (dstF (a j) x.toNatClampNeg z ≤ a j (0 : Int32).toNatClampNeg))
    rw [decide_eq_true (Int32.not_lt.mp h5)]; rfl
theorem canF_pl {f : Nat → Int32} {x y : Int32} (h : canF f x y = true) : isPl y := by
  unfold canF at h
  rw [Bool.and_eq_true, Bool.and_eq_true] at h
  exact hasI_pl h.1.1
theorem rdG_le (f : Nat → Int32) (y : Int32) : ∀ n e mi sk, (rdG f y n e mi sk).2.1 ≤ n := by
  intro n
  induction n with
  | zero => intro e mi sk; exact Nat.le_refl _
  | succ n ih =>
    intro e mi sk
    unfold rdG
    split
    · exact Nat.le_refl _
    · split
      · exact Nat.le_succ_of_le (ih _ _ _)
      · exact Nat.le_refl _
theorem rdI_eq (i : Nat → Int32) (A B C D : Int32) : upd (upd (upd (upd i 12 A) 13 B) 14 C) 15 D = fun k => if k = 15 then D else if k = 14 then C else if k = 13 then B else if k = 12 then A else i k := rfl
theorem pr_X6_rides (i : Nat → Int32) (a : Nat → Nat → Int32) (q : Nat → Nat) (j : Nat) (hj_j : m78 j = true) (x : Int32) (y : Int32) (hpre : pre_X6_rides i a q j x y) : wp_X6_rides (fun r u => post_X6_rides i a q j x y r u) i a q j x y := by
  obtain ⟨f, hf⟩ : ∃ f, f = a j := ⟨_, rfl⟩
  obtain ⟨R, hR⟩ : ∃ R, R = rdG f y 24 x.toNatClampNeg 0 0 := ⟨_, rfl⟩
  have key : ∀ n e mi sk, n ≤ 24 → e < 12 → rdG f y n e mi sk = R →
      wpb_X6_rides_20 (fun r u => post_X6_rides i a q j x y r u) j x y (n + 1) (rdI i (true, n, e, mi, sk)) a q := by
    intro n
    induction n with
    | zero =>
      intro e mi sk hn he hr
      have e15 : rdI i (true, 0, e, mi, sk) 15 = nI e := rfl
      have e12 : rdI i (true, 0, e, mi, sk) 12 = nI 24 := rfl
      have fin : wpb_X6_rides_156 (fun r u => post_X6_rides i a q j x y r u) j x y (rdI i (true, 0, e, mi, sk)) a q := by
        unfold wpb_X6_rides_156 post_X6_rides
        rw [← hf, ← hR, ← hr, e15]
        show (¬ nI e = y → isB 0 ∧ (0 : Int32) = b2i (decide (nI e = y)) ∧ _) ∧ (nI e = y → isB 1 ∧ (1 : Int32) = b2i (decide (nI e = y)) ∧ _)
        exact ⟨fun h => ⟨isB_0, by rw [decide_eq_false h]; rfl, rfl⟩, fun h => ⟨isB_1, by rw [decide_eq_true h]; rfl, rfl⟩⟩
      refine ⟨fun _ => fin, fun _ => ⟨fun _ => fin, fun h => absurd (by rw [e12]; decide) h⟩⟩
    | succ n ih =>
      intro e mi sk hn he hr
      have e15 : rdI i (true, n + 1, e, mi, sk) 15 = nI e := rfl
      have e12 : rdI i (true, n + 1, e, mi, sk) 12 = nI (24 - (n + 1)) := rfl
      rw [show rdG f y (n + 1) e mi sk = (if nI e = y then (true, n + 1, e, mi, sk)
        else if canF f (nI e) (ndF f e) = true then rdG f y n (ndF f e).toNatClampNeg (mi + dstF f e (ndF f e).toNatClampNeg) (sk + if canF f (nI e) (f (54 + e)) = true then 0 else 1)
        else (false, n + 1, e, mi, sk)) from rfl] at hr
      unfold wpb_X6_rides_20
      simp (disch := omega) only [e15, e12, a54, a66, nI_clamp, ← hf]
      refine ⟨fun h => ?_, fun h => ⟨fun h2 => absurd h2 (nI_ge (b := 24) (by omega) (by omega)), fun _ => ?_⟩⟩
      · unfold wpb_X6_rides_156 post_X6_rides
        rw [if_pos h] at hr
        rw [← hf, ← hR, ← hr, e15]
        exact ⟨fun z => absurd h z, fun _ => ⟨isB_1, rfl, rfl⟩⟩
      · rw [if_neg h] at hr
        refine ⟨vp_in_nI (by omega) (by omega), ⟨e, he, rfl⟩, fun r7 h7 => ?_⟩
        unfold post_X6_canRide at h7
        rw [← hf] at h7
        have go : ∀ (b : Bool), b = canF f (nI e) (f (54 + e)) → ∀ (z : Int32), z = ndF f e → ∀ r7, r7 = b2i b → wpb_X6_rides_82 (fun r u => post_X6_rides i a q j x y r u) (wpb_X6_rides_20 (fun r u => post_X6_rides i a q j x y r u) j x y (n + 1)) j x y (rdI i (true, n + 1, e, mi, sk)) a q r7 z := by
          intro b hb z hz r7 h7
          unfold wpb_X6_rides_82
          simp only [e15]
          refine ⟨⟨e, he, rfl⟩, fun r10 h10 => ?_⟩
          unfold post_X6_canRide at h10
          rw [← hf, hz] at h10
          rw [hz]
          refine ⟨fun h11 => ?_, fun h11 => ⟨isB_0, ?_⟩⟩
          · rw [h10] at h11
            have hc := b2i_1 h11
            rw [if_pos hc] at hr
            obtain ⟨w, hw, ew⟩ := canF_pl hc
            have st : ∀ v : Nat, v = (if canF f (nI e) (f (54 + e)) = true then 0 else 1) → wpb_X6_rides_114 (fun r u => post_X6_rides i a q j x y r u) (wpb_X6_rides_20 (fun r u => post_X6_rides i a q j x y r u) j x y (n + 1)) j x y (rdI i (true, n + 1, e, mi, sk)) a q (ndF f e) (nI v) (rdI i (true, n + 1, e, mi, sk) 14) := by
              intro v hv
              unfold wpb_X6_rides_114
              simp only [forall_eq]
              refine ⟨⟨⟨e, he, rfl⟩, ⟨w, hw, ew⟩⟩, fun r14 h14 => ?_⟩
              unfold post_X6_stage at h14
              have h14 : r14 = dstF f e (ndF f e).toNatClampNeg := by rw [h14, ← hf]; show dstF f (nI e).toNatClampNeg _ = _; rw [nI_clamp (by omega)]
              have := ih (ndF f e).toNatClampNeg (mi + dstF f e (ndF f e).toNatClampNeg) (sk + v) (by omega) (by rw [ew, nI_clamp (by omega)]; exact hw) (by rw [hv]; exact hr)
              rw [h14]
              have e9 : rdI i (true, n, (ndF f e).toNatClampNeg, mi + dstF f e (ndF f e).toNatClampNeg, sk + v) = upd (upd (upd (upd (rdI i (true, n + 1, e, mi, sk)) 14 (rdI i (true, n + 1, e, mi, sk) 14 + nI v)) 13 (upd (rdI i (true, n + 1, e, mi, sk)) 14 (rdI i (true, n + 1, e, mi, sk) 14 + nI v) 13 + dstF f e (ndF f e).toNatClampNeg)) 15 (ndF f e)) 12 (upd (upd (upd (rdI i (true, n + 1, e, mi, sk)) 14 (rdI i (true, n + 1, e, mi, sk) 14 + nI v)) 13 (upd (rdI i (true, n + 1, e, mi, sk)) 14 (rdI i (true, n + 1, e, mi, sk) 14 + nI v) 13 + dstF f e (ndF f e).toNatClampNeg)) 15 (ndF f e) 12 + 1) := by
                show (fun k => if k = 15 then nI (ndF f e).toNatClampNeg else if k = 14 then nI (sk + v) else if k = 13 then mi + dstF f e (ndF f e).toNatClampNeg else if k = 12 then nI (24 - n) else i k) = (fun k => if k = 12 then nI (24 - (n + 1)) + 1 else if k = 15 then ndF f e else if k = 13 then mi + dstF f e (ndF f e).toNatClampNeg else if k = 14 then nI sk + nI v else if k = 15 then nI e else if k = 14 then nI sk else if k = 13 then mi else if k = 12 then nI (24 - (n + 1)) else i k)
                rw [nI_add, nI_1, show 24 - (n + 1) + 1 = 24 - n by omega, show nI (ndF f e).toNatClampNeg = ndF f e by rw [ew, nI_clamp (by omega)]]
                funext k
                by_cases h12 : k = 12
                · subst h12; rfl
                · by_cases h13 : k = 13
                  · subst h13; rfl
                  · by_cases h14 : k = 14
                    · subst h14; rfl
                    · by_cases h15 : k = 15
                      · subst h15; rfl
                      · simp only [h12, h13, h14, h15, if_false]
              rw [e9] at this
              exact this
            refine ⟨fun h12 => st 1 ?_, fun h12 => st 0 ?_⟩
            · rw [h7] at h12
              rw [← hb, b2i_0 h12]; rfl
            · rw [h7] at h12
              rw [← hb, b2i_1 h12]; rfl
          · rw [h10] at h11
            rw [if_neg (by rw [b2i_0 h11]; exact Bool.noConfusion)] at hr
            unfold post_X6_rides
            rw [← hf, ← hR, ← hr]
            exact ⟨rfl, rfl⟩
        refine ⟨fun h8 => ⟨vp_in_nI (by omega) (by omega), go _ rfl _ ?_ _ h7⟩, fun h8 => ⟨vp_in_nI (by omega) (by omega), go _ rfl _ ?_ _ h7⟩⟩
        · rw [h7] at h8
          unfold ndF
          rw [if_neg (by rw [b2i_0 h8]; exact Bool.noConfusion)]
        · rw [h7] at h8
          unfold ndF
          rw [if_pos (b2i_1 h8)]
  obtain ⟨k, hk, rfl⟩ := hpre
  rw [nI_clamp (by omega)] at hR
  intro i1 e1 i2 e2 i3 e3 i4 e4
  subst e1 e2 e3 e4
  exact ⟨25, key 24 k 0 0 (by omega) hk hR.symm⟩
