set_option maxRecDepth 100000
/-! PURE 4: the input's bytes and tokens -/
def blen (i : Nat → Int32) : Nat := (i 18).toNatClampNeg
def BOK (i : Nat → Int32) : Prop := ∃ L, L ≤ 500 ∧ i 18 = nI L
/-- the buffer, zero behind its length -/
def trB (i : Nat → Int32) (a : Nat → Nat → Int32) : Nat → Int32 := fun k => if k < blen i then a 8 k else 0
def isLow (x : Int32) : Bool := decide (97 ≤ x ∧ x ≤ 122)
def isDig (x : Int32) : Bool := decide (48 ≤ x ∧ x ≤ 57)
def isSpc (x : Int32) : Bool := decide (x = 32)
/-- the first of n places from p on whose byte isn't P; p + n -/
def runG (P : Int32 → Bool) (b : Nat → Int32) : Nat → Nat → Nat
  | 0, p => p
  | n + 1, p => if P (b p) = true then runG P b n (p + 1) else p
abbrev Tk : Type := Nat × Nat × Nat
/-- the token from p on: (start, kind, end); kinds: 0 none, 1 word, 2 number, 3 sign -/
def lexS (b : Nat → Int32) (L s : Nat) : Tk :=
  if s = L then (s, 0, s) else if isLow (b s) = true then (s, 1, runG isLow b (L - s) s) else if isDig (b s) = true then (s, 2, runG isDig b (L - s) s) else (s, 3, s + 1)
def lexF (b : Nat → Int32) (L p : Nat) : Tk := lexS b L (runG isSpc b (L - p) p)
/-- the token's numbers -/
def TOK (i : Nat → Int32) (T : Tk) : Prop := i 20 = nI T.2.2 ∧ i 21 = nI T.1 ∧ i 22 = nI T.2.1 ∧ T.1 ≤ T.2.2 ∧ T.2.2 ≤ blen i ∧ (T.2.1 ≠ 0 → T.1 < T.2.2) ∧ T.2.1 ≤ 3
def tokF (i : Nat → Int32) (T : Tk) : Nat → Int32 := fun k => if k = 20 then nI T.2.2 else if k = 21 then nI T.1 else if k = 22 then nI T.2.1 else i k
def pre_X6_isLower (i : Nat → Int32) (_ : Nat → Nat → Int32) (_ : Nat → Nat) (x : Int32) : Prop := BOK i ∧ ∃ k, k ≤ 500 ∧ x = nI k
def post_X6_isLower (i : Nat → Int32) (a : Nat → Nat → Int32) (_ : Nat → Nat) (x r : Int32) : Prop := r = b2i (decide (x.toNatClampNeg < blen i) && isLow (a 8 x.toNatClampNeg))
def pre_X6_isDigit (i : Nat → Int32) (_ : Nat → Nat → Int32) (_ : Nat → Nat) (x : Int32) : Prop := BOK i ∧ ∃ k, k ≤ 500 ∧ x = nI k
def post_X6_isDigit (i : Nat → Int32) (a : Nat → Nat → Int32) (_ : Nat → Nat) (x r : Int32) : Prop := r = b2i (decide (x.toNatClampNeg < blen i) && isDig (a 8 x.toNatClampNeg))
def pre_X6_advances (i : Nat → Int32) (_ : Nat → Nat → Int32) (_ : Nat → Nat) : Prop := BOK i ∧ ∃ p, p ≤ blen i ∧ i 20 = nI p
def post_X6_advances (i : Nat → Int32) (a : Nat → Nat → Int32) (q : Nat → Nat) (u : MSt) : Prop := u = (tokF i (lexF (trB i a) (blen i) (i 20).toNatClampNeg), a, q)
/-- the token is the word w -/
def wrdF (b : Nat → Int32) (T : Tk) (w : List Int32) : Bool := decide (T.2.1 = 1) && decide (T.2.2 - T.1 = w.length) && (List.range w.length).all (fun k => decide (b (T.1 + k) = w.getD k 0))
def pre_X6_isWord (i : Nat → Int32) (_ : Nat → Nat → Int32) (_ : Nat → Nat) (w : List Int32) : Prop := BOK i ∧ (∃ T, TOK i T) ∧ w.length < 1000
def post_X6_isWord (i : Nat → Int32) (a : Nat → Nat → Int32) (_ : Nat → Nat) (w : List Int32) (r : Int32) : Prop := ∀ T, TOK i T → r = b2i (wrdF (trB i a) T w)
def pre_X6_readsWord (i : Nat → Int32) (_ : Nat → Nat → Int32) (_ : Nat → Nat) (w : List Int32) : Prop := BOK i ∧ (∃ T, TOK i T) ∧ w.length < 1000
def post_X6_readsWord (i : Nat → Int32) (a : Nat → Nat → Int32) (q : Nat → Nat) (w : List Int32) (r : Int32) (u : MSt) : Prop := ∀ T, TOK i T → r = b2i (wrdF (trB i a) T w) ∧ u = (if wrdF (trB i a) T w = true then tokF i (lexF (trB i a) (blen i) T.2.2) else i, a, q)
def sgnF (b : Nat → Int32) (T : Tk) (c : Int32) : Bool := decide (T.2.1 = 3) && decide (b T.1 = c)
def pre_X6_isSign (i : Nat → Int32) (_ : Nat → Nat → Int32) (_ : Nat → Nat) (_ : Int32) : Prop := BOK i ∧ ∃ T, TOK i T
def post_X6_isSign (i : Nat → Int32) (a : Nat → Nat → Int32) (_ : Nat → Nat) (x r : Int32) : Prop := ∀ T, TOK i T → r = b2i (sgnF (trB i a) T x)
/-- the number of n digits from s on -/
def numG (b : Nat → Int32) (s : Nat) : Nat → Int32
  | 0 => 0
  | n + 1 => 10 * numG b s n + b (s + n) - 48
def numF (b : Nat → Int32) (T : Tk) : Int32 := numG b T.1 (T.2.2 - T.1)
def isNuF (b : Nat → Int32) (T : Tk) (lo hi : Int32) : Bool := decide (T.2.1 = 2) && decide (T.2.2 - T.1 ≤ 3) && decide (lo ≤ numF b T ∧ numF b T ≤ hi)
def pre_X6_isNumber (i : Nat → Int32) (_ : Nat → Nat → Int32) (_ : Nat → Nat) (_ _ : Int32) : Prop := BOK i ∧ ∃ T, TOK i T
/-- behind a look at a number: its value is laid if the answer is true -/
def post_X6_isNumber (i : Nat → Int32) (a : Nat → Nat → Int32) (q : Nat → Nat) (x y r : Int32) (u : MSt) : Prop := ∀ T, TOK i T → r = b2i (isNuF (trB i a) T x y) ∧ (∃ v, u = (upd i 23 v, a, q) ∧ (isNuF (trB i a) T x y = true → v = numF (trB i a) T))
def pre_X6_readsNumber (i : Nat → Int32) (_ : Nat → Nat → Int32) (_ : Nat → Nat) (_ _ : Int32) : Prop := BOK i ∧ ∃ T, TOK i T
def post_X6_readsNumber (i : Nat → Int32) (a : Nat → Nat → Int32) (q : Nat → Nat) (x y r : Int32) (u : MSt) : Prop := ∀ T, TOK i T → r = b2i (isNuF (trB i a) T x y) ∧
  (if isNuF (trB i a) T x y = true then u = (tokF (upd i 23 (numF (trB i a) T)) (lexF (trB i a) (blen i) T.2.2), a, q) else ∃ v, u = (upd i 23 v, a, q))
def wp_X6_isLower (post : Int32 → Prop) (i : Nat → Int32) (a : Nat → Nat → Int32) (q : Nat → Nat) (x : Int32) : Prop :=
  ((i 18) ≤ x → isB 0 ∧ post 0) ∧ (¬ (i 18) ≤ x → vp_in x 500 ∧ ∀ r2, post_X6_isIn  ((a 8 x.toNatClampNeg).toInt64) 97 122 r2 → (r2 = 0 → isB 0 ∧ post 0) ∧ (¬ r2 = 0 → isB 1 ∧ post 1))

def wp_X6_isDigit (post : Int32 → Prop) (i : Nat → Int32) (a : Nat → Nat → Int32) (q : Nat → Nat) (x : Int32) : Prop :=
  ((i 18) ≤ x → isB 0 ∧ post 0) ∧ (¬ (i 18) ≤ x → vp_in x 500 ∧ ∀ r2, post_X6_isIn  ((a 8 x.toNatClampNeg).toInt64) 48 57 r2 → (r2 = 0 → isB 0 ∧ post 0) ∧ (¬ r2 = 0 → isB 1 ∧ post 1))

def wpb_X6_advances_121 (post : MSt → Prop)   : Nat → (Nat → Int32) → (Nat → Nat → Int32) → (Nat → Nat) → Prop
  | 0 => fun _ _ _ => False
  | n + 1 => fun i a q  => pre_X6_isDigit i a q (i 20) ∧ ∀ r15, post_X6_isDigit i a q (i 20) r15 → (r15 = 0 → post (i, a, q)) ∧ (¬ r15 = 0 → ∀ i17, i17 = upd i 20 ((i 20) + 1) → (wpb_X6_advances_121 post   n) i17 a q)
def wpb_X6_advances_81 (post : MSt → Prop)   : Nat → (Nat → Int32) → (Nat → Nat → Int32) → (Nat → Nat) → Prop
  | 0 => fun _ _ _ => False
  | n + 1 => fun i a q  => pre_X6_isLower i a q (i 20) ∧ ∀ r18, post_X6_isLower i a q (i 20) r18 → (r18 = 0 → post (i, a, q)) ∧ (¬ r18 = 0 → ∀ i20, i20 = upd i 20 ((i 20) + 1) → (wpb_X6_advances_81 post   n) i20 a q)
def wpb_X6_advances_38 (post : MSt → Prop)   (i : Nat → Int32) (a : Nat → Nat → Int32) (q : Nat → Nat)  : Prop :=
  ∀ i4, i4 = upd i 21 (i 20) → (¬ (i4 20) = (i4 18) → pre_X6_isLower i4 a q (i4 20) ∧ ∀ r6, post_X6_isLower i4 a q (i4 20) r6 → (r6 = 0 → pre_X6_isDigit i4 a q (i4 20) ∧ ∀ r8, post_X6_isDigit i4 a q (i4 20) r8 → (r8 = 0 → ∀ i10, i10 = upd i4 22 3 → ∀ i11, i11 = upd i10 20 ((i10 20) + 1) → post (i11, a, q)) ∧ (¬ r8 = 0 → ∀ i12, i12 = upd i4 22 2 → ∃ n, wpb_X6_advances_121 post   n i12 a q)) ∧ (¬ r6 = 0 → ∀ i13, i13 = upd i4 22 1 → ∃ n, wpb_X6_advances_81 post   n i13 a q)) ∧ ((i4 20) = (i4 18) → ∀ i14, i14 = upd i4 22 0 → post (i14, a, q))
def wpb_X6_advances_0 (post : MSt → Prop)   : Nat → (Nat → Int32) → (Nat → Nat → Int32) → (Nat → Nat) → Prop
  | 0 => fun _ _ _ => False
  | n + 1 => fun i a q  => ((i 18) ≤ (i 20) → wpb_X6_advances_38 post   i a q) ∧ (¬ (i 18) ≤ (i 20) → vp_in (i 20) 500 ∧ (¬ (a 8 (i 20).toNatClampNeg) = 32 → wpb_X6_advances_38 post   i a q) ∧ ((a 8 (i 20).toNatClampNeg) = 32 → ∀ i3, i3 = upd i 20 ((i 20) + 1) → (wpb_X6_advances_0 post   n) i3 a q))
def wp_X6_advances (post : MSt → Prop) (i : Nat → Int32) (a : Nat → Nat → Int32) (q : Nat → Nat)  : Prop :=
  ∃ n, wpb_X6_advances_0 post   n i a q
theorem BOK.len {i : Nat → Int32} (h : BOK i) : blen i ≤ 500 ∧ i 18 = nI (blen i) := by
  obtain ⟨L, h1, h2⟩ := h
  have : blen i = L := by unfold blen; rw [h2, nI_clamp (by omega)]
  rw [this]
  exact ⟨h1, h2⟩
theorem trB_in {i : Nat → Int32} {a : Nat → Nat → Int32} {k : Nat} (h : k < blen i) : trB i a k = a 8 k := if_pos h
theorem pr_X6_isLower (i : Nat → Int32) (a : Nat → Nat → Int32) (q : Nat → Nat) (x : Int32) (hpre : pre_X6_isLower i a q x) : wp_X6_isLower (fun r => post_X6_isLower i a q x r) i a q x := by
  obtain ⟨hB, k, hk, rfl⟩ := hpre
  obtain ⟨h1, h2⟩ := hB.len
  unfold wp_X6_isLower post_X6_isLower
  rw [nI_clamp (by omega), h2]
  have hle : nI (blen i) ≤ nI k ↔ blen i ≤ k := nI_leI (by omega) (by omega)
  rw [hle]
  refine ⟨fun h => ⟨isB_0, by rw [decide_eq_false (by omega)]; rfl⟩, fun h => ⟨vp_in_nI (by omega) (by omega), fun r2 e2 => ?_⟩⟩
  unfold post_X6_isIn at e2
  rw [decide_eq_decide.mpr (i2l_in (a 8 k) (lo := 97) (hi := 122) 97 122 rfl rfl)] at e2
  rw [decide_eq_true (show k < blen i by omega), e2]
  refine ⟨fun h3 => ⟨isB_0, ?_⟩, fun h3 => ⟨isB_1, ?_⟩⟩
  · show 0 = b2i (true && decide (97 ≤ a 8 k ∧ a 8 k ≤ 122))
    rw [b2i_0 h3]; rfl
  · show 1 = b2i (true && decide (97 ≤ a 8 k ∧ a 8 k ≤ 122))
    rw [b2i_1 h3]; rfl
theorem pr_X6_isDigit (i : Nat → Int32) (a : Nat → Nat → Int32) (q : Nat → Nat) (x : Int32) (hpre : pre_X6_isDigit i a q x) : wp_X6_isDigit (fun r => post_X6_isDigit i a q x r) i a q x := by
  obtain ⟨hB, k, hk, rfl⟩ := hpre
  obtain ⟨h1, h2⟩ := hB.len
  unfold wp_X6_isDigit post_X6_isDigit
  rw [nI_clamp (by omega), h2]
  have hle : nI (blen i) ≤ nI k ↔ blen i ≤ k := nI_leI (by omega) (by omega)
  rw [hle]
  refine ⟨fun h => ⟨isB_0, by rw [decide_eq_false (by omega)]; rfl⟩, fun h => ⟨vp_in_nI (by omega) (by omega), fun r2 e2 => ?_⟩⟩
  unfold post_X6_isIn at e2
  rw [decide_eq_decide.mpr (i2l_in (a 8 k) (lo := 48) (hi := 57) 48 57 rfl rfl)] at e2
  rw [decide_eq_true (show k < blen i by omega), e2]
  refine ⟨fun h3 => ⟨isB_0, ?_⟩, fun h3 => ⟨isB_1, ?_⟩⟩
  · show 0 = b2i (true && decide (48 ≤ a 8 k ∧ a 8 k ≤ 57))
    rw [b2i_0 h3]; rfl
  · show 1 = b2i (true && decide (48 ≤ a 8 k ∧ a 8 k ≤ 57))
    rw [b2i_1 h3]; rfl
theorem runG_rng (P : Int32 → Bool) (b : Nat → Int32) : ∀ n p, p ≤ runG P b n p ∧ runG P b n p ≤ p + n := by
  intro n
  induction n with
  | zero => intro p; exact ⟨Nat.le_refl _, Nat.le_refl _⟩
  | succ n ih =>
    intro p
    unfold runG
    split
    · have := ih (p + 1); omega
    · omega
theorem lexS_rng (b : Nat → Int32) {L s : Nat} (h : s ≤ L) : (lexS b L s).1 = s ∧ s ≤ (lexS b L s).2.2 ∧ (lexS b L s).2.2 ≤ L ∧ ((lexS b L s).2.1 ≠ 0 → s < (lexS b L s).2.2) ∧ (lexS b L s).2.1 ≤ 3 := by
  unfold lexS
  split
  · rename_i h1
    exact ⟨rfl, Nat.le_refl _, h, fun z => absurd rfl z, Nat.le_of_ble_eq_true rfl⟩
  · rename_i h1
    have hs : s < L := by omega
    obtain ⟨n, hn⟩ : ∃ n, L - s = n + 1 := ⟨L - s - 1, by omega⟩
    have up : ∀ P : Int32 → Bool, P (b s) = true → s < runG P b (L - s) s ∧ runG P b (L - s) s ≤ L := by
      intro P hP
      have h2 := runG_rng P b (L - s) s
      rw [hn] at h2 ⊢
      unfold runG at h2 ⊢
      rw [if_pos hP] at h2 ⊢
      have := runG_rng P b n (s + 1)
      omega
    split
    · rename_i h2
      have := up _ h2
      exact ⟨rfl, by show s ≤ runG _ _ _ _; omega, this.2, fun _ => this.1, Nat.le_of_ble_eq_true rfl⟩
    · split
      · rename_i h2 h3
        have := up _ h3
        exact ⟨rfl, by show s ≤ runG _ _ _ _; omega, this.2, fun _ => this.1, Nat.le_of_ble_eq_true rfl⟩
      · exact ⟨rfl, by show s ≤ s + 1; omega, by show s + 1 ≤ L; omega, fun _ => by show s < s + 1; omega, Nat.le_of_ble_eq_true rfl⟩
theorem blen_tok {i : Nat → Int32} {T : Tk} : blen (tokF i T) = blen i := rfl
theorem tok_of {i : Nat → Int32} {b : Nat → Int32} {p : Nat} (hp : p ≤ blen i) : TOK (tokF i (lexF b (blen i) p)) (lexF b (blen i) p) := by
  have h0 := runG_rng isSpc b (blen i - p) p
  have h1 := lexS_rng b (L := blen i) (s := runG isSpc b (blen i - p) p) (by omega)
  refine ⟨rfl, rfl, rfl, ?_, ?_, ?_, h1.2.2.2.2⟩
  · show (lexS b (blen i) _).1 ≤ _
    rw [h1.1]; exact h1.2.1
  · exact h1.2.2.1
  · intro h
    show (lexS b (blen i) _).1 < _
    rw [h1.1]; exact h1.2.2.2.1 h
theorem lex_le {b : Nat → Int32} {L p : Nat} (hp : p ≤ L) : p ≤ (lexF b L p).1 ∧ (lexF b L p).1 ≤ (lexF b L p).2.2 ∧ (lexF b L p).2.2 ≤ L := by
  have h0 := runG_rng isSpc b (L - p) p
  have h1 := lexS_rng b (L := L) (s := runG isSpc b (L - p) p) (by omega)
  refine ⟨?_, ?_, h1.2.2.1⟩
  · show _ ≤ (lexS b L _).1
    rw [h1.1]; exact h0.1
  · show (lexS b L _).1 ≤ _
    rw [h1.1]; exact h1.2.1
theorem pr_X6_advances (i : Nat → Int32) (a : Nat → Nat → Int32) (q : Nat → Nat) (hpre : pre_X6_advances i a q) : wp_X6_advances (fun u => post_X6_advances i a q u) i a q := by
  obtain ⟨hB, p0, hp0, e0⟩ := hpre
  obtain ⟨hL, h18⟩ := hB.len
  obtain ⟨L, eL⟩ : ∃ L, L = blen i := ⟨_, rfl⟩
  obtain ⟨b, eb⟩ : ∃ b, b = trB i a := ⟨_, rfl⟩
  have hp00 : (i 20).toNatClampNeg = p0 := by rw [e0, nI_clamp (by omega)]
  have P0 : ∀ u, u = (tokF i (lexF b L p0), a, q) → post_X6_advances i a q u := fun u h => by unfold post_X6_advances; rw [hp00, ← eb, ← eL]; exact h
  rw [← eL] at h18 hL hp0
  have rd : ∀ k, k < L → b k = a 8 k := fun k hk => by rw [eb]; exact trB_in (by rw [← eL]; exact hk)
  -- a run of a word's or a number's bytes
  have keyD : ∀ n p s, p + n = L → s = runG isSpc b (L - p0) p0 → lexF b L p0 = (s, 2, runG isDig b n p) → wpb_X6_advances_121 (fun u => post_X6_advances i a q u) (n + 1) (tokF i (s, 2, p)) a q := by
    intro n
    induction n with
    | zero =>
      intro p s hp hs he
      refine ⟨⟨⟨L, hL, h18⟩, p, by omega, rfl⟩, fun r15 e15 => ?_⟩
      have e15 : r15 = b2i (decide ((nI p).toNatClampNeg < blen i) && isDig (a 8 (nI p).toNatClampNeg)) := e15
      rw [nI_clamp (by omega), ← eL, decide_eq_false (by omega)] at e15
      exact ⟨fun _ => P0 _ (by rw [he]; rfl), fun h => absurd e15 (by rw [Bool.false_and]; exact fun z => h z)⟩
    | succ n ih =>
      intro p s hp hs he
      refine ⟨⟨⟨L, hL, h18⟩, p, by omega, rfl⟩, fun r15 e15 => ?_⟩
      have e15 : r15 = b2i (decide ((nI p).toNatClampNeg < blen i) && isDig (a 8 (nI p).toNatClampNeg)) := e15
      rw [nI_clamp (by omega), ← eL, decide_eq_true (show p < L by omega), Bool.true_and] at e15
      rw [show runG isDig b (n + 1) p = if isDig (b p) = true then runG isDig b n (p + 1) else p from rfl, rd p (by omega)] at he
      rw [e15]
      refine ⟨fun h => P0 _ ?_, fun h i17 e17 => ?_⟩
      · rw [if_neg (by rw [b2i_0 h]; exact Bool.noConfusion)] at he
        rw [he]
      · rw [if_pos (b2i_1 h)] at he
        have := ih (p + 1) s (by omega) hs he
        have e : i17 = tokF i (s, 2, p + 1) := by
          rw [e17]
          funext k
          show (if k = 20 then nI p + 1 else tokF i (s, 2, p) k) = _
          unfold tokF
          by_cases hk : k = 20
          · rw [if_pos hk, if_pos hk, nI_1]
          · rw [if_neg hk, if_neg hk, if_neg hk]
        rw [e]
        exact this
  have keyW : ∀ n p s, p + n = L → s = runG isSpc b (L - p0) p0 → lexF b L p0 = (s, 1, runG isLow b n p) → wpb_X6_advances_81 (fun u => post_X6_advances i a q u) (n + 1) (tokF i (s, 1, p)) a q := by
    intro n
    induction n with
    | zero =>
      intro p s hp hs he
      refine ⟨⟨⟨L, hL, h18⟩, p, by omega, rfl⟩, fun r15 e15 => ?_⟩
      have e15 : r15 = b2i (decide ((nI p).toNatClampNeg < blen i) && isLow (a 8 (nI p).toNatClampNeg)) := e15
      rw [nI_clamp (by omega), ← eL, decide_eq_false (by omega)] at e15
      exact ⟨fun _ => P0 _ (by rw [he]; rfl), fun h => absurd e15 (by rw [Bool.false_and]; exact fun z => h z)⟩
    | succ n ih =>
      intro p s hp hs he
      refine ⟨⟨⟨L, hL, h18⟩, p, by omega, rfl⟩, fun r15 e15 => ?_⟩
      have e15 : r15 = b2i (decide ((nI p).toNatClampNeg < blen i) && isLow (a 8 (nI p).toNatClampNeg)) := e15
      rw [nI_clamp (by omega), ← eL, decide_eq_true (show p < L by omega), Bool.true_and] at e15
      rw [show runG isLow b (n + 1) p = if isLow (b p) = true then runG isLow b n (p + 1) else p from rfl, rd p (by omega)] at he
      rw [e15]
      refine ⟨fun h => P0 _ ?_, fun h i17 e17 => ?_⟩
      · rw [if_neg (by rw [b2i_0 h]; exact Bool.noConfusion)] at he
        rw [he]
      · rw [if_pos (b2i_1 h)] at he
        have := ih (p + 1) s (by omega) hs he
        have e : i17 = tokF i (s, 1, p + 1) := by
          rw [e17]
          funext k
          show (if k = 20 then nI p + 1 else tokF i (s, 1, p) k) = _
          unfold tokF
          by_cases hk : k = 20
          · rw [if_pos hk, if_pos hk, nI_1]
          · rw [if_neg hk, if_neg hk, if_neg hk]
        rw [e]
        exact this
  -- behind the spaces
  have mid : ∀ s i3, s ≤ L → s = runG isSpc b (L - p0) p0 → i3 = upd i 20 (nI s) → wpb_X6_advances_38 (fun u => post_X6_advances i a q u) i3 a q := by
    intro s i3 hs1 hs e3 i4 e4
    have hlex : lexF b L p0 = lexS b L s := by rw [hs]; rfl
    have f20 : i4 20 = nI s := by rw [e4, e3]; rfl
    have f18 : i4 18 = nI L := by rw [e4, e3]; exact h18
    have fb : blen i4 = L := by unfold blen; rw [f18, nI_clamp (by omega)]
    have ti : ∀ kd, upd i4 22 (nI kd) = tokF i (s, kd, s) := by
      intro kd
      rw [e4, e3]
      funext k
      show (if k = 22 then nI kd else if k = 21 then nI s else if k = 20 then nI s else i k) = _
      unfold tokF
      by_cases h1 : k = 20
      · subst h1; rfl
      · by_cases h2 : k = 21
        · subst h2; rfl
        · by_cases h3 : k = 22
          · subst h3; rfl
          · simp only [h1, h2, h3, if_false]
    rw [f20, f18]
    have heq : nI s = nI L ↔ s = L := nI_eq (by omega) (by omega)
    rw [heq]
    refine ⟨fun h => ?_, fun h i14 e14 => P0 _ ?_⟩
    · have hsL : s < L := by omega
      obtain ⟨n, hn⟩ : ∃ n, L - s = n := ⟨_, rfl⟩
      refine ⟨⟨⟨L, hL, f18⟩, s, by omega, rfl⟩, fun r6 e6 => ?_⟩
      unfold post_X6_isLower at e6
      rw [nI_clamp (by omega), fb, decide_eq_true hsL, Bool.true_and, ← rd s hsL] at e6
      rw [e6]
      unfold lexS at hlex
      rw [if_neg h] at hlex
      refine ⟨fun h2 => ⟨⟨⟨L, hL, f18⟩, s, by omega, rfl⟩, fun r8 e8 => ?_⟩, fun h2 i13 e13 => ?_⟩
      · unfold post_X6_isDigit at e8
        rw [nI_clamp (by omega), fb, decide_eq_true hsL, Bool.true_and, ← rd s hsL] at e8
        rw [e8]
        rw [if_neg (by rw [b2i_0 h2]; exact Bool.noConfusion)] at hlex
        refine ⟨fun h3 i10 e10 i11 e11 => P0 _ ?_, fun h3 i12 e12 => ?_⟩
        · rw [if_neg (by rw [b2i_0 h3]; exact Bool.noConfusion)] at hlex
          rw [hlex, e11, e10, show (3 : Int32) = nI 3 from rfl, ti 3]
          congr 1
          funext k
          show (if k = 20 then nI s + 1 else tokF i (s, 3, s) k) = _
          unfold tokF
          by_cases hk : k = 20
          · rw [if_pos hk, if_pos hk, nI_1]
          · rw [if_neg hk, if_neg hk, if_neg hk]
        · rw [if_pos (b2i_1 h3)] at hlex
          refine ⟨L - s + 1, ?_⟩
          rw [e12, show (2 : Int32) = nI 2 from rfl, ti 2]
          exact keyD (L - s) s s (by omega) hs hlex
      · rw [if_pos (b2i_1 h2)] at hlex
        refine ⟨L - s + 1, ?_⟩
        rw [e13, show (1 : Int32) = nI 1 from rfl, ti 1]
        exact keyW (L - s) s s (by omega) hs hlex
    · unfold lexS at hlex
      rw [if_pos h] at hlex
      rw [hlex, e14, show (0 : Int32) = nI 0 from rfl, ti 0]
  -- the spaces
  have keyS : ∀ n p, p + n = L → runG isSpc b n p = runG isSpc b (L - p0) p0 → wpb_X6_advances_0 (fun u => post_X6_advances i a q u) (n + 1) (upd i 20 (nI p)) a q := by
    intro n
    induction n with
    | zero =>
      intro p hp he
      refine ⟨fun _ => mid p _ (by omega) he rfl, fun h => absurd ?_ h⟩
      show i 18 ≤ nI p
      rw [h18, show p = L by omega]
      exact Int32.le_refl _
    | succ n ih =>
      intro p hp he
      rw [show runG isSpc b (n + 1) p = if isSpc (b p) = true then runG isSpc b n (p + 1) else p from rfl] at he
      have f20 : upd i 20 (nI p) 20 = nI p := rfl
      have f18 : upd i 20 (nI p) 18 = nI L := h18
      unfold wpb_X6_advances_0
      simp only [f20, f18]
      rw [nI_clamp (by omega), ← rd p (by omega)]
      refine ⟨fun h => absurd h (nI_ge (by omega) (by omega)), fun _ => ⟨vp_in_nI (by omega) (by omega), fun h => mid p _ (by omega) ?_ rfl, fun h i3 e3 => ?_⟩⟩
      · rw [if_neg (by unfold isSpc; rw [decide_eq_false h]; exact Bool.noConfusion)] at he
        exact he
      · rw [if_pos (by unfold isSpc; rw [decide_eq_true h])] at he
        have := ih (p + 1) (by omega) he
        rw [e3, nI_1, upd_upd]
        exact this
  have h00 : upd i 20 (nI p0) = i := by
    funext k
    unfold upd
    by_cases hk : k = 20
    · rw [if_pos hk, hk, e0]
    · rw [if_neg hk]
  have := keyS (L - p0) p0 (by omega) rfl
  rw [h00] at this
  exact ⟨_, this⟩
