set_option maxRecDepth 100000
/-! PURE 7: the parser. A result: (accepted, the token, the row, the last index) -/
abbrev PR : Type := Bool × Tk × (Nat → Int32) × Int32
def TKK (L : Nat) (T : Tk) : Prop := T.1 ≤ T.2.2 ∧ T.2.2 ≤ L ∧ (T.2.1 ≠ 0 → T.1 < T.2.2) ∧ T.2.1 ≤ 3
/-- the numbers while the parser reads -/
def pF (i : Nat → Int32) (T : Tk) (v la : Int32) : Nat → Int32 := fun k => if k = 20 then nI T.2.2 else if k = 21 then nI T.1 else if k = 22 then nI T.2.1 else if k = 23 then v else if k = 24 then la else i k
def nxT (b : Nat → Int32) (L : Nat) (T : Tk) : Tk := lexF b L T.2.2
def PPost (i : Nat → Int32) (a : Nat → Nat → Int32) (q : Nat → Nat) (R : PR) (r : Int32) (u : MSt) : Prop :=
  r = b2i R.1 ∧ ∃ v la f, u = (pF i R.2.1 v la, setR a 3 f, q) ∧ (R.1 = true → f = R.2.2.1 ∧ la = R.2.2.2)
def ptrP (b : Nat → Int32) (L c : Nat) (f : Nat → Int32) (T : Tk) (la : Int32) : PR :=
  if sgnF b T 45 = true then (true, nxT b L T, upd f c (-1), la) else if isNuF b T 0 11 = true then (true, nxT b L T, upd f c (numF b T), la) else (false, T, f, la)
def ownP (b : Nat → Int32) (L row : Nat) (f : Nat → Int32) (T : Tk) (la : Int32) : PR :=
  if isNuF b T (la + 1) 11 = true then
    (if f (3 + (numF b T).toNatClampNeg) = 0 then (false, T, f, la) else ptrP b L (row + (numF b T).toNatClampNeg) f (nxT b L T) (numF b T))
  else (false, T, f, la)
/-- behind an inn's state: its letters -/
def letP (b : Nat → Int32) (L p : Nat) (f : Nat → Int32) (T : Tk) (la : Int32) : PR :=
  if wrdF b T tx_letters = true then
    (if isNuF b (nxT b L T) 1 99 = true then (true, nxT b L (nxT b L T), upd f (39 + p) (numF b (nxT b L T)), la) else (false, nxT b L T, f, la))
  else (true, T, f, la)
def innP (b : Nat → Int32) (L : Nat) (f : Nat → Int32) (T : Tk) (la : Int32) : PR :=
  if isNuF b T (la + 1) 11 = true then
    (if isNuF b (nxT b L T) 0 999 = true then
      (if atR f (numF b (nxT b L T)) 12 0 = -1 then
        (if wrdF b (nxT b L (nxT b L T)) tx_closed = true then letP b L (numF b T).toNatClampNeg (upd (bldF f (numF b T).toNatClampNeg (numF b (nxT b L T))) (27 + (numF b T).toNatClampNeg) 0) (nxT b L (nxT b L (nxT b L T))) (numF b T)
         else letP b L (numF b T).toNatClampNeg (upd (bldF f (numF b T).toNatClampNeg (numF b (nxT b L T))) (27 + (numF b T).toNatClampNeg) 1) (nxT b L (nxT b L T)) (numF b T))
       else (false, nxT b L T, f, la))
     else (false, nxT b L T, f, la))
  else (false, T, f, la)
def prtK (b : Nat → Int32) (T : Tk) : Int32 :=
  if wrdF b T tx_inn = true then 0 else if wrdF b T tx_first = true then 1 else if wrdF b T tx_second = true then 2 else if wrdF b T tx_count = true then 3 else if wrdF b T tx_next = true then 4 else if wrdF b T tx_skip = true then 5 else -1
def cntP (b : Nat → Int32) (L : Nat) (f : Nat → Int32) (T : Tk) (la : Int32) : PR :=
  if isNuF b T 0 12 = true then (true, nxT b L T, upd f 53 (numF b T), la) else (false, T, f, la)
def prtP (b : Nat → Int32) (L : Nat) (k : Int32) (f : Nat → Int32) (T : Tk) (la : Int32) : PR :=
  if k = 0 then innP b L f T la else if k = 1 then ptrP b L 51 f T la else if k = 2 then ptrP b L 52 f T la else if k = 3 then cntP b L f T la else if k = 4 then ownP b L 54 f T la else ownP b L 66 f T la
def mayP (its part : Int32) : Bool := decide (its ≠ -1) && (decide (part < its) || (decide (its = part) && (decide (its = 0) || decide (3 < its))))
def lopP (b : Nat → Int32) (L : Nat) : Nat → Tk → (Nat → Int32) → Int32 → Int32 → Bool → PR
  | 0, T, f, la, _, _ => (false, T, f, la)
  | n + 1, T, f, la, part, reb =>
    if T.2.1 = 0 then (true, T, if reb = true then f else rebF f, la)
    else if sgnF b T 59 = true then
      (if mayP (prtK b (nxT b L T)) part = true then
        (let R := prtP b L (prtK b (nxT b L T)) (if 0 < prtK b (nxT b L T) ∧ reb = false then rebF f else f) (nxT b L (nxT b L T)) (if prtK b (nxT b L T) = part then la else -1)
         if R.1 = true then lopP b L n R.2.1 R.2.2.1 R.2.2.2 (prtK b (nxT b L T)) (reb || decide (0 < prtK b (nxT b L T))) else (false, R.2.1, f, la))
       else (false, nxT b L T, f, la))
    else (false, T, f, la)
def prsP (b : Nat → Int32) (L : Nat) : PR :=
  if wrdF b (lexF b L 0) tx_road = true then
    (if isNuF b (nxT b L (lexF b L 0)) 1 999 = true then
      lopP b L 501 (nxT b L (nxT b L (lexF b L 0))) (upd (fun _ => 0) 0 (numF b (nxT b L (lexF b L 0)))) (-1) 0 false
     else (false, nxT b L (lexF b L 0), fun _ => 0, -1))
  else (false, lexF b L 0, fun _ => 0, -1)
def pre_X6_readsPointer (i : Nat → Int32) (_ : Nat → Nat → Int32) (_ : Nat → Nat) (x : Int32) : Prop := BOK i ∧ (∃ T, TOK i T) ∧ ∃ c, c < 78 ∧ x = nI c
def post_X6_readsPointer (i : Nat → Int32) (a : Nat → Nat → Int32) (q : Nat → Nat) (x r : Int32) (u : MSt) : Prop := ∀ T, TOK i T → PPost i a q (ptrP (trB i a) (blen i) x.toNatClampNeg (a 3) T (i 24)) r u
def pre_X6_readsInn (i : Nat → Int32) (_ : Nat → Nat → Int32) (_ : Nat → Nat) (x : Int32) : Prop := BOK i ∧ (∃ T, TOK i T) ∧ isPt x
def post_X6_readsInn (i : Nat → Int32) (a : Nat → Nat → Int32) (q : Nat → Nat) (x r : Int32) (u : MSt) : Prop := ∀ T, TOK i T → PPost i a q (innP (trB i a) (blen i) (a 3) T x) r u
def pre_X6_readsOwnPointer (i : Nat → Int32) (_ : Nat → Nat → Int32) (_ : Nat → Nat) (x y : Int32) : Prop := BOK i ∧ (∃ T, TOK i T) ∧ (x = 54 ∨ x = 66) ∧ isPt y
def post_X6_readsOwnPointer (i : Nat → Int32) (a : Nat → Nat → Int32) (q : Nat → Nat) (x y r : Int32) (u : MSt) : Prop := ∀ T, TOK i T → PPost i a q (ownP (trB i a) (blen i) x.toNatClampNeg (a 3) T y) r u
def pre_X6_partAt (i : Nat → Int32) (_ : Nat → Nat → Int32) (_ : Nat → Nat) : Prop := BOK i ∧ ∃ T, TOK i T
def post_X6_partAt (i : Nat → Int32) (a : Nat → Nat → Int32) (_ : Nat → Nat) (r : Int32) : Prop := ∀ T, TOK i T → r = prtK (trB i a) T
def pre_X6_readsPart (i : Nat → Int32) (_ : Nat → Nat → Int32) (_ : Nat → Nat) (x y : Int32) : Prop := BOK i ∧ (∃ T, TOK i T) ∧ 0 ≤ x ∧ x ≤ 5 ∧ isPt y ∧ i 24 = y
def post_X6_readsPart (i : Nat → Int32) (a : Nat → Nat → Int32) (q : Nat → Nat) (x y r : Int32) (u : MSt) : Prop := ∀ T, TOK i T → PPost i a q (prtP (trB i a) (blen i) x (a 3) T y) r u
def pre_X6_reads (i : Nat → Int32) (_ : Nat → Nat → Int32) (_ : Nat → Nat) : Prop := BOK i
def trn78 (f : Nat → Int32) : Nat → Int32 := fun k => if k < 78 then f k else 0
def post_X6_reads (i : Nat → Int32) (a : Nat → Nat → Int32) (q : Nat → Nat) (r : Int32) (u : MSt) : Prop := PPost i a q (prsP (trB i a) (blen i)) r u
def wpb_X6_readsPointer_40 (post : Int32 → MSt → Prop)  (x : Int32) (i : Nat → Int32) (a : Nat → Nat → Int32) (q : Nat → Nat) (s0 : Int32) (s1 : Int32) : Prop :=
  vp_in s1 78 ∧ ∀ a9, a9 = updA a 3 s1.toNatClampNeg s0 → pre_X6_advances i a9 q  ∧ ∀ i11 a12 q13, post_X6_advances i a9 q  (i11, a12, q13) → isB 1 ∧ post 1 (i11, a12, q13)
def wpb_X6_readsPointer_23 (post : Int32 → MSt → Prop)  (x : Int32) (i : Nat → Int32) (a : Nat → Nat → Int32) (q : Nat → Nat) (x2 : Int32) : Prop :=
  (x2 = 0 → wpb_X6_readsPointer_40 post  x i a q (i 23) x) ∧ (¬ x2 = 0 → wpb_X6_readsPointer_40 post  x i a q (-1) x)
def wp_X6_readsPointer (post : Int32 → MSt → Prop) (i : Nat → Int32) (a : Nat → Nat → Int32) (q : Nat → Nat) (x : Int32) : Prop :=
  pre_X6_isSign i a q 45 ∧ ∀ r1, post_X6_isSign i a q 45 r1 → (¬ r1 = 0 → wpb_X6_readsPointer_23 post  x i a q r1) ∧ (r1 = 0 → pre_X6_isNumber i a q 0 11 ∧ ∀ r3 i4 a5 q6, post_X6_isNumber i a q 0 11 r3 (i4, a5, q6) → (¬ r3 = 0 → wpb_X6_readsPointer_23 post  x i4 a5 q6 r1) ∧ (r3 = 0 → isB 0 ∧ post 0 (i4, a5, q6)))

def wp_X6_readsOwnPointer (post : Int32 → MSt → Prop) (i : Nat → Int32) (a : Nat → Nat → Int32) (q : Nat → Nat) (x : Int32) (y : Int32) : Prop :=
  pre_X6_isNumber i a q (y + 1) 11 ∧ ∀ r1 i2 a3 q4, post_X6_isNumber i a q (y + 1) 11 r1 (i2, a3, q4) → (r1 = 0 → isB 0 ∧ post 0 (i2, a3, q4)) ∧ (¬ r1 = 0 → vp_in (3 + (i2 23)) 78 ∧ (¬ (a3 3 (3 + (i2 23)).toNatClampNeg) = 0 → ∀ i7, i7 = upd i2 24 (i2 23) → pre_X6_advances i7 a3 q4  ∧ ∀ i9 a10 q11, post_X6_advances i7 a3 q4  (i9, a10, q11) → pre_X6_readsPointer i9 a10 q11 (x + (i9 24)) ∧ ∀ r12 i13 a14 q15, post_X6_readsPointer i9 a10 q11 (x + (i9 24)) r12 (i13, a14, q15) → isB r12 ∧ post r12 (i13, a14, q15)) ∧ ((a3 3 (3 + (i2 23)).toNatClampNeg) = 0 → isB 0 ∧ post 0 (i2, a3, q4)))

def wp_X6_partAt (post : Int32 → Prop) (i : Nat → Int32) (a : Nat → Nat → Int32) (q : Nat → Nat)  : Prop :=
  pre_X6_isWord i a q tx_inn ∧ ∀ r2, post_X6_isWord i a q tx_inn r2 → (r2 = 0 → pre_X6_isWord i a q tx_first ∧ ∀ r5, post_X6_isWord i a q tx_first r5 → (r5 = 0 → pre_X6_isWord i a q tx_second ∧ ∀ r8, post_X6_isWord i a q tx_second r8 → (r8 = 0 → pre_X6_isWord i a q tx_count ∧ ∀ r11, post_X6_isWord i a q tx_count r11 → (r11 = 0 → pre_X6_isWord i a q tx_next ∧ ∀ r14, post_X6_isWord i a q tx_next r14 → (r14 = 0 → pre_X6_isWord i a q tx_skip ∧ ∀ r17, post_X6_isWord i a q tx_skip r17 → (r17 = 0 → post (-1)) ∧ (¬ r17 = 0 → post 5)) ∧ (¬ r14 = 0 → post 4)) ∧ (¬ r11 = 0 → post 3)) ∧ (¬ r8 = 0 → post 2)) ∧ (¬ r5 = 0 → post 1)) ∧ (¬ r2 = 0 → post 0)
theorem pF_self {i : Nat → Int32} {T : Tk} (h : TOK i T) : pF i T (i 23) (i 24) = i := by
  funext k
  unfold pF
  by_cases h0 : k = 20
  · rw [if_pos h0, h0]; exact h.1.symm
  rw [if_neg h0]
  by_cases h1 : k = 21
  · rw [if_pos h1, h1]; exact h.2.1.symm
  rw [if_neg h1]
  by_cases h2 : k = 22
  · rw [if_pos h2, h2]; exact h.2.2.1.symm
  rw [if_neg h2]
  by_cases h3 : k = 23
  · rw [if_pos h3, h3]
  rw [if_neg h3]
  by_cases h4 : k = 24
  · rw [if_pos h4, h4]
  rw [if_neg h4]
theorem pF_pF {i : Nat → Int32} {T T' : Tk} {v la v' la' : Int32} : pF (pF i T v la) T' v' la' = pF i T' v' la' := by
  funext k
  unfold pF
  by_cases h0 : k = 20 <;> by_cases h1 : k = 21 <;> by_cases h2 : k = 22 <;> by_cases h3 : k = 23 <;> by_cases h4 : k = 24 <;> simp only [h0, h1, h2, h3, h4, if_true, if_false, reduceIte]
theorem pF_tok {i : Nat → Int32} {T T' : Tk} {v la : Int32} : tokF (pF i T v la) T' = pF i T' v la := by
  funext k
  unfold pF tokF
  by_cases h0 : k = 20 <;> by_cases h1 : k = 21 <;> by_cases h2 : k = 22 <;> simp only [h0, h1, h2, if_true, if_false, reduceIte]
theorem pF_23 {i : Nat → Int32} {T : Tk} {v la w : Int32} : upd (pF i T v la) 23 w = pF i T w la := by
  funext k
  unfold pF upd
  by_cases h3 : k = 23
  · subst h3; rfl
  · simp only [h3, if_false, reduceIte]
theorem pF_24 {i : Nat → Int32} {T : Tk} {v la w : Int32} : upd (pF i T v la) 24 w = pF i T v w := by
  funext k
  unfold pF upd
  by_cases h3 : k = 24
  · subst h3; rfl
  · simp only [h3, if_false, reduceIte]
theorem TOK.kk {i : Nat → Int32} {T : Tk} (h : TOK i T) : TKK (blen i) T := h.2.2.2
theorem TKK.ok {i : Nat → Int32} {T : Tk} {v la : Int32} (h : TKK (blen i) T) : TOK (pF i T v la) T := ⟨rfl, rfl, rfl, h⟩
theorem TKK.nx {b : Nat → Int32} {L : Nat} {T : Tk} (h : TKK L T) : TKK L (nxT b L T) := by
  have h0 := lex_le (b := b) (L := L) h.2.1
  have h1 := runG_rng isSpc b (L - T.2.2) T.2.2
  have h3 := h.2.1
  have h2 := lexS_rng b (L := L) (s := runG isSpc b (L - T.2.2) T.2.2) (by omega)
  refine ⟨h0.2.1, h0.2.2, fun z => ?_, h2.2.2.2.2⟩
  show (lexS b L _).1 < _
  rw [h2.1]; exact h2.2.2.2.1 z
theorem BOK.pf {i : Nat → Int32} {T : Tk} {v la : Int32} (h : BOK i) : BOK (pF i T v la) := h
theorem n_upd {a : Nat → Nat → Int32} {f : Nat → Int32} {c : Nat} {w : Int32} : updA (setR a 3 f) 3 c w = setR a 3 (upd f c w) := by rw [updA_setR, setR_self, setR_setR]
section NF
variable {i : Nat → Int32} {a : Nat → Nat → Int32} {q : Nat → Nat} {T : Tk} {v la : Int32} {f : Nat → Int32}
theorem n_padv (hB : BOK i) (hT : TKK (blen i) T) {A : Nat → Nat → Int32} : pre_X6_advances (pF i T v la) A q := ⟨hB, T.2.2, hT.2.1, rfl⟩
theorem n_adv (hB : BOK i) (hT : TKK (blen i) T) {u : MSt} (h : post_X6_advances (pF i T v la) (setR a 3 f) q u) : u = (pF i (nxT (trB i a) (blen i) T) v la, setR a 3 f, q) := by
  unfold post_X6_advances at h
  rw [h, pF_tok]
  have := hB.len.1
  have := hT.2.1
  show (pF i (lexF (trB i a) (blen i) (nI T.2.2).toNatClampNeg) v la, _, _) = _
  rw [nI_clamp (by omega)]
  rfl
theorem n_sgn (hT : TKK (blen i) T) {x r : Int32} (h : post_X6_isSign (pF i T v la) (setR a 3 f) q x r) : r = b2i (sgnF (trB i a) T x) := h T hT.ok
theorem n_wrd (hT : TKK (blen i) T) {w : List Int32} {r : Int32} (h : post_X6_isWord (pF i T v la) (setR a 3 f) q w r) : r = b2i (wrdF (trB i a) T w) := h T hT.ok
theorem n_rwd (hT : TKK (blen i) T) {w : List Int32} {r : Int32} {u : MSt} (h : post_X6_readsWord (pF i T v la) (setR a 3 f) q w r u) :
    r = b2i (wrdF (trB i a) T w) ∧ u = (pF i (if wrdF (trB i a) T w = true then nxT (trB i a) (blen i) T else T) v la, setR a 3 f, q) := by
  obtain ⟨h1, h2⟩ := h T hT.ok
  refine ⟨h1, ?_⟩
  have h2 : u = (if wrdF (trB i a) T w = true then tokF (pF i T v la) (lexF (trB i a) (blen i) T.2.2) else pF i T v la, setR a 3 f, q) := h2
  by_cases c : wrdF (trB i a) T w = true
  · rw [if_pos c] at h2 ⊢; rw [h2, pF_tok]; rfl
  · rw [if_neg c] at h2 ⊢; exact h2
theorem n_num (hT : TKK (blen i) T) {x y r : Int32} {u : MSt} (h : post_X6_isNumber (pF i T v la) (setR a 3 f) q x y r u) :
    r = b2i (isNuF (trB i a) T x y) ∧ ∃ w, u = (pF i T w la, setR a 3 f, q) ∧ (isNuF (trB i a) T x y = true → w = numF (trB i a) T) := by
  obtain ⟨h1, w, h2, h3⟩ := h T hT.ok
  exact ⟨h1, w, by rw [h2, pF_23], h3⟩
theorem n_rnu (hT : TKK (blen i) T) {x y r : Int32} {u : MSt} (h : post_X6_readsNumber (pF i T v la) (setR a 3 f) q x y r u) :
    r = b2i (isNuF (trB i a) T x y) ∧ ∃ w, u = (pF i (if isNuF (trB i a) T x y = true then nxT (trB i a) (blen i) T else T) w la, setR a 3 f, q) ∧ (isNuF (trB i a) T x y = true → w = numF (trB i a) T) := by
  obtain ⟨h1, h2⟩ := h T hT.ok
  refine ⟨h1, ?_⟩
  have h2 : if isNuF (trB i a) T x y = true then u = (tokF (upd (pF i T v la) 23 (numF (trB i a) T)) (lexF (trB i a) (blen i) T.2.2), setR a 3 f, q) else ∃ v', u = (upd (pF i T v la) 23 v', setR a 3 f, q) := h2
  by_cases c : isNuF (trB i a) T x y = true
  · rw [if_pos c] at h2 ⊢
    exact ⟨_, by rw [h2, pF_23, pF_tok]; rfl, fun _ => rfl⟩
  · rw [if_neg c] at h2 ⊢
    obtain ⟨w, h2⟩ := h2
    exact ⟨w, by rw [h2, pF_23], fun z => absurd z c⟩
theorem n_ptr (hT : TKK (blen i) T) {x r : Int32} {u : MSt} (h : post_X6_readsPointer (pF i T v la) (setR a 3 f) q x r u) : PPost i a q (ptrP (trB i a) (blen i) x.toNatClampNeg f T la) r u := by
  obtain ⟨h1, v', la', f', h2, h3⟩ := h T hT.ok
  exact ⟨h1, v', la', f', by rw [h2, pF_pF, setR_setR]; rfl, h3⟩
theorem n_inn (hT : TKK (blen i) T) {x r : Int32} {u : MSt} (h : post_X6_readsInn (pF i T v la) (setR a 3 f) q x r u) : PPost i a q (innP (trB i a) (blen i) f T x) r u := by
  obtain ⟨h1, v', la', f', h2, h3⟩ := h T hT.ok
  exact ⟨h1, v', la', f', by rw [h2, pF_pF, setR_setR]; rfl, h3⟩
theorem n_own (hT : TKK (blen i) T) {x y r : Int32} {u : MSt} (h : post_X6_readsOwnPointer (pF i T v la) (setR a 3 f) q x y r u) : PPost i a q (ownP (trB i a) (blen i) x.toNatClampNeg f T y) r u := by
  obtain ⟨h1, v', la', f', h2, h3⟩ := h T hT.ok
  exact ⟨h1, v', la', f', by rw [h2, pF_pF, setR_setR]; rfl, h3⟩
theorem n_prt (hT : TKK (blen i) T) {x y r : Int32} {u : MSt} (h : post_X6_readsPart (pF i T v la) (setR a 3 f) q x y r u) : PPost i a q (prtP (trB i a) (blen i) x f T y) r u := by
  obtain ⟨h1, v', la', f', h2, h3⟩ := h T hT.ok
  exact ⟨h1, v', la', f', by rw [h2, pF_pF, setR_setR]; rfl, h3⟩
theorem n_prk (hT : TKK (blen i) T) {r : Int32} (h : post_X6_partAt (pF i T v la) (setR a 3 f) q r) : r = prtK (trB i a) T := h T hT.ok
theorem isNu_rng {b : Nat → Int32} {lo hi : Int32} (h : isNuF b T lo hi = true) : lo ≤ numF b T ∧ numF b T ≤ hi := by
  unfold isNuF at h
  rw [Bool.and_eq_true] at h
  exact of_decide_eq_true h.2
theorem isPt_1 {y : Int32} (hy : isPt y) : 0 ≤ y + 1 := by
  rcases hy with e | ⟨k, hk, e⟩
  · subst e; decide
  · rw [e, nI_1]; exact nI_pos' (by omega)
theorem isNu_pl {b : Nat → Int32} {lo : Int32} (h : isNuF b T lo 11 = true) (hlo : 0 ≤ lo) : ∃ k, k < 12 ∧ numF b T = nI k := by
  have h1 := isNu_rng h
  exact isPl_of ⟨Int32.le_trans hlo h1.1, h1.2⟩
end NF

theorem nf_X6_readsPointer (post : Int32 → MSt → Prop) (i : Nat → Int32) (a : Nat → Nat → Int32) (q : Nat → Nat) (T : Tk) (v la : Int32) (f : Nat → Int32) (c : Nat) (hB : BOK i) (hT : TKK (blen i) T) (hc : c < 78)
    (P : ∀ r u, PPost i a q (ptrP (trB i a) (blen i) c f T la) r u → post r u) : wp_X6_readsPointer post (pF i T v la) (setR a 3 f) q (nI c) := by
  have hcc : (nI c).toNatClampNeg = c := nI_clamp (by omega)
  refine ⟨⟨hB, T, hT.ok⟩, fun r1 h1 => ?_⟩
  have h1 := n_sgn hT h1
  subst h1
  refine ⟨fun h => ⟨fun z => absurd z h, fun _ => ⟨vp_in_nI hc (by omega), fun a9 e9 => ?_⟩⟩, fun h => ⟨⟨hB, T, hT.ok⟩, fun r3 i4 a5 q6 h3 => ?_⟩⟩
  · rw [hcc, n_upd] at e9
    subst e9
    refine ⟨n_padv hB hT, fun i11 a12 q13 h11 => ⟨isB_1, ?_⟩⟩
    have h11 := n_adv hB hT h11
    cases h11
    refine P _ _ ?_
    unfold ptrP
    rw [if_pos (b2i_1 h)]
    exact ⟨rfl, v, la, _, rfl, fun _ => ⟨rfl, rfl⟩⟩
  · obtain ⟨e3, w, e4, e5⟩ := n_num hT h3
    cases e4
    subst e3
    have h' : ¬ sgnF (trB i a) T 45 = true := by rw [b2i_0 h]; exact Bool.noConfusion
    refine ⟨fun h2 => ⟨fun _ => ⟨vp_in_nI hc (by omega), fun a9 e9 => ?_⟩, fun z => absurd h z⟩, fun h2 => ⟨isB_0, P _ _ ?_⟩⟩
    · rw [hcc, n_upd] at e9
      subst e9
      refine ⟨n_padv hB hT, fun i11 a12 q13 h11 => ⟨isB_1, ?_⟩⟩
      have h11 := n_adv hB hT h11
      cases h11
      refine P _ _ ?_
      unfold ptrP
      rw [if_neg h', if_pos (b2i_1 h2)]
      refine ⟨rfl, w, la, _, rfl, fun _ => ⟨?_, rfl⟩⟩
      show upd f c w = _
      rw [e5 (b2i_1 h2)]
    · unfold ptrP
      rw [if_neg h', if_neg (by rw [b2i_0 h2]; exact Bool.noConfusion)]
      exact ⟨rfl, w, la, f, rfl, fun z => Bool.noConfusion z⟩
theorem nf_X6_readsOwnPointer (post : Int32 → MSt → Prop) (i : Nat → Int32) (a : Nat → Nat → Int32) (q : Nat → Nat) (T : Tk) (v la y x : Int32) (f : Nat → Int32) (hB : BOK i) (hT : TKK (blen i) T) (hx : x = 54 ∨ x = 66) (hy : isPt y)
    (P : ∀ r u, PPost i a q (ownP (trB i a) (blen i) x.toNatClampNeg f T y) r u → post r u) : wp_X6_readsOwnPointer post (pF i T v la) (setR a 3 f) q x y := by
  have hy1 : 0 ≤ y + 1 := isPt_1 hy
  refine ⟨⟨hB, T, hT.ok⟩, fun r1 i2 a3 q4 h1 => ?_⟩
  obtain ⟨e1, w, e2, e3⟩ := n_num hT h1
  cases e2
  subst e1
  refine ⟨fun h => ⟨isB_0, P _ _ ?_⟩, fun h => ?_⟩
  · unfold ownP
    rw [if_neg (by rw [b2i_0 h]; exact Bool.noConfusion)]
    exact ⟨rfl, w, la, f, rfl, fun z => Bool.noConfusion z⟩
  have hN := b2i_1 h
  obtain ⟨k, hk, ek⟩ := isNu_pl hN hy1
  have ew : w = nI k := (e3 hN).trans ek
  subst ew
  have f23 : pF i T (nI k) la 23 = nI k := rfl
  have fa : setR a 3 f 3 = f := setR_self
  rw [f23, a3, nI_clamp (by omega), fa]
  have eo : ownP (trB i a) (blen i) x.toNatClampNeg f T y = if f (3 + k) = 0 then (false, T, f, y) else ptrP (trB i a) (blen i) (x.toNatClampNeg + k) f (nxT (trB i a) (blen i) T) (nI k) := by
    unfold ownP
    rw [if_pos hN, ek, nI_clamp (by omega)]
  refine ⟨vp_in_nI (by omega) (by omega), fun h2 i7 e7 => ?_, fun h2 => ⟨isB_0, P _ _ ?_⟩⟩
  · rw [pF_24] at e7
    subst e7
    refine ⟨n_padv hB hT, fun i9 a10 q11 h9 => ?_⟩
    have h9 := n_adv hB hT h9
    cases h9
    have f24 : pF i (nxT (trB i a) (blen i) T) (nI k) (nI k) 24 = nI k := rfl
    rw [f24]
    have hxk : ∃ m, m + 12 ≤ 78 ∧ x = nI m ∧ x.toNatClampNeg = m := by
      rcases hx with e | e <;> subst e
      · exact ⟨54, by omega, rfl, rfl⟩
      · exact ⟨66, by omega, rfl, rfl⟩
    obtain ⟨m, hm, em, em2⟩ := hxk
    rw [em2] at eo
    rw [em, nI_add]
    refine ⟨⟨hB, ⟨_, hT.nx.ok⟩, m + k, by omega, rfl⟩, fun r12 i13 a14 q15 h12 => ?_⟩
    have h12 := n_ptr hT.nx h12
    rw [nI_clamp (by omega)] at h12
    refine ⟨?_, P _ _ ?_⟩
    · rw [h12.1]; exact isB_b _
    · rw [em2, eo, if_neg h2]; exact h12
  · rw [eo, if_pos h2]
    exact ⟨rfl, _, la, f, rfl, fun z => Bool.noConfusion z⟩
theorem nf_X6_partAt (i : Nat → Int32) (a : Nat → Nat → Int32) (q : Nat → Nat) (hpre : pre_X6_partAt i a q) : wp_X6_partAt (fun r => post_X6_partAt i a q r) i a q := by
  obtain ⟨hB, T, hT⟩ := hpre
  have hL := hB.len.1
  have hu := fun T' h' => TOK.uniq (T := T) hL hT (T' := T') h'
  have P : ∀ r, r = prtK (trB i a) T → post_X6_partAt i a q r := fun r h T' h' => by rw [← hu T' h']; exact h
  have W : ∀ (w : List Int32) (r : Int32), post_X6_isWord i a q w r → r = b2i (wrdF (trB i a) T w) := fun w r h => h T hT
  have N : ∀ {r : Int32} {c : Bool}, r = b2i c → r = 0 → ¬ c = true := fun h z => by rw [b2i_0 (h.symm.trans z)]; exact Bool.noConfusion
  have Y : ∀ {r : Int32} {c : Bool}, r = b2i c → ¬ r = 0 → c = true := fun h z => b2i_1 (fun y => z (h.trans y))
  unfold prtK at P
  refine ⟨⟨hB, ⟨T, hT⟩, by decide⟩, fun r2 h2 => ⟨fun c2 => ?_, fun c2 => P _ (by rw [if_pos (Y (W _ _ h2) c2)])⟩⟩
  rw [if_neg (N (W _ _ h2) c2)] at P
  refine ⟨⟨hB, ⟨T, hT⟩, by decide⟩, fun r2 h2 => ⟨fun c2 => ?_, fun c2 => P _ (by rw [if_pos (Y (W _ _ h2) c2)])⟩⟩
  rw [if_neg (N (W _ _ h2) c2)] at P
  refine ⟨⟨hB, ⟨T, hT⟩, by decide⟩, fun r2 h2 => ⟨fun c2 => ?_, fun c2 => P _ (by rw [if_pos (Y (W _ _ h2) c2)])⟩⟩
  rw [if_neg (N (W _ _ h2) c2)] at P
  refine ⟨⟨hB, ⟨T, hT⟩, by decide⟩, fun r2 h2 => ⟨fun c2 => ?_, fun c2 => P _ (by rw [if_pos (Y (W _ _ h2) c2)])⟩⟩
  rw [if_neg (N (W _ _ h2) c2)] at P
  refine ⟨⟨hB, ⟨T, hT⟩, by decide⟩, fun r2 h2 => ⟨fun c2 => ?_, fun c2 => P _ (by rw [if_pos (Y (W _ _ h2) c2)])⟩⟩
  rw [if_neg (N (W _ _ h2) c2)] at P
  refine ⟨⟨hB, ⟨T, hT⟩, by decide⟩, fun r2 h2 => ⟨fun c2 => P _ (by rw [if_neg (N (W _ _ h2) c2)]), fun c2 => P _ (by rw [if_pos (Y (W _ _ h2) c2)])⟩⟩
theorem pr_X6_partAt (i : Nat → Int32) (a : Nat → Nat → Int32) (q : Nat → Nat)  (hpre : pre_X6_partAt i a q ) : wp_X6_partAt (fun r => post_X6_partAt i a q  r) i a q  := nf_X6_partAt i a q hpre
theorem pr_X6_readsPointer (i : Nat → Int32) (a : Nat → Nat → Int32) (q : Nat → Nat) (x : Int32) (hpre : pre_X6_readsPointer i a q x) : wp_X6_readsPointer (fun r u => post_X6_readsPointer i a q x r u) i a q x := by
  obtain ⟨hB, ⟨T, hT⟩, c, hc, ex⟩ := hpre
  have hu := fun T' h' => TOK.uniq (T := T) hB.len.1 hT (T' := T') h'
  have P : ∀ r u, PPost i a q (ptrP (trB i a) (blen i) c (a 3) T (i 24)) r u → (fun r u => post_X6_readsPointer i a q x r u) r u := fun r u h T' h' => by rw [← hu T' h', ex, nI_clamp (by omega)]; exact h
  have := nf_X6_readsPointer _ i a q T (i 23) (i 24) (a 3) c hB hT.kk hc P
  rw [pF_self hT, setR_id, ← ex] at this
  exact this
theorem pr_X6_readsOwnPointer (i : Nat → Int32) (a : Nat → Nat → Int32) (q : Nat → Nat) (x : Int32) (y : Int32) (hpre : pre_X6_readsOwnPointer i a q x y) : wp_X6_readsOwnPointer (fun r u => post_X6_readsOwnPointer i a q x y r u) i a q x y := by
  obtain ⟨hB, ⟨T, hT⟩, hx, hy⟩ := hpre
  have hu := fun T' h' => TOK.uniq (T := T) hB.len.1 hT (T' := T') h'
  have P : ∀ r u, PPost i a q (ownP (trB i a) (blen i) x.toNatClampNeg (a 3) T y) r u → (fun r u => post_X6_readsOwnPointer i a q x y r u) r u := fun r u h T' h' => by rw [← hu T' h']; exact h
  have := nf_X6_readsOwnPointer _ i a q T (i 23) (i 24) y x (a 3) hB hT.kk hx hy P
  rw [pF_self hT, setR_id] at this
  exact this
