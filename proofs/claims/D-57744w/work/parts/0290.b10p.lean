set_option maxRecDepth 100000
/-! PURE 10: the abstract state and the operations' functions -/
abbrev Row : Type := Nat → Int32
/-- now, kept, the past, (length, buffer), (length, text) -/
abbrev AM : Type := Row × Option Row × List Row × (Nat × Row) × (Nat × Row)
def MAb (i : Nat → Int32) (a : Nat → Nat → Int32) (q : Nat → Nat) (t : Int32) (S : AM) : Prop :=
  i 0 = t ∧ a 1 = S.1 ∧ (S.2.1 = none → i 8 = 0) ∧ (∀ k, S.2.1 = some k → i 8 = 1 ∧ a 2 = k) ∧ HistOK i q ∧ hisL i a q = S.2.2.1 ∧ (i 18 = nI S.2.2.2.1.1 ∧ S.2.2.2.1.1 ≤ 500) ∧ a 8 = S.2.2.2.1.2 ∧ (i 19 = nI S.2.2.2.2.1 ∧ S.2.2.2.2.1 ≤ 800) ∧ a 9 = S.2.2.2.2.2
/-- thrown, result, behind -/
abbrev OR : Type := Int32 × Int32 × AM
def OpR (o : OR) (r : Int32) (u : MSt) : Prop := r = o.2.1 ∧ MAb u.1 u.2.1 u.2.2 o.1 o.2.2
def AM.trB (S : AM) : Row := fun k => if k < S.2.2.2.1.1 then S.2.2.2.1.2 k else 0
/-- the row is changed; the old one goes to the past -/
def AM.chg (S : AM) (f : Row) : AM := (f, S.2.1, push8 S.2.2.1 S.1, S.2.2.2)
def bad (t : Int32) (S : AM) : OR := (t, 0, S)
def opErr (S : AM) : OR := (0, if (prsP S.trB S.2.2.2.1.1).1 = true then -1 else nI (prsP S.trB S.2.2.2.1.1).2.1.1, S)
def opLoad (S : AM) : OR := if (prsP S.trB S.2.2.2.1.1).1 = true then (0, innsN (prsP S.trB S.2.2.2.1.1).2.2.1 12, S.chg (prsP S.trB S.2.2.2.1.1).2.2.1) else bad 1 S
/-- the first of n places from k on without an inn; 12 -/
def empR (f : Row) : Nat → Nat → Nat
  | 0, k => k
  | n + 1, k => if f (3 + k) = 1 then empR f n (k + 1) else k
def opAdd (S : AM) (m : Int32) : OR :=
  if (0 ≤ m ∧ m ≤ 999) ∧ atR S.1 m 12 0 = -1 then
    (if empR S.1 12 0 ≠ 12 ∧ souF S.1 = true then (0, nI (empR S.1 12 0), S.chg (rebF (bldF S.1 (empR S.1 12 0) m))) else bad 2 S)
  else bad 1 S
def opRem (S : AM) (x : Int32) : OR :=
  if hasI S.1 x = true then (if souF S.1 = true then (0, S.1 (39 + x.toNatClampNeg), S.chg (rebF (upd S.1 (3 + x.toNatClampNeg) 0))) else bad 2 S) else bad 1 S
def opOpn (S : AM) (x o : Int32) : OR := if hasI S.1 x = true then (0, b2i (decide (S.1 (27 + x.toNatClampNeg) = 1)), S.chg (upd S.1 (27 + x.toNatClampNeg) o)) else bad 1 S
def opRng (S : AM) (x : Int32) : OR := if 1 ≤ x ∧ x ≤ 999 then (0, S.1 0, S.chg (upd S.1 0 x)) else bad 1 S
abbrev isPtr (x : Int32) : Prop := -1 ≤ x ∧ x ≤ 11
def opPtr (S : AM) (row : Nat) (x y : Int32) : OR := if hasI S.1 x = true then (if isPtr y then (0, S.1 (row + x.toNatClampNeg), S.chg (upd S.1 (row + x.toNatClampNeg) y)) else bad 2 S) else bad 1 S
def opHd (S : AM) (c : Nat) (x : Int32) : OR := if isPtr x then (0, S.1 c, S.chg (upd S.1 c x)) else bad 1 S
def opCnt (S : AM) (x : Int32) : OR := if 0 ≤ x ∧ x ≤ 12 then (0, S.1 53, S.chg (upd S.1 53 x)) else bad 1 S
def opRep (S : AM) : OR := if fauF S.1 = -1 then bad 1 S else (0, rebF S.1 (fauF S.1).toNatClampNeg, S.chg (upd S.1 (fauF S.1).toNatClampNeg (rebF S.1 (fauF S.1).toNatClampNeg)))
def opReb (S : AM) : OR := (0, nI (wroN S.1 27), S.chg (rebF S.1))
def opLet (S : AM) (x y : Int32) : OR :=
  if hasI S.1 x = true then (if 1 ≤ y ∧ y ≤ 99 then (if S.1 (39 + x.toNatClampNeg) + y ≤ 99 then (0, S.1 (39 + x.toNatClampNeg) + y, S.chg (upd S.1 (39 + x.toNatClampNeg) (S.1 (39 + x.toNatClampNeg) + y))) else bad 3 S) else bad 2 S) else bad 1 S
def rdO (f : Row) (x y : Int32) : Bool × Nat × Nat × Int32 × Nat := rdG f y 24 x.toNatClampNeg 0 0
def sndF (f : Row) (x y : Int32) (n : Int32) : Row :=
  let l := f (39 + x.toNatClampNeg)
  let f1 := upd f (39 + x.toNatClampNeg) 0
  let f2 := upd f1 (39 + y.toNatClampNeg) (f1 (39 + y.toNatClampNeg) + l)
  let f3 := upd f2 1 (f2 1 + n)
  upd f3 2 (f3 2 + l)
def opSnd (S : AM) (x y : Int32) : OR :=
  if hasI S.1 x = true ∧ hasI S.1 y = true then
    (if x = y then bad 2 S else if (rdO S.1 x y).1 = true ∧ S.1 (39 + x.toNatClampNeg) ≠ 0 ∧ S.1 (39 + y.toNatClampNeg) + S.1 (39 + x.toNatClampNeg) ≤ 99 then
      (0, nI (24 - (rdO S.1 x y).2.1), S.chg (sndF S.1 x y (nI (24 - (rdO S.1 x y).2.1)))) else bad 3 S)
  else bad 1 S
def opRes (S : AM) : OR := match S.2.1 with
  | none => bad 1 S
  | some k => (0, innsN k 12, S.chg k)
def opUndo (S : AM) : OR := if S.2.2.1 = [] then bad 1 S else (0, nI (S.2.2.1.length - 1), (S.2.2.1.getLastD S.1, S.2.1, S.2.2.1.dropLast, S.2.2.2))
def opUnc (S : AM) : OR := (0, nI S.2.2.1.length, S)
def opSave (S : AM) : OR := (0, innsN S.1 12, (S.1, some S.1, S.2.2))
/-- snow: the first n places -/
def snwF (f : Row) (lo hi : Int32) (n : Nat) : Row := fun k => if 27 ≤ k ∧ k < 27 + n ∧ f (3 + (k - 27)) = 1 ∧ lo ≤ f (15 + (k - 27)) ∧ f (15 + (k - 27)) ≤ hi then 0 else f k
def snwN (f : Row) (lo hi : Int32) : Nat → Int32
  | 0 => 0
  | n + 1 => if f (3 + n) = 1 ∧ lo ≤ f (15 + n) ∧ f (15 + n) ≤ hi then snwN f lo hi n + f (27 + n) else snwN f lo hi n
def opSnw (S : AM) (lo hi : Int32) : OR := if (0 ≤ lo ∧ lo ≤ 999) ∧ lo ≤ hi ∧ hi ≤ 999 then (0, snwN S.1 lo hi 12, S.chg (snwF S.1 lo hi 12)) else bad 1 S
def thwF (f : Row) (n : Nat) : Row := fun k => if 27 ≤ k ∧ k < 27 + n then 1 else f k
def thwN (f : Row) : Nat → Int32
  | 0 => 0
  | n + 1 => thwN f n + if f (3 + n) = 1 ∧ f (27 + n) = 0 then 1 else 0
def opThw (S : AM) : OR := (0, thwN S.1 12, S.chg (thwF S.1 12))
def opApp (S : AM) (v0 v1 v2 v3 v4 : Int32) : OR :=
  if S.2.2.2.1.1 + (byt5 v0 v1 v2 v3 v4).length ≤ 500 then (0, nI (S.2.2.2.1.1 + (byt5 v0 v1 v2 v3 v4).length), (S.1, S.2.1, S.2.2.1, (S.2.2.2.1.1 + (byt5 v0 v1 v2 v3 v4).length, putL S.2.2.2.1.2 S.2.2.2.1.1 (byt5 v0 v1 v2 v3 v4)), S.2.2.2.2)) else bad 1 S
def opTru (S : AM) (v : Int32) : OR := if 0 ≤ v ∧ v ≤ nI S.2.2.2.1.1 then (0, v, (S.1, S.2.1, S.2.2.1, (v.toNatClampNeg, S.2.2.2.1.2), S.2.2.2.2)) else bad 1 S
def pre_X6_errorPosition (i : Nat → Int32) (a : Nat → Nat → Int32) (q : Nat → Nat) : Prop := ∃ t S, MAb i a q t S
def post_X6_errorPosition (i : Nat → Int32) (a : Nat → Nat → Int32) (q : Nat → Nat) (r : Int32) (u : MSt) : Prop := ∀ t S, MAb i a q t S → OpR (opErr S) r u
def pre_X6_load (i : Nat → Int32) (a : Nat → Nat → Int32) (q : Nat → Nat) : Prop := ∃ t S, MAb i a q t S
def post_X6_load (i : Nat → Int32) (a : Nat → Nat → Int32) (q : Nat → Nat) (r : Int32) (u : MSt) : Prop := ∀ t S, MAb i a q t S → OpR (opLoad S) r u
def pre_X6_addInn (i : Nat → Int32) (a : Nat → Nat → Int32) (q : Nat → Nat) (_ : Int32) : Prop := ∃ t S, MAb i a q t S
def post_X6_addInn (i : Nat → Int32) (a : Nat → Nat → Int32) (q : Nat → Nat) (x : Int32) (r : Int32) (u : MSt) : Prop := ∀ t S, MAb i a q t S → OpR (opAdd S x) r u
def pre_X6_removeInn (i : Nat → Int32) (a : Nat → Nat → Int32) (q : Nat → Nat) (_ : Int32) : Prop := ∃ t S, MAb i a q t S
def post_X6_removeInn (i : Nat → Int32) (a : Nat → Nat → Int32) (q : Nat → Nat) (x : Int32) (r : Int32) (u : MSt) : Prop := ∀ t S, MAb i a q t S → OpR (opRem S x) r u
def pre_X6_openInn (i : Nat → Int32) (a : Nat → Nat → Int32) (q : Nat → Nat) (_ : Int32) : Prop := ∃ t S, MAb i a q t S
def post_X6_openInn (i : Nat → Int32) (a : Nat → Nat → Int32) (q : Nat → Nat) (x : Int32) (r : Int32) (u : MSt) : Prop := ∀ t S, MAb i a q t S → OpR (opOpn S x 1) r u
def pre_X6_closeInn (i : Nat → Int32) (a : Nat → Nat → Int32) (q : Nat → Nat) (_ : Int32) : Prop := ∃ t S, MAb i a q t S
def post_X6_closeInn (i : Nat → Int32) (a : Nat → Nat → Int32) (q : Nat → Nat) (x : Int32) (r : Int32) (u : MSt) : Prop := ∀ t S, MAb i a q t S → OpR (opOpn S x 0) r u
def pre_X6_snow (i : Nat → Int32) (a : Nat → Nat → Int32) (q : Nat → Nat) (_ _ : Int32) : Prop := ∃ t S, MAb i a q t S
def post_X6_snow (i : Nat → Int32) (a : Nat → Nat → Int32) (q : Nat → Nat) (x y : Int32) (r : Int32) (u : MSt) : Prop := ∀ t S, MAb i a q t S → OpR (opSnw S x y) r u
def pre_X6_thaw (i : Nat → Int32) (a : Nat → Nat → Int32) (q : Nat → Nat) : Prop := ∃ t S, MAb i a q t S
def post_X6_thaw (i : Nat → Int32) (a : Nat → Nat → Int32) (q : Nat → Nat) (r : Int32) (u : MSt) : Prop := ∀ t S, MAb i a q t S → OpR (opThw S) r u
def pre_X6_setRange (i : Nat → Int32) (a : Nat → Nat → Int32) (q : Nat → Nat) (_ : Int32) : Prop := ∃ t S, MAb i a q t S
def post_X6_setRange (i : Nat → Int32) (a : Nat → Nat → Int32) (q : Nat → Nat) (x : Int32) (r : Int32) (u : MSt) : Prop := ∀ t S, MAb i a q t S → OpR (opRng S x) r u
def pre_X6_setNext (i : Nat → Int32) (a : Nat → Nat → Int32) (q : Nat → Nat) (_ _ : Int32) : Prop := ∃ t S, MAb i a q t S
def post_X6_setNext (i : Nat → Int32) (a : Nat → Nat → Int32) (q : Nat → Nat) (x y : Int32) (r : Int32) (u : MSt) : Prop := ∀ t S, MAb i a q t S → OpR (opPtr S 54 x y) r u
def pre_X6_setSkip (i : Nat → Int32) (a : Nat → Nat → Int32) (q : Nat → Nat) (_ _ : Int32) : Prop := ∃ t S, MAb i a q t S
def post_X6_setSkip (i : Nat → Int32) (a : Nat → Nat → Int32) (q : Nat → Nat) (x y : Int32) (r : Int32) (u : MSt) : Prop := ∀ t S, MAb i a q t S → OpR (opPtr S 66 x y) r u
def pre_X6_setFirst (i : Nat → Int32) (a : Nat → Nat → Int32) (q : Nat → Nat) (_ : Int32) : Prop := ∃ t S, MAb i a q t S
def post_X6_setFirst (i : Nat → Int32) (a : Nat → Nat → Int32) (q : Nat → Nat) (x : Int32) (r : Int32) (u : MSt) : Prop := ∀ t S, MAb i a q t S → OpR (opHd S 51 x) r u
def pre_X6_setSecond (i : Nat → Int32) (a : Nat → Nat → Int32) (q : Nat → Nat) (_ : Int32) : Prop := ∃ t S, MAb i a q t S
def post_X6_setSecond (i : Nat → Int32) (a : Nat → Nat → Int32) (q : Nat → Nat) (x : Int32) (r : Int32) (u : MSt) : Prop := ∀ t S, MAb i a q t S → OpR (opHd S 52 x) r u
def pre_X6_setStoredCount (i : Nat → Int32) (a : Nat → Nat → Int32) (q : Nat → Nat) (_ : Int32) : Prop := ∃ t S, MAb i a q t S
def post_X6_setStoredCount (i : Nat → Int32) (a : Nat → Nat → Int32) (q : Nat → Nat) (x : Int32) (r : Int32) (u : MSt) : Prop := ∀ t S, MAb i a q t S → OpR (opCnt S x) r u
def pre_X6_repair (i : Nat → Int32) (a : Nat → Nat → Int32) (q : Nat → Nat) : Prop := ∃ t S, MAb i a q t S
def post_X6_repair (i : Nat → Int32) (a : Nat → Nat → Int32) (q : Nat → Nat) (r : Int32) (u : MSt) : Prop := ∀ t S, MAb i a q t S → OpR (opRep S) r u
def pre_X6_rebuild (i : Nat → Int32) (a : Nat → Nat → Int32) (q : Nat → Nat) : Prop := ∃ t S, MAb i a q t S
def post_X6_rebuild (i : Nat → Int32) (a : Nat → Nat → Int32) (q : Nat → Nat) (r : Int32) (u : MSt) : Prop := ∀ t S, MAb i a q t S → OpR (opReb S) r u
def pre_X6_leaveLetters (i : Nat → Int32) (a : Nat → Nat → Int32) (q : Nat → Nat) (_ _ : Int32) : Prop := ∃ t S, MAb i a q t S
def post_X6_leaveLetters (i : Nat → Int32) (a : Nat → Nat → Int32) (q : Nat → Nat) (x y : Int32) (r : Int32) (u : MSt) : Prop := ∀ t S, MAb i a q t S → OpR (opLet S x y) r u
def pre_X6_send (i : Nat → Int32) (a : Nat → Nat → Int32) (q : Nat → Nat) (_ _ : Int32) : Prop := ∃ t S, MAb i a q t S
def post_X6_send (i : Nat → Int32) (a : Nat → Nat → Int32) (q : Nat → Nat) (x y : Int32) (r : Int32) (u : MSt) : Prop := ∀ t S, MAb i a q t S → OpR (opSnd S x y) r u
def pre_X6_restore (i : Nat → Int32) (a : Nat → Nat → Int32) (q : Nat → Nat) : Prop := ∃ t S, MAb i a q t S
def post_X6_restore (i : Nat → Int32) (a : Nat → Nat → Int32) (q : Nat → Nat) (r : Int32) (u : MSt) : Prop := ∀ t S, MAb i a q t S → OpR (opRes S) r u
def pre_X6_undo (i : Nat → Int32) (a : Nat → Nat → Int32) (q : Nat → Nat) : Prop := ∃ t S, MAb i a q t S
def post_X6_undo (i : Nat → Int32) (a : Nat → Nat → Int32) (q : Nat → Nat) (r : Int32) (u : MSt) : Prop := ∀ t S, MAb i a q t S → OpR (opUndo S) r u
def pre_X6_undoCount (i : Nat → Int32) (a : Nat → Nat → Int32) (q : Nat → Nat) : Prop := ∃ t S, MAb i a q t S
def post_X6_undoCount (i : Nat → Int32) (a : Nat → Nat → Int32) (q : Nat → Nat) (r : Int32) (u : MSt) : Prop := ∀ t S, MAb i a q t S → OpR (opUnc S) r u
def pre_X6_save (i : Nat → Int32) (a : Nat → Nat → Int32) (q : Nat → Nat) : Prop := ∃ t S, MAb i a q t S
def post_X6_save (i : Nat → Int32) (a : Nat → Nat → Int32) (q : Nat → Nat) (r : Int32) (u : MSt) : Prop := ∀ t S, MAb i a q t S → OpR (opSave S) r u
def pre_X6_setsOpen (i : Nat → Int32) (a : Nat → Nat → Int32) (q : Nat → Nat) (_ _ : Int32) : Prop := ∃ S, MAb i a q 0 S
def post_X6_setsOpen (i : Nat → Int32) (a : Nat → Nat → Int32) (q : Nat → Nat) (x y : Int32) (r : Int32) (u : MSt) : Prop := ∀ S, MAb i a q 0 S → OpR (opOpn S x y) r u
def pre_X6_overwrites (i : Nat → Int32) (a : Nat → Nat → Int32) (q : Nat → Nat) (x _ : Int32) : Prop := (∃ S, MAb i a q 0 S) ∧ ∃ c, c < 78 ∧ x = nI c
def post_X6_overwrites (i : Nat → Int32) (a : Nat → Nat → Int32) (q : Nat → Nat) (x y : Int32) (r : Int32) (u : MSt) : Prop := ∀ S, MAb i a q 0 S → OpR (0, S.1 x.toNatClampNeg, S.chg (upd S.1 x.toNatClampNeg y)) r u
def wp_X6_errorPosition (post : Int32 → MSt → Prop) (i : Nat → Int32) (a : Nat → Nat → Int32) (q : Nat → Nat)  : Prop :=
  ∀ i1, i1 = upd i 0 0 → pre_X6_reads i1 a q  ∧ ∀ r2 i3 a4 q5, post_X6_reads i1 a q  r2 (i3, a4, q5) → (r2 = 0 → post (i3 21) (i3, a4, q5)) ∧ (¬ r2 = 0 → post (-1) (i3, a4, q5))

def wp_X6_load (post : Int32 → MSt → Prop) (i : Nat → Int32) (a : Nat → Nat → Int32) (q : Nat → Nat)  : Prop :=
  ∀ i1, i1 = upd i 0 0 → pre_X6_reads i1 a q  ∧ ∀ r2 i3 a4 q5, post_X6_reads i1 a q  r2 (i3, a4, q5) → (¬ r2 = 0 → pre_X6_remembers i3 a4 q5  ∧ ∀ i8 a9 q10, post_X6_remembers i3 a4 q5  (i8, a9, q10) → ∀ i12 a13 q14, post_X6_copies i8 a9 q10 3 1 (i12, a13, q14) → ∀ r15, post_X6_innsOf i12 a13 q14 1 r15 → post r15 (i12, a13, q14)) ∧ (r2 = 0 → ∀ r16 i17 a18 q19, post_X6_fails i3 a4 q5 1 r16 (i17, a18, q19) → post r16 (i17, a18, q19))

def wp_X6_setRange (post : Int32 → MSt → Prop) (i : Nat → Int32) (a : Nat → Nat → Int32) (q : Nat → Nat) (x : Int32) : Prop :=
  ∀ i1, i1 = upd i 0 0 → ∀ r2, post_X6_isIn  x.toInt64 1 999 r2 → (¬ r2 = 0 → pre_X6_remembers i1 a q  ∧ ∀ i5 a6 q7, post_X6_remembers i1 a q  (i5, a6, q7) → vp_in 0 78 ∧ ∀ z8, z8 = (a6 1 (0 : Int32).toNatClampNeg) → vp_in 0 78 ∧ ∀ a9, a9 = updA a6 1 (0 : Int32).toNatClampNeg x → post z8 (i5, a9, q7)) ∧ (r2 = 0 → ∀ r10 i11 a12 q13, post_X6_fails i1 a q 1 r10 (i11, a12, q13) → post r10 (i11, a12, q13))

def wp_X6_overwrites (post : Int32 → MSt → Prop) (i : Nat → Int32) (a : Nat → Nat → Int32) (q : Nat → Nat) (x : Int32) (y : Int32) : Prop :=
  pre_X6_remembers i a q  ∧ ∀ i2 a3 q4, post_X6_remembers i a q  (i2, a3, q4) → vp_in x 78 ∧ ∀ z5, z5 = (a3 1 x.toNatClampNeg) → vp_in x 78 ∧ ∀ a6, a6 = updA a3 1 x.toNatClampNeg y → post z5 (i2, a6, q4)

def wp_X6_setNext (post : Int32 → MSt → Prop) (i : Nat → Int32) (a : Nat → Nat → Int32) (q : Nat → Nat) (x : Int32) (y : Int32) : Prop :=
  ∀ i1, i1 = upd i 0 0 → ∀ r2, post_X6_hasInnAt i1 a q 1 x r2 → (¬ r2 = 0 → ∀ r4, post_X6_isPointer  y r4 → (r4 = 0 → ∀ r6 i7 a8 q9, post_X6_fails i1 a q 2 r6 (i7, a8, q9) → post r6 (i7, a8, q9)) ∧ (¬ r4 = 0 → pre_X6_overwrites i1 a q (54 + x) y ∧ ∀ r10 i11 a12 q13, post_X6_overwrites i1 a q (54 + x) y r10 (i11, a12, q13) → post r10 (i11, a12, q13))) ∧ (r2 = 0 → ∀ r14 i15 a16 q17, post_X6_fails i1 a q 1 r14 (i15, a16, q17) → post r14 (i15, a16, q17))

def wp_X6_setSkip (post : Int32 → MSt → Prop) (i : Nat → Int32) (a : Nat → Nat → Int32) (q : Nat → Nat) (x : Int32) (y : Int32) : Prop :=
  ∀ i1, i1 = upd i 0 0 → ∀ r2, post_X6_hasInnAt i1 a q 1 x r2 → (¬ r2 = 0 → ∀ r4, post_X6_isPointer  y r4 → (r4 = 0 → ∀ r6 i7 a8 q9, post_X6_fails i1 a q 2 r6 (i7, a8, q9) → post r6 (i7, a8, q9)) ∧ (¬ r4 = 0 → pre_X6_overwrites i1 a q (66 + x) y ∧ ∀ r10 i11 a12 q13, post_X6_overwrites i1 a q (66 + x) y r10 (i11, a12, q13) → post r10 (i11, a12, q13))) ∧ (r2 = 0 → ∀ r14 i15 a16 q17, post_X6_fails i1 a q 1 r14 (i15, a16, q17) → post r14 (i15, a16, q17))

def wp_X6_setFirst (post : Int32 → MSt → Prop) (i : Nat → Int32) (a : Nat → Nat → Int32) (q : Nat → Nat) (x : Int32) : Prop :=
  ∀ i1, i1 = upd i 0 0 → ∀ r2, post_X6_isPointer  x r2 → (r2 = 0 → ∀ r4 i5 a6 q7, post_X6_fails i1 a q 1 r4 (i5, a6, q7) → post r4 (i5, a6, q7)) ∧ (¬ r2 = 0 → pre_X6_overwrites i1 a q 51 x ∧ ∀ r8 i9 a10 q11, post_X6_overwrites i1 a q 51 x r8 (i9, a10, q11) → post r8 (i9, a10, q11))

def wp_X6_setSecond (post : Int32 → MSt → Prop) (i : Nat → Int32) (a : Nat → Nat → Int32) (q : Nat → Nat) (x : Int32) : Prop :=
  ∀ i1, i1 = upd i 0 0 → ∀ r2, post_X6_isPointer  x r2 → (r2 = 0 → ∀ r4 i5 a6 q7, post_X6_fails i1 a q 1 r4 (i5, a6, q7) → post r4 (i5, a6, q7)) ∧ (¬ r2 = 0 → pre_X6_overwrites i1 a q 52 x ∧ ∀ r8 i9 a10 q11, post_X6_overwrites i1 a q 52 x r8 (i9, a10, q11) → post r8 (i9, a10, q11))

def wp_X6_setStoredCount (post : Int32 → MSt → Prop) (i : Nat → Int32) (a : Nat → Nat → Int32) (q : Nat → Nat) (x : Int32) : Prop :=
  ∀ i1, i1 = upd i 0 0 → ∀ r2, post_X6_isIn  x.toInt64 0 12 r2 → (r2 = 0 → ∀ r4 i5 a6 q7, post_X6_fails i1 a q 1 r4 (i5, a6, q7) → post r4 (i5, a6, q7)) ∧ (¬ r2 = 0 → pre_X6_overwrites i1 a q 53 x ∧ ∀ r8 i9 a10 q11, post_X6_overwrites i1 a q 53 x r8 (i9, a10, q11) → post r8 (i9, a10, q11))

def wpb_X6_setsOpen_40 (post : Int32 → MSt → Prop)  (x : Int32) (y : Int32) (i : Nat → Int32) (a : Nat → Nat → Int32) (q : Nat → Nat) (s0 : Int32) : Prop :=
  vp_in (27 + x) 78 ∧ ∀ a9, a9 = updA a 1 (27 + x).toNatClampNeg y → isB s0 ∧ post s0 (i, a9, q)
def wp_X6_setsOpen (post : Int32 → MSt → Prop) (i : Nat → Int32) (a : Nat → Nat → Int32) (q : Nat → Nat) (x : Int32) (y : Int32) : Prop :=
  ∀ r1, post_X6_hasInnAt i a q 1 x r1 → (¬ r1 = 0 → pre_X6_remembers i a q  ∧ ∀ i4 a5 q6, post_X6_remembers i a q  (i4, a5, q6) → vp_in (27 + x) 78 ∧ (¬ (a5 1 (27 + x).toNatClampNeg) = 1 → wpb_X6_setsOpen_40 post  x y i4 a5 q6 0) ∧ ((a5 1 (27 + x).toNatClampNeg) = 1 → wpb_X6_setsOpen_40 post  x y i4 a5 q6 1)) ∧ (r1 = 0 → ∀ i8, i8 = upd i 0 1 → isB 0 ∧ post 0 (i8, a, q))

def wp_X6_openInn (post : Int32 → MSt → Prop) (i : Nat → Int32) (a : Nat → Nat → Int32) (q : Nat → Nat) (x : Int32) : Prop :=
  ∀ i1, i1 = upd i 0 0 → pre_X6_setsOpen i1 a q x 1 ∧ ∀ r2 i3 a4 q5, post_X6_setsOpen i1 a q x 1 r2 (i3, a4, q5) → isB r2 ∧ post r2 (i3, a4, q5)

def wp_X6_closeInn (post : Int32 → MSt → Prop) (i : Nat → Int32) (a : Nat → Nat → Int32) (q : Nat → Nat) (x : Int32) : Prop :=
  ∀ i1, i1 = upd i 0 0 → pre_X6_setsOpen i1 a q x 0 ∧ ∀ r2 i3 a4 q5, post_X6_setsOpen i1 a q x 0 r2 (i3, a4, q5) → isB r2 ∧ post r2 (i3, a4, q5)
theorem hisL_congr {i i' : Nat → Int32} {a a' : Nat → Nat → Int32} {q : Nat → Nat} (h : HistOK i q) (h7 : i' 7 = i 7) (ha : ∀ j, 10 ≤ j → j < 18 → a' j = a j) : hisL i' a' q = hisL i a q := by
  unfold hisL
  rw [h7]
  refine List.map_congr_left (fun k hk => ha _ ?_ ?_)
  · obtain ⟨⟨n, hn, e⟩, h2, -⟩ := h
    rw [e, nI_clamp (by omega)] at hk
    exact (h2 k (by have := List.mem_range.mp hk; omega)).1
  · obtain ⟨⟨n, hn, e⟩, h2, -⟩ := h
    rw [e, nI_clamp (by omega)] at hk
    exact (h2 k (by have := List.mem_range.mp hk; omega)).2
theorem HistOK.congr {i i' : Nat → Int32} {q : Nat → Nat} (h : HistOK i q) (h7 : i' 7 = i 7) : HistOK i' q := by
  obtain ⟨h1, h2⟩ := h
  exact ⟨by rw [h7]; exact h1, h2⟩
section MAB
variable {i : Nat → Int32} {a : Nat → Nat → Int32} {q : Nat → Nat} {t : Int32} {S : AM}
theorem MAb.bok (h : MAb i a q t S) : BOK i := ⟨_, h.2.2.2.2.2.2.1.2, h.2.2.2.2.2.2.1.1⟩
theorem MAb.hbl (h : MAb i a q t S) : blen i = S.2.2.2.1.1 := by
  unfold blen
  rw [h.2.2.2.2.2.2.1.1, nI_clamp (by have := h.2.2.2.2.2.2.1.2; omega)]
theorem MAb.htb (h : MAb i a q t S) : trB i a = S.trB := by
  unfold trB AM.trB
  rw [h.hbl, h.2.2.2.2.2.2.2.1]
theorem MAb.his (h : MAb i a q t S) : HistOK i q := h.2.2.2.2.1
/-- only the work's numbers and rows are changed -/
theorem MAb.scr (h : MAb i a q t S) {i' : Nat → Int32} {a' : Nat → Nat → Int32} {t' : Int32} (h0 : i' 0 = t') (hi : i' 7 = i 7 ∧ i' 8 = i 8 ∧ i' 18 = i 18 ∧ i' 19 = i 19) (ha : ∀ j, j ≠ 3 → j ≠ 4 → j ≠ 5 → j ≠ 7 → a' j = a j) : MAb i' a' q t' S := by
  obtain ⟨-, h1, h2, h3, h4, h5, h6, h7, h8, h9⟩ := h
  refine ⟨h0, by rw [ha 1 (by decide) (by decide) (by decide) (by decide)]; exact h1, fun e => hi.2.1.trans (h2 e), fun k e => ⟨hi.2.1.trans (h3 k e).1, by rw [ha 2 (by decide) (by decide) (by decide) (by decide)]; exact (h3 k e).2⟩, h4.congr hi.1, ?_, ⟨hi.2.2.1.trans h6.1, h6.2⟩, by rw [ha 8 (by decide) (by decide) (by decide) (by decide)]; exact h7, ⟨hi.2.2.2.trans h8.1, h8.2⟩, by rw [ha 9 (by decide) (by decide) (by decide) (by decide)]; exact h9⟩
  rw [← h5]
  exact hisL_congr h4 hi.1 (fun j h1 h2 => ha j (by omega) (by omega) (by omega) (by omega))
theorem MAb.thr (h : MAb i a q t S) {t' : Int32} : MAb (upd i 0 t') a q t' S := h.scr rfl ⟨rfl, rfl, rfl, rfl⟩ (fun _ _ _ _ _ => rfl)
theorem MAb.rem (h : MAb i a q t S) {i' : Nat → Int32} {a' : Nat → Nat → Int32} {q' : Nat → Nat} (hu : post_X6_remembers i a q (i', a', q')) : MAb i' a' q' t (S.chg S.1) := by
  obtain ⟨g1, g2, g3, g4⟩ := hu
  obtain ⟨h0, h1, h2, h3, h4, h5, h6, h7, h8, h9⟩ := h
  dsimp only at g1 g2 g3 g4
  refine ⟨by rw [g2 0 (by decide)]; exact h0, by rw [g3 1 (by decide)]; exact h1, fun e => by rw [g2 8 (by decide)]; exact h2 e, fun k e => by rw [g2 8 (by decide), g3 2 (by decide)]; exact h3 k e, g1, ?_, by rw [g2 18 (by decide)]; exact h6, by rw [g3 8 (by decide)]; exact h7, by rw [g2 19 (by decide)]; exact h8, by rw [g3 9 (by decide)]; exact h9⟩
  rw [g4, h5, h1]; rfl
theorem MAb.row (h : MAb i a q t S) (f : Row) : MAb i (setR a 1 f) q t (f, S.2) := by
  obtain ⟨h0, h1, h2, h3, h4, h5, h6, h7, h8, h9⟩ := h
  exact ⟨h0, setR_self, h2, h3, h4, (hisL_congr h4 rfl (fun j h1 h2 => setR_ne (by omega))).trans h5, h6, h7, h8, h9⟩
theorem MAb.set (h : MAb i a q t S) {k : Nat} {x : Int32} : MAb i (updA a 1 k x) q t (upd S.1 k x, S.2) := by
  rw [updA_setR, h.2.1]
  exact h.row _
theorem MAb.pr (h : MAb i a q t S) : pre_X6_remembers i a q := h.his
theorem MAb.fail (h : MAb i a q t S) {w r : Int32} {u : MSt} (e : post_X6_fails i a q w r u) : OpR (bad w S) r u := by
  obtain ⟨e1, e2⟩ := e
  rw [e2]
  exact ⟨e1, h.thr⟩
/-- behind a parse -/
theorem MAb.prs (h : MAb i a q t S) {T : Tk} {v la : Int32} {f : Row} : MAb (pF i T v la) (setR a 3 f) q t S :=
  h.scr h.1 ⟨rfl, rfl, rfl, rfl⟩ (fun _ h _ _ _ => setR_ne h)
end MAB
theorem isPtr_of {x r : Int32} (h : post_X6_isPointer x r) : r = b2i (decide (isPtr x)) := h
theorem isPtr_pt {x : Int32} (h : isPtr x) : isPt x := by
  by_cases e : x = -1
  · exact Or.inl e
  · refine Or.inr (isPl_of ⟨?_, h.2⟩)
    have h1 := h.1
    rw [Int32.le_iff_toInt_le] at h1 ⊢
    have h2 : x.toInt ≠ -1 := fun z => e (Int32.toInt_inj.mp z)
    have h3 : (-1 : Int32).toInt = -1 := rfl
    have h4 : (0 : Int32).toInt = 0 := rfl
    omega
theorem pr_X6_errorPosition (i : Nat → Int32) (a : Nat → Nat → Int32) (q : Nat → Nat)  (hpre : pre_X6_errorPosition i a q ) : wp_X6_errorPosition (fun r u => post_X6_errorPosition i a q  r u) i a q  := by
  obtain ⟨t0, S0, h0⟩ := hpre
  intro i1 e1
  subst e1
  refine ⟨h0.bok, fun r2 i3 a4 q5 h2 => ?_⟩
  obtain ⟨e1, v, la, f, e2, -⟩ := h2
  cases e2
  have key : ∀ r, r = (if (prsP (trB i a) (blen i)).1 = true then -1 else nI (prsP (trB i a) (blen i)).2.1.1) → post_X6_errorPosition i a q r (pF (upd i 0 0) (prsP (trB i a) (blen i)).2.1 v la, setR a 3 f, q) := by
    intro r er t S hS
    rw [hS.htb, hS.hbl] at er ⊢
    exact ⟨er, hS.thr.prs⟩
  have e1 : r2 = b2i (prsP (trB i a) (blen i)).1 := e1
  rw [e1]
  exact ⟨fun c => key _ (by rw [if_neg (b2i_f c)]; rfl), fun c => key _ (by rw [if_pos (b2i_1 c)])⟩
theorem pr_X6_load (i : Nat → Int32) (a : Nat → Nat → Int32) (q : Nat → Nat)  (hpre : pre_X6_load i a q ) : wp_X6_load (fun r u => post_X6_load i a q  r u) i a q  := by
  obtain ⟨t0, S0, h0⟩ := hpre
  intro i1 e1
  subst e1
  refine ⟨h0.bok, fun r2 i3 a4 q5 h2 => ?_⟩
  obtain ⟨e1, v, la, f, e2, e3⟩ := h2
  cases e2
  have e1 : r2 = b2i (prsP (trB i a) (blen i)).1 := e1
  have e3 : (prsP (trB i a) (blen i)).1 = true → f = (prsP (trB i a) (blen i)).2.2.1 ∧ la = (prsP (trB i a) (blen i)).2.2.2 := e3
  rw [e1]
  refine ⟨fun c => ⟨(h0.thr (t' := 0)).prs.pr, fun i8 a9 q10 h8 i12 a13 q14 h12 r15 h15 t S hS => ?_⟩, fun c r16 i17 a18 q19 h16 t S hS => ?_⟩
  · have h12 : (i12, a13, q14) = (i8, setR a9 1 (a9 3), q10) := h12
    cases h12
    have h15 : r15 = innsN (setR a9 1 (a9 3) 1) 12 := h15
    rw [setR_self] at h15
    have g3 : a9 3 = f := (h8.2.2.1 3 (by decide)).trans setR_self
    have g4 := (e3 (b2i_1 c)).1
    rw [g4] at g3
    unfold opLoad
    rw [← hS.htb, ← hS.hbl, if_pos (b2i_1 c)]
    refine ⟨by rw [h15, g3], ?_⟩
    have := ((hS.thr (t' := 0)).prs.rem h8).row (a9 3)
    rw [g3] at this ⊢
    exact this
  · unfold opLoad
    rw [← hS.htb, ← hS.hbl, if_neg (b2i_f c)]
    exact (hS.thr (t' := 0)).prs.fail h16
theorem pr_X6_setRange (i : Nat → Int32) (a : Nat → Nat → Int32) (q : Nat → Nat) (x : Int32) (hpre : pre_X6_setRange i a q x) : wp_X6_setRange (fun r u => post_X6_setRange i a q x r u) i a q x := by
  obtain ⟨t0, S0, h0⟩ := hpre
  intro i1 e1 r2 h2
  subst e1
  have h2 := isIn_of (1 : Int32) (999 : Int32) rfl rfl h2
  subst h2
  refine ⟨fun c => ⟨(h0.thr (t' := 0)).pr, fun i5 a6 q7 h5 => ⟨by unfold vp_in; decide, fun z8 e8 => ⟨by unfold vp_in; decide, fun a9 e9 t S hS => ?_⟩⟩⟩, fun c r10 i11 a12 q13 h10 t S hS => ?_⟩
  · unfold opRng
    rw [if_pos (of_decide_eq_true (b2i_1 c))]
    have h6 := (hS.thr (t' := 0)).rem h5
    rw [e9]
    exact ⟨by rw [e8]; show a6 1 0 = _; rw [h6.2.1]; rfl, h6.set⟩
  · unfold opRng
    rw [if_neg (of_decide_eq_false (b2i_0 c))]
    exact (hS.thr (t' := 0)).fail h10
theorem pr_X6_overwrites (i : Nat → Int32) (a : Nat → Nat → Int32) (q : Nat → Nat) (x : Int32) (y : Int32) (hpre : pre_X6_overwrites i a q x y) : wp_X6_overwrites (fun r u => post_X6_overwrites i a q x y r u) i a q x y := by
  obtain ⟨⟨S0, h0⟩, c, hc, ex⟩ := hpre
  refine ⟨h0.pr, fun i2 a3' q4 h2 => ⟨by rw [ex]; exact vp_in_nI hc (by omega), fun z5 e5 => ⟨by rw [ex]; exact vp_in_nI hc (by omega), fun a6 e6 S hS => ?_⟩⟩⟩
  have h6 := hS.rem h2
  rw [e6]
  exact ⟨by rw [e5, h6.2.1]; rfl, h6.set⟩
theorem pr_X6_setNext (i : Nat → Int32) (a : Nat → Nat → Int32) (q : Nat → Nat) (x : Int32) (y : Int32) (hpre : pre_X6_setNext i a q x y) : wp_X6_setNext (fun r u => post_X6_setNext i a q x y r u) i a q x y := by
  obtain ⟨t0, S0, h0⟩ := hpre
  intro i1 e1 r2 h2
  subst e1
  unfold post_X6_hasInnAt at h2
  subst h2
  refine ⟨fun c r4 h4 => ?_, fun c r14 i15 a16 q17 h14 t S hS => ?_⟩
  · have h4 := isPtr_of h4
    subst h4
    refine ⟨fun c2 r6 i7 a8 q9 h6 t S hS => ?_, fun c2 => ?_⟩
    · unfold opPtr
      rw [← hS.2.1, if_pos (b2i_1 c), if_neg (of_decide_eq_false (b2i_0 c2))]
      exact (hS.thr (t' := 0)).fail h6
    · obtain ⟨k, hk, ek⟩ := hasI_pl (b2i_1 c)
      refine ⟨⟨⟨S0, h0.thr⟩, 54 + k, by omega, by rw [ek, a54]⟩, fun r10 i11 a12 q13 h10 t S hS => ?_⟩
      have := h10 S hS.thr
      rw [ek, a54, nI_clamp (by omega)] at this
      unfold opPtr
      rw [← hS.2.1, if_pos (b2i_1 c), if_pos (of_decide_eq_true (b2i_1 c2)), ek, nI_clamp (by omega), hS.2.1]
      exact this
  · unfold opPtr
    rw [← hS.2.1, if_neg (b2i_f c)]
    exact (hS.thr (t' := 0)).fail h14
theorem pr_X6_setSkip (i : Nat → Int32) (a : Nat → Nat → Int32) (q : Nat → Nat) (x : Int32) (y : Int32) (hpre : pre_X6_setSkip i a q x y) : wp_X6_setSkip (fun r u => post_X6_setSkip i a q x y r u) i a q x y := by
  obtain ⟨t0, S0, h0⟩ := hpre
  intro i1 e1 r2 h2
  subst e1
  unfold post_X6_hasInnAt at h2
  subst h2
  refine ⟨fun c r4 h4 => ?_, fun c r14 i15 a16 q17 h14 t S hS => ?_⟩
  · have h4 := isPtr_of h4
    subst h4
    refine ⟨fun c2 r6 i7 a8 q9 h6 t S hS => ?_, fun c2 => ?_⟩
    · unfold opPtr
      rw [← hS.2.1, if_pos (b2i_1 c), if_neg (of_decide_eq_false (b2i_0 c2))]
      exact (hS.thr (t' := 0)).fail h6
    · obtain ⟨k, hk, ek⟩ := hasI_pl (b2i_1 c)
      refine ⟨⟨⟨S0, h0.thr⟩, 66 + k, by omega, by rw [ek, a66]⟩, fun r10 i11 a12 q13 h10 t S hS => ?_⟩
      have := h10 S hS.thr
      rw [ek, a66, nI_clamp (by omega)] at this
      unfold opPtr
      rw [← hS.2.1, if_pos (b2i_1 c), if_pos (of_decide_eq_true (b2i_1 c2)), ek, nI_clamp (by omega), hS.2.1]
      exact this
  · unfold opPtr
    rw [← hS.2.1, if_neg (b2i_f c)]
    exact (hS.thr (t' := 0)).fail h14
theorem pr_X6_setFirst (i : Nat → Int32) (a : Nat → Nat → Int32) (q : Nat → Nat) (x : Int32) (hpre : pre_X6_setFirst i a q x) : wp_X6_setFirst (fun r u => post_X6_setFirst i a q x r u) i a q x := by
  obtain ⟨t0, S0, h0⟩ := hpre
  intro i1 e1 r2 h2
  subst e1
  have h2 := isPtr_of h2
  subst h2
  refine ⟨fun c r4 i5 a6 q7 h4 t S hS => ?_, fun c => ⟨⟨⟨S0, h0.thr⟩, 51, by omega, rfl⟩, fun r8 i9 a10 q11 h8 t S hS => ?_⟩⟩
  · unfold opHd
    rw [if_neg (of_decide_eq_false (b2i_0 c))]
    exact (hS.thr (t' := 0)).fail h4
  · unfold opHd
    rw [if_pos (of_decide_eq_true (b2i_1 c))]
    exact h8 S hS.thr
theorem pr_X6_setSecond (i : Nat → Int32) (a : Nat → Nat → Int32) (q : Nat → Nat) (x : Int32) (hpre : pre_X6_setSecond i a q x) : wp_X6_setSecond (fun r u => post_X6_setSecond i a q x r u) i a q x := by
  obtain ⟨t0, S0, h0⟩ := hpre
  intro i1 e1 r2 h2
  subst e1
  have h2 := isPtr_of h2
  subst h2
  refine ⟨fun c r4 i5 a6 q7 h4 t S hS => ?_, fun c => ⟨⟨⟨S0, h0.thr⟩, 52, by omega, rfl⟩, fun r8 i9 a10 q11 h8 t S hS => ?_⟩⟩
  · unfold opHd
    rw [if_neg (of_decide_eq_false (b2i_0 c))]
    exact (hS.thr (t' := 0)).fail h4
  · unfold opHd
    rw [if_pos (of_decide_eq_true (b2i_1 c))]
    exact h8 S hS.thr
theorem pr_X6_setStoredCount (i : Nat → Int32) (a : Nat → Nat → Int32) (q : Nat → Nat) (x : Int32) (hpre : pre_X6_setStoredCount i a q x) : wp_X6_setStoredCount (fun r u => post_X6_setStoredCount i a q x r u) i a q x := by
  obtain ⟨t0, S0, h0⟩ := hpre
  intro i1 e1 r2 h2
  subst e1
  have h2 := isIn_of (0 : Int32) (12 : Int32) rfl rfl h2
  subst h2
  refine ⟨fun c r4 i5 a6 q7 h4 t S hS => ?_, fun c => ⟨⟨⟨S0, h0.thr⟩, 53, by omega, rfl⟩, fun r8 i9 a10 q11 h8 t S hS => ?_⟩⟩
  · unfold opCnt
    rw [if_neg (of_decide_eq_false (b2i_0 c))]
    exact (hS.thr (t' := 0)).fail h4
  · unfold opCnt
    rw [if_pos (of_decide_eq_true (b2i_1 c))]
    exact h8 S hS.thr
theorem pr_X6_setsOpen (i : Nat → Int32) (a : Nat → Nat → Int32) (q : Nat → Nat) (x : Int32) (y : Int32) (hpre : pre_X6_setsOpen i a q x y) : wp_X6_setsOpen (fun r u => post_X6_setsOpen i a q x y r u) i a q x y := by
  obtain ⟨S0, h0⟩ := hpre
  intro r1 h1
  unfold post_X6_hasInnAt at h1
  subst h1
  refine ⟨fun c => ⟨h0.pr, fun i4 a5 q6 h4 => ?_⟩, fun c i8 e8 => ⟨isB_0, fun S hS => ?_⟩⟩
  · obtain ⟨k, hk, ek⟩ := hasI_pl (b2i_1 c)
    have hin : vp_in (27 + x) 78 := by rw [ek, a27]; exact vp_in_nI (by omega) (by omega)
    have hx : (27 + x).toNatClampNeg = 27 + x.toNatClampNeg := by rw [ek, a27, nI_clamp (by omega), nI_clamp (by omega)]
    refine ⟨hin, fun c2 => ⟨hin, fun a9 e9 => ⟨isB_0, fun S hS => ?_⟩⟩, fun c2 => ⟨hin, fun a9 e9 => ⟨isB_1, fun S hS => ?_⟩⟩⟩
    · have h6 := hS.rem h4
      rw [hx, h6.2.1] at c2
      unfold opOpn
      rw [← hS.2.1, if_pos (b2i_1 c), hS.2.1, e9, hx]
      exact ⟨by rw [decide_eq_false (show ¬ S.1 (27 + x.toNatClampNeg) = 1 from c2)]; rfl, h6.set⟩
    · have h6 := hS.rem h4
      rw [hx, h6.2.1] at c2
      unfold opOpn
      rw [← hS.2.1, if_pos (b2i_1 c), hS.2.1, e9, hx]
      exact ⟨by rw [decide_eq_true (show S.1 (27 + x.toNatClampNeg) = 1 from c2)]; rfl, h6.set⟩
  · unfold opOpn
    rw [← hS.2.1, if_neg (b2i_f c), e8]
    exact ⟨rfl, hS.thr⟩
theorem opOpn_b {S : AM} {x y : Int32} {r : Int32} {u : MSt} (h : OpR (opOpn S x y) r u) : isB r := by
  rw [h.1]
  unfold opOpn
  by_cases c : hasI S.1 x = true
  · rw [if_pos c]; exact isB_b _
  · rw [if_neg c]; exact isB_0
theorem pr_X6_openInn (i : Nat → Int32) (a : Nat → Nat → Int32) (q : Nat → Nat) (x : Int32) (hpre : pre_X6_openInn i a q x) : wp_X6_openInn (fun r u => post_X6_openInn i a q x r u) i a q x := by
  obtain ⟨t0, S0, h0⟩ := hpre
  intro i1 e1
  subst e1
  exact ⟨⟨S0, h0.thr⟩, fun r2 i3 a4 q5 h2 => ⟨opOpn_b (h2 S0 h0.thr), fun t S hS => h2 S hS.thr⟩⟩
theorem pr_X6_closeInn (i : Nat → Int32) (a : Nat → Nat → Int32) (q : Nat → Nat) (x : Int32) (hpre : pre_X6_closeInn i a q x) : wp_X6_closeInn (fun r u => post_X6_closeInn i a q x r u) i a q x := by
  obtain ⟨t0, S0, h0⟩ := hpre
  intro i1 e1
  subst e1
  exact ⟨⟨S0, h0.thr⟩, fun r2 i3 a4 q5 h2 => ⟨opOpn_b (h2 S0 h0.thr), fun t S hS => h2 S hS.thr⟩⟩
