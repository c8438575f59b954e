set_option maxRecDepth 100000
/-! PURE 12: questions -/
def opHas (S : AM) (x : Int32) : OR := (if 0 ≤ x ∧ x ≤ 11 then 0 else 1, b2i (hasI S.1 x), S)
def opOf (S : AM) (row : Nat) (x : Int32) : OR := if hasI S.1 x = true then (0, S.1 (row + x.toNatClampNeg), S) else bad 1 S
def opIsO (S : AM) (x : Int32) : OR := if hasI S.1 x = true then (0, b2i (decide (S.1 (27 + x.toNatClampNeg) = 1)), S) else bad 1 S
def opnN (f : Row) : Nat → Int32
  | 0 => 0
  | k + 1 => opnN f k + if f (3 + k) = 1 then f (27 + k) else 0
def totN (f : Row) : Nat → Int32
  | 0 => 0
  | k + 1 => totN f k + if f (3 + k) = 1 then f (39 + k) else 0
def opChi (S : AM) (x : Int32) : OR := if 0 ≤ x ∧ x ≤ nI (chF S.1).1.length - 1 then (0, nI ((chF S.1).1.getD x.toNatClampNeg 0), S) else bad 1 S
def posL : List Nat → Nat → Nat → Int32
  | [], _, _ => -1
  | y :: t, x, k => if y = x then nI k else posL t x (k + 1)
def opPos (S : AM) (x : Int32) : OR := if hasI S.1 x = true then (0, posL (chF S.1).1 x.toNatClampNeg 0, S) else bad 1 S
def dngO (f : Row) (x : Int32) : Int32 := if x ≠ -1 ∧ hasI f x = false then 1 else 0
def dngF (f : Row) : Nat → Int32
  | 0 => dngO f (f 51) + dngO f (f 52)
  | k + 1 => dngF f k + if f (3 + k) = 1 then dngO f (f (54 + k)) + dngO f (f (66 + k)) else 0
def dscL (f : Row) : Option Nat → List Nat → Int32
  | _, [] => 0
  | none, y :: t => dscL f (some y) t
  | some z, y :: t => (if f (15 + y) < f (15 + z) then 1 else 0) + dscL f (some y) t
def opFty (S : AM) : OR := (0, if fauF S.1 < 54 then -1 else nI (((fauF S.1).toNatClampNeg - 54) % 12), S)
def both (S : AM) (x y : Int32) : Bool := hasI S.1 x && hasI S.1 y
def opRdb (S : AM) (x y : Int32) : OR := if both S x y = true then (0, b2i (rdO S.1 x y).1, S) else bad 1 S
def opRid (S : AM) (x y v : Int32) : OR := if both S x y = true then (0, if (rdO S.1 x y).1 = true then v else -1, S) else bad 1 S
def opStk (S : AM) (x y : Int32) : OR := if both S x y = true then (0, if (rdO S.1 x y).1 = true ∨ (rdO S.1 x y).2.1 = 0 then -1 else nI (rdO S.1 x y).2.2.1, S) else bad 1 S
def post_X6_openOnes (_ : Nat → Int32) (a : Nat → Nat → Int32) (_ : Nat → Nat) (r : Int32) : Prop := r = opnN (a 1) 12
def post_X6_dangles (_ : Nat → Int32) (a : Nat → Nat → Int32) (_ : Nat → Nat) (x r : Int32) : Prop := r = dngO (a 1) x
def post_X6_areInns (_ : Nat → Int32) (a : Nat → Nat → Int32) (_ : Nat → Nat) (x y r : Int32) : Prop := r = b2i (hasI (a 1) x && hasI (a 1) y)
def pre_X6_ofInn (i : Nat → Int32) (a : Nat → Nat → Int32) (q : Nat → Nat) (x _ : Int32) : Prop := (∃ S, MAb i a q 0 S) ∧ ∃ c, c ≤ 66 ∧ x = nI c
def post_X6_ofInn (i : Nat → Int32) (a : Nat → Nat → Int32) (q : Nat → Nat) (x y r : Int32) (u : MSt) : Prop := ∀ S, MAb i a q 0 S → OpR (opOf S x.toNatClampNeg y) r u
def pre_X6_inns (i : Nat → Int32) (a : Nat → Nat → Int32) (q : Nat → Nat) : Prop := ∃ t S, MAb i a q t S
def post_X6_inns (i : Nat → Int32) (a : Nat → Nat → Int32) (q : Nat → Nat) (r : Int32) (u : MSt) : Prop := ∀ t S, MAb i a q t S → OpR ((0, innsN S.1 12, S)) r u
def pre_X6_hasInn (i : Nat → Int32) (a : Nat → Nat → Int32) (q : Nat → Nat) (_ : Int32) : Prop := ∃ t S, MAb i a q t S
def post_X6_hasInn (i : Nat → Int32) (a : Nat → Nat → Int32) (q : Nat → Nat) (x : Int32) (r : Int32) (u : MSt) : Prop := ∀ t S, MAb i a q t S → OpR (opHas S x) r u
def pre_X6_mile (i : Nat → Int32) (a : Nat → Nat → Int32) (q : Nat → Nat) (_ : Int32) : Prop := ∃ t S, MAb i a q t S
def post_X6_mile (i : Nat → Int32) (a : Nat → Nat → Int32) (q : Nat → Nat) (x : Int32) (r : Int32) (u : MSt) : Prop := ∀ t S, MAb i a q t S → OpR (opOf S 15 x) r u
def pre_X6_next (i : Nat → Int32) (a : Nat → Nat → Int32) (q : Nat → Nat) (_ : Int32) : Prop := ∃ t S, MAb i a q t S
def post_X6_next (i : Nat → Int32) (a : Nat → Nat → Int32) (q : Nat → Nat) (x : Int32) (r : Int32) (u : MSt) : Prop := ∀ t S, MAb i a q t S → OpR (opOf S 54 x) r u
def pre_X6_skip (i : Nat → Int32) (a : Nat → Nat → Int32) (q : Nat → Nat) (_ : Int32) : Prop := ∃ t S, MAb i a q t S
def post_X6_skip (i : Nat → Int32) (a : Nat → Nat → Int32) (q : Nat → Nat) (x : Int32) (r : Int32) (u : MSt) : Prop := ∀ t S, MAb i a q t S → OpR (opOf S 66 x) r u
def pre_X6_isOpen (i : Nat → Int32) (a : Nat → Nat → Int32) (q : Nat → Nat) (_ : Int32) : Prop := ∃ t S, MAb i a q t S
def post_X6_isOpen (i : Nat → Int32) (a : Nat → Nat → Int32) (q : Nat → Nat) (x : Int32) (r : Int32) (u : MSt) : Prop := ∀ t S, MAb i a q t S → OpR (opIsO S x) r u
def pre_X6_letters (i : Nat → Int32) (a : Nat → Nat → Int32) (q : Nat → Nat) (_ : Int32) : Prop := ∃ t S, MAb i a q t S
def post_X6_letters (i : Nat → Int32) (a : Nat → Nat → Int32) (q : Nat → Nat) (x : Int32) (r : Int32) (u : MSt) : Prop := ∀ t S, MAb i a q t S → OpR (opOf S 39 x) r u
def pre_X6_first (i : Nat → Int32) (a : Nat → Nat → Int32) (q : Nat → Nat) : Prop := ∃ t S, MAb i a q t S
def post_X6_first (i : Nat → Int32) (a : Nat → Nat → Int32) (q : Nat → Nat) (r : Int32) (u : MSt) : Prop := ∀ t S, MAb i a q t S → OpR ((0, S.1 51, S)) r u
def pre_X6_second (i : Nat → Int32) (a : Nat → Nat → Int32) (q : Nat → Nat) : Prop := ∃ t S, MAb i a q t S
def post_X6_second (i : Nat → Int32) (a : Nat → Nat → Int32) (q : Nat → Nat) (r : Int32) (u : MSt) : Prop := ∀ t S, MAb i a q t S → OpR ((0, S.1 52, S)) r u
def pre_X6_storedCount (i : Nat → Int32) (a : Nat → Nat → Int32) (q : Nat → Nat) : Prop := ∃ t S, MAb i a q t S
def post_X6_storedCount (i : Nat → Int32) (a : Nat → Nat → Int32) (q : Nat → Nat) (r : Int32) (u : MSt) : Prop := ∀ t S, MAb i a q t S → OpR ((0, S.1 53, S)) r u
def pre_X6_range (i : Nat → Int32) (a : Nat → Nat → Int32) (q : Nat → Nat) : Prop := ∃ t S, MAb i a q t S
def post_X6_range (i : Nat → Int32) (a : Nat → Nat → Int32) (q : Nat → Nat) (r : Int32) (u : MSt) : Prop := ∀ t S, MAb i a q t S → OpR ((0, S.1 0, S)) r u
def pre_X6_openInns (i : Nat → Int32) (a : Nat → Nat → Int32) (q : Nat → Nat) : Prop := ∃ t S, MAb i a q t S
def post_X6_openInns (i : Nat → Int32) (a : Nat → Nat → Int32) (q : Nat → Nat) (r : Int32) (u : MSt) : Prop := ∀ t S, MAb i a q t S → OpR ((0, opnN S.1 12, S)) r u
def pre_X6_innAtMile (i : Nat → Int32) (a : Nat → Nat → Int32) (q : Nat → Nat) (_ : Int32) : Prop := ∃ t S, MAb i a q t S
def post_X6_innAtMile (i : Nat → Int32) (a : Nat → Nat → Int32) (q : Nat → Nat) (x : Int32) (r : Int32) (u : MSt) : Prop := ∀ t S, MAb i a q t S → OpR ((0, atR S.1 x 12 0, S)) r u
def pre_X6_totalLetters (i : Nat → Int32) (a : Nat → Nat → Int32) (q : Nat → Nat) : Prop := ∃ t S, MAb i a q t S
def post_X6_totalLetters (i : Nat → Int32) (a : Nat → Nat → Int32) (q : Nat → Nat) (r : Int32) (u : MSt) : Prop := ∀ t S, MAb i a q t S → OpR ((0, totN S.1 12, S)) r u
def pre_X6_stagesRidden (i : Nat → Int32) (a : Nat → Nat → Int32) (q : Nat → Nat) : Prop := ∃ t S, MAb i a q t S
def post_X6_stagesRidden (i : Nat → Int32) (a : Nat → Nat → Int32) (q : Nat → Nat) (r : Int32) (u : MSt) : Prop := ∀ t S, MAb i a q t S → OpR ((0, S.1 1, S)) r u
def pre_X6_lettersDelivered (i : Nat → Int32) (a : Nat → Nat → Int32) (q : Nat → Nat) : Prop := ∃ t S, MAb i a q t S
def post_X6_lettersDelivered (i : Nat → Int32) (a : Nat → Nat → Int32) (q : Nat → Nat) (r : Int32) (u : MSt) : Prop := ∀ t S, MAb i a q t S → OpR ((0, S.1 2, S)) r u
def pre_X6_isConsistent (i : Nat → Int32) (a : Nat → Nat → Int32) (q : Nat → Nat) : Prop := ∃ t S, MAb i a q t S
def post_X6_isConsistent (i : Nat → Int32) (a : Nat → Nat → Int32) (q : Nat → Nat) (r : Int32) (u : MSt) : Prop := ∀ t S, MAb i a q t S → OpR ((0, b2i (souF S.1), S)) r u
def pre_X6_chainLength (i : Nat → Int32) (a : Nat → Nat → Int32) (q : Nat → Nat) : Prop := ∃ t S, MAb i a q t S
def post_X6_chainLength (i : Nat → Int32) (a : Nat → Nat → Int32) (q : Nat → Nat) (r : Int32) (u : MSt) : Prop := ∀ t S, MAb i a q t S → OpR ((0, nI (chF S.1).1.length, S)) r u
def pre_X6_chainInn (i : Nat → Int32) (a : Nat → Nat → Int32) (q : Nat → Nat) (_ : Int32) : Prop := ∃ t S, MAb i a q t S
def post_X6_chainInn (i : Nat → Int32) (a : Nat → Nat → Int32) (q : Nat → Nat) (x : Int32) (r : Int32) (u : MSt) : Prop := ∀ t S, MAb i a q t S → OpR (opChi S x) r u
def pre_X6_position (i : Nat → Int32) (a : Nat → Nat → Int32) (q : Nat → Nat) (_ : Int32) : Prop := ∃ t S, MAb i a q t S
def post_X6_position (i : Nat → Int32) (a : Nat → Nat → Int32) (q : Nat → Nat) (x : Int32) (r : Int32) (u : MSt) : Prop := ∀ t S, MAb i a q t S → OpR (opPos S x) r u
def pre_X6_hasCycle (i : Nat → Int32) (a : Nat → Nat → Int32) (q : Nat → Nat) : Prop := ∃ t S, MAb i a q t S
def post_X6_hasCycle (i : Nat → Int32) (a : Nat → Nat → Int32) (q : Nat → Nat) (r : Int32) (u : MSt) : Prop := ∀ t S, MAb i a q t S → OpR ((0, b2i (hasI S.1 (chF S.1).2), S)) r u
def pre_X6_danglingPointers (i : Nat → Int32) (a : Nat → Nat → Int32) (q : Nat → Nat) : Prop := ∃ t S, MAb i a q t S
def post_X6_danglingPointers (i : Nat → Int32) (a : Nat → Nat → Int32) (q : Nat → Nat) (r : Int32) (u : MSt) : Prop := ∀ t S, MAb i a q t S → OpR ((0, dngF S.1 12, S)) r u
def pre_X6_wrongValues (i : Nat → Int32) (a : Nat → Nat → Int32) (q : Nat → Nat) : Prop := ∃ t S, MAb i a q t S
def post_X6_wrongValues (i : Nat → Int32) (a : Nat → Nat → Int32) (q : Nat → Nat) (r : Int32) (u : MSt) : Prop := ∀ t S, MAb i a q t S → OpR ((0, nI (wroN S.1 27), S)) r u
def pre_X6_descents (i : Nat → Int32) (a : Nat → Nat → Int32) (q : Nat → Nat) : Prop := ∃ t S, MAb i a q t S
def post_X6_descents (i : Nat → Int32) (a : Nat → Nat → Int32) (q : Nat → Nat) (r : Int32) (u : MSt) : Prop := ∀ t S, MAb i a q t S → OpR ((0, dscL S.1 none (chF S.1).1, S)) r u
def pre_X6_hasSingleFault (i : Nat → Int32) (a : Nat → Nat → Int32) (q : Nat → Nat) : Prop := ∃ t S, MAb i a q t S
def post_X6_hasSingleFault (i : Nat → Int32) (a : Nat → Nat → Int32) (q : Nat → Nat) (r : Int32) (u : MSt) : Prop := ∀ t S, MAb i a q t S → OpR ((0, b2i (decide (fauF S.1 ≠ -1)), S)) r u
def pre_X6_faultyInn (i : Nat → Int32) (a : Nat → Nat → Int32) (q : Nat → Nat) : Prop := ∃ t S, MAb i a q t S
def post_X6_faultyInn (i : Nat → Int32) (a : Nat → Nat → Int32) (q : Nat → Nat) (r : Int32) (u : MSt) : Prop := ∀ t S, MAb i a q t S → OpR (opFty S) r u
def pre_X6_isReachable (i : Nat → Int32) (a : Nat → Nat → Int32) (q : Nat → Nat) (_ _ : Int32) : Prop := ∃ t S, MAb i a q t S
def post_X6_isReachable (i : Nat → Int32) (a : Nat → Nat → Int32) (q : Nat → Nat) (x y : Int32) (r : Int32) (u : MSt) : Prop := ∀ t S, MAb i a q t S → OpR (opRdb S x y) r u
def pre_X6_stages (i : Nat → Int32) (a : Nat → Nat → Int32) (q : Nat → Nat) (_ _ : Int32) : Prop := ∃ t S, MAb i a q t S
def post_X6_stages (i : Nat → Int32) (a : Nat → Nat → Int32) (q : Nat → Nat) (x y : Int32) (r : Int32) (u : MSt) : Prop := ∀ t S, MAb i a q t S → OpR (opRid S x y (nI (24 - (rdO S.1 x y).2.1))) r u
def pre_X6_rideLength (i : Nat → Int32) (a : Nat → Nat → Int32) (q : Nat → Nat) (_ _ : Int32) : Prop := ∃ t S, MAb i a q t S
def post_X6_rideLength (i : Nat → Int32) (a : Nat → Nat → Int32) (q : Nat → Nat) (x y : Int32) (r : Int32) (u : MSt) : Prop := ∀ t S, MAb i a q t S → OpR (opRid S x y (rdO S.1 x y).2.2.2.1) r u
def pre_X6_stuckAt (i : Nat → Int32) (a : Nat → Nat → Int32) (q : Nat → Nat) (_ _ : Int32) : Prop := ∃ t S, MAb i a q t S
def post_X6_stuckAt (i : Nat → Int32) (a : Nat → Nat → Int32) (q : Nat → Nat) (x y : Int32) (r : Int32) (u : MSt) : Prop := ∀ t S, MAb i a q t S → OpR (opStk S x y) r u
def pre_X6_skippingStages (i : Nat → Int32) (a : Nat → Nat → Int32) (q : Nat → Nat) (_ _ : Int32) : Prop := ∃ t S, MAb i a q t S
def post_X6_skippingStages (i : Nat → Int32) (a : Nat → Nat → Int32) (q : Nat → Nat) (x y : Int32) (r : Int32) (u : MSt) : Prop := ∀ t S, MAb i a q t S → OpR (opRid S x y (nI (rdO S.1 x y).2.2.2.2)) r u
def wp_X6_inns (post : Int32 → MSt → Prop) (i : Nat → Int32) (a : Nat → Nat → Int32) (q : Nat → Nat)  : Prop :=
  ∀ i1, i1 = upd i 0 0 → ∀ r2, post_X6_innsOf i1 a q 1 r2 → post r2 (i1, a, q)

def wpb_X6_hasInn_18 (post : Int32 → MSt → Prop)  (x : Int32) (i : Nat → Int32) (a : Nat → Nat → Int32) (q : Nat → Nat) (s0 : Int32) : Prop :=
  ∀ i3, i3 = upd i 0 s0 → ∀ r4, post_X6_hasInnAt i3 a q 1 x r4 → isB r4 ∧ post r4 (i3, a, q)
def wp_X6_hasInn (post : Int32 → MSt → Prop) (i : Nat → Int32) (a : Nat → Nat → Int32) (q : Nat → Nat) (x : Int32) : Prop :=
  ∀ r1, post_X6_isIn  x.toInt64 0 11 r1 → (r1 = 0 → wpb_X6_hasInn_18 post  x i a q 1) ∧ (¬ r1 = 0 → wpb_X6_hasInn_18 post  x i a q 0)

def wp_X6_ofInn (post : Int32 → MSt → Prop) (i : Nat → Int32) (a : Nat → Nat → Int32) (q : Nat → Nat) (x : Int32) (y : Int32) : Prop :=
  ∀ r1, post_X6_hasInnAt i a q 1 y r1 → (r1 = 0 → ∀ r3 i4 a5 q6, post_X6_fails i a q 1 r3 (i4, a5, q6) → post r3 (i4, a5, q6)) ∧ (¬ r1 = 0 → vp_in (x + y) 78 ∧ post (a 1 (x + y).toNatClampNeg) (i, a, q))

def wp_X6_mile (post : Int32 → MSt → Prop) (i : Nat → Int32) (a : Nat → Nat → Int32) (q : Nat → Nat) (x : Int32) : Prop :=
  ∀ i1, i1 = upd i 0 0 → pre_X6_ofInn i1 a q 15 x ∧ ∀ r2 i3 a4 q5, post_X6_ofInn i1 a q 15 x r2 (i3, a4, q5) → post r2 (i3, a4, q5)

def wp_X6_next (post : Int32 → MSt → Prop) (i : Nat → Int32) (a : Nat → Nat → Int32) (q : Nat → Nat) (x : Int32) : Prop :=
  ∀ i1, i1 = upd i 0 0 → pre_X6_ofInn i1 a q 54 x ∧ ∀ r2 i3 a4 q5, post_X6_ofInn i1 a q 54 x r2 (i3, a4, q5) → post r2 (i3, a4, q5)

def wp_X6_skip (post : Int32 → MSt → Prop) (i : Nat → Int32) (a : Nat → Nat → Int32) (q : Nat → Nat) (x : Int32) : Prop :=
  ∀ i1, i1 = upd i 0 0 → pre_X6_ofInn i1 a q 66 x ∧ ∀ r2 i3 a4 q5, post_X6_ofInn i1 a q 66 x r2 (i3, a4, q5) → post r2 (i3, a4, q5)

def wp_X6_letters (post : Int32 → MSt → Prop) (i : Nat → Int32) (a : Nat → Nat → Int32) (q : Nat → Nat) (x : Int32) : Prop :=
  ∀ i1, i1 = upd i 0 0 → pre_X6_ofInn i1 a q 39 x ∧ ∀ r2 i3 a4 q5, post_X6_ofInn i1 a q 39 x r2 (i3, a4, q5) → post r2 (i3, a4, q5)

def wp_X6_isOpen (post : Int32 → MSt → Prop) (i : Nat → Int32) (a : Nat → Nat → Int32) (q : Nat → Nat) (x : Int32) : Prop :=
  ∀ i1, i1 = upd i 0 0 → pre_X6_ofInn i1 a q 27 x ∧ ∀ r2 i3 a4 q5, post_X6_ofInn i1 a q 27 x r2 (i3, a4, q5) → (¬ r2 = 1 → isB 0 ∧ post 0 (i3, a4, q5)) ∧ (r2 = 1 → isB 1 ∧ post 1 (i3, a4, q5))

def wp_X6_first (post : Int32 → MSt → Prop) (i : Nat → Int32) (a : Nat → Nat → Int32) (q : Nat → Nat)  : Prop :=
  ∀ i1, i1 = upd i 0 0 → vp_in 51 78 ∧ post (a 1 (51 : Int32).toNatClampNeg) (i1, a, q)

def wp_X6_second (post : Int32 → MSt → Prop) (i : Nat → Int32) (a : Nat → Nat → Int32) (q : Nat → Nat)  : Prop :=
  ∀ i1, i1 = upd i 0 0 → vp_in 52 78 ∧ post (a 1 (52 : Int32).toNatClampNeg) (i1, a, q)

def wp_X6_storedCount (post : Int32 → MSt → Prop) (i : Nat → Int32) (a : Nat → Nat → Int32) (q : Nat → Nat)  : Prop :=
  ∀ i1, i1 = upd i 0 0 → vp_in 53 78 ∧ post (a 1 (53 : Int32).toNatClampNeg) (i1, a, q)

def wp_X6_range (post : Int32 → MSt → Prop) (i : Nat → Int32) (a : Nat → Nat → Int32) (q : Nat → Nat)  : Prop :=
  ∀ i1, i1 = upd i 0 0 → vp_in 0 78 ∧ post (a 1 (0 : Int32).toNatClampNeg) (i1, a, q)

def wp_X6_stagesRidden (post : Int32 → MSt → Prop) (i : Nat → Int32) (a : Nat → Nat → Int32) (q : Nat → Nat)  : Prop :=
  ∀ i1, i1 = upd i 0 0 → vp_in 1 78 ∧ post (a 1 (1 : Int32).toNatClampNeg) (i1, a, q)

def wp_X6_lettersDelivered (post : Int32 → MSt → Prop) (i : Nat → Int32) (a : Nat → Nat → Int32) (q : Nat → Nat)  : Prop :=
  ∀ i1, i1 = upd i 0 0 → vp_in 2 78 ∧ post (a 1 (2 : Int32).toNatClampNeg) (i1, a, q)

def wpb_X6_openOnes_36 (post : Int32 → Prop) (K4 : Int32 → Int32 → Prop) (i : Nat → Int32) (a : Nat → Nat → Int32) (q : Nat → Nat)  (x2 : Int32) (s0 : Int32) (s1 : Int32) : Prop :=
  ∀ z3, z3 = (s1 + s0) → ∀ z4, z4 = x2 + 1 → K4 z3 z4
def wpb_X6_openOnes_4 (post : Int32 → Prop)  (i : Nat → Int32) (a : Nat → Nat → Int32) (q : Nat → Nat)  : Nat → Int32 → Int32 → Prop
  | 0 => fun _ _ => False
  | n + 1 => fun x1 x2 => (12 ≤ x2 → post x1) ∧ (¬ 12 ≤ x2 → vp_in (3 + x2) 78 ∧ (¬ (a 1 (3 + x2).toNatClampNeg) = 1 → wpb_X6_openOnes_36 post (wpb_X6_openOnes_4 post  i a q  n) i a q  x2 0 x1) ∧ ((a 1 (3 + x2).toNatClampNeg) = 1 → vp_in (27 + x2) 78 ∧ wpb_X6_openOnes_36 post (wpb_X6_openOnes_4 post  i a q  n) i a q  x2 (a 1 (27 + x2).toNatClampNeg) x1))
def wp_X6_openOnes (post : Int32 → Prop) (i : Nat → Int32) (a : Nat → Nat → Int32) (q : Nat → Nat)  : Prop :=
  ∃ n, wpb_X6_openOnes_4 post  i a q  n 0 0

def wp_X6_openInns (post : Int32 → MSt → Prop) (i : Nat → Int32) (a : Nat → Nat → Int32) (q : Nat → Nat)  : Prop :=
  ∀ i1, i1 = upd i 0 0 → ∀ r2, post_X6_openOnes i1 a q  r2 → post r2 (i1, a, q)

def wp_X6_innAtMile (post : Int32 → MSt → Prop) (i : Nat → Int32) (a : Nat → Nat → Int32) (q : Nat → Nat) (x : Int32) : Prop :=
  ∀ i1, i1 = upd i 0 0 → ∀ r2, post_X6_atMile i1 a q 1 x r2 → post r2 (i1, a, q)

def wpb_X6_totalLetters_41 (post : Int32 → MSt → Prop) (K9 : (Nat → Int32) → (Nat → Nat → Int32) → (Nat → Nat) → Int32 → Int32 → Prop)  (i : Nat → Int32) (a : Nat → Nat → Int32) (q : Nat → Nat) (x2 : Int32) (s0 : Int32) (s1 : Int32) : Prop :=
  ∀ z4, z4 = (s1 + s0) → ∀ z5, z5 = x2 + 1 → K9 i a q z4 z5
def wpb_X6_totalLetters_9 (post : Int32 → MSt → Prop)   : Nat → (Nat → Int32) → (Nat → Nat → Int32) → (Nat → Nat) → Int32 → Int32 → Prop
  | 0 => fun _ _ _ _ _ => False
  | n + 1 => fun i a q x1 x2 => (12 ≤ x2 → post x1 (i, a, q)) ∧ (¬ 12 ≤ x2 → vp_in (3 + x2) 78 ∧ (¬ (a 1 (3 + x2).toNatClampNeg) = 1 → wpb_X6_totalLetters_41 post (wpb_X6_totalLetters_9 post   n)  i a q x2 0 x1) ∧ ((a 1 (3 + x2).toNatClampNeg) = 1 → vp_in (39 + x2) 78 ∧ wpb_X6_totalLetters_41 post (wpb_X6_totalLetters_9 post   n)  i a q x2 (a 1 (39 + x2).toNatClampNeg) x1))
def wp_X6_totalLetters (post : Int32 → MSt → Prop) (i : Nat → Int32) (a : Nat → Nat → Int32) (q : Nat → Nat)  : Prop :=
  ∀ i1, i1 = upd i 0 0 → ∃ n, wpb_X6_totalLetters_9 post   n i1 a q 0 0

def wp_X6_isConsistent (post : Int32 → MSt → Prop) (i : Nat → Int32) (a : Nat → Nat → Int32) (q : Nat → Nat)  : Prop :=
  ∀ i1, i1 = upd i 0 0 → pre_X6_isSound i1 a q 1 ∧ ∀ r2 i3 a4 q5, post_X6_isSound i1 a q 1 r2 (i3, a4, q5) → isB r2 ∧ post r2 (i3, a4, q5)

def wp_X6_chainLength (post : Int32 → MSt → Prop) (i : Nat → Int32) (a : Nat → Nat → Int32) (q : Nat → Nat)  : Prop :=
  ∀ i1, i1 = upd i 0 0 → ∀ i3 a4 q5, post_X6_laysChain i1 a q 1 (i3, a4, q5) → post (i3 10) (i3, a4, q5)

def wp_X6_chainInn (post : Int32 → MSt → Prop) (i : Nat → Int32) (a : Nat → Nat → Int32) (q : Nat → Nat) (x : Int32) : Prop :=
  ∀ i1, i1 = upd i 0 0 → ∀ i3 a4 q5, post_X6_laysChain i1 a q 1 (i3, a4, q5) → ∀ r6, post_X6_isIn  x.toInt64 0 (((i3 10) - 1).toInt64) r6 → (r6 = 0 → ∀ r8 i9 a10 q11, post_X6_fails i3 a4 q5 1 r8 (i9, a10, q11) → post r8 (i9, a10, q11)) ∧ (¬ r6 = 0 → vp_in x 12 ∧ post (a4 7 x.toNatClampNeg) (i3, a4, q5))

def wp_X6_position (post : Int32 → MSt → Prop) (i : Nat → Int32) (a : Nat → Nat → Int32) (q : Nat → Nat) (x : Int32) : Prop :=
  ∀ i1, i1 = upd i 0 0 → ∀ i3 a4 q5, post_X6_laysChain i1 a q 1 (i3, a4, q5) → ∀ r6, post_X6_hasInnAt i3 a4 q5 1 x r6 → (r6 = 0 → ∀ r8 i9 a10 q11, post_X6_fails i3 a4 q5 1 r8 (i9, a10, q11) → post r8 (i9, a10, q11)) ∧ (¬ r6 = 0 → pre_X6_positionOf i3 a4 q5 x ∧ ∀ r12, post_X6_positionOf i3 a4 q5 x r12 → post r12 (i3, a4, q5))

def wp_X6_hasCycle (post : Int32 → MSt → Prop) (i : Nat → Int32) (a : Nat → Nat → Int32) (q : Nat → Nat)  : Prop :=
  ∀ i1, i1 = upd i 0 0 → ∀ i3 a4 q5, post_X6_laysChain i1 a q 1 (i3, a4, q5) → ∀ r6, post_X6_hasInnAt i3 a4 q5 1 (i3 11) r6 → isB r6 ∧ post r6 (i3, a4, q5)

def wp_X6_dangles (post : Int32 → Prop) (i : Nat → Int32) (a : Nat → Nat → Int32) (q : Nat → Nat) (x : Int32) : Prop :=
  (x = (-1) → post 0) ∧ (¬ x = (-1) → ∀ r2, post_X6_hasInnAt i a q 1 x r2 → (¬ r2 = 0 → post 0) ∧ (r2 = 0 → post 1))

def wpb_X6_danglingPointers_81 (post : Int32 → MSt → Prop) (K31 : (Nat → Int32) → (Nat → Nat → Int32) → (Nat → Nat) → Int32 → Int32 → Prop)  (i : Nat → Int32) (a : Nat → Nat → Int32) (q : Nat → Nat) (x2 : Int32) (s0 : Int32) (s1 : Int32) : Prop :=
  ∀ z9, z9 = (s1 + s0) → ∀ z10, z10 = x2 + 1 → K31 i a q z9 z10
def wpb_X6_danglingPointers_31 (post : Int32 → MSt → Prop)   : Nat → (Nat → Int32) → (Nat → Nat → Int32) → (Nat → Nat) → Int32 → Int32 → Prop
  | 0 => fun _ _ _ _ _ => False
  | n + 1 => fun i a q x1 x2 => (12 ≤ x2 → post x1 (i, a, q)) ∧ (¬ 12 ≤ x2 → vp_in (3 + x2) 78 ∧ (¬ (a 1 (3 + x2).toNatClampNeg) = 1 → wpb_X6_danglingPointers_81 post (wpb_X6_danglingPointers_31 post   n)  i a q x2 0 x1) ∧ ((a 1 (3 + x2).toNatClampNeg) = 1 → vp_in (54 + x2) 78 ∧ ∀ r7, post_X6_dangles i a q (a 1 (54 + x2).toNatClampNeg) r7 → vp_in (66 + x2) 78 ∧ ∀ r8, post_X6_dangles i a q (a 1 (66 + x2).toNatClampNeg) r8 → wpb_X6_danglingPointers_81 post (wpb_X6_danglingPointers_31 post   n)  i a q x2 (r7 + r8) x1))
def wp_X6_danglingPointers (post : Int32 → MSt → Prop) (i : Nat → Int32) (a : Nat → Nat → Int32) (q : Nat → Nat)  : Prop :=
  ∀ i1, i1 = upd i 0 0 → vp_in 51 78 ∧ ∀ r2, post_X6_dangles i1 a q (a 1 (51 : Int32).toNatClampNeg) r2 → vp_in 52 78 ∧ ∀ r3, post_X6_dangles i1 a q (a 1 (52 : Int32).toNatClampNeg) r3 → ∀ z4, z4 = (r2 + r3) → ∃ n, wpb_X6_danglingPointers_31 post   n i1 a q z4 0

def wp_X6_wrongValues (post : Int32 → MSt → Prop) (i : Nat → Int32) (a : Nat → Nat → Int32) (q : Nat → Nat)  : Prop :=
  ∀ i1, i1 = upd i 0 0 → ∀ r2 i3 a4 q5, post_X6_wrongOnes i1 a q  r2 (i3, a4, q5) → post r2 (i3, a4, q5)

def wp_X6_hasSingleFault (post : Int32 → MSt → Prop) (i : Nat → Int32) (a : Nat → Nat → Int32) (q : Nat → Nat)  : Prop :=
  ∀ i1, i1 = upd i 0 0 → pre_X6_fault i1 a q  ∧ ∀ r2 i3 a4 q5, post_X6_fault i1 a q  r2 (i3, a4, q5) → (r2 = (-1) → isB 0 ∧ post 0 (i3, a4, q5)) ∧ (¬ r2 = (-1) → isB 1 ∧ post 1 (i3, a4, q5))

def wp_X6_faultyInn (post : Int32 → MSt → Prop) (i : Nat → Int32) (a : Nat → Nat → Int32) (q : Nat → Nat)  : Prop :=
  ∀ i1, i1 = upd i 0 0 → pre_X6_fault i1 a q  ∧ ∀ r2 i3 a4 q5, post_X6_fault i1 a q  r2 (i3, a4, q5) → (54 ≤ r2 → post ((r2 - 54) - (r2 - 54) / 12 * 12) (i3, a4, q5)) ∧ (¬ 54 ≤ r2 → post (-1) (i3, a4, q5))

def wp_X6_areInns (post : Int32 → Prop) (i : Nat → Int32) (a : Nat → Nat → Int32) (q : Nat → Nat) (x : Int32) (y : Int32) : Prop :=
  ∀ r1, post_X6_hasInnAt i a q 1 x r1 → (r1 = 0 → isB 0 ∧ post 0) ∧ (¬ r1 = 0 → ∀ r3, post_X6_hasInnAt i a q 1 y r3 → (r3 = 0 → isB 0 ∧ post 0) ∧ (¬ r3 = 0 → isB 1 ∧ post 1))

def wp_X6_isReachable (post : Int32 → MSt → Prop) (i : Nat → Int32) (a : Nat → Nat → Int32) (q : Nat → Nat) (x : Int32) (y : Int32) : Prop :=
  ∀ i1, i1 = upd i 0 0 → ∀ r2, post_X6_areInns i1 a q x y r2 → (¬ r2 = 0 → pre_X6_rides i1 a q 1 x y ∧ ∀ r4 i5 a6 q7, post_X6_rides i1 a q 1 x y r4 (i5, a6, q7) → isB r4 ∧ post r4 (i5, a6, q7)) ∧ (r2 = 0 → ∀ i8, i8 = upd i1 0 1 → isB 0 ∧ post 0 (i8, a, q))

def wp_X6_stages (post : Int32 → MSt → Prop) (i : Nat → Int32) (a : Nat → Nat → Int32) (q : Nat → Nat) (x : Int32) (y : Int32) : Prop :=
  ∀ i1, i1 = upd i 0 0 → ∀ r2, post_X6_areInns i1 a q x y r2 → (¬ r2 = 0 → pre_X6_rides i1 a q 1 x y ∧ ∀ r4 i5 a6 q7, post_X6_rides i1 a q 1 x y r4 (i5, a6, q7) → (r4 = 0 → post (-1) (i5, a6, q7)) ∧ (¬ r4 = 0 → post (i5 12) (i5, a6, q7))) ∧ (r2 = 0 → ∀ r9 i10 a11 q12, post_X6_fails i1 a q 1 r9 (i10, a11, q12) → post r9 (i10, a11, q12))

def wp_X6_rideLength (post : Int32 → MSt → Prop) (i : Nat → Int32) (a : Nat → Nat → Int32) (q : Nat → Nat) (x : Int32) (y : Int32) : Prop :=
  ∀ i1, i1 = upd i 0 0 → ∀ r2, post_X6_areInns i1 a q x y r2 → (¬ r2 = 0 → pre_X6_rides i1 a q 1 x y ∧ ∀ r4 i5 a6 q7, post_X6_rides i1 a q 1 x y r4 (i5, a6, q7) → (r4 = 0 → post (-1) (i5, a6, q7)) ∧ (¬ r4 = 0 → post (i5 13) (i5, a6, q7))) ∧ (r2 = 0 → ∀ r9 i10 a11 q12, post_X6_fails i1 a q 1 r9 (i10, a11, q12) → post r9 (i10, a11, q12))

def wp_X6_skippingStages (post : Int32 → MSt → Prop) (i : Nat → Int32) (a : Nat → Nat → Int32) (q : Nat → Nat) (x : Int32) (y : Int32) : Prop :=
  ∀ i1, i1 = upd i 0 0 → ∀ r2, post_X6_areInns i1 a q x y r2 → (¬ r2 = 0 → pre_X6_rides i1 a q 1 x y ∧ ∀ r4 i5 a6 q7, post_X6_rides i1 a q 1 x y r4 (i5, a6, q7) → (r4 = 0 → post (-1) (i5, a6, q7)) ∧ (¬ r4 = 0 → post (i5 14) (i5, a6, q7))) ∧ (r2 = 0 → ∀ r9 i10 a11 q12, post_X6_fails i1 a q 1 r9 (i10, a11, q12) → post r9 (i10, a11, q12))

def wp_X6_stuckAt (post : Int32 → MSt → Prop) (i : Nat → Int32) (a : Nat → Nat → Int32) (q : Nat → Nat) (x : Int32) (y : Int32) : Prop :=
  ∀ i1, i1 = upd i 0 0 → ∀ r2, post_X6_areInns i1 a q x y r2 → (¬ r2 = 0 → pre_X6_rides i1 a q 1 x y ∧ ∀ r4 i5 a6 q7, post_X6_rides i1 a q 1 x y r4 (i5, a6, q7) → (¬ r4 = 0 → post (-1) (i5, a6, q7)) ∧ (r4 = 0 → (¬ (i5 12) = 24 → post (i5 15) (i5, a6, q7)) ∧ ((i5 12) = 24 → post (-1) (i5, a6, q7)))) ∧ (r2 = 0 → ∀ r10 i11 a12 q13, post_X6_fails i1 a q 1 r10 (i11, a12, q13) → post r10 (i11, a12, q13))
section MAB3
variable {i : Nat → Int32} {a : Nat → Nat → Int32} {q : Nat → Nat} {t : Int32} {S : AM} {i' : Nat → Int32} {a' : Nat → Nat → Int32} {q' : Nat → Nat}
theorem MAb.lay (h : MAb i a q t S) (hs : post_X6_laysChain i a q 1 (i', a', q')) : MAb i' a' q' t S ∧ i' 10 = nI (chF S.1).1.length ∧ i' 11 = (chF S.1).2 ∧ chH (a' 7) (chF S.1).1 ∧ a' 1 = S.1 := by
  obtain ⟨h1, ⟨c, h2, h3⟩, h4⟩ := hs
  dsimp only at h1 h2 h3 h4
  subst h4
  rw [h.2.1] at h1 h3
  rw [h1, h2]
  have e1 : setR a 7 c 1 = a 1 := setR_ne (by decide)
  exact ⟨h.scr h.1 ⟨rfl, rfl, rfl, rfl⟩ (fun _ _ _ _ z => setR_ne z), rfl, rfl, by rw [setR_self]; exact h3, e1.trans h.2.1⟩
end MAB3
theorem posR_L {c : Nat → Int32} {l : List Nat} (hc : chH c l) (hl : ∀ y ∈ l, y < 12) {x : Nat} (hx : x < 12) : ∀ (n k : Nat), k + n = l.length → posR c (nI x) n k = posL (l.drop k) x k := by
  intro n
  induction n with
  | zero =>
    intro k hk
    rw [List.drop_of_length_le (by omega)]; rfl
  | succ n ih =>
    intro k hk
    have hkl : k < l.length := by omega
    have h2 := hc k _ (List.getElem?_eq_getElem hkl)
    have h3 := hl _ (List.getElem_mem hkl)
    rw [List.drop_eq_getElem_cons hkl]
    show (if c k = nI x then nI k else posR c (nI x) n (k + 1)) = if l[k] = x then nI k else posL (l.drop (k + 1)) x (k + 1)
    rw [h2]
    by_cases e : l[k] = x
    · rw [if_pos e, if_pos (by rw [e])]
    · rw [if_neg e, if_neg (fun z => e ((nI_eq (by omega) (by omega)).mp z)), ih (k + 1) (by omega)]
theorem pr_X6_inns (i : Nat → Int32) (a : Nat → Nat → Int32) (q : Nat → Nat)  (hpre : pre_X6_inns i a q ) : wp_X6_inns (fun r u => post_X6_inns i a q  r u) i a q  := by
  intro i1 e1 r2 h2 t S hS
  subst e1
  exact ⟨by rw [← hS.2.1]; exact h2, hS.thr⟩
theorem pr_X6_hasInn (i : Nat → Int32) (a : Nat → Nat → Int32) (q : Nat → Nat) (x : Int32) (hpre : pre_X6_hasInn i a q x) : wp_X6_hasInn (fun r u => post_X6_hasInn i a q x r u) i a q x := by
  intro r1 h1
  have h1 := isIn_of (0 : Int32) (11 : Int32) rfl rfl h1
  subst h1
  refine ⟨fun c i3 e3 r4 h4 => ?_, fun c i3 e3 r4 h4 => ?_⟩
  · unfold post_X6_hasInnAt at h4
    subst h4 e3
    refine ⟨isB_b _, fun t S hS => ?_⟩
    unfold opHas
    rw [if_neg (of_decide_eq_false (b2i_0 c)), hS.2.1]
    exact ⟨rfl, hS.thr⟩
  · unfold post_X6_hasInnAt at h4
    subst h4 e3
    refine ⟨isB_b _, fun t S hS => ?_⟩
    unfold opHas
    rw [if_pos (of_decide_eq_true (b2i_1 c)), hS.2.1]
    exact ⟨rfl, hS.thr⟩
theorem pr_X6_ofInn (i : Nat → Int32) (a : Nat → Nat → Int32) (q : Nat → Nat) (x : Int32) (y : Int32) (hpre : pre_X6_ofInn i a q x y) : wp_X6_ofInn (fun r u => post_X6_ofInn i a q x y r u) i a q x y := by
  obtain ⟨⟨S0, h0⟩, d, hd, ed⟩ := hpre
  intro r1 h1
  unfold post_X6_hasInnAt at h1
  subst h1
  refine ⟨fun c r3 i4 a5 q6 h3 S hS => ?_, fun c => ?_⟩
  · unfold opOf
    rw [← hS.2.1, if_neg (b2i_f c)]
    exact hS.fail h3
  · obtain ⟨k, hk, ek⟩ := hasI_pl (b2i_1 c)
    have ex : x + y = nI (d + k) := by rw [ed, ek, nI_add]
    rw [ex, nI_clamp (by omega)]
    refine ⟨vp_in_nI (by omega) (by omega), fun S hS => ?_⟩
    unfold opOf
    rw [← hS.2.1, if_pos (b2i_1 c), ed, ek, nI_clamp (by omega), nI_clamp (by omega), hS.2.1]
    exact ⟨rfl, hS⟩
theorem pr_X6_mile (i : Nat → Int32) (a : Nat → Nat → Int32) (q : Nat → Nat) (x : Int32) (hpre : pre_X6_mile i a q x) : wp_X6_mile (fun r u => post_X6_mile i a q x r u) i a q x := by
  obtain ⟨t0, S0, h0⟩ := hpre
  intro i1 e1
  subst e1
  exact ⟨⟨⟨S0, h0.thr⟩, 15, by omega, rfl⟩, fun r2 i3 a4 q5 h2 t S hS => h2 S hS.thr⟩
theorem pr_X6_next (i : Nat → Int32) (a : Nat → Nat → Int32) (q : Nat → Nat) (x : Int32) (hpre : pre_X6_next i a q x) : wp_X6_next (fun r u => post_X6_next i a q x r u) i a q x := by
  obtain ⟨t0, S0, h0⟩ := hpre
  intro i1 e1
  subst e1
  exact ⟨⟨⟨S0, h0.thr⟩, 54, by omega, rfl⟩, fun r2 i3 a4 q5 h2 t S hS => h2 S hS.thr⟩
theorem pr_X6_skip (i : Nat → Int32) (a : Nat → Nat → Int32) (q : Nat → Nat) (x : Int32) (hpre : pre_X6_skip i a q x) : wp_X6_skip (fun r u => post_X6_skip i a q x r u) i a q x := by
  obtain ⟨t0, S0, h0⟩ := hpre
  intro i1 e1
  subst e1
  exact ⟨⟨⟨S0, h0.thr⟩, 66, by omega, rfl⟩, fun r2 i3 a4 q5 h2 t S hS => h2 S hS.thr⟩
theorem pr_X6_letters (i : Nat → Int32) (a : Nat → Nat → Int32) (q : Nat → Nat) (x : Int32) (hpre : pre_X6_letters i a q x) : wp_X6_letters (fun r u => post_X6_letters i a q x r u) i a q x := by
  obtain ⟨t0, S0, h0⟩ := hpre
  intro i1 e1
  subst e1
  exact ⟨⟨⟨S0, h0.thr⟩, 39, by omega, rfl⟩, fun r2 i3 a4 q5 h2 t S hS => h2 S hS.thr⟩
theorem pr_X6_isOpen (i : Nat → Int32) (a : Nat → Nat → Int32) (q : Nat → Nat) (x : Int32) (hpre : pre_X6_isOpen i a q x) : wp_X6_isOpen (fun r u => post_X6_isOpen i a q x r u) i a q x := by
  obtain ⟨t0, S0, h0⟩ := hpre
  intro i1 e1
  subst e1
  refine ⟨⟨⟨S0, h0.thr⟩, 27, by omega, rfl⟩, fun r2 i3 a4 q5 h2 => ?_⟩
  have key : ∀ t S, MAb i a q t S → OpR (opIsO S x) (b2i (decide (r2 = 1))) (i3, a4, q5) := by
    intro t S hS
    have := h2 S hS.thr
    unfold opIsO
    unfold opOf at this
    by_cases c : hasI S.1 x = true
    · rw [if_pos c] at this ⊢
      exact ⟨by rw [this.1]; rfl, this.2⟩
    · rw [if_neg c] at this ⊢
      exact ⟨by rw [this.1]; rfl, this.2⟩
  refine ⟨fun c => ⟨isB_0, fun t S hS => ?_⟩, fun c => ⟨isB_1, fun t S hS => ?_⟩⟩
  · have := key t S hS
    rw [decide_eq_false c] at this
    exact this
  · have := key t S hS
    rw [decide_eq_true c] at this
    exact this
theorem rd1 {a : Nat → Nat → Int32} {f : Row} (h : a 1 = f) (k : Nat) : a 1 k = f k := by rw [h]
theorem pr_X6_first (i : Nat → Int32) (a : Nat → Nat → Int32) (q : Nat → Nat)  (hpre : pre_X6_first i a q ) : wp_X6_first (fun r u => post_X6_first i a q  r u) i a q  := by
  intro i1 e1
  subst e1
  exact ⟨by unfold vp_in; decide, fun t S hS => ⟨rd1 hS.2.1 51, hS.thr⟩⟩
theorem pr_X6_second (i : Nat → Int32) (a : Nat → Nat → Int32) (q : Nat → Nat)  (hpre : pre_X6_second i a q ) : wp_X6_second (fun r u => post_X6_second i a q  r u) i a q  := by
  intro i1 e1
  subst e1
  exact ⟨by unfold vp_in; decide, fun t S hS => ⟨rd1 hS.2.1 52, hS.thr⟩⟩
theorem pr_X6_storedCount (i : Nat → Int32) (a : Nat → Nat → Int32) (q : Nat → Nat)  (hpre : pre_X6_storedCount i a q ) : wp_X6_storedCount (fun r u => post_X6_storedCount i a q  r u) i a q  := by
  intro i1 e1
  subst e1
  exact ⟨by unfold vp_in; decide, fun t S hS => ⟨rd1 hS.2.1 53, hS.thr⟩⟩
theorem pr_X6_range (i : Nat → Int32) (a : Nat → Nat → Int32) (q : Nat → Nat)  (hpre : pre_X6_range i a q ) : wp_X6_range (fun r u => post_X6_range i a q  r u) i a q  := by
  intro i1 e1
  subst e1
  exact ⟨by unfold vp_in; decide, fun t S hS => ⟨rd1 hS.2.1 0, hS.thr⟩⟩
theorem pr_X6_stagesRidden (i : Nat → Int32) (a : Nat → Nat → Int32) (q : Nat → Nat)  (hpre : pre_X6_stagesRidden i a q ) : wp_X6_stagesRidden (fun r u => post_X6_stagesRidden i a q  r u) i a q  := by
  intro i1 e1
  subst e1
  exact ⟨by unfold vp_in; decide, fun t S hS => ⟨rd1 hS.2.1 1, hS.thr⟩⟩
theorem pr_X6_lettersDelivered (i : Nat → Int32) (a : Nat → Nat → Int32) (q : Nat → Nat)  (hpre : pre_X6_lettersDelivered i a q ) : wp_X6_lettersDelivered (fun r u => post_X6_lettersDelivered i a q  r u) i a q  := by
  intro i1 e1
  subst e1
  exact ⟨by unfold vp_in; decide, fun t S hS => ⟨rd1 hS.2.1 2, hS.thr⟩⟩
theorem pr_X6_openOnes (i : Nat → Int32) (a : Nat → Nat → Int32) (q : Nat → Nat)  : wp_X6_openOnes (fun r => post_X6_openOnes i a q  r) i a q  := by
  have key : ∀ n k, k + n = 12 → wpb_X6_openOnes_4 (fun r => post_X6_openOnes i a q r) i a q (n + 1) (opnN (a 1) k) (nI k) := by
    intro n
    induction n with
    | zero =>
      intro k hk
      have : k = 12 := by omega
      subst this
      exact ⟨fun _ => rfl, fun h => absurd (Int32.le_refl _) h⟩
    | succ n ih =>
      intro k hk
      refine ⟨fun h => absurd h (nI_ge (b := 12) (by omega) (by omega)), fun _ => ?_⟩
      rw [a3, a27, nI_clamp (by omega), nI_clamp (by omega)]
      have := ih (k + 1) (by omega)
      refine ⟨vp_in_nI (by omega) (by omega), fun c z3 e3 z4 e4 => ?_, fun c => ⟨vp_in_nI (by omega) (by omega), fun z3 e3 z4 e4 => ?_⟩⟩
      · rw [e3, e4, nI_1]
        unfold opnN at this
        rw [if_neg c] at this
        exact this
      · rw [e3, e4, nI_1]
        unfold opnN at this
        rw [if_pos c] at this
        exact this
  exact ⟨13, key 12 0 rfl⟩
theorem pr_X6_openInns (i : Nat → Int32) (a : Nat → Nat → Int32) (q : Nat → Nat)  (hpre : pre_X6_openInns i a q ) : wp_X6_openInns (fun r u => post_X6_openInns i a q  r u) i a q  := by
  intro i1 e1 r2 h2 t S hS
  subst e1
  exact ⟨by rw [← hS.2.1]; exact h2, hS.thr⟩
theorem pr_X6_innAtMile (i : Nat → Int32) (a : Nat → Nat → Int32) (q : Nat → Nat) (x : Int32) (hpre : pre_X6_innAtMile i a q x) : wp_X6_innAtMile (fun r u => post_X6_innAtMile i a q x r u) i a q x := by
  intro i1 e1 r2 h2 t S hS
  subst e1
  exact ⟨by rw [← hS.2.1]; exact h2, hS.thr⟩
theorem pr_X6_totalLetters (i : Nat → Int32) (a : Nat → Nat → Int32) (q : Nat → Nat)  (hpre : pre_X6_totalLetters i a q ) : wp_X6_totalLetters (fun r u => post_X6_totalLetters i a q  r u) i a q  := by
  intro i1 e1
  subst e1
  have key : ∀ n k, k + n = 12 → wpb_X6_totalLetters_9 (fun r u => post_X6_totalLetters i a q r u) (n + 1) (upd i 0 0) a q (totN (a 1) k) (nI k) := by
    intro n
    induction n with
    | zero =>
      intro k hk
      have : k = 12 := by omega
      subst this
      refine ⟨fun _ t S hS => ?_, fun h => absurd (Int32.le_refl _) h⟩
      rw [hS.2.1]
      exact ⟨rfl, hS.thr⟩
    | succ n ih =>
      intro k hk
      refine ⟨fun h => absurd h (nI_ge (b := 12) (by omega) (by omega)), fun _ => ?_⟩
      rw [a3, a39, nI_clamp (by omega), nI_clamp (by omega)]
      have := ih (k + 1) (by omega)
      refine ⟨vp_in_nI (by omega) (by omega), fun c z3 e3 z4 e4 => ?_, fun c => ⟨vp_in_nI (by omega) (by omega), fun z3 e3 z4 e4 => ?_⟩⟩
      · rw [e3, e4, nI_1]
        unfold totN at this
        rw [if_neg c] at this
        exact this
      · rw [e3, e4, nI_1]
        unfold totN at this
        rw [if_pos c] at this
        exact this
  exact ⟨13, key 12 0 rfl⟩
theorem pr_X6_isConsistent (i : Nat → Int32) (a : Nat → Nat → Int32) (q : Nat → Nat)  (hpre : pre_X6_isConsistent i a q ) : wp_X6_isConsistent (fun r u => post_X6_isConsistent i a q  r u) i a q  := by
  obtain ⟨t0, S0, h0⟩ := hpre
  intro i1 e1
  subst e1
  refine ⟨trivial, fun r2 i3 a4 q5 h2 => ⟨by rw [((h0.thr (t' := 0)).snd h2).1]; exact isB_b _, fun t S hS => ?_⟩⟩
  exact (hS.thr (t' := 0)).snd h2
theorem pr_X6_chainLength (i : Nat → Int32) (a : Nat → Nat → Int32) (q : Nat → Nat)  (hpre : pre_X6_chainLength i a q ) : wp_X6_chainLength (fun r u => post_X6_chainLength i a q  r u) i a q  := by
  intro i1 e1 i3 a4 q5 h3 t S hS
  subst e1
  obtain ⟨h4, h5, -⟩ := (hS.thr (t' := 0)).lay h3
  exact ⟨h5, h4⟩
theorem pr_X6_chainInn (i : Nat → Int32) (a : Nat → Nat → Int32) (q : Nat → Nat) (x : Int32) (hpre : pre_X6_chainInn i a q x) : wp_X6_chainInn (fun r u => post_X6_chainInn i a q x r u) i a q x := by
  obtain ⟨t0, S0, h0⟩ := hpre
  intro i1 e1 i3 a4 q5 h3 r6 h6
  subst e1
  have h6 := isIn_of (0 : Int32) (i3 10 - 1) rfl rfl h6
  subst h6
  refine ⟨fun c r8 i9 a10 q11 h8 t S hS => ?_, fun c => ?_⟩
  · obtain ⟨h4, h5, -⟩ := (hS.thr (t' := 0)).lay h3
    rw [h5] at c
    unfold opChi
    rw [if_neg (of_decide_eq_false (b2i_0 c))]
    exact h4.fail h8
  · have c := of_decide_eq_true (b2i_1 c)
    obtain ⟨h4, h5, -, h7, h8⟩ := (h0.thr (t' := 0)).lay h3
    have hl := (chF_mem S0.1).2.2
    rw [h5] at c
    have hle : ∃ k, k < (chF S0.1).1.length ∧ x = nI k := by
      obtain ⟨c1, c2⟩ := c
      by_cases hz : (chF S0.1).1.length = 0
      · rw [hz] at c2
        exact absurd (Int32.le_trans c1 c2) (by decide)
      · obtain ⟨m, em⟩ : ∃ m, (chF S0.1).1.length = m + 1 := ⟨_, (Nat.succ_pred hz).symm⟩
        rw [em, ← nI_1, Int32.add_sub_cancel] at c2
        obtain ⟨k, hk, ek⟩ := nI_of2 (M := nI m) (n := m) (nI_toInt (by omega)) (Int32.not_lt.mpr c1) c2
        exact ⟨k, by omega, ek⟩
    obtain ⟨k, hk, ek⟩ := hle
    refine ⟨by rw [ek]; exact vp_in_nI (by omega) (by omega), fun t S hS => ?_⟩
    obtain ⟨g4, g5, -, g7, g8⟩ := (hS.thr (t' := 0)).lay h3
    have e1 : S.1 = S0.1 := hS.2.1.symm.trans h0.2.1
    unfold opChi
    rw [e1, if_pos c]
    refine ⟨?_, g4⟩
    rw [ek, nI_clamp (by omega)]
    have := h7 k _ (List.getElem?_eq_getElem hk)
    rw [this]
    show _ = nI ((chF S0.1).1.getD k 0)
    rw [List.getD_eq_getElem?_getD, List.getElem?_eq_getElem hk]
    rfl
theorem pr_X6_position (i : Nat → Int32) (a : Nat → Nat → Int32) (q : Nat → Nat) (x : Int32) (hpre : pre_X6_position i a q x) : wp_X6_position (fun r u => post_X6_position i a q x r u) i a q x := by
  obtain ⟨t0, S0, h0⟩ := hpre
  intro i1 e1 i3 a4 q5 h3 r6 h6
  subst e1
  unfold post_X6_hasInnAt at h6
  subst h6
  obtain ⟨h4, h5, -, h7, h8⟩ := (h0.thr (t' := 0)).lay h3
  have hl := chF_mem S0.1
  refine ⟨fun c r8 i9 a10 q11 h8' t S hS => ?_, fun c => ⟨⟨_, hl.2.2, h5⟩, fun r12 h12 t S hS => ?_⟩⟩
  · obtain ⟨g4, g5, -, g7, g8⟩ := (hS.thr (t' := 0)).lay h3
    unfold opPos
    rw [← g8, if_neg (b2i_f c)]
    exact g4.fail h8'
  · obtain ⟨g4, g5, -, g7, g8⟩ := (hS.thr (t' := 0)).lay h3
    have e1 : S.1 = S0.1 := hS.2.1.symm.trans h0.2.1
    obtain ⟨k, hk, ek⟩ := hasI_pl (b2i_1 c)
    unfold opPos
    rw [← g8, if_pos (b2i_1 c), g8]
    refine ⟨?_, g4⟩
    unfold post_X6_positionOf at h12
    rw [h12, h5, ek, nI_clamp (by have := hl.2.2; omega), posR_L h7 hl.1 hk _ 0 (Nat.zero_add _), nI_clamp (by omega), e1]
    rfl
theorem pr_X6_hasCycle (i : Nat → Int32) (a : Nat → Nat → Int32) (q : Nat → Nat)  (hpre : pre_X6_hasCycle i a q ) : wp_X6_hasCycle (fun r u => post_X6_hasCycle i a q  r u) i a q  := by
  intro i1 e1 i3 a4 q5 h3 r6 h6
  subst e1
  unfold post_X6_hasInnAt at h6
  subst h6
  refine ⟨isB_b _, fun t S hS => ?_⟩
  obtain ⟨g4, -, g6, -, g8⟩ := (hS.thr (t' := 0)).lay h3
  exact ⟨by rw [g6, g8], g4⟩
theorem pr_X6_dangles (i : Nat → Int32) (a : Nat → Nat → Int32) (q : Nat → Nat) (x : Int32) : wp_X6_dangles (fun r => post_X6_dangles i a q x r) i a q x := by
  unfold wp_X6_dangles post_X6_dangles dngO
  refine ⟨fun c => ?_, fun c r2 h2 => ?_⟩
  · rw [if_neg (fun z => z.1 c)]
  · unfold post_X6_hasInnAt at h2
    subst h2
    refine ⟨fun c2 => ?_, fun c2 => ?_⟩
    · rw [if_neg (fun z => by rw [b2i_1 c2] at z; exact Bool.noConfusion z.2)]
    · rw [if_pos ⟨c, b2i_0 c2⟩]
theorem pr_X6_danglingPointers (i : Nat → Int32) (a : Nat → Nat → Int32) (q : Nat → Nat)  (hpre : pre_X6_danglingPointers i a q ) : wp_X6_danglingPointers (fun r u => post_X6_danglingPointers i a q  r u) i a q  := by
  intro i1 e1
  subst e1
  have key : ∀ n k, k + n = 12 → wpb_X6_danglingPointers_31 (fun r u => post_X6_danglingPointers i a q r u) (n + 1) (upd i 0 0) a q (dngF (a 1) k) (nI k) := by
    intro n
    induction n with
    | zero =>
      intro k hk
      have : k = 12 := by omega
      subst this
      refine ⟨fun _ t S hS => ?_, fun h => absurd (Int32.le_refl _) h⟩
      rw [hS.2.1]
      exact ⟨rfl, hS.thr⟩
    | succ n ih =>
      intro k hk
      refine ⟨fun h => absurd h (nI_ge (b := 12) (by omega) (by omega)), fun _ => ?_⟩
      rw [a3, a54, a66, nI_clamp (by omega), nI_clamp (by omega), nI_clamp (by omega)]
      have := ih (k + 1) (by omega)
      refine ⟨vp_in_nI (by omega) (by omega), fun c z3 e3 z4 e4 => ?_, fun c => ⟨vp_in_nI (by omega) (by omega), fun r7 h7 => ⟨vp_in_nI (by omega) (by omega), fun r8 h8 z3 e3 z4 e4 => ?_⟩⟩⟩
      · rw [e3, e4, nI_1]
        unfold dngF at this
        rw [if_neg c] at this
        exact this
      · unfold post_X6_dangles at h7 h8
        rw [e3, e4, nI_1, h7, h8]
        unfold dngF at this
        rw [if_pos c] at this
        exact this
  refine ⟨by unfold vp_in; decide, fun r2 h2 => ⟨by unfold vp_in; decide, fun r3 h3 z4 e4 => ⟨13, ?_⟩⟩⟩
  have h2 : r2 = dngO (a 1) (a 1 51) := h2
  have h3 : r3 = dngO (a 1) (a 1 52) := h3
  rw [e4, h2, h3]
  exact key 12 0 rfl
theorem pr_X6_wrongValues (i : Nat → Int32) (a : Nat → Nat → Int32) (q : Nat → Nat)  (hpre : pre_X6_wrongValues i a q ) : wp_X6_wrongValues (fun r u => post_X6_wrongValues i a q  r u) i a q  := by
  intro i1 e1 r2 i3 a4 q5 h2 t S hS
  subst e1
  obtain ⟨e2, e3⟩ := h2
  rw [e3, ← hS.2.1]
  exact ⟨e2, hS.thr.due⟩
theorem pr_X6_hasSingleFault (i : Nat → Int32) (a : Nat → Nat → Int32) (q : Nat → Nat)  (hpre : pre_X6_hasSingleFault i a q ) : wp_X6_hasSingleFault (fun r u => post_X6_hasSingleFault i a q  r u) i a q  := by
  intro i1 e1
  subst e1
  refine ⟨trivial, fun r2 i3 a4 q5 h2 => ⟨fun c => ⟨isB_0, fun t S hS => ?_⟩, fun c => ⟨isB_1, fun t S hS => ?_⟩⟩⟩
  · obtain ⟨e2, h3, -⟩ := (hS.thr (t' := 0)).flt h2
    refine ⟨?_, h3⟩
    show 0 = b2i (decide (fauF S.1 ≠ -1))
    rw [decide_eq_false (fun z => z (e2.symm.trans c))]; rfl
  · obtain ⟨e2, h3, -⟩ := (hS.thr (t' := 0)).flt h2
    refine ⟨?_, h3⟩
    show 1 = b2i (decide (fauF S.1 ≠ -1))
    rw [decide_eq_true (show fauF S.1 ≠ -1 from fun z => c (e2.trans z))]; rfl
theorem mod12 {d : Nat} (h : 54 ≤ d) (h2 : d < 78) : nI d - 54 - (nI d - 54) / 12 * 12 = nI ((d - 54) % 12) := by
  have : ∀ k, k < 24 → nI (54 + k) - 54 - (nI (54 + k) - 54) / 12 * 12 = nI (k % 12) := by decide
  have := this (d - 54) (by omega)
  rw [show 54 + (d - 54) = d by omega] at this
  exact this
theorem pr_X6_faultyInn (i : Nat → Int32) (a : Nat → Nat → Int32) (q : Nat → Nat)  (hpre : pre_X6_faultyInn i a q ) : wp_X6_faultyInn (fun r u => post_X6_faultyInn i a q  r u) i a q  := by
  intro i1 e1
  subst e1
  refine ⟨trivial, fun r2 i3 a4 q5 h2 => ⟨fun c t S hS => ?_, fun c t S hS => ?_⟩⟩
  · obtain ⟨e2, h3, -⟩ := (hS.thr (t' := 0)).flt h2
    unfold opFty
    rw [e2] at c ⊢
    rw [if_neg (Int32.not_lt.mpr c)]
    refine ⟨?_, h3⟩
    obtain ⟨d, h1, hd, ed⟩ := fauF_rng (f := S.1) (fun z => by rw [z] at c; exact absurd c (by decide))
    rw [ed] at c ⊢
    have hd54 : 54 ≤ d := (nI_leI (a := 54) (by omega) (by omega)).mp c
    rw [nI_clamp (by omega)]
    exact mod12 hd54 hd
  · obtain ⟨e2, h3, -⟩ := (hS.thr (t' := 0)).flt h2
    unfold opFty
    rw [e2] at c
    rw [if_pos (Int32.not_le.mp c)]
    exact ⟨rfl, h3⟩
theorem pr_X6_areInns (i : Nat → Int32) (a : Nat → Nat → Int32) (q : Nat → Nat) (x : Int32) (y : Int32) : wp_X6_areInns (fun r => post_X6_areInns i a q x y r) i a q x y := by
  unfold wp_X6_areInns post_X6_areInns
  intro r1 h1
  unfold post_X6_hasInnAt at h1
  subst h1
  refine ⟨fun c => ⟨isB_0, by rw [b2i_0 c]; rfl⟩, fun c r3 h3 => ?_⟩
  unfold post_X6_hasInnAt at h3
  subst h3
  refine ⟨fun c2 => ⟨isB_0, by rw [b2i_0 c2, Bool.and_false]; rfl⟩, fun c2 => ⟨isB_1, by rw [b2i_1 c, b2i_1 c2]; rfl⟩⟩
theorem are_of {i : Nat → Int32} {a : Nat → Nat → Int32} {q : Nat → Nat} {x y r : Int32} (h : post_X6_areInns i a q x y r) {t : Int32} {S : AM} {j : Nat → Int32} (hS : MAb j a q t S) : r = b2i (both S x y) := by
  unfold both
  rw [← hS.2.1]
  exact h
theorem both_pl {S : AM} {x y : Int32} (h : both S x y = true) : isPl x := by
  unfold both at h
  rw [Bool.and_eq_true] at h
  exact hasI_pl h.1
theorem pr_X6_isReachable (i : Nat → Int32) (a : Nat → Nat → Int32) (q : Nat → Nat) (x : Int32) (y : Int32) (hpre : pre_X6_isReachable i a q x y) : wp_X6_isReachable (fun r u => post_X6_isReachable i a q x y r u) i a q x y := by
  obtain ⟨t0, S0, h0⟩ := hpre
  intro i1 e1 r2 h2
  subst e1
  have h2' : ∀ {t S}, MAb i a q t S → r2 = b2i (both S x y) := fun hS => are_of h2 hS
  refine ⟨fun c => ⟨both_pl (b2i_1 (by rw [← h2' h0]; exact c)), fun r4 i5 a6 q7 h4 => ⟨by rw [h4.1]; exact isB_b _, fun t S hS => ?_⟩⟩, fun c i8 e8 => ⟨isB_0, fun t S hS => ?_⟩⟩
  · obtain ⟨g1, g2, -⟩ := (hS.thr (t' := 0)).rds h4
    unfold opRdb
    rw [h2' hS] at c
    rw [if_pos (b2i_1 c)]
    exact ⟨g1, g2⟩
  · unfold opRdb
    rw [h2' hS] at c
    rw [if_neg (b2i_f c), e8]
    exact ⟨rfl, hS.thr.thr⟩
theorem pr_X6_stages (i : Nat → Int32) (a : Nat → Nat → Int32) (q : Nat → Nat) (x : Int32) (y : Int32) (hpre : pre_X6_stages i a q x y) : wp_X6_stages (fun r u => post_X6_stages i a q x y r u) i a q x y := by
  obtain ⟨t0, S0, h0⟩ := hpre
  intro i1 e1 r2 h2
  subst e1
  have h2' : ∀ {t S}, MAb i a q t S → r2 = b2i (both S x y) := fun hS => are_of h2 hS
  refine ⟨fun c => ⟨both_pl (b2i_1 (by rw [← h2' h0]; exact c)), fun r4 i5 a6 q7 h4 => ⟨fun c2 t S hS => ?_, fun c2 t S hS => ?_⟩⟩, fun c r9 i10 a11 q12 h9 t S hS => ?_⟩
  · obtain ⟨g1, g2, g3, -⟩ := (hS.thr (t' := 0)).rds h4
    unfold opRid
    rw [h2' hS] at c
    rw [g1] at c2
    rw [if_pos (b2i_1 c), if_neg (b2i_f c2)]
    exact ⟨rfl, g2⟩
  · obtain ⟨g1, g2, g3, -⟩ := (hS.thr (t' := 0)).rds h4
    unfold opRid
    rw [h2' hS] at c
    rw [g1] at c2
    rw [if_pos (b2i_1 c), if_pos (b2i_1 c2)]
    exact ⟨by rw [g3]; rfl, g2⟩
  · unfold opRid
    rw [h2' hS] at c
    rw [if_neg (b2i_f c)]
    exact (hS.thr (t' := 0)).fail h9
theorem pr_X6_rideLength (i : Nat → Int32) (a : Nat → Nat → Int32) (q : Nat → Nat) (x : Int32) (y : Int32) (hpre : pre_X6_rideLength i a q x y) : wp_X6_rideLength (fun r u => post_X6_rideLength i a q x y r u) i a q x y := by
  obtain ⟨t0, S0, h0⟩ := hpre
  intro i1 e1 r2 h2
  subst e1
  have h2' : ∀ {t S}, MAb i a q t S → r2 = b2i (both S x y) := fun hS => are_of h2 hS
  refine ⟨fun c => ⟨both_pl (b2i_1 (by rw [← h2' h0]; exact c)), fun r4 i5 a6 q7 h4 => ⟨fun c2 t S hS => ?_, fun c2 t S hS => ?_⟩⟩, fun c r9 i10 a11 q12 h9 t S hS => ?_⟩
  · obtain ⟨g1, g2, g3, -⟩ := (hS.thr (t' := 0)).rds h4
    unfold opRid
    rw [h2' hS] at c
    rw [g1] at c2
    rw [if_pos (b2i_1 c), if_neg (b2i_f c2)]
    exact ⟨rfl, g2⟩
  · obtain ⟨g1, g2, g3, -⟩ := (hS.thr (t' := 0)).rds h4
    unfold opRid
    rw [h2' hS] at c
    rw [g1] at c2
    rw [if_pos (b2i_1 c), if_pos (b2i_1 c2)]
    exact ⟨by rw [g3]; rfl, g2⟩
  · unfold opRid
    rw [h2' hS] at c
    rw [if_neg (b2i_f c)]
    exact (hS.thr (t' := 0)).fail h9
theorem pr_X6_skippingStages (i : Nat → Int32) (a : Nat → Nat → Int32) (q : Nat → Nat) (x : Int32) (y : Int32) (hpre : pre_X6_skippingStages i a q x y) : wp_X6_skippingStages (fun r u => post_X6_skippingStages i a q x y r u) i a q x y := by
  obtain ⟨t0, S0, h0⟩ := hpre
  intro i1 e1 r2 h2
  subst e1
  have h2' : ∀ {t S}, MAb i a q t S → r2 = b2i (both S x y) := fun hS => are_of h2 hS
  refine ⟨fun c => ⟨both_pl (b2i_1 (by rw [← h2' h0]; exact c)), fun r4 i5 a6 q7 h4 => ⟨fun c2 t S hS => ?_, fun c2 t S hS => ?_⟩⟩, fun c r9 i10 a11 q12 h9 t S hS => ?_⟩
  · obtain ⟨g1, g2, g3, -⟩ := (hS.thr (t' := 0)).rds h4
    unfold opRid
    rw [h2' hS] at c
    rw [g1] at c2
    rw [if_pos (b2i_1 c), if_neg (b2i_f c2)]
    exact ⟨rfl, g2⟩
  · obtain ⟨g1, g2, g3, -⟩ := (hS.thr (t' := 0)).rds h4
    unfold opRid
    rw [h2' hS] at c
    rw [g1] at c2
    rw [if_pos (b2i_1 c), if_pos (b2i_1 c2)]
    exact ⟨by rw [g3]; rfl, g2⟩
  · unfold opRid
    rw [h2' hS] at c
    rw [if_neg (b2i_f c)]
    exact (hS.thr (t' := 0)).fail h9
theorem pr_X6_stuckAt (i : Nat → Int32) (a : Nat → Nat → Int32) (q : Nat → Nat) (x : Int32) (y : Int32) (hpre : pre_X6_stuckAt i a q x y) : wp_X6_stuckAt (fun r u => post_X6_stuckAt i a q x y r u) i a q x y := by
  obtain ⟨t0, S0, h0⟩ := hpre
  intro i1 e1 r2 h2
  subst e1
  have h2' : ∀ {t S}, MAb i a q t S → r2 = b2i (both S x y) := fun hS => are_of h2 hS
  refine ⟨fun c => ⟨both_pl (b2i_1 (by rw [← h2' h0]; exact c)), fun r4 i5 a6 q7 h4 => ⟨fun c2 t S hS => ?_, fun c2 => ⟨fun c3 t S hS => ?_, fun c3 t S hS => ?_⟩⟩⟩, fun c r9 i10 a11 q12 h9 t S hS => ?_⟩
  · obtain ⟨g1, g2, g3, -⟩ := (hS.thr (t' := 0)).rds h4
    unfold opStk
    rw [h2' hS] at c
    rw [g1] at c2
    rw [if_pos (b2i_1 c), if_pos (Or.inl (b2i_1 c2))]
    exact ⟨rfl, g2⟩
  · obtain ⟨g1, g2, g3, -⟩ := (hS.thr (t' := 0)).rds h4
    unfold opStk
    rw [h2' hS] at c
    rw [g1] at c2
    have hle : (rdO S.1 x y).2.1 ≤ 24 := rdG_le _ _ _ _ _ _
    rw [if_pos (b2i_1 c), if_neg]
    · exact ⟨by rw [g3]; rfl, g2⟩
    · rintro (z | z)
      · exact b2i_f c2 z
      · refine c3 ?_
        rw [g3]
        show nI (24 - (rdO S.1 x y).2.1) = 24
        rw [z]; rfl
  · obtain ⟨g1, g2, g3, -⟩ := (hS.thr (t' := 0)).rds h4
    unfold opStk
    rw [h2' hS] at c
    have hle : (rdO S.1 x y).2.1 ≤ 24 := rdG_le _ _ _ _ _ _
    rw [g3] at c3
    have c3 : nI (24 - (rdO S.1 x y).2.1) = 24 := c3
    have := (nI_eq (b := 24) (by omega) (by omega)).mp c3
    rw [if_pos (b2i_1 c), if_pos (Or.inr (by omega))]
    exact ⟨rfl, g2⟩
  · unfold opStk
    rw [h2' hS] at c
    rw [if_neg (b2i_f c)]
    exact (hS.thr (t' := 0)).fail h9
