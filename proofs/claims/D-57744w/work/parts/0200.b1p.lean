set_option maxRecDepth 100000
/-! PURE 1: rows of numbers (78 cells): what the model's row methods compute -/
theorem a3 (k : Nat) : (3 : Int32) + nI k = nI (3 + k) := nI_add 3 k
theorem a15 (k : Nat) : (15 : Int32) + nI k = nI (15 + k) := nI_add 15 k
theorem a27 (k : Nat) : (27 : Int32) + nI k = nI (27 + k) := nI_add 27 k
theorem a39 (k : Nat) : (39 : Int32) + nI k = nI (39 + k) := nI_add 39 k
theorem a54 (k : Nat) : (54 : Int32) + nI k = nI (54 + k) := nI_add 54 k
theorem a66 (k : Nat) : (66 : Int32) + nI k = nI (66 + k) := nI_add 66 k
theorem i2l_in (x : Int32) {lo hi : Int64} (l h : Int32) (hl : l.toInt64 = lo) (hh : h.toInt64 = hi) : (lo ≤ x.toInt64 ∧ x.toInt64 ≤ hi) ↔ (l ≤ x ∧ x ≤ h) := by
  subst hl hh
  rw [Int64.le_iff_toInt_le, Int64.le_iff_toInt_le, Int32.le_iff_toInt_le, Int32.le_iff_toInt_le, Int32.toInt_toInt64, Int32.toInt_toInt64, Int32.toInt_toInt64]
theorem b2i_0 {b : Bool} (h : b2i b = 0) : b = false := by cases b <;> first | rfl | exact absurd h (by decide)
theorem b2i_1 {b : Bool} (h : ¬ b2i b = 0) : b = true := by cases b <;> first | rfl | exact absurd rfl h
/-- lo ≤ v ≤ hi -/
def post_X6_isIn (v lo hi : Int64) (r : Int32) : Prop := r = b2i (decide (lo ≤ v ∧ v ≤ hi))
def post_X6_thrown (i : Nat → Int32) (_ : Nat → Nat → Int32) (_ : Nat → Nat) (r : Int32) : Prop := r = i 0
def post_X6_fails (i : Nat → Int32) (a : Nat → Nat → Int32) (q : Nat → Nat) (w r : Int32) (u : MSt) : Prop := r = 0 ∧ u = (upd i 0 w, a, q)
/-- a number of a place -/
def isPl (x : Int32) : Prop := ∃ k, k < 12 ∧ x = nI k
/-- a stored pointer: a place or -1 -/
def isPt (x : Int32) : Prop := x = -1 ∨ isPl x
/-- a place that holds an inn -/
def hasI (f : Nat → Int32) (x : Int32) : Bool := decide (0 ≤ x ∧ x ≤ 11) && decide (f (3 + x.toNatClampNeg) = 1)
def post_X6_hasInnAt (_ : Nat → Int32) (a : Nat → Nat → Int32) (_ : Nat → Nat) (j : Nat) (x r : Int32) : Prop := r = b2i (hasI (a j) x)
def post_X6_isPointer (x r : Int32) : Prop := r = b2i (decide (-1 ≤ x ∧ x ≤ 11))
def innsN (f : Nat → Int32) : Nat → Int32
  | 0 => 0
  | k + 1 => innsN f k + f (3 + k)
def post_X6_innsOf (_ : Nat → Int32) (a : Nat → Nat → Int32) (_ : Nat → Nat) (j : Nat) (r : Int32) : Prop := r = innsN (a j) 12
/-- the first of n places from k on with an inn at the mile m -/
def atR (f : Nat → Int32) (m : Int32) : Nat → Nat → Int32
  | 0, _ => -1
  | n + 1, k => if f (3 + k) = 1 ∧ f (15 + k) = m then nI k else atR f m n (k + 1)
def post_X6_atMile (_ : Nat → Int32) (a : Nat → Nat → Int32) (_ : Nat → Nat) (j : Nat) (x r : Int32) : Prop := r = atR (a j) x 12 0
/-- of the first k places the inn with the least mile above m -/
def behN (f : Nat → Int32) (m : Int32) : Nat → Int32
  | 0 => -1
  | k + 1 => if f (3 + k) = 1 ∧ m < f (15 + k) ∧ (behN f m k = -1 ∨ f (15 + k) < f (15 + (behN f m k).toNatClampNeg)) then nI k else behN f m k
def post_X6_innBehind (_ : Nat → Int32) (a : Nat → Nat → Int32) (_ : Nat → Nat) (j : Nat) (x r : Int32) : Prop := r = behN (a j) x 12
def setR (a : Nat → Nat → Int32) (k : Nat) (f : Nat → Int32) : Nat → Nat → Int32 := fun r => if r = k then f else a r
theorem setR_self {a : Nat → Nat → Int32} {k : Nat} {f : Nat → Int32} : setR a k f k = f := if_pos rfl
theorem setR_ne {a : Nat → Nat → Int32} {k r : Nat} {f : Nat → Int32} (h : r ≠ k) : setR a k f r = a r := if_neg h
theorem updA_setR {a : Nat → Nat → Int32} {j k : Nat} {x : Int32} : updA a j k x = setR a j (upd (a j) k x) := rfl
theorem setR_setR {a : Nat → Nat → Int32} {j : Nat} {f f' : Nat → Int32} : setR (setR a j f) j f' = setR a j f' := by
  funext r
  unfold setR
  by_cases h : r = j <;> simp [h]
theorem setR_id {a : Nat → Nat → Int32} {j : Nat} : setR a j (a j) = a := by
  funext r
  unfold setR
  by_cases h : r = j <;> simp [h]
/-- row k is made row j -/
def post_X6_copies (i : Nat → Int32) (a : Nat → Nat → Int32) (q : Nat → Nat) (j k : Nat) (u : MSt) : Prop := u = (i, setR a k (a j), q)
/-- an open inn without letters -/
def bldF (f : Nat → Int32) (p : Nat) (m : Int32) : Nat → Int32 := upd (upd (upd (upd f (3 + p) 1) (15 + p) m) (27 + p) 1) (39 + p) 0
def pre_X6_builds (_ : Nat → Int32) (_ : Nat → Nat → Int32) (_ : Nat → Nat) (_ : Nat) (x _ : Int32) : Prop := isPl x
def post_X6_builds (i : Nat → Int32) (a : Nat → Nat → Int32) (q : Nat → Nat) (j : Nat) (x y : Int32) (u : MSt) : Prop := u = (i, setR a j (bldF (a j) x.toNatClampNeg y), q)
/-- the road as it should be: its next pointers, its row -/
def nxF (f : Nat → Int32) (k : Nat) : Int32 := if f (3 + k) = 1 then behN f (f (15 + k)) 12 else -1
def rebF (f : Nat → Int32) : Nat → Int32 := fun x =>
  if x = 51 then behN f (-1) 12
  else if x = 52 then (if behN f (-1) 12 = -1 then -1 else nxF f (behN f (-1) 12).toNatClampNeg)
  else if x = 53 then innsN f 12
  else if 54 ≤ x ∧ x < 66 then nxF f (x - 54)
  else if 66 ≤ x ∧ x < 78 then (if nxF f (x - 66) = -1 then -1 else nxF f (nxF f (x - 66)).toNatClampNeg)
  else f x
def post_X6_rebuilds (i : Nat → Int32) (a : Nat → Nat → Int32) (q : Nat → Nat) (j : Nat) (u : MSt) : Prop := u = (i, setR a j (rebF (a j)), q)
def post_X6_laysDue (i : Nat → Int32) (a : Nat → Nat → Int32) (q : Nat → Nat) (u : MSt) : Prop := u = (i, setR a 4 (rebF (a 1)), q)
/-- a stored value -/
def stoF (f : Nat → Int32) (x : Nat) : Bool := decide (51 ≤ x) && (decide (x < 54) || decide (f (3 + (x - 54) % 12) = 1))
def pre_X6_isStored (_ : Nat → Int32) (_ : Nat → Nat → Int32) (_ : Nat → Nat) (_ : Nat) (x : Int32) : Prop := ∃ k, k < 78 ∧ x = nI k
def post_X6_isStored (_ : Nat → Int32) (a : Nat → Nat → Int32) (_ : Nat → Nat) (j : Nat) (x r : Int32) : Prop := r = b2i (stoF (a j) x.toNatClampNeg)
/-- how many of the k stored values from 51 on are wrong -/
def wroN (f : Nat → Int32) : Nat → Nat
  | 0 => 0
  | k + 1 => wroN f k + (if stoF f (51 + k) = true ∧ f (51 + k) ≠ rebF f (51 + k) then 1 else 0)
def post_X6_wrongOnes (i : Nat → Int32) (a : Nat → Nat → Int32) (q : Nat → Nat) (r : Int32) (u : MSt) : Prop := r = nI (wroN (a 1) 27) ∧ u = (i, setR a 4 (rebF (a 1)), q)
/-- the first of n places of the chain from k on that is x -/
def posR (c : Nat → Int32) (x : Int32) : Nat → Nat → Int32
  | 0, _ => -1
  | n + 1, k => if c k = x then nI k else posR c x n (k + 1)
def pre_X6_positionOf (i : Nat → Int32) (_ : Nat → Nat → Int32) (_ : Nat → Nat) (_ : Int32) : Prop := ∃ k, k ≤ 12 ∧ i 10 = nI k
def post_X6_positionOf (i : Nat → Int32) (a : Nat → Nat → Int32) (_ : Nat → Nat) (x r : Int32) : Prop := r = posR (a 7) x (i 10).toNatClampNeg 0
/-- the chain from 'x' on, behind the places of l: its places, its end -/
def chG (f : Nat → Int32) : Nat → List Nat → Int32 → List Nat × Int32
  | 0, l, x => (l, x)
  | n + 1, l, x => if hasI f x = true ∧ x.toNatClampNeg ∉ l then chG f n (l ++ [x.toNatClampNeg]) (f (54 + x.toNatClampNeg)) else (l, x)
def chF (f : Nat → Int32) : List Nat × Int32 := chG f 13 [] (f 51)
/-- the chain's row holds l -/
def chH (c : Nat → Int32) (l : List Nat) : Prop := ∀ k y, l[k]? = some y → c k = nI y
def post_X6_laysChain (i : Nat → Int32) (a : Nat → Nat → Int32) (q : Nat → Nat) (j : Nat) (u : MSt) : Prop :=
  u.1 = upd (upd i 10 (nI (chF (a j)).1.length)) 11 (chF (a j)).2 ∧ (∃ c, u.2.1 = setR a 7 c ∧ chH c (chF (a j)).1) ∧ u.2.2 = q
def nxO (f : Nat → Int32) (x : Int32) : Int32 := if hasI f x = true then f (54 + x.toNatClampNeg) else -1
def post_X6_nextOf (_ : Nat → Int32) (a : Nat → Nat → Int32) (_ : Nat → Nat) (j : Nat) (x r : Int32) : Prop := r = nxO (a j) x
def absI (x : Int32) : Int32 := if 0 ≤ x then x else 0 - x
def dstF (f : Nat → Int32) (x y : Nat) : Int32 := absI (f (15 + x) - f (15 + y))
def pre_X6_stage (_ : Nat → Int32) (_ : Nat → Nat → Int32) (_ : Nat → Nat) (_ : Nat) (x y : Int32) : Prop := isPl x ∧ isPl y
def post_X6_stage (_ : Nat → Int32) (a : Nat → Nat → Int32) (_ : Nat → Nat) (j : Nat) (x y r : Int32) : Prop := r = dstF (a j) x.toNatClampNeg y.toNatClampNeg
/-- whether a rider may go from the place x to y -/
def canF (f : Nat → Int32) (x y : Int32) : Bool := hasI f y && decide (f (27 + y.toNatClampNeg) = 1) && decide (dstF f x.toNatClampNeg y.toNatClampNeg ≤ f 0)
def pre_X6_canRide (_ : Nat → Int32) (_ : Nat → Nat → Int32) (_ : Nat → Nat) (_ : Nat) (x _ : Int32) : Prop := isPl x
def post_X6_canRide (_ : Nat → Int32) (a : Nat → Nat → Int32) (_ : Nat → Nat) (j : Nat) (x y r : Int32) : Prop := r = b2i (canF (a j) x y)
def wp_X6_isIn (post : Int32 → Prop) (v : Int64) (lo : Int64) (hi : Int64) : Prop :=
  ((lg_cmp v lo) < 0 → isB 0 ∧ post 0) ∧ (¬ (lg_cmp v lo) < 0 → (0 < (lg_cmp v hi) → isB 0 ∧ post 0) ∧ (¬ 0 < (lg_cmp v hi) → isB 1 ∧ post 1))

def wp_X6_thrown (post : Int32 → Prop) (i : Nat → Int32) (a : Nat → Nat → Int32) (q : Nat → Nat)  : Prop :=
  post (i 0)

def wp_X6_fails (post : Int32 → MSt → Prop) (i : Nat → Int32) (a : Nat → Nat → Int32) (q : Nat → Nat) (w : Int32) : Prop :=
  ∀ i1, i1 = upd i 0 w → post 0 (i1, a, q)

def wp_X6_hasInnAt (post : Int32 → Prop) (i : Nat → Int32) (a : Nat → Nat → Int32) (q : Nat → Nat) (j : Nat) (x : Int32) : Prop :=
  ∀ r1, post_X6_isIn  x.toInt64 0 11 r1 → (r1 = 0 → isB 0 ∧ post 0) ∧ (¬ r1 = 0 → vp_in (3 + x) 78 ∧ (¬ (a j (3 + x).toNatClampNeg) = 1 → isB 0 ∧ post 0) ∧ ((a j (3 + x).toNatClampNeg) = 1 → isB 1 ∧ post 1))

def wp_X6_isPointer (post : Int32 → Prop) (x : Int32) : Prop :=
  ∀ r1, post_X6_isIn  x.toInt64 (-1) 11 r1 → isB r1 ∧ post r1

def wpb_X6_innsOf_4 (post : Int32 → Prop)  (i : Nat → Int32) (a : Nat → Nat → Int32) (q : Nat → Nat) (j : Nat) : Nat → Int32 → Int32 → Prop
  | 0 => fun _ _ => False
  | n + 1 => fun x1 x2 => (12 ≤ x2 → post x1) ∧ (¬ 12 ≤ x2 → vp_in (3 + x2) 78 ∧ ∀ z2, z2 = (x1 + (a j (3 + x2).toNatClampNeg)) → ∀ z3, z3 = x2 + 1 → (wpb_X6_innsOf_4 post  i a q j n) z2 z3)
def wp_X6_innsOf (post : Int32 → Prop) (i : Nat → Int32) (a : Nat → Nat → Int32) (q : Nat → Nat) (j : Nat) : Prop :=
  ∃ n, wpb_X6_innsOf_4 post  i a q j n 0 0

def wpb_X6_atMile_29 (post : Int32 → Prop) (K2 : Int32 → Prop) (i : Nat → Int32) (a : Nat → Nat → Int32) (q : Nat → Nat) (j : Nat) (x : Int32) (x2 : Int32) : Prop :=
  ∀ z4, z4 = x2 + 1 → K2 z4
def wpb_X6_atMile_2 (post : Int32 → Prop)  (i : Nat → Int32) (a : Nat → Nat → Int32) (q : Nat → Nat) (j : Nat) (x : Int32) : Nat → Int32 → Prop
  | 0 => fun _ => False
  | n + 1 => fun x2 => (12 ≤ x2 → post (-1)) ∧ (¬ 12 ≤ x2 → vp_in (3 + x2) 78 ∧ (¬ (a j (3 + x2).toNatClampNeg) = 1 → wpb_X6_atMile_29 post (wpb_X6_atMile_2 post  i a q j x n) i a q j x x2) ∧ ((a j (3 + x2).toNatClampNeg) = 1 → vp_in (15 + x2) 78 ∧ (¬ (a j (15 + x2).toNatClampNeg) = x → wpb_X6_atMile_29 post (wpb_X6_atMile_2 post  i a q j x n) i a q j x x2) ∧ ((a j (15 + x2).toNatClampNeg) = x → post x2)))
def wp_X6_atMile (post : Int32 → Prop) (i : Nat → Int32) (a : Nat → Nat → Int32) (q : Nat → Nat) (j : Nat) (x : Int32) : Prop :=
  ∃ n, wpb_X6_atMile_2 post  i a q j x n 0

def wpb_X6_innBehind_66 (post : Int32 → Prop) (K4 : Int32 → Int32 → Prop) (i : Nat → Int32) (a : Nat → Nat → Int32) (q : Nat → Nat) (j : Nat) (x : Int32) (x3 : Int32) (s0 : Int32) : Prop :=
  ∀ z7, z7 = x3 + 1 → K4 s0 z7
def wpb_X6_innBehind_65 (post : Int32 → Prop) (K4 : Int32 → Int32 → Prop) (i : Nat → Int32) (a : Nat → Nat → Int32) (q : Nat → Nat) (j : Nat) (x : Int32) (x2 : Int32) (x3 : Int32) : Prop :=
  wpb_X6_innBehind_66 post K4 i a q j x x3 x2
def wpb_X6_innBehind_61 (post : Int32 → Prop) (K4 : Int32 → Int32 → Prop) (i : Nat → Int32) (a : Nat → Nat → Int32) (q : Nat → Nat) (j : Nat) (x : Int32) (x3 : Int32) : Prop :=
  wpb_X6_innBehind_66 post K4 i a q j x x3 x3
def wpb_X6_innBehind_34 (post : Int32 → Prop) (K4 : Int32 → Int32 → Prop) (i : Nat → Int32) (a : Nat → Nat → Int32) (q : Nat → Nat) (j : Nat) (x : Int32) (x2 : Int32) (x3 : Int32) (s0 : Int32) : Prop :=
  (s0 = 0 → wpb_X6_innBehind_65 post K4 i a q j x x2 x3) ∧ (¬ s0 = 0 → (x2 = (-1) → wpb_X6_innBehind_61 post K4 i a q j x x3) ∧ (¬ x2 = (-1) → vp_in (15 + x3) 78 ∧ vp_in (15 + x2) 78 ∧ ((a j (15 + x2).toNatClampNeg) ≤ (a j (15 + x3).toNatClampNeg) → wpb_X6_innBehind_65 post K4 i a q j x x2 x3) ∧ (¬ (a j (15 + x2).toNatClampNeg) ≤ (a j (15 + x3).toNatClampNeg) → wpb_X6_innBehind_61 post K4 i a q j x x3)))
def wpb_X6_innBehind_33 (post : Int32 → Prop) (K4 : Int32 → Int32 → Prop) (i : Nat → Int32) (a : Nat → Nat → Int32) (q : Nat → Nat) (j : Nat) (x : Int32) (x2 : Int32) (x3 : Int32) : Prop :=
  wpb_X6_innBehind_34 post K4 i a q j x x2 x3 0
def wpb_X6_innBehind_4 (post : Int32 → Prop)  (i : Nat → Int32) (a : Nat → Nat → Int32) (q : Nat → Nat) (j : Nat) (x : Int32) : Nat → Int32 → Int32 → Prop
  | 0 => fun _ _ => False
  | n + 1 => fun x2 x3 => (12 ≤ x3 → post x2) ∧ (¬ 12 ≤ x3 → vp_in (3 + x3) 78 ∧ (¬ (a j (3 + x3).toNatClampNeg) = 1 → wpb_X6_innBehind_33 post (wpb_X6_innBehind_4 post  i a q j x n) i a q j x x2 x3) ∧ ((a j (3 + x3).toNatClampNeg) = 1 → vp_in (15 + x3) 78 ∧ ((a j (15 + x3).toNatClampNeg) ≤ x → wpb_X6_innBehind_33 post (wpb_X6_innBehind_4 post  i a q j x n) i a q j x x2 x3) ∧ (¬ (a j (15 + x3).toNatClampNeg) ≤ x → wpb_X6_innBehind_34 post (wpb_X6_innBehind_4 post  i a q j x n) i a q j x x2 x3 1)))
def wp_X6_innBehind (post : Int32 → Prop) (i : Nat → Int32) (a : Nat → Nat → Int32) (q : Nat → Nat) (j : Nat) (x : Int32) : Prop :=
  ∃ n, wpb_X6_innBehind_4 post  i a q j x n (-1) 0

def wpb_X6_copies_2 (post : MSt → Prop)  (j : Nat) (k : Nat) : Nat → (Nat → Int32) → (Nat → Nat → Int32) → (Nat → Nat) → Int32 → Prop
  | 0 => fun _ _ _ _ => False
  | n + 1 => fun i a q x2 => (78 ≤ x2 → post (i, a, q)) ∧ (¬ 78 ≤ x2 → vp_in x2 78 ∧ vp_in x2 78 ∧ ∀ a2, a2 = updA a k x2.toNatClampNeg (a j x2.toNatClampNeg) → ∀ z3, z3 = x2 + 1 → (wpb_X6_copies_2 post  j k n) i a2 q z3)
def wp_X6_copies (post : MSt → Prop) (i : Nat → Int32) (a : Nat → Nat → Int32) (q : Nat → Nat) (j : Nat) (k : Nat) : Prop :=
  ∃ n, wpb_X6_copies_2 post  j k n i a q 0

def wp_X6_builds (post : MSt → Prop) (i : Nat → Int32) (a : Nat → Nat → Int32) (q : Nat → Nat) (j : Nat) (x : Int32) (y : Int32) : Prop :=
  vp_in (3 + x) 78 ∧ ∀ a1, a1 = updA a j (3 + x).toNatClampNeg 1 → vp_in (15 + x) 78 ∧ ∀ a2, a2 = updA a1 j (15 + x).toNatClampNeg y → vp_in (27 + x) 78 ∧ ∀ a3, a3 = updA a2 j (27 + x).toNatClampNeg 1 → vp_in (39 + x) 78 ∧ ∀ a4, a4 = updA a3 j (39 + x).toNatClampNeg 0 → post (i, a4, q)

def wpb_X6_rebuilds_123 (post : MSt → Prop) (K87 : (Nat → Int32) → (Nat → Nat → Int32) → (Nat → Nat) → Int32 → Prop) (j : Nat) (i : Nat → Int32) (a : Nat → Nat → Int32) (q : Nat → Nat) (x1 : Int32) (s0 : Int32) (s1 : Int32) : Prop :=
  vp_in s1 78 ∧ ∀ a12, a12 = updA a j s1.toNatClampNeg s0 → ∀ z13, z13 = x1 + 1 → K87 i a12 q z13
def wpb_X6_rebuilds_87 (post : MSt → Prop)  (j : Nat) : Nat → (Nat → Int32) → (Nat → Nat → Int32) → (Nat → Nat) → Int32 → Prop
  | 0 => fun _ _ _ _ => False
  | n + 1 => fun i a q x1 => (12 ≤ x1 → post (i, a, q)) ∧ (¬ 12 ≤ x1 → vp_in (54 + x1) 78 ∧ (¬ (a j (54 + x1).toNatClampNeg) = (-1) → vp_in (54 + x1) 78 ∧ vp_in (54 + (a j (54 + x1).toNatClampNeg)) 78 ∧ wpb_X6_rebuilds_123 post (wpb_X6_rebuilds_87 post  j n) j i a q x1 (a j (54 + (a j (54 + x1).toNatClampNeg)).toNatClampNeg) (66 + x1)) ∧ ((a j (54 + x1).toNatClampNeg) = (-1) → wpb_X6_rebuilds_123 post (wpb_X6_rebuilds_87 post  j n) j i a q x1 (-1) (66 + x1)))
def wpb_X6_rebuilds_84 (post : MSt → Prop)  (j : Nat) (i : Nat → Int32) (a : Nat → Nat → Int32) (q : Nat → Nat) (s0 : Int32) (s1 : Int32) : Prop :=
  vp_in s1 78 ∧ ∀ a9, a9 = updA a j s1.toNatClampNeg s0 → ∃ n, wpb_X6_rebuilds_87 post  j n i a9 q 0
def wpb_X6_rebuilds_53 (post : MSt → Prop) (K19 : (Nat → Int32) → (Nat → Nat → Int32) → (Nat → Nat) → Int32 → Prop) (j : Nat) (i : Nat → Int32) (a : Nat → Nat → Int32) (q : Nat → Nat) (x1 : Int32) (s0 : Int32) (s1 : Int32) : Prop :=
  vp_in s1 78 ∧ ∀ a14, a14 = updA a j s1.toNatClampNeg s0 → ∀ z15, z15 = x1 + 1 → K19 i a14 q z15
def wpb_X6_rebuilds_19 (post : MSt → Prop)  (j : Nat) : Nat → (Nat → Int32) → (Nat → Nat → Int32) → (Nat → Nat) → Int32 → Prop
  | 0 => fun _ _ _ _ => False
  | n + 1 => fun i a q x1 => (12 ≤ x1 → vp_in 51 78 ∧ (¬ (a j (51 : Int32).toNatClampNeg) = (-1) → vp_in 51 78 ∧ vp_in (54 + (a j (51 : Int32).toNatClampNeg)) 78 ∧ wpb_X6_rebuilds_84 post  j i a q (a j (54 + (a j (51 : Int32).toNatClampNeg)).toNatClampNeg) 52) ∧ ((a j (51 : Int32).toNatClampNeg) = (-1) → wpb_X6_rebuilds_84 post  j i a q (-1) 52)) ∧ (¬ 12 ≤ x1 → vp_in (3 + x1) 78 ∧ (¬ (a j (3 + x1).toNatClampNeg) = 1 → wpb_X6_rebuilds_53 post (wpb_X6_rebuilds_19 post  j n) j i a q x1 (-1) (54 + x1)) ∧ ((a j (3 + x1).toNatClampNeg) = 1 → vp_in (15 + x1) 78 ∧ ∀ r8, post_X6_innBehind i a q j (a j (15 + x1).toNatClampNeg) r8 → wpb_X6_rebuilds_53 post (wpb_X6_rebuilds_19 post  j n) j i a q x1 r8 (54 + x1)))
def wp_X6_rebuilds (post : MSt → Prop) (i : Nat → Int32) (a : Nat → Nat → Int32) (q : Nat → Nat) (j : Nat) : Prop :=
  ∀ r1, post_X6_innBehind i a q j (-1) r1 → vp_in 51 78 ∧ ∀ a2, a2 = updA a j (51 : Int32).toNatClampNeg r1 → ∀ r3, post_X6_innsOf i a2 q j r3 → vp_in 53 78 ∧ ∀ a4, a4 = updA a2 j (53 : Int32).toNatClampNeg r3 → ∃ n, wpb_X6_rebuilds_19 post  j n i a4 q 0

def wp_X6_laysDue (post : MSt → Prop) (i : Nat → Int32) (a : Nat → Nat → Int32) (q : Nat → Nat)  : Prop :=
  ∀ i2 a3 q4, post_X6_copies i a q 1 4 (i2, a3, q4) → ∀ i6 a7 q8, post_X6_rebuilds i2 a3 q4 4 (i6, a7, q8) → post (i6, a7, q8)

def wp_X6_isStored (post : Int32 → Prop) (i : Nat → Int32) (a : Nat → Nat → Int32) (q : Nat → Nat) (j : Nat) (x : Int32) : Prop :=
  (x < 51 → isB 0 ∧ post 0) ∧ (¬ x < 51 → (x < 54 → isB 1 ∧ post 1) ∧ (¬ x < 54 → vp_in (3 + ((x - 54) - (x - 54) / 12 * 12)) 78 ∧ (¬ (a j (3 + ((x - 54) - (x - 54) / 12 * 12)).toNatClampNeg) = 1 → isB 0 ∧ post 0) ∧ ((a j (3 + ((x - 54) - (x - 54) / 12 * 12)).toNatClampNeg) = 1 → isB 1 ∧ post 1)))

def wpb_X6_wrongOnes_47 (post : Int32 → MSt → Prop) (K9 : (Nat → Int32) → (Nat → Nat → Int32) → (Nat → Nat) → Int32 → Int32 → Prop)  (i : Nat → Int32) (a : Nat → Nat → Int32) (q : Nat → Nat) (x2 : Int32) (s0 : Int32) (s1 : Int32) : Prop :=
  ∀ z9, z9 = (s1 + s0) → ∀ z10, z10 = x2 + 1 → K9 i a q z9 z10
def wpb_X6_wrongOnes_46 (post : Int32 → MSt → Prop) (K9 : (Nat → Int32) → (Nat → Nat → Int32) → (Nat → Nat) → Int32 → Int32 → Prop)  (i : Nat → Int32) (a : Nat → Nat → Int32) (q : Nat → Nat) (x2 : Int32) (s0 : Int32) : Prop :=
  wpb_X6_wrongOnes_47 post K9  i a q x2 0 s0
def wpb_X6_wrongOnes_9 (post : Int32 → MSt → Prop)   : Nat → (Nat → Int32) → (Nat → Nat → Int32) → (Nat → Nat) → Int32 → Int32 → Prop
  | 0 => fun _ _ _ _ _ => False
  | n + 1 => fun i a q x1 x2 => (78 ≤ x2 → post x1 (i, a, q)) ∧ (¬ 78 ≤ x2 → pre_X6_isStored i a q 1 x2 ∧ ∀ r6, post_X6_isStored i a q 1 x2 r6 → (r6 = 0 → wpb_X6_wrongOnes_46 post (wpb_X6_wrongOnes_9 post   n)  i a q x2 x1) ∧ (¬ r6 = 0 → vp_in x2 78 ∧ vp_in x2 78 ∧ ((a 1 x2.toNatClampNeg) = (a 4 x2.toNatClampNeg) → wpb_X6_wrongOnes_46 post (wpb_X6_wrongOnes_9 post   n)  i a q x2 x1) ∧ (¬ (a 1 x2.toNatClampNeg) = (a 4 x2.toNatClampNeg) → wpb_X6_wrongOnes_47 post (wpb_X6_wrongOnes_9 post   n)  i a q x2 1 x1)))
def wp_X6_wrongOnes (post : Int32 → MSt → Prop) (i : Nat → Int32) (a : Nat → Nat → Int32) (q : Nat → Nat)  : Prop :=
  ∀ i2 a3 q4, post_X6_laysDue i a q  (i2, a3, q4) → ∃ n, wpb_X6_wrongOnes_9 post   n i2 a3 q4 0 51

def wpb_X6_positionOf_2 (post : Int32 → Prop)  (i : Nat → Int32) (a : Nat → Nat → Int32) (q : Nat → Nat) (x : Int32) : Nat → Int32 → Prop
  | 0 => fun _ => False
  | n + 1 => fun x2 => ((i 10) ≤ x2 → post (-1)) ∧ (¬ (i 10) ≤ x2 → vp_in x2 12 ∧ (¬ (a 7 x2.toNatClampNeg) = x → ∀ z3, z3 = x2 + 1 → (wpb_X6_positionOf_2 post  i a q x n) z3) ∧ ((a 7 x2.toNatClampNeg) = x → post x2))
def wp_X6_positionOf (post : Int32 → Prop) (i : Nat → Int32) (a : Nat → Nat → Int32) (q : Nat → Nat) (x : Int32) : Prop :=
  ∃ n, wpb_X6_positionOf_2 post  i a q x n 0
theorem isPl_of {x : Int32} (h : 0 ≤ x ∧ x ≤ 11) : isPl x := by
  obtain ⟨k, hk, e⟩ := nI_of2 (M := 11) (n := 11) rfl (Int32.not_lt.mpr h.1) h.2
  exact ⟨k, by omega, e⟩
theorem isPl_in {x : Int32} (h : isPl x) : 0 ≤ x ∧ x ≤ 11 := by
  obtain ⟨k, hk, rfl⟩ := h
  exact ⟨nI_pos' (by omega), (nI_leI (b := 11) (by omega) (by omega)).mpr (by omega)⟩
theorem hasI_pl {f : Nat → Int32} {x : Int32} (h : hasI f x = true) : isPl x := by
  unfold hasI at h
  rw [Bool.and_eq_true, decide_eq_true_eq] at h
  exact isPl_of h.1
theorem hasI_n {f : Nat → Int32} {k : Nat} (hk : k < 12) : hasI f (nI k) = decide (f (3 + k) = 1) := by
  unfold hasI
  rw [decide_eq_true (isPl_in ⟨k, hk, rfl⟩), nI_clamp (by omega)]
  rfl
theorem pr_X6_isIn (v lo hi : Int64) : wp_X6_isIn (fun r => post_X6_isIn v lo hi r) v lo hi := by
  unfold wp_X6_isIn post_X6_isIn
  rw [lg_cmp_lt, lg_cmp_gt]
  refine ⟨fun h => ⟨isB_0, ?_⟩, fun h => ⟨fun h2 => ⟨isB_0, ?_⟩, fun h2 => ⟨isB_1, ?_⟩⟩⟩
  · rw [decide_eq_false (fun q => Int64.not_le.mpr h q.1)]; rfl
  · rw [decide_eq_false (fun q => Int64.not_le.mpr h2 q.2)]; rfl
  · rw [decide_eq_true ⟨Int64.not_lt.mp h, Int64.not_lt.mp h2⟩]; rfl
theorem pr_X6_thrown (i : Nat → Int32) (a : Nat → Nat → Int32) (q : Nat → Nat) : wp_X6_thrown (fun r => post_X6_thrown i a q r) i a q := rfl
theorem pr_X6_fails (i : Nat → Int32) (a : Nat → Nat → Int32) (q : Nat → Nat) (w : Int32) : wp_X6_fails (fun r u => post_X6_fails i a q w r u) i a q w := fun _ e => by subst e; exact ⟨rfl, rfl⟩
theorem pr_X6_hasInnAt (i : Nat → Int32) (a : Nat → Nat → Int32) (q : Nat → Nat) (j : Nat) (hj_j : m78 j = true) (x : Int32) : wp_X6_hasInnAt (fun r => post_X6_hasInnAt i a q j x r) i a q j x := by
  unfold wp_X6_hasInnAt post_X6_hasInnAt post_X6_isIn
  intro r1 e1
  rw [e1]
  have hin := i2l_in x (lo := 0) (hi := 11) 0 11 rfl rfl
  by_cases h : 0 ≤ x ∧ x ≤ 11
  · refine ⟨fun h2 => ?_, fun _ => ?_⟩
    · rw [decide_eq_true (hin.mpr h)] at h2
      exact absurd h2 (by decide)
    · obtain ⟨k, hk, rfl⟩ := isPl_of h
      rw [hasI_n hk]
      simp (disch := omega) only [a3, nI_clamp]
      refine ⟨vp_in_nI (by omega) (by omega), fun h3 => ⟨isB_0, ?_⟩, fun h3 => ⟨isB_1, ?_⟩⟩
      · rw [decide_eq_false h3]; rfl
      · rw [decide_eq_true h3]; rfl
  · refine ⟨fun _ => ⟨isB_0, ?_⟩, fun h2 => ?_⟩
    · unfold hasI
      rw [decide_eq_false h]; rfl
    · rw [decide_eq_false (fun z => h (hin.mp z))] at h2
      exact absurd rfl h2
theorem pr_X6_isPointer (x : Int32) : wp_X6_isPointer (fun r => post_X6_isPointer x r) x := by
  intro r1 e1
  unfold post_X6_isIn at e1
  have hin := i2l_in x (lo := -1) (hi := 11) (-1) 11 rfl rfl
  have e2 : decide (-1 ≤ x.toInt64 ∧ x.toInt64 ≤ 11) = decide (-1 ≤ x ∧ x ≤ 11) := decide_eq_decide.mpr hin
  rw [e2] at e1
  rw [e1]
  exact ⟨isB_b _, rfl⟩
theorem pr_X6_innsOf (i : Nat → Int32) (a : Nat → Nat → Int32) (q : Nat → Nat) (j : Nat) (hj_j : m78 j = true) : wp_X6_innsOf (fun r => post_X6_innsOf i a q j r) i a q j := by
  have key : ∀ m k, k + m = 12 → wpb_X6_innsOf_4 (fun r => post_X6_innsOf i a q j r) i a q j (m + 1) (innsN (a j) k) (nI k) := by
    intro m
    induction m with
    | zero =>
      intro k hk
      have : k = 12 := by omega
      subst this
      exact ⟨fun _ => rfl, fun h => absurd (by decide) h⟩
    | succ m ih =>
      intro k hk
      refine ⟨fun h => absurd h (nI_ge (b := 12) (by omega) (by omega)), fun _ => ?_⟩
      simp (disch := omega) only [a3, nI_clamp]
      refine ⟨vp_in_nI (by omega) (by omega), fun z2 e2 z3 e3 => ?_⟩
      subst e2 e3
      rw [nI_1]
      exact ih (k + 1) (by omega)
  exact ⟨13, key 12 0 rfl⟩
theorem pr_X6_atMile (i : Nat → Int32) (a : Nat → Nat → Int32) (q : Nat → Nat) (j : Nat) (hj_j : m78 j = true) (x : Int32) : wp_X6_atMile (fun r => post_X6_atMile i a q j x r) i a q j x := by
  have key : ∀ m k, k + m = 12 → atR (a j) x m k = atR (a j) x 12 0 → wpb_X6_atMile_2 (fun r => post_X6_atMile i a q j x r) i a q j x (m + 1) (nI k) := by
    intro m
    induction m with
    | zero =>
      intro k hk h
      have : k = 12 := by omega
      subst this
      exact ⟨fun _ => h, fun h => absurd (by decide) h⟩
    | succ m ih =>
      intro k hk h
      refine ⟨fun h => absurd h (nI_ge (b := 12) (by omega) (by omega)), fun _ => ?_⟩
      simp (disch := omega) only [a3, a15, nI_clamp]
      rw [show atR (a j) x (m + 1) k = if a j (3 + k) = 1 ∧ a j (15 + k) = x then nI k else atR (a j) x m (k + 1) from rfl] at h
      refine ⟨vp_in_nI (by omega) (by omega), fun h1 z e => ?_, fun h1 => ⟨vp_in_nI (by omega) (by omega), fun h2 z e => ?_, fun h2 => ?_⟩⟩
      · subst e
        rw [nI_1]
        exact ih (k + 1) (by omega) (by rw [if_neg (fun z => h1 z.1)] at h; exact h)
      · subst e
        rw [nI_1]
        exact ih (k + 1) (by omega) (by rw [if_neg (fun z => h2 z.2)] at h; exact h)
      · rw [if_pos ⟨h1, h2⟩] at h
        exact h
  exact ⟨13, key 12 0 rfl rfl⟩
theorem behN_rng (f : Nat → Int32) (m : Int32) (k : Nat) : behN f m k = -1 ∨ ∃ p, p < k ∧ behN f m k = nI p := by
  induction k with
  | zero => exact Or.inl rfl
  | succ k ih =>
    unfold behN
    split
    · exact Or.inr ⟨k, by omega, rfl⟩
    · rcases ih with h | ⟨p, h1, h2⟩
      · exact Or.inl h
      · exact Or.inr ⟨p, by omega, h2⟩
theorem behN_pt (f : Nat → Int32) (m : Int32) : isPt (behN f m 12) := behN_rng f m 12
theorem pr_X6_innBehind (i : Nat → Int32) (a : Nat → Nat → Int32) (q : Nat → Nat) (j : Nat) (hj_j : m78 j = true) (x : Int32) : wp_X6_innBehind (fun r => post_X6_innBehind i a q j x r) i a q j x := by
  have key : ∀ m k, k + m = 12 → wpb_X6_innBehind_4 (fun r => post_X6_innBehind i a q j x r) i a q j x (m + 1) (behN (a j) x k) (nI k) := by
    intro m
    induction m with
    | zero =>
      intro k hk
      have : k = 12 := by omega
      subst this
      exact ⟨fun _ => rfl, fun h => absurd (by decide) h⟩
    | succ m ih =>
      intro k hk
      refine ⟨fun h => absurd h (nI_ge (b := 12) (by omega) (by omega)), fun _ => ?_⟩
      have no : ¬ (a j (3 + k) = 1 ∧ x < a j (15 + k) ∧ (behN (a j) x k = -1 ∨ a j (15 + k) < a j (15 + (behN (a j) x k).toNatClampNeg))) → wpb_X6_innBehind_65 (fun r => post_X6_innBehind i a q j x r) (wpb_X6_innBehind_4 (fun r => post_X6_innBehind i a q j x r) i a q j x (m + 1)) i a q j x (behN (a j) x k) (nI k) := by
        intro h z e
        subst e
        rw [nI_1]
        have := ih (k + 1) (by omega)
        rw [behN, if_neg h] at this
        exact this
      have yes : (a j (3 + k) = 1 ∧ x < a j (15 + k) ∧ (behN (a j) x k = -1 ∨ a j (15 + k) < a j (15 + (behN (a j) x k).toNatClampNeg))) → wpb_X6_innBehind_61 (fun r => post_X6_innBehind i a q j x r) (wpb_X6_innBehind_4 (fun r => post_X6_innBehind i a q j x r) i a q j x (m + 1)) i a q j x (nI k) := by
        intro h z e
        subst e
        rw [nI_1]
        have := ih (k + 1) (by omega)
        rw [behN, if_pos h] at this
        exact this
      simp (disch := omega) only [a3, a15, nI_clamp]
      refine ⟨vp_in_nI (by omega) (by omega), fun h1 => ⟨fun _ => no (fun z => h1 z.1), fun z => absurd rfl z⟩, fun h1 => ⟨vp_in_nI (by omega) (by omega), fun h2 => ⟨fun _ => no (fun z => Int32.not_lt.mpr h2 z.2.1), fun z => absurd rfl z⟩, fun h2 => ⟨fun z => absurd z (by decide), fun _ => ⟨fun h3 => yes ⟨h1, Int32.not_le.mp h2, Or.inl h3⟩, fun h3 => ?_⟩⟩⟩⟩
      rcases behN_rng (a j) x k with h4 | ⟨p, hp, h4⟩
      · exact absurd h4 h3
      · rw [h4] at no yes ⊢
        simp (disch := omega) only [a15, nI_clamp] at no yes ⊢
        refine ⟨vp_in_nI (by omega) (by omega), vp_in_nI (by omega) (by omega), fun h5 => no (fun z => ?_), fun h5 => yes ⟨h1, Int32.not_le.mp h2, Or.inr (Int32.not_le.mp h5)⟩⟩
        rcases z.2.2 with z | z
        · rw [← h4] at z
          exact h3 z
        · exact Int32.not_lt.mpr h5 z
  exact ⟨13, key 12 0 rfl⟩
/-- row k gets the first n cells of row j -/
def cpyN (a : Nat → Nat → Int32) (j k n : Nat) : Nat → Nat → Int32 := fun r x => if r = k ∧ x < n then a j x else a r x
theorem wp_copies_N (i : Nat → Int32) (a : Nat → Nat → Int32) (q : Nat → Nat) (j : Nat) (k : Nat) : wp_X6_copies (fun u => u = (i, cpyN a j k 78, q)) i a q j k := by
  have key : ∀ m n, n + m = 78 → wpb_X6_copies_2 (fun u => u = (i, cpyN a j k 78, q)) j k (m + 1) i (cpyN a j k n) q (nI n) := by
    intro m
    induction m with
    | zero =>
      intro n hn
      have : n = 78 := by omega
      subst this
      exact ⟨fun _ => rfl, fun h => absurd (by decide) h⟩
    | succ m ih =>
      intro n hn
      refine ⟨fun h => absurd h (nI_ge (b := 78) (by omega) (by omega)), fun _ => ?_⟩
      rw [nI_clamp (by omega)]
      refine ⟨vp_in_nI (by omega) (by omega), vp_in_nI (by omega) (by omega), fun a2 e2 z3 e3 => ?_⟩
      subst e3
      rw [nI_1]
      have : a2 = cpyN a j k (n + 1) := by
        rw [e2]
        funext r x
        unfold updA cpyN upd
        by_cases hr : r = k
        · subst hr
          by_cases hx : x = n
          · subst hx; simp
          · simp only [if_true, hx, if_false, true_and]
            by_cases h1 : x < n
            · rw [if_pos h1, if_pos (by omega)]
            · rw [if_neg h1, if_neg (by omega)]
        · simp [hr]
      rw [this]
      exact ih (n + 1) (by omega)
  have h0 : cpyN a j k 0 = a := by
    funext r x
    unfold cpyN
    rw [if_neg (by omega)]
  have h := key 78 0 rfl
  rw [h0] at h
  exact ⟨79, h⟩
theorem pr_X6_builds (i : Nat → Int32) (a : Nat → Nat → Int32) (q : Nat → Nat) (j : Nat) (hj_j : m78 j = true) (x : Int32) (y : Int32) (hpre : pre_X6_builds i a q j x y) : wp_X6_builds (fun u => post_X6_builds i a q j x y u) i a q j x y := by
  obtain ⟨k, hk, rfl⟩ := hpre
  unfold wp_X6_builds post_X6_builds
  simp (disch := omega) only [a3, a15, a27, a39, nI_clamp, forall_eq, updA_setR, setR_self, setR_setR]
  exact ⟨vp_in_nI (by omega) (by omega), vp_in_nI (by omega) (by omega), vp_in_nI (by omega) (by omega), vp_in_nI (by omega) (by omega), rfl⟩
theorem innsN_congr {f h : Nat → Int32} (e : ∀ x, x < 27 → f x = h x) : ∀ k, k ≤ 12 → innsN f k = innsN h k := by
  intro k
  induction k with
  | zero => intro _; rfl
  | succ k ih => intro hk; unfold innsN; rw [ih (by omega), e _ (by omega)]
theorem behN_congr {f h : Nat → Int32} (e : ∀ x, x < 27 → f x = h x) (m : Int32) : ∀ k, k ≤ 12 → behN f m k = behN h m k := by
  intro k
  induction k with
  | zero => intro _; rfl
  | succ k ih =>
    intro hk
    unfold behN
    rw [ih (by omega), e (3 + k) (by omega), e (15 + k) (by omega)]
    rcases behN_rng h m k with h1 | ⟨p, hp, h1⟩
    · rw [h1]; simp
    · rw [h1, nI_clamp (by omega), e (15 + p) (by omega)]
theorem nxF_congr {f h : Nat → Int32} (e : ∀ x, x < 27 → f x = h x) {k : Nat} (hk : k < 12) : nxF f k = nxF h k := by
  unfold nxF
  rw [e (3 + k) (by omega), e (15 + k) (by omega), behN_congr e _ 12 (by omega)]
theorem nxF_pt (f : Nat → Int32) (k : Nat) : isPt (nxF f k) := by
  unfold nxF
  split
  · exact behN_pt _ _
  · exact Or.inl rfl
/-- the rows on the way of rebuilds -/
def rb1 (f : Nat → Int32) (k : Nat) : Nat → Int32 := fun x => if x = 51 then behN f (-1) 12 else if x = 53 then innsN f 12 else if 54 ≤ x ∧ x < 54 + k then nxF f (x - 54) else f x
def rb2 (f : Nat → Int32) (k : Nat) : Nat → Int32 := fun x => if x = 52 then (if behN f (-1) 12 = -1 then -1 else nxF f (behN f (-1) 12).toNatClampNeg) else if 66 ≤ x ∧ x < 66 + k then (if nxF f (x - 66) = -1 then -1 else nxF f (nxF f (x - 66)).toNatClampNeg) else rb1 f 12 x
theorem rb1_lo {f : Nat → Int32} {k x : Nat} (h : x < 27) : f x = rb1 f k x := by
  unfold rb1
  rw [if_neg (by omega), if_neg (by omega), if_neg (by omega)]
theorem rb1_nx {f : Nat → Int32} {k p : Nat} (h : p < k) (hk : k ≤ 12) : rb1 f k (54 + p) = nxF f p := by
  unfold rb1
  rw [if_neg (by omega), if_neg (by omega), if_pos (by omega), Nat.add_sub_cancel_left]
theorem rb2_nx {f : Nat → Int32} {k p : Nat} (h : p < 12) : rb2 f k (54 + p) = nxF f p := by
  unfold rb2
  rw [if_neg (by omega), if_neg (by omega)]
  exact rb1_nx h (by omega)
theorem pr_X6_rebuilds (i : Nat → Int32) (a : Nat → Nat → Int32) (q : Nat → Nat) (j : Nat) (hj_j : m78 j = true) : wp_X6_rebuilds (fun u => post_X6_rebuilds i a q j u) i a q j := by
  obtain ⟨f, hf⟩ : ∃ f, f = a j := ⟨_, rfl⟩
  -- the second loop
  have key2 : ∀ m k, k + m = 12 → wpb_X6_rebuilds_87 (fun u => post_X6_rebuilds i a q j u) j (m + 1) i (setR a j (rb2 f k)) q (nI k) := by
    intro m
    induction m with
    | zero =>
      intro k hk
      have : k = 12 := by omega
      subst this
      refine ⟨fun _ => ?_, fun h => absurd (by decide) h⟩
      show (i, setR a j (rb2 f 12), q) = (i, setR a j (rebF (a j)), q)
      rw [← hf]
      congr 3
      funext x
      unfold rb2 rb1 rebF
      repeat (first | (split <;> first | rfl | (exfalso; omega) | skip) | rfl)
      all_goals first | rfl | (exfalso; omega)
    | succ m ih =>
      intro k hk
      refine ⟨fun h => absurd h (nI_ge (b := 12) (by omega) (by omega)), fun _ => ?_⟩
      have fin : ∀ v : Int32, v = (if nxF f k = -1 then -1 else nxF f (nxF f k).toNatClampNeg) → wpb_X6_rebuilds_123 (fun u => post_X6_rebuilds i a q j u) (wpb_X6_rebuilds_87 (fun u => post_X6_rebuilds i a q j u) j (m + 1)) j i (setR a j (rb2 f k)) q (nI k) v (nI (66 + k)) := by
        intro v hv
        unfold wpb_X6_rebuilds_123
        simp (disch := omega) only [nI_clamp, forall_eq, updA_setR, setR_self, setR_setR, nI_1]
        refine ⟨vp_in_nI (by omega) (by omega), ?_⟩
        have : upd (rb2 f k) (66 + k) v = rb2 f (k + 1) := by
          funext x
          unfold upd
          by_cases hx : x = 66 + k
          · subst hx
            rw [if_pos rfl, hv]
            unfold rb2
            rw [if_neg (show ¬ 66 + k = 52 by omega), if_pos (show 66 ≤ 66 + k ∧ 66 + k < 66 + (k + 1) by omega), Nat.add_sub_cancel_left]
          · rw [if_neg hx]
            unfold rb2
            by_cases h52 : x = 52
            · rw [if_pos h52, if_pos h52]
            · rw [if_neg h52, if_neg h52]
              by_cases h1 : 66 ≤ x ∧ x < 66 + k
              · rw [if_pos h1, if_pos (show 66 ≤ x ∧ x < 66 + (k + 1) by omega)]
              · rw [if_neg h1, if_neg (show ¬ (66 ≤ x ∧ x < 66 + (k + 1)) by omega)]
        rw [this]
        exact ih (k + 1) (by omega)
      simp (disch := omega) only [a54, a66, nI_clamp, setR_self, rb2_nx]
      refine ⟨vp_in_nI (by omega) (by omega), fun h1 => ?_, fun h1 => fin (-1) (by rw [if_pos h1])⟩
      rcases nxF_pt f k with h2 | ⟨p, hp, h2⟩
      · exact absurd h2 h1
      · have h3 := fin (nxF f p) (by rw [if_neg h1, h2, nI_clamp (by omega)])
        rw [h2]
        simp (disch := omega) only [a54, nI_clamp, rb2_nx]
        exact ⟨vp_in_nI (by omega) (by omega), vp_in_nI (by omega) (by omega), h3⟩
  -- the first loop
  have key1 : ∀ m k, k + m = 12 → wpb_X6_rebuilds_19 (fun u => post_X6_rebuilds i a q j u) j (m + 1) i (setR a j (rb1 f k)) q (nI k) := by
    intro m
    induction m with
    | zero =>
      intro k hk
      have : k = 12 := by omega
      subst this
      refine ⟨fun _ => ?_, fun h => absurd (by decide) h⟩
      have fin : ∀ v : Int32, v = (if behN f (-1) 12 = -1 then -1 else nxF f (behN f (-1) 12).toNatClampNeg) → wpb_X6_rebuilds_84 (fun u => post_X6_rebuilds i a q j u) j i (setR a j (rb1 f 12)) q v 52 := by
        intro v hv
        refine ⟨by unfold vp_in; decide, fun a9 e9 => ⟨13, ?_⟩⟩
        subst e9
        rw [updA_setR, setR_self, setR_setR]
        have : upd (rb1 f 12) (52 : Int32).toNatClampNeg v = rb2 f 0 := by
          funext x
          show (if x = 52 then v else rb1 f 12 x) = _
          unfold rb2
          by_cases hx : x = 52
          · rw [if_pos hx, if_pos hx, hv]
          · rw [if_neg hx, if_neg hx, if_neg (by omega)]
        rw [this]
        exact key2 12 0 rfl
      have e51 : setR a j (rb1 f 12) j (51 : Int32).toNatClampNeg = behN f (-1) 12 := by rw [setR_self]; rfl
      rw [e51]
      refine ⟨by unfold vp_in; decide, fun h1 => ?_, fun h1 => fin (-1) (by rw [if_pos h1])⟩
      rcases behN_pt f (-1) with h2 | ⟨p, hp, h2⟩
      · exact absurd h2 h1
      · have h3 := fin (nxF f p) (by rw [if_neg h1, h2, nI_clamp (by omega)])
        rw [h2]
        simp (disch := omega) only [a54, nI_clamp, setR_self, rb1_nx]
        exact ⟨by unfold vp_in; decide, vp_in_nI (by omega) (by omega), h3⟩
    | succ m ih =>
      intro k hk
      refine ⟨fun h => absurd h (nI_ge (b := 12) (by omega) (by omega)), fun _ => ?_⟩
      have fin : ∀ v : Int32, v = nxF f k → wpb_X6_rebuilds_53 (fun u => post_X6_rebuilds i a q j u) (wpb_X6_rebuilds_19 (fun u => post_X6_rebuilds i a q j u) j (m + 1)) j i (setR a j (rb1 f k)) q (nI k) v (nI (54 + k)) := by
        intro v hv
        unfold wpb_X6_rebuilds_53
        simp (disch := omega) only [nI_clamp, forall_eq, updA_setR, setR_self, setR_setR, nI_1]
        refine ⟨vp_in_nI (by omega) (by omega), ?_⟩
        have : upd (rb1 f k) (54 + k) v = rb1 f (k + 1) := by
          funext x
          unfold upd
          by_cases hx : x = 54 + k
          · subst hx
            rw [if_pos rfl, hv, rb1_nx (by omega) (by omega)]
          · rw [if_neg hx]
            unfold rb1
            by_cases h52 : x = 51
            · rw [if_pos h52, if_pos h52]
            · rw [if_neg h52, if_neg h52]
              by_cases h53 : x = 53
              · rw [if_pos h53, if_pos h53]
              · rw [if_neg h53, if_neg h53]
                by_cases h1 : 54 ≤ x ∧ x < 54 + k
                · rw [if_pos h1, if_pos (show 54 ≤ x ∧ x < 54 + (k + 1) by omega)]
                · rw [if_neg h1, if_neg (show ¬ (54 ≤ x ∧ x < 54 + (k + 1)) by omega)]
        rw [this]
        exact ih (k + 1) (by omega)
      simp (disch := omega) only [a3, a15, a54, nI_clamp, setR_self]
      rw [← rb1_lo (f := f) (k := k) (x := 3 + k) (by omega), ← rb1_lo (f := f) (k := k) (x := 15 + k) (by omega)]
      refine ⟨vp_in_nI (by omega) (by omega), fun h1 => fin (-1) (by unfold nxF; rw [if_neg h1]), fun h1 => ⟨vp_in_nI (by omega) (by omega), fun r8 e8 => fin r8 ?_⟩⟩
      rw [e8, setR_self]
      unfold nxF
      rw [if_pos h1]
      exact (behN_congr (fun x hx => rb1_lo hx) _ 12 (by omega)).symm
  intro r1 e1
  refine ⟨by unfold vp_in; decide, fun a2 e2 r3 e3 => ⟨by unfold vp_in; decide, fun a4 e4 => ⟨13, ?_⟩⟩⟩
  have : a4 = setR a j (rb1 f 0) := by
    rw [e4, e2]
    rw [e2] at e3
    unfold post_X6_innsOf at e3
    unfold post_X6_innBehind at e1
    rw [updA_setR, updA_setR, setR_self, setR_setR]
    congr 1
    funext x
    rw [updA_setR, setR_self] at e3
    show (if x = 53 then r3 else if x = 51 then r1 else a j x) = _
    unfold rb1
    by_cases h51 : x = 51
    · subst h51
      rw [if_neg (by decide), if_pos rfl, if_pos rfl, e1, hf]
    · rw [if_neg h51, if_neg h51, if_neg (show ¬ (54 ≤ x ∧ x < 54 + 0) by omega), hf]
      by_cases h53 : x = 53
      · rw [if_pos h53, if_pos h53, e3]
        refine innsN_congr (fun x hx => ?_) 12 (by omega)
        show (if x = 51 then r1 else a j x) = _
        rw [if_neg (by omega)]
      · rw [if_neg h53, if_neg h53]
  rw [this]
  exact key1 12 0 rfl
theorem pr_X6_laysDue (i : Nat → Int32) (a : Nat → Nat → Int32) (q : Nat → Nat) : wp_X6_laysDue (fun u => post_X6_laysDue i a q u) i a q := by
  intro i2 a3 q4 h1 i6 a7 q8 h2
  unfold post_X6_copies at h1
  unfold post_X6_rebuilds at h2
  cases h1
  cases h2
  show _ = _
  rw [setR_self, setR_setR]
theorem irem12 {k : Nat} (h : k < 78) (h2 : 54 ≤ k) : (nI k - 54) - (nI k - 54) / 12 * 12 = nI ((k - 54) % 12) := by
  have e : nI k - 54 = nI (k - 54) := pk_sub h2
  rw [e]
  exact pk_rem (a := k - 54) (d := 12) (by omega) (by omega) (by omega)
theorem pr_X6_isStored (i : Nat → Int32) (a : Nat → Nat → Int32) (q : Nat → Nat) (j : Nat) (hj_j : m78 j = true) (x : Int32) (hpre : pre_X6_isStored i a q j x) : wp_X6_isStored (fun r => post_X6_isStored i a q j x r) i a q j x := by
  obtain ⟨k, hk, rfl⟩ := hpre
  unfold wp_X6_isStored post_X6_isStored stoF
  rw [nI_clamp (by omega)]
  have l51 : nI k < 51 ↔ k < 51 := nI_ltI (b := 51) (by omega) (by omega)
  have l54 : nI k < 54 ↔ k < 54 := nI_ltI (b := 54) (by omega) (by omega)
  rw [l51, l54]
  refine ⟨fun h => ⟨isB_0, by rw [decide_eq_false (by omega)]; rfl⟩, fun h => ⟨fun h2 => ⟨isB_1, by rw [decide_eq_true (show 51 ≤ k by omega), decide_eq_true h2]; rfl⟩, fun h2 => ?_⟩⟩
  rw [irem12 hk (by omega)]
  simp (disch := omega) only [a3, nI_clamp]
  rw [decide_eq_true (show 51 ≤ k by omega), decide_eq_false h2]
  refine ⟨vp_in_nI (by omega) (by omega), fun h3 => ⟨isB_0, by rw [decide_eq_false h3]; rfl⟩, fun h3 => ⟨isB_1, by rw [decide_eq_true h3]; rfl⟩⟩
theorem pr_X6_wrongOnes (i : Nat → Int32) (a : Nat → Nat → Int32) (q : Nat → Nat) : wp_X6_wrongOnes (fun r u => post_X6_wrongOnes i a q r u) i a q := by
  intro i2 a3 q4 h
  unfold post_X6_laysDue at h
  cases h
  have e1 : setR a 4 (rebF (a 1)) 1 = a 1 := setR_ne (by decide)
  have key : ∀ m k, k + m = 27 → wpb_X6_wrongOnes_9 (fun r u => post_X6_wrongOnes i a q r u) (m + 1) i (setR a 4 (rebF (a 1))) q (nI (wroN (a 1) k)) (nI (51 + k)) := by
    intro m
    induction m with
    | zero =>
      intro k hk
      have : k = 27 := by omega
      subst this
      exact ⟨fun _ => ⟨rfl, rfl⟩, fun h => absurd (by decide) h⟩
    | succ m ih =>
      intro k hk
      refine ⟨fun h => absurd h (nI_ge (b := 78) (by omega) (by omega)), fun _ => ⟨⟨51 + k, by omega, rfl⟩, fun r6 h6 => ?_⟩⟩
      unfold post_X6_isStored at h6
      rw [e1, nI_clamp (by omega)] at h6
      have go : ∀ v, v = (if stoF (a 1) (51 + k) = true ∧ a 1 (51 + k) ≠ rebF (a 1) (51 + k) then 1 else 0) → wpb_X6_wrongOnes_47 (fun r u => post_X6_wrongOnes i a q r u) (wpb_X6_wrongOnes_9 (fun r u => post_X6_wrongOnes i a q r u) (m + 1)) i (setR a 4 (rebF (a 1))) q (nI (51 + k)) (nI v) (nI (wroN (a 1) k)) := by
        intro v hv z9 e9 z10 e10
        subst e9 e10
        rw [nI_add, nI_1, hv]
        exact ih (k + 1) (by omega)
      simp (disch := omega) only [nI_clamp, e1, setR_self]
      refine ⟨fun h7 => ?_, fun h7 => ⟨vp_in_nI (by omega) (by omega), vp_in_nI (by omega) (by omega), fun h8 => ?_, fun h8 => ?_⟩⟩
      · rw [h6] at h7
        refine go 0 ?_
        rw [if_neg]
        rw [b2i_0 h7]
        exact fun z => Bool.noConfusion z.1
      · exact go 0 (by rw [if_neg (fun z => z.2 h8)])
      · rw [h6] at h7
        exact go 1 (by rw [if_pos ⟨b2i_1 h7, h8⟩])
  exact ⟨28, key 27 0 rfl⟩
theorem pr_X6_positionOf (i : Nat → Int32) (a : Nat → Nat → Int32) (q : Nat → Nat) (x : Int32) (hpre : pre_X6_positionOf i a q x) : wp_X6_positionOf (fun r => post_X6_positionOf i a q x r) i a q x := by
  obtain ⟨c, hc, ec⟩ := hpre
  have key : ∀ m k, k + m = c → posR (a 7) x m k = posR (a 7) x c 0 → wpb_X6_positionOf_2 (fun r => post_X6_positionOf i a q x r) i a q x (m + 1) (nI k) := by
    intro m
    induction m with
    | zero =>
      intro k hk h
      have : k = c := by omega
      subst this
      refine ⟨fun _ => ?_, fun h => absurd (by rw [ec]; exact Int32.le_refl _) h⟩
      show (-1 : Int32) = posR (a 7) x (i 10).toNatClampNeg 0
      rw [ec, nI_clamp (by omega)]
      exact h
    | succ m ih =>
      intro k hk h
      refine ⟨fun h => absurd h (by rw [ec]; exact nI_ge (by omega) (by omega)), fun _ => ?_⟩
      rw [nI_clamp (by omega)]
      rw [show posR (a 7) x (m + 1) k = if a 7 k = x then nI k else posR (a 7) x m (k + 1) from rfl] at h
      refine ⟨vp_in_nI (by omega) (by omega), fun h1 z e => ?_, fun h1 => ?_⟩
      · subst e
        rw [nI_1]
        exact ih (k + 1) (by omega) (by rw [if_neg h1] at h; exact h)
      · rw [if_pos h1] at h
        show nI k = posR (a 7) x (i 10).toNatClampNeg 0
        rw [ec, nI_clamp (by omega)]
        exact h
  exact ⟨c + 1, key c 0 (by omega) rfl⟩
