set_option maxRecDepth 100000
/-! CLASS SIDE 3: ArrayList of Integers (of the cache). A list's cells: (l, 0) itself, (l, 1) its arrays -/
/-- the elements' boxes -/
def Bxs (g : gG) (p : Nat → Option Nat) (L : List Int32) : Prop := ∀ k y, L[k]? = some y → ∃ a, p k = some a ∧ IntAt g a y
/-- what lies in the first N places, if anything, is an Integer -/
def BxA (g : gG) (p : Nat → Option Nat) (N : Nat) : Prop := ∀ k y, k < N → p k = some y → ∃ v, IntAt g y v
def LsC (g : gG) (M : nM) (l : Nat) (L : List Int32) (mo : Int32) (e N : Nat) (p : Nat → Option Nat) : Prop :=
  M l = some ((l, 0), .inr (10, [.int mo, .ref e, .int (nI L.length)])) ∧ M e = some ((l, 1), .inl (g.2.2.2 4, N, .inr (.inr (.inr (.inr p))))) ∧ L.length ≤ N ∧ (N = 10 ∨ N = 15) ∧ Bxs g p L ∧ BxA g p N
def ListAt (g : gG) (M : nM) (l : Nat) (L : List Int32) : Prop :=
  (L = [] ∧ ∃ mo e, M l = some ((l, 0), .inr (10, [.int mo, .ref e, .int 0])) ∧ Emp g e) ∨ ∃ mo e N p, LsC g M l L mo e N p
def post_J0_init (_ : gG) (_ : nM) (_ : Nat) : Prop := True
def pre_J2_init (_ : gG) (M : nM) (o : Nat) : Prop := M o = some ((o, 0), .inr (10, [.int 0, .null, .int 0]))
def post_J2_init (_ : gG) (M : nM) (_ : Nat) (M' : nM) : Prop := M' = M
def pre_J3_init (_ : gG) (M : nM) (o : Nat) : Prop := M o = some ((o, 0), .inr (10, [.int 0, .null, .int 0]))
def post_J3_init (g : gG) (M : nM) (o : Nat) (M' : nM) : Prop := ListAt g M' o [] ∧ ExtB M M' o
def pre_J3_size (g : gG) (L : List Int32) (M : nM) (o : Nat) : Prop := ListAt g M o L
def post_J3_size (_ : gG) (L : List Int32) (_ : nM) (_ : Nat) (r : Int32) : Prop := r = nI L.length
def pre_J3_isEmpty (g : gG) (L : List Int32) (M : nM) (o : Nat) : Prop := ListAt g M o L ∧ L.length ≤ 15
def post_J3_isEmpty (_ : gG) (L : List Int32) (_ : nM) (_ : Nat) (r : Int32) : Prop := r = b2i L.isEmpty
def pre_J3_elementData (g : gG) (L : List Int32) (M : nM) (o : Nat) (x : Int32) : Prop := ListAt g M o L ∧ ∃ k, k < L.length ∧ x = nI k
def post_J3_elementData (g : gG) (L : List Int32) (_ : nM) (_ : Nat) (x : Int32) (r : Option Nat) : Prop := ∃ a, r = some a ∧ IntAt g a (L.getD x.toNatClampNeg 0)
def pre_J5_checkIndex (_ : gG) (_ : nM) (x y : Int32) : Prop := ¬ x < 0 ∧ x < y
def post_J5_checkIndex (_ : gG) (_ : nM) (x _ : Int32) (r : Int32) : Prop := r = x
def pre_J4_checkIndex (_ : gG) (_ : nM) (x y : Int32) : Prop := ¬ x < 0 ∧ x < y
def post_J4_checkIndex (_ : gG) (_ : nM) (x _ : Int32) (r : Int32) : Prop := r = x
def pre_J3_get (g : gG) (L : List Int32) (M : nM) (o : Nat) (x : Int32) : Prop := ListAt g M o L ∧ ∃ k, k < L.length ∧ x = nI k
def post_J3_get (g : gG) (L : List Int32) (_ : nM) (_ : Nat) (x : Int32) (r : Option Nat) : Prop := ∃ a, r = some a ∧ IntAt g a (L.getD x.toNatClampNeg 0)
def pre_J3_rangeCheckForAdd (g : gG) (L : List Int32) (M : nM) (o : Nat) (x : Int32) : Prop := ListAt g M o L ∧ ∃ k, k ≤ L.length ∧ x = nI k
def post_J3_rangeCheckForAdd (_ : gG) (_ : List Int32) (_ : nM) (_ : Nat) (_ : Int32) : Prop := True
def pre_J16_newLength (_ : gG) (_ : nM) (x y z : Int32) : Prop := x = 10 ∧ y = 1 ∧ z = 5
def post_J16_newLength (_ : gG) (_ : nM) (_ _ _ r : Int32) : Prop := r = 15
def pre_J18_copyOf_3 (g : gG) (NN : Nat) (pp : Nat → Option Nat) (_ : Nat × Nat) (M : nM) (u : Nat) (x : Int32) (z : Nat) : Prop := aQ g M 4 u NN pp ∧ NN = 10 ∧ x = 15 ∧ MirO g z ∧ BxA g pp NN
def post_J18_copyOf_3 (g : gG) (NN : Nat) (pp : Nat → Option Nat) (tg : Nat × Nat) (M : nM) (_ : Nat) (_ : Int32) (_ : Nat) (r : Option Nat) (M' : nM) : Prop :=
  ∃ q p, r = some q ∧ M q = none ∧ M' q = some (tg, .inl (g.2.2.2 4, 15, .inr (.inr (.inr (.inr p))))) ∧ (∀ k, k < NN → p k = pp k) ∧ (∀ k, NN ≤ k → p k = none) ∧ ∀ b, b ≠ q → M' b = M b
def pre_J18_copyOf_2 (g : gG) (NN : Nat) (pp : Nat → Option Nat) (_ : Nat × Nat) (M : nM) (u : Nat) (x : Int32) : Prop := aQ g M 4 u NN pp ∧ NN = 10 ∧ x = 15 ∧ BxA g pp NN
def post_J18_copyOf_2 (g : gG) (NN : Nat) (pp : Nat → Option Nat) (tg : Nat × Nat) (M : nM) (_ : Nat) (_ : Int32) (r : Option Nat) (M' : nM) : Prop :=
  ∃ q p, r = some q ∧ M q = none ∧ M' q = some (tg, .inl (g.2.2.2 4, 15, .inr (.inr (.inr (.inr p))))) ∧ (∀ k, k < NN → p k = pp k) ∧ (∀ k, NN ≤ k → p k = none) ∧ ∀ b, b ≠ q → M' b = M b
/-- a list whose array is full, to be made greater -/
def FullL (g : gG) (M : nM) (o : Nat) (L : List Int32) : Prop := (L = [] ∧ ∃ mo e, M o = some ((o, 0), .inr (10, [.int mo, .ref e, .int 0])) ∧ Emp g e) ∨ (L.length = 10 ∧ ∃ mo e p, LsC g M o L mo e 10 p)
def pre_J3_grow_2 (g : gG) (L : List Int32) (M : nM) (o : Nat) (x : Int32) : Prop := FullL g M o L ∧ x = nI (L.length + 1)
/-- behind it: the list on a greater array, all else as it was -/
def Grown (g : gG) (L : List Int32) (M : nM) (o : Nat) (r : Option Nat) (M' : nM) : Prop := ∃ mo e N p, r = some e ∧ LsC g M' o L mo e N p ∧ L.length < N ∧ fI M o 10 0 mo ∧ Kp M M' (· = o) ∧ ∀ b, b ≠ o → ∀ c, M b = some c → M' b = some c
def post_J3_grow_2 (g : gG) (L : List Int32) (M : nM) (o : Nat) (_ : Int32) (r : Option Nat) (M' : nM) : Prop := Grown g L M o r M'
def pre_J3_grow (g : gG) (L : List Int32) (M : nM) (o : Nat) : Prop := FullL g M o L
def post_J3_grow (g : gG) (L : List Int32) (M : nM) (o : Nat) (r : Option Nat) (M' : nM) : Prop := Grown g L M o r M'
/-- adding at a place -/
def Added (g : gG) (L' : List Int32) (M : nM) (o : Nat) (M' : nM) : Prop := ListAt g M' o L' ∧ Kp M M' (· = o)
def pre_J3_add_3 (g : gG) (L : List Int32) (v : Int32) (M : nM) (o b u : Nat) (x : Int32) : Prop := ListAt g M o L ∧ L.length ≤ 14 ∧ IntAt g b v ∧ fR M o 10 1 (some u) ∧ x = nI L.length
def post_J3_add_3 (g : gG) (L : List Int32) (v : Int32) (M : nM) (o _ _ : Nat) (_ : Int32) (M' : nM) : Prop := Added g (L ++ [v]) M o M'
def pre_J3_add_2 (g : gG) (L : List Int32) (v : Int32) (M : nM) (o b : Nat) : Prop := ListAt g M o L ∧ L.length ≤ 14 ∧ IntAt g b v
def post_J3_add_2 (g : gG) (L : List Int32) (v : Int32) (M : nM) (o _ : Nat) (_ : Int32) (M' : nM) : Prop := Added g (L ++ [v]) M o M'
def pre_J3_add (g : gG) (L : List Int32) (v : Int32) (M : nM) (o : Nat) (x : Int32) (b : Nat) : Prop := ListAt g M o L ∧ L.length ≤ 14 ∧ IntAt g b v ∧ ∃ k, k ≤ L.length ∧ x = nI k
def post_J3_add (g : gG) (L : List Int32) (v : Int32) (M : nM) (o : Nat) (x : Int32) (_ : Nat) (M' : nM) : Prop := Added g (L.take x.toNatClampNeg ++ v :: L.drop x.toNatClampNeg) M o M'
/-- the first place of v, or -1 -/
def ixL (v : Int32) : List Int32 → Nat → Int32
  | [], _ => -1
  | y :: t, k => if v = y then nI k else ixL v t (k + 1)
def pre_J3_indexOfRange (g : gG) (L : List Int32) (v : Int32) (M : nM) (o b : Nat) (x y : Int32) : Prop := ListAt g M o L ∧ L.length ≤ 15 ∧ IntAt g b v ∧ x = 0 ∧ y = nI L.length
def post_J3_indexOfRange (_ : gG) (L : List Int32) (v : Int32) (_ : nM) (_ _ : Nat) (_ _ r : Int32) : Prop := r = ixL v L 0
def pre_J3_indexOf (g : gG) (L : List Int32) (v : Int32) (M : nM) (o b : Nat) : Prop := ListAt g M o L ∧ L.length ≤ 15 ∧ IntAt g b v
def post_J3_indexOf (_ : gG) (L : List Int32) (v : Int32) (_ : nM) (_ _ : Nat) (r : Int32) : Prop := r = ixL v L 0
def pre_J3_contains (g : gG) (L : List Int32) (v : Int32) (M : nM) (o b : Nat) : Prop := ListAt g M o L ∧ L.length ≤ 15 ∧ IntAt g b v
def post_J3_contains (_ : gG) (L : List Int32) (v : Int32) (_ : nM) (_ _ : Nat) (r : Int32) : Prop := r = b2i (decide (v ∈ L))
def wp_J0_init (g : gG) (post : Prop) (M : nM) (o : Nat) : Prop :=
  post

def wp_J2_init (g : gG) (post : nM → Prop) (M : nM) (o : Nat) : Prop :=
  (post_J0_init g  M o → fL M o 10 0 ∧ ∀ M3, fW M M3 o 10 0 (.int 0) → post M3)

def wp_J3_init (g : gG) (post : nM → Prop) (M : nM) (o : Nat) : Prop :=
  pre_J2_init g  M o ∧ ∀ M2, post_J2_init g  M o M2 → ∀ q3, Emp g q3 → fL M2 o 10 1 ∧ ∀ M5, fW M2 M5 o 10 1 (.ref q3) → post M5

def wp_J3_size (g : gG) (L : List Int32) (post : Int32 → Prop) (M : nM) (o : Nat) : Prop :=
  ∃ v1, fI M o 10 2 v1 ∧ post v1

def wp_J3_isEmpty (g : gG) (L : List Int32) (post : Int32 → Prop) (M : nM) (o : Nat) : Prop :=
  ∃ v1, fI M o 10 2 v1 ∧ (¬ v1 = 0 → isB 0 ∧ post 0) ∧ (v1 = 0 → isB 1 ∧ post 1)

def wp_J3_elementData (g : gG) (L : List Int32) (post : Option Nat → Prop) (M : nM) (o : Nat) (x : Int32) : Prop :=
  ∃ v1, fR M o 10 1 (some v1) ∧ ∃ nf2 f2, aQ g M 4 v1 nf2 f2 ∧ vp_in x nf2 ∧ ∀ z3, z3 = f2 x.toNatClampNeg → post z3

def wp_J5_checkIndex (g : gG) (post : Int32 → Prop) (M : nM) (x : Int32) (y : Int32) : Prop :=
  (x < 0 → False) ∧ (¬ x < 0 → (x < y → post x) ∧ (¬ x < y → False))

def wp_J4_checkIndex (g : gG) (post : Int32 → Prop) (M : nM) (x : Int32) (y : Int32) : Prop :=
  pre_J5_checkIndex g  M x y ∧ ∀ r1, post_J5_checkIndex g  M x y r1 → post r1

def wp_J3_get (g : gG) (L : List Int32) (post : Option Nat → Prop) (M : nM) (o : Nat) (x : Int32) : Prop :=
  ∃ v1, fI M o 10 2 v1 ∧ pre_J4_checkIndex g  M x v1 ∧ ∀ r2, post_J4_checkIndex g  M x v1 r2 → ∃ g_3 : List Int32, pre_J3_elementData g g_3 M o x ∧ oC M o 10 ∧ ∀ r4, post_J3_elementData g g_3 M o x r4 → post r4

def wp_J3_rangeCheckForAdd (g : gG) (L : List Int32) (post : Prop) (M : nM) (o : Nat) (x : Int32) : Prop :=
  ∃ v1, fI M o 10 2 v1 ∧ (v1 < x → False) ∧ (¬ v1 < x → (0 ≤ x → post) ∧ (¬ 0 ≤ x → False))

def wp_J16_newLength (g : gG) (post : Int32 → Prop) (M : nM) (x : Int32) (y : Int32) (z : Int32) : Prop :=
  ∀ z1, z1 = (x + (if y < z then z else y)) → (z1 ≤ (0 : Int32) → False) ∧ (¬ z1 ≤ (0 : Int32) → (2147483639 < z1 → False) ∧ (¬ 2147483639 < z1 → post z1))

def wp_J18_copyOf_3 (g : gG) (NN : Nat) (pp : Nat → Option Nat) (tg : Nat × Nat) (post : Option Nat → nM → Prop) (M : nM) (u : Nat) (x : Int32) (z : Nat) : Prop :=
  ∀ q1, MirO g q1 → (¬ (some z) = (some q1) → False) ∧ ((some z) = (some q1) → x = nI 15 ∧ ∀ q3 M4, M q3 = none → M4 = nup M q3 ((fun _ => tg) q3, .inl (g.2.2.2 4, 15, .inr (.inr (.inr (.inr (fun _ => none)))))) → ∃ nf5 f5, aQ g M4 4 u nf5 f5 ∧ ∃ nf6a f6a nf6b f6b, aQ g M4 4 u nf6a f6a ∧ aQ g M4 4 q3 nf6b f6b ∧ ¬ (0 : Int32) < 0 ∧ ¬ (0 : Int32) < 0 ∧ ¬ (if x < (Int32.ofNat nf5) then x else (Int32.ofNat nf5)) < 0 ∧ (0 : Int32).toNatClampNeg + (if x < (Int32.ofNat nf5) then x else (Int32.ofNat nf5)).toNatClampNeg ≤ nf6a ∧ (0 : Int32).toNatClampNeg + (if x < (Int32.ofNat nf5) then x else (Int32.ofNat nf5)).toNatClampNeg ≤ nf6b ∧ (∀ k y, k < nf6a → f6a k = some y → ∃ v, IntAt g y v) ∧ ∀ M7, aQW g M4 M7 4 q3 nf6b (va_cpy f6a f6b (0 : Int32).toNatClampNeg (0 : Int32).toNatClampNeg (if x < (Int32.ofNat nf5) then x else (Int32.ofNat nf5)).toNatClampNeg) → post (some q3) M7)

def wp_J18_copyOf_2 (g : gG) (NN : Nat) (pp : Nat → Option Nat) (tg : Nat × Nat) (post : Option Nat → nM → Prop) (M : nM) (u : Nat) (x : Int32) : Prop :=
  ∃ nq1 fq1, aQ g M 4 u nq1 fq1 ∧ ∀ q1, MirO g q1 → ∃ g_2 : Nat, ∃ g_3 : Nat → Option Nat, ∃ g_4 : Nat × Nat, pre_J18_copyOf_3 g g_2 g_3 g_4 M u x q1 ∧ ∀ r5 M6, post_J18_copyOf_3 g g_2 g_3 g_4 M u x q1 r5 M6 → post r5 M6

def wpb_J3_grow_2_20 (post : Option Nat → nM → Prop)  (g : gG) (L : List Int32) (o : Nat) (x : Int32) (M : nM) (kc : Nat) (ks : Nat) (x2 : Int32) : Prop :=
  kc ≤ 1 ∧ ks ≤ 15 ∧ pre_J16_newLength g  M x2 (x - x2) (x2 >>> (1 &&& 31)) ∧ ∀ r12, post_J16_newLength g  M x2 (x - x2) (x2 >>> (1 &&& 31)) r12 → ∃ v13, fR M o 10 1 (some v13) ∧ ∃ g_14 : Nat, ∃ g_15 : Nat → Option Nat, ∃ g_16 : Nat × Nat, pre_J18_copyOf_2 g g_14 g_15 g_16 M v13 r12 ∧ kc + 1 ≤ 1 ∧ ks + 15 ≤ 15 ∧ ∀ r17 M19, post_J18_copyOf_2 g g_14 g_15 g_16 M v13 r12 r17 M19 → fL M19 o 10 1 ∧ ∀ M21, fW M19 M21 o 10 1 (va_rf r17) → post r17 M21
def wp_J3_grow_2 (g : gG) (L : List Int32) (post : Option Nat → nM → Prop) (M : nM) (o : Nat) (x : Int32) : Prop :=
  ∃ v1, fR M o 10 1 (some v1) ∧ ∃ nf2, ALen g M v1 nf2 ∧ ∀ z3, z3 = (Int32.ofNat nf2) → (0 < z3 → wpb_J3_grow_2_20 post  g L o x M 0 0 z3) ∧ (¬ 0 < z3 → ∃ v5, fR M o 10 1 (some v5) ∧ ∀ q6, Emp g q6 → ((some v5) = (some q6) → (if 10 < x then x else 10) = nI 10 ∧ ∀ q8 M9, M q8 = none → M9 = nup M q8 ((fun _ => (o, 1)) q8, .inl (g.2.2.2 4, 10, .inr (.inr (.inr (.inr (fun _ => none)))))) → fL M9 o 10 1 ∧ ∀ M11, fW M9 M11 o 10 1 (.ref q8) → post (some q8) M11) ∧ (¬ (some v5) = (some q6) → wpb_J3_grow_2_20 post  g L o x M 0 0 z3))

def wp_J3_grow (g : gG) (L : List Int32) (post : Option Nat → nM → Prop) (M : nM) (o : Nat) : Prop :=
  ∃ v1, fI M o 10 2 v1 ∧ ∃ g_2 : List Int32, pre_J3_grow_2 g g_2 M o (v1 + 1) ∧ oC M o 10 ∧ ∀ r3 M4, post_J3_grow_2 g g_2 M o (v1 + 1) r3 M4 → post r3 M4

def wpb_J3_add_3_11 (post : nM → Prop)  (g : gG) (L : List Int32) (v : Int32) (o : Nat) (b : Nat) (x : Int32) (M : nM) (kc : Nat) (ks : Nat) (x2 : Nat) : Prop :=
  kc ≤ 1 ∧ ks ≤ 15 ∧ (∃ v, IntAt g b v) ∧ ∃ nf7 f7, aQ g M 4 x2 nf7 f7 ∧ vp_in x nf7 ∧ ∀ M8, aQW g M M8 4 x2 nf7 (va_up f7 x.toNatClampNeg (some b)) → fL M8 o 10 2 ∧ ∀ M10, fW M8 M10 o 10 2 (.int (x + 1)) → post M10
def wp_J3_add_3 (g : gG) (L : List Int32) (v : Int32) (post : nM → Prop) (M : nM) (o : Nat) (b : Nat) (u : Nat) (x : Int32) : Prop :=
  ∃ nf1, ALen g M u nf1 ∧ (¬ x = (Int32.ofNat nf1) → wpb_J3_add_3_11 post  g L v o b x M 0 0 u) ∧ (x = (Int32.ofNat nf1) → ∃ g_3 : List Int32, pre_J3_grow g g_3 M o ∧ oC M o 10 ∧ ∀ r4 M5, post_J3_grow g g_3 M o r4 M5 → ∃ b6, r4 = some b6 ∧ wpb_J3_add_3_11 post  g L v o b x M5 1 15 b6)

def wp_J3_add_2 (g : gG) (L : List Int32) (v : Int32) (post : Int32 → nM → Prop) (M : nM) (o : Nat) (b : Nat) : Prop :=
  ∃ v1, fI M o 10 0 v1 ∧ fL M o 10 0 ∧ ∀ M3, fW M M3 o 10 0 (.int (v1 + 1)) → ∃ v4, fR M3 o 10 1 (some v4) ∧ ∃ v5, fI M3 o 10 2 v5 ∧ ∃ g_6 : List Int32, ∃ g_7 : Int32, pre_J3_add_3 g g_6 g_7 M3 o b v4 v5 ∧ oC M3 o 10 ∧ ∀ M9, post_J3_add_3 g g_6 g_7 M3 o b v4 v5 M9 → isB 1 ∧ post 1 M9

def wpb_J3_add_38 (post : nM → Prop)  (g : gG) (L : List Int32) (v : Int32) (o : Nat) (x : Int32) (b : Nat) (M : nM) (kc : Nat) (ks : Nat) (x3 : Int32) (x4 : Nat) : Prop :=
  kc ≤ 1 ∧ ks ≤ 15 ∧ ∃ nf14a f14a nf14b f14b, aQ g M 4 x4 nf14a f14a ∧ aQ g M 4 x4 nf14b f14b ∧ ¬ x < 0 ∧ ¬ (x + 1) < 0 ∧ ¬ (x3 - x) < 0 ∧ x.toNatClampNeg + (x3 - x).toNatClampNeg ≤ nf14a ∧ (x + 1).toNatClampNeg + (x3 - x).toNatClampNeg ≤ nf14b ∧ (∀ k y, k < nf14a → f14a k = some y → ∃ v, IntAt g y v) ∧ ∀ M15, aQW g M M15 4 x4 nf14b (va_cpy f14a f14b x.toNatClampNeg (x + 1).toNatClampNeg (x3 - x).toNatClampNeg) → (∃ v, IntAt g b v) ∧ ∃ nf16 f16, aQ g M15 4 x4 nf16 f16 ∧ vp_in x nf16 ∧ ∀ M17, aQW g M15 M17 4 x4 nf16 (va_up f16 x.toNatClampNeg (some b)) → fL M17 o 10 2 ∧ ∀ M19, fW M17 M19 o 10 2 (.int (x3 + 1)) → post M19
def wp_J3_add (g : gG) (L : List Int32) (v : Int32) (post : nM → Prop) (M : nM) (o : Nat) (x : Int32) (b : Nat) : Prop :=
  ∃ g_1 : List Int32, pre_J3_rangeCheckForAdd g g_1 M o x ∧ oC M o 10 ∧ (post_J3_rangeCheckForAdd g g_1 M o x → ∃ v3, fI M o 10 0 v3 ∧ fL M o 10 0 ∧ ∀ M5, fW M M5 o 10 0 (.int (v3 + 1)) → ∃ v6, fI M5 o 10 2 v6 ∧ ∃ v7, fR M5 o 10 1 (some v7) ∧ ∃ nf8, ALen g M5 v7 nf8 ∧ (¬ v6 = (Int32.ofNat nf8) → wpb_J3_add_38 post  g L v o x b M5 0 0 v6 v7) ∧ (v6 = (Int32.ofNat nf8) → ∃ g_10 : List Int32, pre_J3_grow g g_10 M5 o ∧ oC M5 o 10 ∧ ∀ r11 M12, post_J3_grow g g_10 M5 o r11 M12 → ∃ b13, r11 = some b13 ∧ wpb_J3_add_38 post  g L v o x b M12 1 15 v6 b13))

def wpb_J3_indexOfRange_42 (post : Int32 → Prop)  (g : gG) (L : List Int32) (v : Int32) (M : nM) (o : Nat) (b : Nat) (x : Int32) (y : Int32) : Nat → Nat → Int32 → Prop
  | 0 => fun _ _ => False
  | n + 1 => fun x4 x5 => (y ≤ x5 → post (-1)) ∧ (¬ y ≤ x5 → ∃ nf3 f3, aQ g M 4 x4 nf3 f3 ∧ vp_in x5 nf3 ∧ ∀ z4, z4 = f3 x5.toNatClampNeg → ∃ b5, z4 = some b5 ∧ ∃ g_6 : Int32, ∃ g_7 : Int32, pre_J7_equals g g_6 g_7 M b b5 ∧ (∃ v, IntAt g b v) ∧ ∀ r8, post_J7_equals g g_6 g_7 M b b5 r8 → (r8 = 0 → ∀ z10, z10 = x5 + 1 → (wpb_J3_indexOfRange_42 post  g L v M o b x y n) x4 z10) ∧ (¬ r8 = 0 → post x5))
def wp_J3_indexOfRange (g : gG) (L : List Int32) (v : Int32) (post : Int32 → Prop) (M : nM) (o : Nat) (b : Nat) (x : Int32) (y : Int32) : Prop :=
  ∃ v1, fR M o 10 1 (some v1) ∧ ∃ n_, wpb_J3_indexOfRange_42 post  g L v M o b x y n_ v1 x

def wp_J3_indexOf (g : gG) (L : List Int32) (v : Int32) (post : Int32 → Prop) (M : nM) (o : Nat) (b : Nat) : Prop :=
  ∃ v1, fI M o 10 2 v1 ∧ ∃ g_2 : List Int32, ∃ g_3 : Int32, pre_J3_indexOfRange g g_2 g_3 M o b 0 v1 ∧ oC M o 10 ∧ ∀ r4, post_J3_indexOfRange g g_2 g_3 M o b 0 v1 r4 → post r4

def wp_J3_contains (g : gG) (L : List Int32) (v : Int32) (post : Int32 → Prop) (M : nM) (o : Nat) (b : Nat) : Prop :=
  ∃ g_1 : List Int32, ∃ g_2 : Int32, pre_J3_indexOf g g_1 g_2 M o b ∧ oC M o 10 ∧ ∀ r3, post_J3_indexOf g g_1 g_2 M o b r3 → (r3 < 0 → isB 0 ∧ post 0) ∧ (¬ r3 < 0 → isB 1 ∧ post 1)
theorem pr_J0_init (g : gG) (M : nM) (o : Nat) : wp_J0_init g (post_J0_init g M o) M o := trivial
theorem nup_id {M : nM} {a : Nat} {c : nC} (h : M a = some c) : nup M a c = M := by
  funext b
  by_cases hb : b = a
  · subst hb; rw [nup_self, h]
  · rw [nup_ne hb]
theorem pr_J2_init (g : gG) (M : nM) (o : Nat) (hpre : pre_J2_init g M o) : wp_J2_init g (fun M' => post_J2_init g M o M') M o := by
  have h : M o = _ := hpre
  refine fun _ => ⟨⟨_, _, h, (by decide : (0:Nat) < 3)⟩, fun M1 w1 => ?_⟩
  rw [w1.eq h]
  exact nup_id h
theorem pr_J3_init (g : gG) (M : nM) (o : Nat) (hpre : pre_J3_init g M o) : wp_J3_init g (fun M' => post_J3_init g M o M') M o := by
  have h : M o = _ := hpre
  refine ⟨h, fun M1 e1 z hz => ?_⟩
  have e1 : M1 = M := e1
  subst e1
  refine ⟨⟨_, _, h, (by decide : (1:Nat) < 3)⟩, fun M2 w2 => ?_⟩
  have w2 := w2.eq h
  exact ⟨Or.inl ⟨rfl, _, z, nup_to w2, hz⟩, by rw [w2]; exact ExtB.up⟩
theorem ListAt.sz {g : gG} {M : nM} {o : Nat} {L : List Int32} (h : ListAt g M o L) : fI M o 10 2 (nI L.length) := by
  rcases h with ⟨rfl, mo, e, h, -⟩ | ⟨mo, e, N, p, h, -⟩
  · exact ⟨_, _, h, rfl⟩
  · exact ⟨_, _, h, rfl⟩
theorem ListAt.o {g : gG} {M : nM} {o : Nat} {L : List Int32} (h : ListAt g M o L) : oC M o 10 := by
  obtain ⟨t, fs, h, -⟩ := h.sz
  exact ⟨t, fs, h⟩
theorem ListAt.len {g : gG} {M : nM} {o : Nat} {L : List Int32} (h : ListAt g M o L) : L.length ≤ 15 := by
  rcases h with ⟨rfl, -⟩ | ⟨mo, e, N, p, -, -, h1, h2, -⟩
  · exact Nat.zero_le _
  · rcases h2 with rfl | rfl
    · exact Nat.le_trans h1 (by decide)
    · exact h1
theorem pr_J3_size (g : gG) (L : List Int32) (M : nM) (o : Nat) (hpre : pre_J3_size g L M o) : wp_J3_size g L (fun r => post_J3_size g L M o r) M o := ⟨_, ListAt.sz hpre, rfl⟩
theorem pr_J3_isEmpty (g : gG) (L : List Int32) (M : nM) (o : Nat) (hpre : pre_J3_isEmpty g L M o) : wp_J3_isEmpty g L (fun r => post_J3_isEmpty g L M o r) M o := by
  obtain ⟨h, hl⟩ := hpre
  refine ⟨_, h.sz, fun c => ⟨isB_0, ?_⟩, fun c => ⟨isB_1, ?_⟩⟩
  · cases L with
    | nil => exact absurd rfl c
    | cons a t => rfl
  · cases L with
    | nil => rfl
    | cons a t => exact absurd c (nI_ne0 (Nat.succ_pos _) (by omega))
theorem getD_some {L : List Int32} {k : Nat} (h : k < L.length) : L[k]? = some (L.getD k 0) := by
  rw [List.getD_eq_getElem?_getD, List.getElem?_eq_getElem h]; rfl
theorem pr_J3_elementData (g : gG) (L : List Int32) (M : nM) (o : Nat) (x : Int32) (hpre : pre_J3_elementData g L M o x) : wp_J3_elementData g L (fun r => post_J3_elementData g L M o x r) M o x := by
  obtain ⟨h, k, hk, rfl⟩ := hpre
  have hl := h.len
  rcases h with ⟨rfl, -⟩ | ⟨mo, e, N, p, h1, h2, h3, h4, h5, h6⟩
  · exact absurd hk (Nat.not_lt_zero _)
  · have hc : (nI k).toNatClampNeg = k := nI_clamp (by omega)
    refine ⟨e, ⟨_, _, h1, rfl⟩, N, p, ⟨_, h2⟩, nI_in (Nat.lt_of_lt_of_le hk h3) (by omega), fun z ez => ?_⟩
    rw [hc] at ez
    obtain ⟨a, ha, hi⟩ := h5 k _ (getD_some hk)
    refine ⟨a, ez.trans ha, ?_⟩
    rw [hc]; exact hi
theorem pr_J5_checkIndex (g : gG) (M : nM) (x : Int32) (y : Int32) (hpre : pre_J5_checkIndex g M x y) : wp_J5_checkIndex g (fun r => post_J5_checkIndex g M x y r) M x y :=
  ⟨fun c => hpre.1 c, fun _ => ⟨fun _ => rfl, fun c => c hpre.2⟩⟩
theorem pr_J4_checkIndex (g : gG) (M : nM) (x : Int32) (y : Int32) (hpre : pre_J4_checkIndex g M x y) : wp_J4_checkIndex g (fun r => post_J4_checkIndex g M x y r) M x y :=
  ⟨hpre, fun _ h => h⟩
theorem nI_ix {k n : Nat} (h : k < n) (hn : n < 2 ^ 31) : ¬ nI k < 0 ∧ nI k < nI n := ⟨nI_pos (by omega), nI_lt h hn⟩
theorem pr_J3_get (g : gG) (L : List Int32) (M : nM) (o : Nat) (x : Int32) (hpre : pre_J3_get g L M o x) : wp_J3_get g L (fun r => post_J3_get g L M o x r) M o x := by
  obtain ⟨h, k, hk, rfl⟩ := hpre
  have hl := h.len
  exact ⟨_, h.sz, nI_ix hk (by omega), fun _ _ => ⟨L, ⟨h, k, hk, rfl⟩, h.o, fun r hr => hr⟩⟩
theorem pr_J3_rangeCheckForAdd (g : gG) (L : List Int32) (M : nM) (o : Nat) (x : Int32) (hpre : pre_J3_rangeCheckForAdd g L M o x) : wp_J3_rangeCheckForAdd g L (post_J3_rangeCheckForAdd g L M o x) M o x := by
  obtain ⟨h, k, hk, rfl⟩ := hpre
  have hl := h.len
  exact ⟨_, h.sz, fun c => nI_nlt hk (by omega) c, fun _ => ⟨fun _ => trivial, fun c => c (nI_pos' (by omega))⟩⟩
theorem pr_J16_newLength (g : gG) (M : nM) (x : Int32) (y : Int32) (z : Int32) (hpre : pre_J16_newLength g M x y z) : wp_J16_newLength g (fun r => post_J16_newLength g M x y z r) M x y z := by
  obtain ⟨rfl, rfl, rfl⟩ := hpre
  intro z1 e1
  have e1 : z1 = 15 := e1.trans (by decide)
  subst e1
  exact ⟨fun c => absurd c (by decide), fun _ => ⟨fun c => absurd c (by decide), fun _ => rfl⟩⟩
theorem pr_J18_copyOf_3 (g : gG) (NN : Nat) (pp : Nat → Option Nat) (tg : Nat × Nat) (M : nM) (u : Nat) (x : Int32) (z : Nat) (hpre : pre_J18_copyOf_3 g NN pp tg M u x z) : wp_J18_copyOf_3 g NN pp tg (fun r M' => post_J18_copyOf_3 g NN pp tg M u x z r M') M u x z := by
  obtain ⟨⟨t, hu⟩, rfl, rfl, hz, hB⟩ := hpre
  intro q1 hq1
  refine ⟨fun c => c (congrArg some (hz.uniq hq1)), fun _ => ⟨rfl, fun q M1 hq e1 => ?_⟩⟩
  have duq : u ≠ q := nne hu hq
  have u1 := nup_at e1 duq hu
  have q1 := nup_to e1
  have ec : (if (15 : Int32) < Int32.ofNat 10 then (15 : Int32) else Int32.ofNat 10) = 10 := by decide
  have c10 : (10 : Int32).toNatClampNeg = 10 := rfl
  have c0 : (0 : Int32).toNatClampNeg = 0 := rfl
  refine ⟨10, pp, ⟨_, u1⟩, 10, pp, 15, _, ⟨_, u1⟩, ⟨_, q1⟩, (by decide), (by decide), ?_, ?_, ?_, hB, fun M2 w2 => ?_⟩
  · rw [ec]; decide
  · rw [ec]; decide
  · rw [ec]; decide
  · have w2 := w2.eq q1
    rw [ec, c10, c0] at w2
    refine ⟨q, _, rfl, hq, nup_to w2, fun k hk => ?_, fun k hk => ?_, fun b hb => ?_⟩
    · rw [pk_cpy_in (by omega) (by omega), Nat.sub_zero, Nat.zero_add]
    · rw [pk_cpy_out (Or.inr (by omega))]
    · rw [w2, nup_ne hb, e1, nup_ne hb]
theorem pr_J18_copyOf_2 (g : gG) (NN : Nat) (pp : Nat → Option Nat) (tg : Nat × Nat) (M : nM) (u : Nat) (x : Int32) (hpre : pre_J18_copyOf_2 g NN pp tg M u x) : wp_J18_copyOf_2 g NN pp tg (fun r M' => post_J18_copyOf_2 g NN pp tg M u x r M') M u x := by
  obtain ⟨hu, h1, h2, h3⟩ := hpre
  exact ⟨NN, pp, hu, fun q hq => ⟨NN, pp, tg, ⟨hu, h1, h2, hq, h3⟩, fun r M' h => h⟩⟩
theorem bxs_nil {g : gG} {p : Nat → Option Nat} : Bxs g p [] := fun k y h => by simp at h
theorem pr_J3_grow_2 (g : gG) (L : List Int32) (M : nM) (o : Nat) (x : Int32) (hpre : pre_J3_grow_2 g L M o x) : wp_J3_grow_2 g L (fun r M' => post_J3_grow_2 g L M o x r M') M o x := by
  obtain ⟨hF, rfl⟩ := hpre
  rcases hF with ⟨rfl, mo, e, ho, he⟩ | ⟨hl, mo, e, p, ho, he, h3, h4, h5, h6⟩
  · refine ⟨e, ⟨_, _, ho, rfl⟩, 0, Or.inr ⟨rfl, he⟩, fun z ez => ⟨fun c => ?_, fun _ => ⟨e, ⟨_, _, ho, rfl⟩, fun q hq => ⟨fun _ => ⟨by decide, fun a M1 ha e1 => ?_⟩, fun c => absurd (congrArg some (he.uniq hq)) c⟩⟩⟩⟩
    · rw [ez] at c; exact absurd c (by decide)
    · have doa : o ≠ a := nne ho ha
      have o1 := nup_at e1 doa ho
      have a1 := nup_to e1
      refine ⟨⟨_, _, o1, (by decide : (1:Nat) < 3)⟩, fun M2 w2 => ?_⟩
      have w2 := w2.eq o1
      refine ⟨mo, a, 10, fun _ => none, rfl, ⟨nup_to w2, nup_at w2 doa.symm a1, (by decide), Or.inl rfl, bxs_nil, (fun k y _ h => by cases h)⟩, (by decide), ⟨_, _, ho, rfl⟩, ?_, fun b hb c hc => ?_⟩
      · rw [w2, e1]
        exact (Kp.new ha).trans (Kp.ow (nup_at rfl doa ho) rfl)
      · rw [w2, nup_ne hb, e1, nup_ne (nne hc ha)]; exact hc
  · have hz : (Int32.ofNat 10) = nI 10 := rfl
    refine ⟨e, ⟨_, _, ho, rfl⟩, 10, Or.inl ⟨p, _, he⟩, fun z ez => ⟨fun _ => ?_, fun c => ?_⟩⟩
    · subst ez
      rw [hl] at ho ⊢
      refine ⟨Nat.zero_le _, Nat.zero_le _, ⟨rfl, by decide, by decide⟩, fun r er => ⟨e, ⟨_, _, ho, rfl⟩, 10, p, (o, 1), ⟨⟨_, he⟩, rfl, er, h6⟩, (by decide), (by decide), fun r2 M1 hr2 => ?_⟩⟩
      obtain ⟨q, p', rfl, hq, hq1, hp1, hp2, hb⟩ := hr2
      have doq : o ≠ q := nne ho hq
      have o1 := (hb o doq).trans ho
      refine ⟨⟨_, _, o1, (by decide : (1:Nat) < 3)⟩, fun M2 w2 => ?_⟩
      have w2 := w2.eq o1
      refine ⟨mo, q, 15, p', rfl, ⟨by rw [hl]; exact nup_to w2, nup_at w2 doq.symm hq1, by omega, Or.inr rfl, fun k y hy => ?_, fun k y hk hy => ?_⟩, by omega, ⟨_, _, ho, rfl⟩, ?_, fun b hb2 c hc => ?_⟩
      · have hk : k < L.length := by
          rcases Nat.lt_or_ge k L.length with h | h
          · exact h
          · rw [List.getElem?_eq_none h] at hy; cases hy
        rw [hp1 k (by omega)]; exact h5 k y hy
      · rcases Nat.lt_or_ge k 10 with h | h
        · rw [hp1 k h] at hy; exact h6 k y h hy
        · rw [hp2 k h] at hy; cases hy
      · have k1 : Kp M M1 (· = o) := fun b t e hbb _ _ => by rw [hb b (fun z => by rw [z, hq] at hbb; cases hbb)]; exact hbb
        rw [w2]
        exact k1.trans (Kp.ow o1 rfl)
      · rw [w2, nup_ne hb2, hb b (nne hc hq)]; exact hc
    · rw [ez] at c; exact absurd (by decide : (0 : Int32) < Int32.ofNat 10) c
theorem FullL.at {g : gG} {M : nM} {o : Nat} {L : List Int32} (h : FullL g M o L) : ListAt g M o L := by
  rcases h with ⟨h1, mo, e, h2, h3⟩ | ⟨h1, mo, e, p, h2⟩
  · exact Or.inl ⟨h1, mo, e, h2, h3⟩
  · exact Or.inr ⟨mo, e, 10, p, h2⟩
theorem pr_J3_grow (g : gG) (L : List Int32) (M : nM) (o : Nat) (hpre : pre_J3_grow g L M o) : wp_J3_grow g L (fun r M' => post_J3_grow g L M o r M') M o := by
  have hF : FullL g M o L := hpre
  exact ⟨_, hF.at.sz, L, ⟨hF, (nI_1 _)⟩, hF.at.o, fun r M' h => h⟩
theorem fR.uniq {M : nM} {o ci k : Nat} {x y : Option Nat} (h : fR M o ci k x) (h' : fR M o ci k y) : x = y := by
  obtain ⟨t, fs, h1, h2⟩ := h
  obtain ⟨t', fs', h3, h4⟩ := h'
  rw [h1] at h3
  cases h3
  rw [h2] at h4
  have := Option.some.inj h4
  cases x <;> cases y <;> first | rfl | (cases this; rfl) | cases this
/-- the list's array grown or not, one element more is laid in -/
theorem ls_put {g : gG} {M M1 M2 : nM} {o : Nat} {L L' : List Int32} {mo : Int32} {e N : Nat} {p p' : Nat → Option Nat} (h : LsC g M o L mo e N p) (hl : L'.length = L.length + 1) (hN : L.length < N) (w1 : M1 e = some ((o, 1), .inl (g.2.2.2 4, N, .inr (.inr (.inr (.inr p'))))) ∧ M1 o = M o ∧ Kp M M1 (· = o)) (hB : Bxs g p' L') (hA : BxA g p' N) (w2 : fW M1 M2 o 10 2 (.int (nI L.length + 1))) : Added g L' M o M2 := by
  obtain ⟨h1, h2, h3, h4, h5, h6⟩ := h
  obtain ⟨a1, a2, a3⟩ := w1
  rw [h1] at a2
  have w2 := w2.eq a2
  have deo : e ≠ o := mne h2 h1 kne
  refine ⟨Or.inr ⟨mo, e, N, p', ?_, nup_at w2 deo a1, by omega, h4, hB, hA⟩, ?_⟩
  · rw [hl, nI_succ]; exact nup_to w2
  · rw [w2]; exact a3.trans (Kp.ow a2 rfl)
theorem bxs_end {g : gG} {p : Nat → Option Nat} {L : List Int32} {v : Int32} {b : Nat} (h : Bxs g p L) (hb : IntAt g b v) : Bxs g (va_up p L.length (some b)) (L ++ [v]) := by
  intro k y hy
  rcases Nat.lt_trichotomy k L.length with hk | hk | hk
  · rw [List.getElem?_append_left hk] at hy
    obtain ⟨a, ha, hi⟩ := h k y hy
    exact ⟨a, (if_neg (by omega)).trans ha, hi⟩
  · subst hk
    rw [List.getElem?_append_right (Nat.le_refl _), Nat.sub_self] at hy
    cases hy
    exact ⟨b, if_pos rfl, hb⟩
  · rw [List.getElem?_eq_none (by rw [List.length_append]; simp; omega)] at hy
    cases hy
theorem bxa_up {g : gG} {p : Nat → Option Nat} {N k b : Nat} {v : Int32} (h : BxA g p N) (hb : IntAt g b v) : BxA g (va_up p k (some b)) N := by
  intro j y hj hy
  by_cases e : j = k
  · have : va_up p k (some b) j = some b := if_pos e
    rw [this] at hy; cases hy; exact ⟨v, hb⟩
  · have : va_up p k (some b) j = p j := if_neg e
    rw [this] at hy; exact h j y hj hy
theorem add3_blk {g : gG} {L : List Int32} {v : Int32} {M0 M : nM} {o b kc ks : Nat} {u : Nat} {mo : Int32} {e N : Nat} {p : Nat → Option Nat} (hb : IntAt g b v) (h : LsC g M o L mo e N p) (hN : L.length < N) (hK : Kp M0 M (· = o)) (hkc : kc ≤ 1) (hks : ks ≤ 15) : wpb_J3_add_3_11 (fun M' => post_J3_add_3 g L v M0 o b u (nI L.length) M') g L v o b (nI L.length) M kc ks e := by
  have hc : (nI L.length).toNatClampNeg = L.length := nI_clamp (by obtain ⟨_, _, h3, h4, _⟩ := h; omega)
  refine ⟨hkc, hks, ⟨v, hb⟩, N, p, ⟨_, h.2.1⟩, nI_in hN (by obtain ⟨_, _, h3, h4, _⟩ := h; omega), fun M1 w1 => ?_⟩
  have w1 := w1.eq h.2.1
  rw [hc] at w1
  have doe : o ≠ e := mne h.1 h.2.1 kne'
  have o1 := nup_at w1 doe rfl
  refine ⟨⟨_, _, o1.trans h.1, (by decide : (2:Nat) < 3)⟩, fun M2 w2 => ?_⟩
  have r := ls_put (L' := L ++ [v]) h (by rw [List.length_append]; rfl) hN ⟨nup_to w1, o1, by rw [w1]; exact Kp.ow h.2.1 rfl⟩ (bxs_end h.2.2.2.2.1 hb) (bxa_up h.2.2.2.2.2 hb) w2
  exact ⟨r.1, hK.trans r.2⟩
theorem pr_J3_add_3 (g : gG) (L : List Int32) (v : Int32) (M : nM) (o : Nat) (b : Nat) (u : Nat) (x : Int32) (hpre : pre_J3_add_3 g L v M o b u x) : wp_J3_add_3 g L v (fun M' => post_J3_add_3 g L v M o b u x M') M o b u x := by
  obtain ⟨h, hl, hb, hu, rfl⟩ := hpre
  have ho := h.o
  have grown : FullL g M o L → ∃ g_3 : List Int32, pre_J3_grow g g_3 M o ∧ oC M o 10 ∧ ∀ r4 M5, post_J3_grow g g_3 M o r4 M5 → ∃ b6, r4 = some b6 ∧ wpb_J3_add_3_11 (fun M' => post_J3_add_3 g L v M o b u (nI L.length) M') g L v o b (nI L.length) M5 1 15 b6 := fun hF =>
    ⟨L, hF, ho, fun r M1 ⟨mo, e, N, p, hr, h1, h2, h3, h4, h5⟩ => ⟨e, hr, add3_blk hb h1 h2 h4 (Nat.le_refl _) (Nat.le_refl _)⟩⟩
  rcases h with ⟨rfl, mo, e, h1, he⟩ | ⟨mo, e, N, p, h1⟩
  · have eu : u = e := by
      have := hu.uniq (y := some e) ⟨_, _, h1, rfl⟩
      cases this; rfl
    subst eu
    exact ⟨0, Or.inr ⟨rfl, he⟩, fun c => absurd rfl c, fun _ => grown (Or.inl ⟨rfl, mo, u, h1, he⟩)⟩
  · have eu : u = e := by
      have := hu.uniq (y := some e) ⟨_, _, h1.1, rfl⟩
      cases this; rfl
    subst eu
    have hN15 := h1.2.2.2.1
    refine ⟨N, Or.inl ⟨p, _, h1.2.1⟩, fun c => ?_, fun c => grown (Or.inr ?_)⟩
    · have : L.length ≠ N := fun e => c (by rw [e]; rfl)
      exact add3_blk hb h1 (Nat.lt_of_le_of_ne h1.2.2.1 this) Kp.rf (Nat.zero_le _) (Nat.zero_le _)
    · have c : nI L.length = nI N := c
      have : L.length = N := (nI_eq (by omega) (by omega)).mp c
      have : N = 10 := by omega
      subst this
      exact ⟨by omega, mo, u, p, h1⟩
/-- a change of modCount -/
theorem ListAt.mod {g : gG} {M M' : nM} {o : Nat} {L : List Int32} {z : Int32} (h : ListAt g M o L) (w : fW M M' o 10 0 (.int z)) : ListAt g M' o L ∧ Kp M M' (· = o) := by
  rcases h with ⟨rfl, mo, e, h1, he⟩ | ⟨mo, e, N, p, h1, h2, h3⟩
  · have w := w.eq h1
    exact ⟨Or.inl ⟨rfl, z, e, nup_to w, he⟩, by rw [w]; exact Kp.ow h1 rfl⟩
  · have w := w.eq h1
    exact ⟨Or.inr ⟨z, e, N, p, nup_to w, nup_at w (mne h2 h1 kne) h2, h3⟩, by rw [w]; exact Kp.ow h1 rfl⟩
theorem ListAt.mc {g : gG} {M : nM} {o : Nat} {L : List Int32} (h : ListAt g M o L) : ∃ mo e, fI M o 10 0 mo ∧ fL M o 10 0 ∧ fR M o 10 1 (some e) := by
  rcases h with ⟨rfl, mo, e, h1, he⟩ | ⟨mo, e, N, p, h1, h2, h3⟩
  · exact ⟨mo, e, ⟨_, _, h1, rfl⟩, ⟨_, _, h1, (by decide : (0:Nat) < 3)⟩, ⟨_, _, h1, rfl⟩⟩
  · exact ⟨mo, e, ⟨_, _, h1, rfl⟩, ⟨_, _, h1, (by decide : (0:Nat) < 3)⟩, ⟨_, _, h1, rfl⟩⟩
theorem pr_J3_add_2 (g : gG) (L : List Int32) (v : Int32) (M : nM) (o : Nat) (b : Nat) (hpre : pre_J3_add_2 g L v M o b) : wp_J3_add_2 g L v (fun r M' => post_J3_add_2 g L v M o b r M') M o b := by
  obtain ⟨h, hl, hb⟩ := hpre
  obtain ⟨mo, e, h1, h2, -⟩ := h.mc
  refine ⟨mo, h1, h2, fun M1 w1 => ?_⟩
  obtain ⟨h', k1⟩ := h.mod w1
  obtain ⟨mo', e', -, -, h3⟩ := h'.mc
  exact ⟨e', h3, _, h'.sz, L, v, ⟨h', hl, hb, h3, rfl⟩, h'.o, fun M2 ⟨a, k2⟩ => ⟨isB_1, a, k1.trans k2⟩⟩
theorem ins_at {L : List Int32} {v : Int32} {k j : Nat} (hk : k ≤ L.length) : (L.take k ++ v :: L.drop k)[j]? = if j < k then L[j]? else if j = k then some v else L[j - 1]? := by
  have e : (L.take k).length = k := by rw [List.length_take]; omega
  by_cases h : j < k
  · rw [if_pos h, List.getElem?_append_left (by omega), List.getElem?_take_of_lt h]
  · rw [if_neg h, List.getElem?_append_right (by omega), e]
    by_cases h2 : j = k
    · rw [if_pos h2, h2, Nat.sub_self]; rfl
    · rw [if_neg h2]
      obtain ⟨d, hd⟩ : ∃ d, j - k = d + 1 := ⟨j - k - 1, by omega⟩
      rw [hd, List.getElem?_cons_succ, List.getElem?_drop]
      congr 1; omega
theorem bxs_ins {g : gG} {p : Nat → Option Nat} {L : List Int32} {v : Int32} {b k : Nat} (h : Bxs g p L) (hb : IntAt g b v) (hk : k ≤ L.length) : Bxs g (va_up (va_cpy p p k (k + 1) (L.length - k)) k (some b)) (L.take k ++ v :: L.drop k) := by
  intro j y hy
  rw [ins_at hk] at hy
  by_cases h1 : j < k
  · rw [if_pos h1] at hy
    obtain ⟨a, ha, hi⟩ := h j y hy
    refine ⟨a, (if_neg (by omega)).trans ?_, hi⟩
    rw [pk_cpy_out (Or.inl (by omega))]; exact ha
  · rw [if_neg h1] at hy
    by_cases h2 : j = k
    · rw [if_pos h2] at hy; cases hy
      exact ⟨b, if_pos h2, hb⟩
    · rw [if_neg h2] at hy
      have hj : j - 1 < L.length := by
        rcases Nat.lt_or_ge (j - 1) L.length with z | z
        · exact z
        · rw [List.getElem?_eq_none z] at hy; cases hy
      obtain ⟨a, ha, hi⟩ := h (j - 1) y hy
      refine ⟨a, (if_neg h2).trans ?_, hi⟩
      rw [pk_cpy_in (by omega) (by omega), show k + (j - (k + 1)) = j - 1 by omega]; exact ha
theorem bxa_ins {g : gG} {p : Nat → Option Nat} {N k b n : Nat} {v : Int32} (h : BxA g p N) (hb : IntAt g b v) : BxA g (va_up (va_cpy p p k (k + 1) n) k (some b)) N := by
  refine bxa_up (fun j y hj hy => ?_) hb
  by_cases h1 : k + 1 ≤ j ∧ j < k + 1 + n
  · rw [pk_cpy_in h1.1 h1.2] at hy
    exact h _ y (by omega) hy
  · rw [pk_cpy_out (by omega)] at hy
    exact h j y hj hy
theorem add_blk {g : gG} {L : List Int32} {v : Int32} {M0 M : nM} {o b kc ks k : Nat} {mo : Int32} {e N : Nat} {p : Nat → Option Nat} (hb : IntAt g b v) (h : LsC g M o L mo e N p) (hN : L.length < N) (hk : k ≤ L.length) (hK : Kp M0 M (· = o)) (hkc : kc ≤ 1) (hks : ks ≤ 15) : wpb_J3_add_38 (fun M' => post_J3_add g L v M0 o (nI k) b M') g L v o (nI k) b M kc ks (nI L.length) e := by
  have hb15 : N ≤ 15 := by obtain ⟨_, _, h3, h4, _⟩ := h; omega
  have c1 : (nI k).toNatClampNeg = k := nI_clamp (by omega)
  have c2 : (nI k + 1).toNatClampNeg = k + 1 := by rw [nI_1]; exact nI_clamp (by omega)
  have c3 : (nI L.length - nI k).toNatClampNeg = L.length - k := by rw [pk_sub hk]; exact nI_clamp (by omega)
  refine ⟨hkc, hks, N, p, N, p, ⟨_, h.2.1⟩, ⟨_, h.2.1⟩, nI_pos (by omega), ?_, ?_, ?_, ?_, h.2.2.2.2.2, fun M1 w1 => ?_⟩
  · rw [nI_1]; exact nI_pos (by omega)
  · rw [pk_sub hk]; exact nI_pos (by omega)
  · rw [c1, c3]; omega
  · rw [c2, c3]; omega
  · have w1 := w1.eq h.2.1
    rw [c1, c2, c3] at w1
    have doe : o ≠ e := mne h.1 h.2.1 kne'
    have o1 := nup_at w1 doe rfl
    refine ⟨⟨v, hb⟩, N, _, ⟨_, nup_to w1⟩, nI_in (by omega) (by omega), fun M2 w2 => ?_⟩
    have w2 := w2.eq (nup_to w1)
    rw [c1] at w2
    have o2 := (nup_at w2 doe rfl).trans o1
    refine ⟨⟨_, _, o2.trans h.1, (by decide : (2:Nat) < 3)⟩, fun M3 w3 => ?_⟩
    have kk : Kp M M2 (· = o) := by
      rw [w2]
      refine Kp.trans (M1 := M1) (by rw [w1]; exact Kp.ow h.2.1 rfl) (Kp.ow (nup_to w1) rfl)
    have r := ls_put (L' := L.take k ++ v :: L.drop k) h (by rw [List.length_append, List.length_cons, List.length_take, List.length_drop]; omega) hN ⟨nup_to w2, o2, kk⟩ (bxs_ins h.2.2.2.2.1 hb hk) (bxa_ins h.2.2.2.2.2 hb) w3
    show Added g (L.take (nI k).toNatClampNeg ++ v :: L.drop (nI k).toNatClampNeg) M0 o M3
    rw [c1]
    exact ⟨r.1, hK.trans r.2⟩
theorem pr_J3_add (g : gG) (L : List Int32) (v : Int32) (M : nM) (o : Nat) (x : Int32) (b : Nat) (hpre : pre_J3_add g L v M o x b) : wp_J3_add g L v (fun M' => post_J3_add g L v M o x b M') M o x b := by
  obtain ⟨h, hl, hb, k, hk, rfl⟩ := hpre
  refine ⟨L, ⟨h, k, hk, rfl⟩, h.o, fun _ => ?_⟩
  obtain ⟨mo, e0, h1, h2, -⟩ := h.mc
  refine ⟨mo, h1, h2, fun M1 w1 => ?_⟩
  obtain ⟨h', k1⟩ := h.mod w1
  obtain ⟨mo', u, -, -, hu⟩ := h'.mc
  have ho := h'.o
  refine ⟨_, h'.sz, u, hu, ?_⟩
  have grown : FullL g M1 o L → ∃ g_3 : List Int32, pre_J3_grow g g_3 M1 o ∧ oC M1 o 10 ∧ ∀ r4 M5, post_J3_grow g g_3 M1 o r4 M5 → ∃ b6, r4 = some b6 ∧ wpb_J3_add_38 (fun M' => post_J3_add g L v M o (nI k) b M') g L v o (nI k) b M5 1 15 (nI L.length) b6 := fun hF =>
    ⟨L, hF, ho, fun r M5 ⟨mo, e, N, p, hr, h1, h2, h3, h4, h5⟩ => ⟨e, hr, add_blk hb h1 h2 hk (k1.trans h4) (Nat.le_refl _) (Nat.le_refl _)⟩⟩
  rcases h' with ⟨rfl, mo, e, h1, he⟩ | ⟨mo, e, N, p, h1⟩
  · have eu : u = e := by
      have := hu.uniq (y := some e) ⟨_, _, h1, rfl⟩
      cases this; rfl
    subst eu
    exact ⟨0, Or.inr ⟨rfl, he⟩, fun c => absurd rfl c, fun _ => grown (Or.inl ⟨rfl, mo, u, h1, he⟩)⟩
  · have eu : u = e := by
      have := hu.uniq (y := some e) ⟨_, _, h1.1, rfl⟩
      cases this; rfl
    subst eu
    have hN15 := h1.2.2.2.1
    refine ⟨N, Or.inl ⟨p, _, h1.2.1⟩, fun c => ?_, fun c => grown (Or.inr ?_)⟩
    · have : L.length ≠ N := fun e => c (by rw [e]; rfl)
      exact add_blk hb h1 (Nat.lt_of_le_of_ne h1.2.2.1 this) hk k1 (Nat.zero_le _) (Nat.zero_le _)
    · have c : nI L.length = nI N := c
      have : L.length = N := (nI_eq (by omega) (by omega)).mp c
      have : N = 10 := by omega
      subst this
      exact ⟨by omega, mo, u, p, h1⟩
theorem ix_loop {g : gG} {L : List Int32} {v : Int32} {M : nM} {o b : Nat} {mo : Int32} {e N : Nat} {p : Nat → Option Nat} (hb : IntAt g b v) (h : LsC g M o L mo e N p) : ∀ (n k : Nat), n + k = L.length → ixL v L 0 = ixL v (L.drop k) k → wpb_J3_indexOfRange_42 (fun r => post_J3_indexOfRange g L v M o b 0 (nI L.length) r) g L v M o b 0 (nI L.length) (n + 1) e (nI k) := by
  have hb15 : L.length ≤ 15 := by obtain ⟨_, _, h3, h4, _⟩ := h; omega
  intro n
  induction n with
  | zero =>
    intro k h1 h2
    refine ⟨fun _ => ?_, fun c => absurd (nI_le (by omega) (by omega)) c⟩
    rw [List.drop_eq_nil_of_le (by omega)] at h2
    exact h2.symm
  | succ n ih =>
    intro k h1 h2
    have hk : k < L.length := by omega
    refine ⟨fun c => absurd c (nI_ge hk (by omega)), fun _ => ⟨N, p, ⟨_, h.2.1⟩, nI_in (by have := h.2.2.1; omega) (by obtain ⟨_, _, h3, h4, _⟩ := h; omega), fun z ez => ?_⟩⟩
    rw [nI_clamp (by omega)] at ez
    obtain ⟨a, ha, hi⟩ := h.2.2.2.2.1 k _ (getD_some hk)
    refine ⟨a, ez.trans ha, v, L.getD k 0, ⟨hb, hi⟩, ⟨v, hb⟩, fun r er => ?_⟩
    have er : r = b2i (decide (v = L.getD k 0)) := er
    have ed : L.drop k = L.getD k 0 :: L.drop (k + 1) := by
      rw [List.drop_eq_getElem_cons hk]
      congr 1
      rw [List.getD_eq_getElem?_getD, List.getElem?_eq_getElem hk]; rfl
    have es : ixL v (L.getD k 0 :: L.drop (k + 1)) k = if v = L.getD k 0 then nI k else ixL v (L.drop (k + 1)) (k + 1) := rfl
    rw [ed, es] at h2
    refine ⟨fun c z1 e1 => ?_, fun c => ?_⟩
    · have hne : ¬ v = L.getD k 0 := of_decide_eq_false (b2i_0 (er ▸ c))
      rw [if_neg hne] at h2
      rw [e1, nI_1]
      exact ih (k + 1) (by omega) h2
    · have heq : v = L.getD k 0 := of_decide_eq_true (b2i_1 (er ▸ c))
      rw [if_pos heq] at h2
      exact h2.symm
theorem pr_J3_indexOfRange (g : gG) (L : List Int32) (v : Int32) (M : nM) (o : Nat) (b : Nat) (x : Int32) (y : Int32) (hpre : pre_J3_indexOfRange g L v M o b x y) : wp_J3_indexOfRange g L v (fun r => post_J3_indexOfRange g L v M o b x y r) M o b x y := by
  obtain ⟨h, hl, hb, rfl, rfl⟩ := hpre
  rcases h with ⟨rfl, mo, e, h1, he⟩ | ⟨mo, e, N, p, h1⟩
  · exact ⟨e, ⟨_, _, h1, rfl⟩, 1, fun _ => rfl, fun c => absurd (by decide : nI 0 ≤ 0) c⟩
  · exact ⟨e, ⟨_, _, h1.1, rfl⟩, L.length + 1, ix_loop hb h1 L.length 0 rfl rfl⟩
theorem pr_J3_indexOf (g : gG) (L : List Int32) (v : Int32) (M : nM) (o : Nat) (b : Nat) (hpre : pre_J3_indexOf g L v M o b) : wp_J3_indexOf g L v (fun r => post_J3_indexOf g L v M o b r) M o b := by
  obtain ⟨h, hl, hb⟩ := hpre
  exact ⟨_, h.sz, L, v, ⟨h, hl, hb, rfl, rfl⟩, h.o, fun r er => er⟩
theorem ixL_neg {v : Int32} : ∀ (L : List Int32) (k : Nat), k + L.length < 2 ^ 31 → (ixL v L k < 0 ↔ v ∉ L) := by
  intro L
  induction L with
  | nil => intro k _; exact ⟨fun _ h => (by simp at h), fun _ => (by show (-1 : Int32) < 0; decide)⟩
  | cons y t ih =>
    intro k hk
    rw [List.length_cons] at hk
    show (if v = y then nI k else ixL v t (k + 1)) < 0 ↔ _
    by_cases e : v = y
    · rw [if_pos e]
      exact ⟨fun c => absurd c (nI_pos (by omega)), fun c => absurd (by rw [e]; exact List.mem_cons_self) c⟩
    · rw [if_neg e, ih (k + 1) (by omega)]
      exact ⟨fun c h => by rcases List.mem_cons.mp h with h | h; exact e h; exact c h, fun c h => c (List.mem_cons_of_mem _ h)⟩
theorem pr_J3_contains (g : gG) (L : List Int32) (v : Int32) (M : nM) (o : Nat) (b : Nat) (hpre : pre_J3_contains g L v M o b) : wp_J3_contains g L v (fun r => post_J3_contains g L v M o b r) M o b := by
  obtain ⟨h, hl, hb⟩ := hpre
  refine ⟨L, v, ⟨h, hl, hb⟩, h.o, fun r er => ?_⟩
  have er : r = ixL v L 0 := er
  have hx := ixL_neg (v := v) L 0 (by omega)
  refine ⟨fun c => ⟨isB_0, ?_⟩, fun c => ⟨isB_1, ?_⟩⟩
  · show (0 : Int32) = b2i (decide (v ∈ L))
    rw [decide_eq_false (hx.mp (er ▸ c))]; rfl
  · show (1 : Int32) = b2i (decide (v ∈ L))
    rw [decide_eq_true (Classical.byContradiction fun z => c (er ▸ hx.mpr z))]; rfl
