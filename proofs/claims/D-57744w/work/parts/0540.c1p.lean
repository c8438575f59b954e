set_option maxRecDepth 100000
/-! CLASS SIDE 1: what Road's reading methods answer -/
def pre_X2_hasInn (g : gG) (A : RA) (f : Row) (M : nM) (o : Nat) (x : Int32) : Prop := RoadAt g M o A f ∧ isPt x
def post_X2_hasInn (_ : gG) (_ : RA) (f : Row) (_ : nM) (_ : Nat) (x r : Int32) : Prop := r = b2i (hasI f x)
def pre_X2_size (g : gG) (A : RA) (f : Row) (M : nM) (o : Nat) : Prop := RoadAt g M o A f
def post_X2_size (_ : gG) (_ : RA) (f : Row) (_ : nM) (_ : Nat) (r : Int32) : Prop := r = innsN f 12
def pre_X2_openInns (g : gG) (A : RA) (f : Row) (M : nM) (o : Nat) : Prop := RoadAt g M o A f ∧ RowOK f
def post_X2_openInns (_ : gG) (_ : RA) (f : Row) (_ : nM) (_ : Nat) (r : Int32) : Prop := r = opnN f 12
def pre_X2_innAtMile (g : gG) (A : RA) (f : Row) (M : nM) (o : Nat) (_ : Int32) : Prop := RoadAt g M o A f
def post_X2_innAtMile (_ : gG) (_ : RA) (f : Row) (_ : nM) (_ : Nat) (x r : Int32) : Prop := r = atR f x 12 0
def pre_X2_emptyPlace (g : gG) (A : RA) (f : Row) (M : nM) (o : Nat) : Prop := RoadAt g M o A f
/-- the first place without an inn -/
def emP (f : Row) : Nat → Nat → Int32
  | 0, _ => -1
  | n + 1, k => if f (3 + k) = 1 then emP f n (k + 1) else nI k
def post_X2_emptyPlace (_ : gG) (_ : RA) (f : Row) (_ : nM) (_ : Nat) (r : Int32) : Prop := r = emP f 12 0
def pre_X2_danglingAt (g : gG) (A : RA) (f : Row) (M : nM) (o : Nat) (x : Int32) : Prop := RoadAt g M o A f ∧ isPt x
def post_X2_danglingAt (_ : gG) (_ : RA) (f : Row) (_ : nM) (_ : Nat) (x r : Int32) : Prop := r = dngO f x
def pre_X2_danglingPointers (g : gG) (A : RA) (f : Row) (M : nM) (o : Nat) : Prop := RoadAt g M o A f ∧ RowPt f
def post_X2_danglingPointers (_ : gG) (_ : RA) (f : Row) (_ : nM) (_ : Nat) (r : Int32) : Prop := r = dngF f 12
def pre_X2_distance (g : gG) (A : RA) (f : Row) (M : nM) (o : Nat) (x y : Int32) : Prop := RoadAt g M o A f ∧ hasI f x = true ∧ hasI f y = true
def post_X2_distance (_ : gG) (_ : RA) (f : Row) (_ : nM) (_ : Nat) (x y r : Int32) : Prop := r = dstF f x.toNatClampNeg y.toNatClampNeg
def pre_X2_canRide (g : gG) (A : RA) (f : Row) (M : nM) (o : Nat) (x y _ : Int32) : Prop := RoadAt g M o A f ∧ hasI f x = true ∧ isPt y ∧ RowOK f
def post_X2_canRide (_ : gG) (_ : RA) (f : Row) (_ : nM) (_ : Nat) (x y w r : Int32) : Prop := r = b2i (canF (upd f 0 w) x y)
def pre_X2_stageEnd (g : gG) (A : RA) (f : Row) (M : nM) (o : Nat) (x _ : Int32) : Prop := RoadAt g M o A f ∧ hasI f x = true ∧ RowOK f ∧ RowPt f
/-- the inn behind the next stage, or -1 -/
def stgE (f : Row) (x : Int32) : Int32 := if canF f x (ndF f x.toNatClampNeg) = true then ndF f x.toNatClampNeg else -1
def post_X2_stageEnd (_ : gG) (_ : RA) (f : Row) (_ : nM) (_ : Nat) (x w r : Int32) : Prop := r = stgE (upd f 0 w) x
def post_X2_difference (_ : gG) (_ : nM) (x y r : Int32) : Prop := r = if x = y then 0 else 1
def pre_X2_wrongAt (g : gG) (A : RA) (f : Row) (n s : Nat) (c : Row) (M : nM) (o : Nat) (x : Int32) (l : Nat) : Prop := RoadAt g M o A f ∧ (∃ tl ow, LkAt g M l tl ow n s c) ∧ isPl x
def difC (f c : Row) (x : Nat) : Nat := if f x = c x then 0 else 1
def post_X2_wrongAt (_ : gG) (_ : RA) (f : Row) (_ _ : Nat) (c : Row) (_ : nM) (_ : Nat) (x : Int32) (_ : Nat) (r : Int32) : Prop := r = nI (difC f c (54 + x.toNatClampNeg) + difC f c (66 + x.toNatClampNeg))
def pre_X2_wrongValues (g : gG) (A : RA) (f : Row) (n s : Nat) (c : Row) (M : nM) (o : Nat) (l : Nat) : Prop := RoadAt g M o A f ∧ (∃ tl ow, LkAt g M l tl ow n s c) ∧ ∀ x, 51 ≤ x → x < 78 → c x = rebF f x
def post_X2_wrongValues (_ : gG) (_ : RA) (f : Row) (_ _ : Nat) (_ : Row) (_ : nM) (_ : Nat) (_ : Nat) (r : Int32) : Prop := r = nI (wroN f 27)
def pre_X2_faultyInn (g : gG) (A : RA) (f : Row) (n s : Nat) (c : Row) (M : nM) (o : Nat) (l : Nat) : Prop := RoadAt g M o A f ∧ (∃ tl ow, LkAt g M l tl ow n s c) ∧ ∀ x, 51 ≤ x → x < 78 → c x = rebF f x
/-- the first inn with a wrong pointer -/
def fiP (f : Row) : Nat → Nat → Int32
  | 0, _ => -1
  | n + 1, k => if f (3 + k) = 1 ∧ 0 < dif f (54 + k) + dif f (66 + k) then nI k else fiP f n (k + 1)
def post_X2_faultyInn (_ : gG) (_ : RA) (f : Row) (_ _ : Nat) (_ : Row) (_ : nM) (_ : Nat) (_ : Nat) (r : Int32) : Prop := r = fiP f 12 0
def wp_X2_hasInn (g : gG) (A : RA) (f : Row) (post : Int32 → Prop) (M : nM) (o : Nat) (x : Int32) : Prop :=
  (x = (-1) → isB 0 ∧ post 0) ∧ (¬ x = (-1) → ∃ v2, fR M o 1 0 (some v2) ∧ ∃ nf3 f3, aQ g M 3 v2 nf3 f3 ∧ vp_in x nf3 ∧ ∀ z4, z4 = f3 x.toNatClampNeg → (z4 = none → isB 0 ∧ post 0) ∧ (∀ b5, z4 = some b5 → isB 1 ∧ post 1))

def wpb_X2_size_24 (post : Int32 → Prop) (K4 : Int32 → Int32 → Prop) (g : gG) (A : RA) (f : Row) (M : nM) (o : Nat) (x2 : Int32) (s0 : Int32) (s1 : Int32) : Prop :=
  ∀ z6, z6 = (s1 + s0) → ∀ z7, z7 = x2 + 1 → K4 z6 z7
def wpb_X2_size_4 (post : Int32 → Prop)  (g : gG) (A : RA) (f : Row) (M : nM) (o : Nat) : Nat → Int32 → Int32 → Prop
  | 0 => fun _ _ => False
  | n + 1 => fun x1 x2 => (12 ≤ x2 → post x1) ∧ (¬ 12 ≤ x2 → ∃ g_2 : RA, ∃ g_3 : Row, pre_X2_hasInn g g_2 g_3 M o x2 ∧ oC M o 1 ∧ ∀ r4, post_X2_hasInn g g_2 g_3 M o x2 r4 → (r4 = 0 → wpb_X2_size_24 post (wpb_X2_size_4 post  g A f M o n) g A f M o x2 0 x1) ∧ (¬ r4 = 0 → wpb_X2_size_24 post (wpb_X2_size_4 post  g A f M o n) g A f M o x2 1 x1))
def wp_X2_size (g : gG) (A : RA) (f : Row) (post : Int32 → Prop) (M : nM) (o : Nat) : Prop :=
  ∃ n_, wpb_X2_size_4 post  g A f M o n_ 0 0

def wpb_X2_openInns_36 (post : Int32 → Prop) (K4 : Int32 → Int32 → Prop) (g : gG) (A : RA) (f : Row) (M : nM) (o : Nat) (x2 : Int32) (s0 : Int32) (s1 : Int32) : Prop :=
  ∀ z12, z12 = (s1 + s0) → ∀ z13, z13 = x2 + 1 → K4 z12 z13
def wpb_X2_openInns_35 (post : Int32 → Prop) (K4 : Int32 → Int32 → Prop) (g : gG) (A : RA) (f : Row) (M : nM) (o : Nat) (x2 : Int32) (s0 : Int32) : Prop :=
  wpb_X2_openInns_36 post K4 g A f M o x2 0 s0
def wpb_X2_openInns_4 (post : Int32 → Prop)  (g : gG) (A : RA) (f : Row) (M : nM) (o : Nat) : Nat → Int32 → Int32 → Prop
  | 0 => fun _ _ => False
  | n + 1 => fun x1 x2 => (12 ≤ x2 → post x1) ∧ (¬ 12 ≤ x2 → ∃ g_2 : RA, ∃ g_3 : Row, pre_X2_hasInn g g_2 g_3 M o x2 ∧ oC M o 1 ∧ ∀ r4, post_X2_hasInn g g_2 g_3 M o x2 r4 → (r4 = 0 → wpb_X2_openInns_35 post (wpb_X2_openInns_4 post  g A f M o n) g A f M o x2 x1) ∧ (¬ r4 = 0 → ∃ v6, fR M o 1 0 (some v6) ∧ ∃ nf7 f7, aQ g M 3 v6 nf7 f7 ∧ vp_in x2 nf7 ∧ ∀ z8, z8 = f7 x2.toNatClampNeg → ∃ b9, z8 = some b9 ∧ ∃ v10, fI M b9 4 1 v10 ∧ (v10 = 0 → wpb_X2_openInns_35 post (wpb_X2_openInns_4 post  g A f M o n) g A f M o x2 x1) ∧ (¬ v10 = 0 → wpb_X2_openInns_36 post (wpb_X2_openInns_4 post  g A f M o n) g A f M o x2 1 x1)))
def wp_X2_openInns (g : gG) (A : RA) (f : Row) (post : Int32 → Prop) (M : nM) (o : Nat) : Prop :=
  ∃ n_, wpb_X2_openInns_4 post  g A f M o n_ 0 0

def wpb_X2_innAtMile_31 (post : Int32 → Prop) (K2 : Int32 → Prop) (g : gG) (A : RA) (f : Row) (M : nM) (o : Nat) (x : Int32) (x2 : Int32) : Prop :=
  ∀ z12, z12 = x2 + 1 → K2 z12
def wpb_X2_innAtMile_2 (post : Int32 → Prop)  (g : gG) (A : RA) (f : Row) (M : nM) (o : Nat) (x : Int32) : Nat → Int32 → Prop
  | 0 => fun _ => False
  | n + 1 => fun x2 => (12 ≤ x2 → post (-1)) ∧ (¬ 12 ≤ x2 → ∃ g_2 : RA, ∃ g_3 : Row, pre_X2_hasInn g g_2 g_3 M o x2 ∧ oC M o 1 ∧ ∀ r4, post_X2_hasInn g g_2 g_3 M o x2 r4 → (r4 = 0 → wpb_X2_innAtMile_31 post (wpb_X2_innAtMile_2 post  g A f M o x n) g A f M o x x2) ∧ (¬ r4 = 0 → ∃ v6, fR M o 1 0 (some v6) ∧ ∃ nf7 f7, aQ g M 3 v6 nf7 f7 ∧ vp_in x2 nf7 ∧ ∀ z8, z8 = f7 x2.toNatClampNeg → ∃ b9, z8 = some b9 ∧ ∃ v10, fI M b9 4 0 v10 ∧ (¬ v10 = x → wpb_X2_innAtMile_31 post (wpb_X2_innAtMile_2 post  g A f M o x n) g A f M o x x2) ∧ (v10 = x → post x2)))
def wp_X2_innAtMile (g : gG) (A : RA) (f : Row) (post : Int32 → Prop) (M : nM) (o : Nat) (x : Int32) : Prop :=
  ∃ n_, wpb_X2_innAtMile_2 post  g A f M o x n_ 0

def wpb_X2_emptyPlace_22 (post : Int32 → Prop)  (g : gG) (A : RA) (f : Row) (M : nM) (o : Nat) (x1 : Int32) : Prop :=
  (12 ≤ x1 → post (-1)) ∧ (¬ 12 ≤ x1 → post x1)
def wpb_X2_emptyPlace_2 (post : Int32 → Prop)  (g : gG) (A : RA) (f : Row) (M : nM) (o : Nat) : Nat → Int32 → Prop
  | 0 => fun _ => False
  | n + 1 => fun x1 => (12 ≤ x1 → wpb_X2_emptyPlace_22 post  g A f M o x1) ∧ (¬ 12 ≤ x1 → ∃ g_2 : RA, ∃ g_3 : Row, pre_X2_hasInn g g_2 g_3 M o x1 ∧ oC M o 1 ∧ ∀ r4, post_X2_hasInn g g_2 g_3 M o x1 r4 → (r4 = 0 → wpb_X2_emptyPlace_22 post  g A f M o x1) ∧ (¬ r4 = 0 → ∀ z6, z6 = x1 + 1 → (wpb_X2_emptyPlace_2 post  g A f M o n) z6))
def wp_X2_emptyPlace (g : gG) (A : RA) (f : Row) (post : Int32 → Prop) (M : nM) (o : Nat) : Prop :=
  ∃ n_, wpb_X2_emptyPlace_2 post  g A f M o n_ 0

def wp_X2_danglingAt (g : gG) (A : RA) (f : Row) (post : Int32 → Prop) (M : nM) (o : Nat) (x : Int32) : Prop :=
  (x = (-1) → post 0) ∧ (¬ x = (-1) → ∃ v2, fR M o 1 0 (some v2) ∧ ∃ nf3 f3, aQ g M 3 v2 nf3 f3 ∧ vp_in x nf3 ∧ ∀ z4, z4 = f3 x.toNatClampNeg → (z4 = none → post 1) ∧ (∀ b5, z4 = some b5 → post 0))

def wpb_X2_danglingPointers_70 (post : Int32 → Prop) (K26 : Int32 → Int32 → Prop) (g : gG) (A : RA) (f : Row) (M : nM) (o : Nat) (x1 : Int32) (x2 : Int32) : Prop :=
  ∀ z32, z32 = x2 + 1 → K26 x1 z32
def wpb_X2_danglingPointers_26 (post : Int32 → Prop)  (g : gG) (A : RA) (f : Row) (M : nM) (o : Nat) : Nat → Int32 → Int32 → Prop
  | 0 => fun _ _ => False
  | n + 1 => fun x1 x2 => (12 ≤ x2 → post x1) ∧ (¬ 12 ≤ x2 → ∃ g_13 : RA, ∃ g_14 : Row, pre_X2_hasInn g g_13 g_14 M o x2 ∧ oC M o 1 ∧ ∀ r15, post_X2_hasInn g g_13 g_14 M o x2 r15 → (r15 = 0 → wpb_X2_danglingPointers_70 post (wpb_X2_danglingPointers_26 post  g A f M o n) g A f M o x1 x2) ∧ (¬ r15 = 0 → ∃ v17, fR M o 1 1 (some v17) ∧ ∃ v18, fR M v17 2 0 (some v18) ∧ ∃ nf19 f19, aI g M v18 nf19 f19 ∧ vp_in x2 nf19 ∧ ∀ z20, z20 = f19 x2.toNatClampNeg → ∃ g_21 : RA, ∃ g_22 : Row, pre_X2_danglingAt g g_21 g_22 M o z20 ∧ oC M o 1 ∧ ∀ r23, post_X2_danglingAt g g_21 g_22 M o z20 r23 → ∃ v24, fR M o 1 1 (some v24) ∧ ∃ v25, fR M v24 2 1 (some v25) ∧ ∃ nf26 f26, aI g M v25 nf26 f26 ∧ vp_in x2 nf26 ∧ ∀ z27, z27 = f26 x2.toNatClampNeg → ∃ g_28 : RA, ∃ g_29 : Row, pre_X2_danglingAt g g_28 g_29 M o z27 ∧ oC M o 1 ∧ ∀ r30, post_X2_danglingAt g g_28 g_29 M o z27 r30 → ∀ z31, z31 = (x1 + (r23 + r30)) → wpb_X2_danglingPointers_70 post (wpb_X2_danglingPointers_26 post  g A f M o n) g A f M o z31 x2))
def wp_X2_danglingPointers (g : gG) (A : RA) (f : Row) (post : Int32 → Prop) (M : nM) (o : Nat) : Prop :=
  ∃ v1, fR M o 1 1 (some v1) ∧ ∃ v2, fI M v1 2 2 v2 ∧ ∃ g_3 : RA, ∃ g_4 : Row, pre_X2_danglingAt g g_3 g_4 M o v2 ∧ oC M o 1 ∧ ∀ r5, post_X2_danglingAt g g_3 g_4 M o v2 r5 → ∃ v6, fR M o 1 1 (some v6) ∧ ∃ v7, fI M v6 2 3 v7 ∧ ∃ g_8 : RA, ∃ g_9 : Row, pre_X2_danglingAt g g_8 g_9 M o v7 ∧ oC M o 1 ∧ ∀ r10, post_X2_danglingAt g g_8 g_9 M o v7 r10 → ∀ z11, z11 = (r5 + r10) → ∃ n_, wpb_X2_danglingPointers_26 post  g A f M o n_ z11 0

def wp_X2_distance (g : gG) (A : RA) (f : Row) (post : Int32 → Prop) (M : nM) (o : Nat) (x : Int32) (y : Int32) : Prop :=
  ∃ v1, fR M o 1 0 (some v1) ∧ ∃ nf2 f2, aQ g M 3 v1 nf2 f2 ∧ vp_in x nf2 ∧ ∀ z3, z3 = f2 x.toNatClampNeg → ∃ b4, z3 = some b4 ∧ ∃ v5, fI M b4 4 0 v5 ∧ ∃ v6, fR M o 1 0 (some v6) ∧ ∃ nf7 f7, aQ g M 3 v6 nf7 f7 ∧ vp_in y nf7 ∧ ∀ z8, z8 = f7 y.toNatClampNeg → ∃ b9, z8 = some b9 ∧ ∃ v10, fI M b9 4 0 v10 ∧ post (if 0 ≤ (v5 - v10) then (v5 - v10) else 0 - (v5 - v10))

def wp_X2_canRide (g : gG) (A : RA) (f : Row) (post : Int32 → Prop) (M : nM) (o : Nat) (x : Int32) (y : Int32) (w : Int32) : Prop :=
  ∃ g_1 : RA, ∃ g_2 : Row, pre_X2_hasInn g g_1 g_2 M o y ∧ oC M o 1 ∧ ∀ r3, post_X2_hasInn g g_1 g_2 M o y r3 → (r3 = 0 → isB 0 ∧ post 0) ∧ (¬ r3 = 0 → ∃ v5, fR M o 1 0 (some v5) ∧ ∃ nf6 f6, aQ g M 3 v5 nf6 f6 ∧ vp_in y nf6 ∧ ∀ z7, z7 = f6 y.toNatClampNeg → ∃ b8, z7 = some b8 ∧ ∃ v9, fI M b8 4 1 v9 ∧ (v9 = 0 → isB 0 ∧ post 0) ∧ (¬ v9 = 0 → ∃ g_11 : RA, ∃ g_12 : Row, pre_X2_distance g g_11 g_12 M o x y ∧ oC M o 1 ∧ ∀ r13, post_X2_distance g g_11 g_12 M o x y r13 → (w < r13 → isB 0 ∧ post 0) ∧ (¬ w < r13 → isB 1 ∧ post 1)))

def wp_X2_stageEnd (g : gG) (A : RA) (f : Row) (post : Int32 → Prop) (M : nM) (o : Nat) (x : Int32) (w : Int32) : Prop :=
  ∃ v1, fR M o 1 1 (some v1) ∧ ∃ v2, fR M v1 2 0 (some v2) ∧ ∃ nf3 f3, aI g M v2 nf3 f3 ∧ vp_in x nf3 ∧ ∀ z4, z4 = f3 x.toNatClampNeg → ∃ g_5 : RA, ∃ g_6 : Row, pre_X2_canRide g g_5 g_6 M o x z4 w ∧ oC M o 1 ∧ ∀ r7, post_X2_canRide g g_5 g_6 M o x z4 w r7 → (r7 = 0 → ∃ v9, fR M o 1 1 (some v9) ∧ ∃ v10, fR M v9 2 1 (some v10) ∧ ∃ nf11 f11, aI g M v10 nf11 f11 ∧ vp_in x nf11 ∧ ∀ z12, z12 = f11 x.toNatClampNeg → ∃ g_13 : RA, ∃ g_14 : Row, pre_X2_canRide g g_13 g_14 M o x z12 w ∧ oC M o 1 ∧ ∀ r15, post_X2_canRide g g_13 g_14 M o x z12 w r15 → (r15 = 0 → post (-1)) ∧ (¬ r15 = 0 → ∃ v17, fR M o 1 1 (some v17) ∧ ∃ v18, fR M v17 2 1 (some v18) ∧ ∃ nf19 f19, aI g M v18 nf19 f19 ∧ vp_in x nf19 ∧ ∀ z20, z20 = f19 x.toNatClampNeg → post z20)) ∧ (¬ r7 = 0 → ∃ v21, fR M o 1 1 (some v21) ∧ ∃ v22, fR M v21 2 0 (some v22) ∧ ∃ nf23 f23, aI g M v22 nf23 f23 ∧ vp_in x nf23 ∧ ∀ z24, z24 = f23 x.toNatClampNeg → post z24)

def wp_X2_difference (g : gG) (post : Int32 → Prop) (M : nM) (x : Int32) (y : Int32) : Prop :=
  (¬ x = y → post 1) ∧ (x = y → post 0)

def wp_X2_wrongAt (g : gG) (A : RA) (f : Row) (nA : Nat) (sA : Nat) (cr : Row) (post : Int32 → Prop) (M : nM) (o : Nat) (x : Int32) (lk : Nat) : Prop :=
  ∃ v1, fR M o 1 1 (some v1) ∧ ∃ v2, fR M v1 2 0 (some v2) ∧ ∃ nf3 f3, aI g M v2 nf3 f3 ∧ vp_in x nf3 ∧ ∀ z4, z4 = f3 x.toNatClampNeg → ∃ v5, fR M lk 2 0 (some v5) ∧ ∃ nf6 f6, aI g M v5 nf6 f6 ∧ vp_in x nf6 ∧ ∀ z7, z7 = f6 x.toNatClampNeg → ∀ r8, post_X2_difference g  M z4 z7 r8 → ∃ v9, fR M o 1 1 (some v9) ∧ ∃ v10, fR M v9 2 1 (some v10) ∧ ∃ nf11 f11, aI g M v10 nf11 f11 ∧ vp_in x nf11 ∧ ∀ z12, z12 = f11 x.toNatClampNeg → ∃ v13, fR M lk 2 1 (some v13) ∧ ∃ nf14 f14, aI g M v13 nf14 f14 ∧ vp_in x nf14 ∧ ∀ z15, z15 = f14 x.toNatClampNeg → ∀ r16, post_X2_difference g  M z12 z15 r16 → post (r8 + r16)

def wpb_X2_wrongValues_72 (post : Int32 → Prop) (K47 : Int32 → Int32 → Prop) (g : gG) (A : RA) (f : Row) (nA : Nat) (sA : Nat) (cr : Row) (M : nM) (o : Nat) (lk : Nat) (x3 : Int32) (s0 : Int32) (s1 : Int32) : Prop :=
  ∀ z25, z25 = (s1 + s0) → ∀ z26, z26 = x3 + 1 → K47 z25 z26
def wpb_X2_wrongValues_47 (post : Int32 → Prop)  (g : gG) (A : RA) (f : Row) (nA : Nat) (sA : Nat) (cr : Row) (M : nM) (o : Nat) (lk : Nat) : Nat → Int32 → Int32 → Prop
  | 0 => fun _ _ => False
  | n + 1 => fun x2 x3 => (12 ≤ x3 → post x2) ∧ (¬ 12 ≤ x3 → ∃ g_15 : RA, ∃ g_16 : Row, pre_X2_hasInn g g_15 g_16 M o x3 ∧ oC M o 1 ∧ ∀ r17, post_X2_hasInn g g_15 g_16 M o x3 r17 → (r17 = 0 → wpb_X2_wrongValues_72 post (wpb_X2_wrongValues_47 post  g A f nA sA cr M o lk n) g A f nA sA cr M o lk x3 0 x2) ∧ (¬ r17 = 0 → ∃ g_19 : RA, ∃ g_20 : Row, ∃ g_21 : Nat, ∃ g_22 : Nat, ∃ g_23 : Row, pre_X2_wrongAt g g_19 g_20 g_21 g_22 g_23 M o x3 lk ∧ oC M o 1 ∧ ∀ r24, post_X2_wrongAt g g_19 g_20 g_21 g_22 g_23 M o x3 lk r24 → wpb_X2_wrongValues_72 post (wpb_X2_wrongValues_47 post  g A f nA sA cr M o lk n) g A f nA sA cr M o lk x3 r24 x2))
def wp_X2_wrongValues (g : gG) (A : RA) (f : Row) (nA : Nat) (sA : Nat) (cr : Row) (post : Int32 → Prop) (M : nM) (o : Nat) (lk : Nat) : Prop :=
  ∃ v1, fR M o 1 1 (some v1) ∧ ∃ v2, fI M v1 2 2 v2 ∧ ∃ v3, fI M lk 2 2 v3 ∧ ∀ r4, post_X2_difference g  M v2 v3 r4 → ∃ v5, fR M o 1 1 (some v5) ∧ ∃ v6, fI M v5 2 3 v6 ∧ ∃ v7, fI M lk 2 3 v7 ∧ ∀ r8, post_X2_difference g  M v6 v7 r8 → ∃ v9, fR M o 1 1 (some v9) ∧ ∃ v10, fI M v9 2 4 v10 ∧ ∃ v11, fI M lk 2 4 v11 ∧ ∀ r12, post_X2_difference g  M v10 v11 r12 → ∀ z13, z13 = ((r4 + r8) + r12) → ∃ n_, wpb_X2_wrongValues_47 post  g A f nA sA cr M o lk n_ z13 0

def wpb_X2_faultyInn_27 (post : Int32 → Prop) (K2 : Int32 → Prop) (g : gG) (A : RA) (f : Row) (nA : Nat) (sA : Nat) (cr : Row) (M : nM) (o : Nat) (lk : Nat) (x2 : Int32) : Prop :=
  ∀ z13, z13 = x2 + 1 → K2 z13
def wpb_X2_faultyInn_2 (post : Int32 → Prop)  (g : gG) (A : RA) (f : Row) (nA : Nat) (sA : Nat) (cr : Row) (M : nM) (o : Nat) (lk : Nat) : Nat → Int32 → Prop
  | 0 => fun _ => False
  | n + 1 => fun x2 => (12 ≤ x2 → post (-1)) ∧ (¬ 12 ≤ x2 → ∃ g_2 : RA, ∃ g_3 : Row, pre_X2_hasInn g g_2 g_3 M o x2 ∧ oC M o 1 ∧ ∀ r4, post_X2_hasInn g g_2 g_3 M o x2 r4 → (r4 = 0 → wpb_X2_faultyInn_27 post (wpb_X2_faultyInn_2 post  g A f nA sA cr M o lk n) g A f nA sA cr M o lk x2) ∧ (¬ r4 = 0 → ∃ g_6 : RA, ∃ g_7 : Row, ∃ g_8 : Nat, ∃ g_9 : Nat, ∃ g_10 : Row, pre_X2_wrongAt g g_6 g_7 g_8 g_9 g_10 M o x2 lk ∧ oC M o 1 ∧ ∀ r11, post_X2_wrongAt g g_6 g_7 g_8 g_9 g_10 M o x2 lk r11 → (r11 ≤ 0 → wpb_X2_faultyInn_27 post (wpb_X2_faultyInn_2 post  g A f nA sA cr M o lk n) g A f nA sA cr M o lk x2) ∧ (¬ r11 ≤ 0 → post x2)))
def wp_X2_faultyInn (g : gG) (A : RA) (f : Row) (nA : Nat) (sA : Nat) (cr : Row) (post : Int32 → Prop) (M : nM) (o : Nat) (lk : Nat) : Prop :=
  ∃ n_, wpb_X2_faultyInn_2 post  g A f nA sA cr M o lk n_ 0
theorem isPt_pl {x : Int32} (h : isPt x) (h1 : ¬ x = -1) : ∃ k, k < 12 ∧ x = nI k := h.resolve_left h1
theorem innc_has {M : nM} {z : Option Nat} {f : Row} {k : Nat} (h : InnC M z f k) (hk : k < 12) : (z = none → hasI f (nI k) = false) ∧ (∀ b, z = some b → hasI f (nI k) = true) := by
  rw [hasI_n hk]
  rcases h with ⟨rfl, h2⟩ | ⟨b, rfl, h2, h3⟩
  · refine ⟨fun _ => ?_, (fun b e => by cases e)⟩
    rw [h2]; decide
  · refine ⟨(fun e => by cases e), fun _ _ => ?_⟩
    rw [h2]; decide
theorem innc_get {M : nM} {z : Option Nat} {f : Row} {k : Nat} (h : InnC M z f k) (hi : f (3 + k) = 1) : ∃ b, z = some b ∧ InnO M b f k := by
  rcases h with ⟨rfl, h2⟩ | ⟨b, rfl, h2, h3⟩
  · rw [hi] at h2
    exact absurd h2 (by decide)
  · exact ⟨b, rfl, h3⟩
theorem innc_1 {M : nM} {z : Option Nat} {f : Row} {k : Nat} (h : InnC M z f k) : f (3 + k) = 1 ∨ f (3 + k) = 0 := by
  rcases h with ⟨rfl, h2⟩ | ⟨b, rfl, h2, h3⟩
  · exact Or.inr h2
  · exact Or.inl h2
/-- an inn's object at its place -/
theorem RoadAt.inn {g : gG} {M : nM} {r : Nat} {A : RA} {f : Row} (h : RoadAt g M r A f) {k : Nat} (hk : k < 12) (hi : f (3 + k) = 1) : ∃ p b, aQ g M 3 A.1 12 p ∧ p (nI k).toNatClampNeg = some b ∧ InnO M b f k := by
  obtain ⟨p, hp, hc⟩ := h.pl
  obtain ⟨b, hb, ho⟩ := innc_get (hc k hk) hi
  exact ⟨p, b, hp, by rw [cl_12 hk]; exact hb, ho⟩
theorem RoadAt.one {g : gG} {M : nM} {r : Nat} {A : RA} {f : Row} (h : RoadAt g M r A f) {k : Nat} (hk : k < 12) : f (3 + k) = 1 ∨ f (3 + k) = 0 := by
  obtain ⟨p, hp, hc⟩ := h.pl
  exact innc_1 (hc k hk)
theorem hasI_1 {f : Row} {k : Nat} (hk : k < 12) (h : hasI f (nI k) = true) : f (3 + k) = 1 := by
  rw [hasI_n hk] at h
  exact of_decide_eq_true h
theorem hasI_0 {f : Row} {k : Nat} (hk : k < 12) (h : hasI f (nI k) = false) : ¬ f (3 + k) = 1 := by
  rw [hasI_n hk] at h
  exact of_decide_eq_false h
/-- the answer of hasInn at a place, in two cases -/
theorem has_cases {f : Row} {k : Nat} (hk : k < 12) {r : Int32} (e : r = b2i (hasI f (nI k))) : (r = 0 → ¬ f (3 + k) = 1) ∧ (¬ r = 0 → f (3 + k) = 1) := by
  cases h : hasI f (nI k) with
  | false =>
    rw [h] at e
    exact ⟨fun _ => hasI_0 hk h, fun c => absurd e c⟩
  | true =>
    rw [h] at e
    exact ⟨fun c => absurd (e.symm.trans c) (by decide), fun _ => hasI_1 hk h⟩
theorem pr_X2_hasInn (g : gG) (A : RA) (f : Row) (M : nM) (o : Nat) (x : Int32) (hpre : pre_X2_hasInn g A f M o x) : wp_X2_hasInn g A f (fun r => post_X2_hasInn g A f M o x r) M o x := by
  obtain ⟨hR, hx⟩ := hpre
  refine ⟨fun e => ⟨isB_0, ?_⟩, fun e => ?_⟩
  · subst e; rfl
  · obtain ⟨k, hk, rfl⟩ := isPt_pl hx e
    obtain ⟨p, hp, hc⟩ := hR.pl
    refine ⟨_, hR.inns, 12, p, hp, pl_12 hk, fun z ez => ?_⟩
    rw [cl_12 hk] at ez
    subst ez
    have hh := innc_has (hc k hk) hk
    refine ⟨fun e => ⟨isB_0, ?_⟩, fun b e => ⟨isB_1, ?_⟩⟩
    · show (0 : Int32) = _; rw [hh.1 e]; rfl
    · show (1 : Int32) = _; rw [hh.2 b e]; rfl
theorem pr_X2_size (g : gG) (A : RA) (f : Row) (M : nM) (o : Nat) (hpre : pre_X2_size g A f M o) : wp_X2_size g A f (fun r => post_X2_size g A f M o r) M o := by
  have hR : RoadAt g M o A f := hpre
  have key : ∀ (n k : Nat), n + k = 13 → k ≤ 12 → wpb_X2_size_4 (fun r => post_X2_size g A f M o r) g A f M o n (innsN f k) (nI k) := by
    intro n
    induction n with
    | zero => intro k h1 h2; omega
    | succ n ih =>
      intro k h1 h2
      refine ⟨fun c => ?_, fun c => ?_⟩
      · have := ge12 c h2
        subst this
        rfl
      · have hk := lt12 c h2
        refine ⟨A, f, ⟨hR, isPt_n hk⟩, hR.o, fun r er => ?_⟩
        have hc := has_cases hk er
        have es : innsN f (k + 1) = innsN f k + f (3 + k) := rfl
        have go := ih (k + 1) (by omega) (by omega)
        rw [es, nI_succ] at go
        refine ⟨fun c1 z6 e6 z7 e7 => ?_, fun c1 z6 e6 z7 e7 => ?_⟩
        · subst e6 e7
          rw [(hR.one hk).resolve_left (hc.1 c1)] at go; exact go
        · subst e6 e7
          rw [hc.2 c1] at go; exact go
  exact ⟨13, key 13 0 rfl (by decide)⟩
theorem pr_X2_openInns (g : gG) (A : RA) (f : Row) (M : nM) (o : Nat) (hpre : pre_X2_openInns g A f M o) : wp_X2_openInns g A f (fun r => post_X2_openInns g A f M o r) M o := by
  obtain ⟨hR, hOK⟩ := hpre
  have key : ∀ (n k : Nat), n + k = 13 → k ≤ 12 → wpb_X2_openInns_4 (fun r => post_X2_openInns g A f M o r) g A f M o n (opnN f k) (nI k) := by
    intro n
    induction n with
    | zero => intro k h1 h2; omega
    | succ n ih =>
      intro k h1 h2
      refine ⟨fun c => ?_, fun c => ?_⟩
      · have := ge12 c h2
        subst this
        rfl
      · have hk := lt12 c h2
        refine ⟨A, f, ⟨hR, isPt_n hk⟩, hR.o, fun r er => ?_⟩
        have hc := has_cases hk er
        have es : opnN f (k + 1) = opnN f k + if f (3 + k) = 1 then f (27 + k) else 0 := rfl
        have go := ih (k + 1) (by omega) (by omega)
        rw [es, nI_succ] at go
        refine ⟨fun c1 z6 e6 z7 e7 => ?_, fun c1 => ?_⟩
        · subst e6 e7
          rw [if_neg (hc.1 c1)] at go; exact go
        · have h1 := hc.2 c1
          obtain ⟨p, b, hp, hb, ho⟩ := hR.inn hk h1
          rw [if_pos h1] at go
          refine ⟨_, hR.inns, 12, p, hp, pl_12 hk, fun z ez => ⟨b, ez.trans hb, _, ho.op, fun c2 z6 e6 z7 e7 => ?_, fun c2 z6 e6 z7 e7 => ?_⟩⟩
          · subst e6 e7
            rw [c2] at go; exact go
          · subst e6 e7
            rw [(((hOK k hk).2 h1).2.1).resolve_left c2] at go; exact go
  exact ⟨13, key 13 0 rfl (by decide)⟩
theorem pr_X2_innAtMile (g : gG) (A : RA) (f : Row) (M : nM) (o : Nat) (x : Int32) (hpre : pre_X2_innAtMile g A f M o x) : wp_X2_innAtMile g A f (fun r => post_X2_innAtMile g A f M o x r) M o x := by
  have hR : RoadAt g M o A f := hpre
  have key : ∀ (n k : Nat), n + k = 12 → atR f x 12 0 = atR f x n k → wpb_X2_innAtMile_2 (fun r => post_X2_innAtMile g A f M o x r) g A f M o x (n + 1) (nI k) := by
    intro n
    induction n with
    | zero =>
      intro k h1 h2
      refine ⟨fun c => ?_, fun c => ?_⟩
      · exact h2.symm
      · have := lt12 c (by omega); omega
    | succ n ih =>
      intro k h1 h2
      have es : atR f x (n + 1) k = if f (3 + k) = 1 ∧ f (15 + k) = x then nI k else atR f x n (k + 1) := rfl
      rw [es] at h2
      refine ⟨fun c => ?_, fun c => ?_⟩
      · have := ge12 c (by omega); omega
      · have hk := lt12 c (by omega)
        refine ⟨A, f, ⟨hR, isPt_n hk⟩, hR.o, fun r er => ?_⟩
        have hc := has_cases hk er
        have go := ih (k + 1) (by omega)
        rw [nI_succ] at go
        refine ⟨fun c1 z7 e7 => ?_, fun c1 => ?_⟩
        · subst e7
          rw [if_neg (fun z => hc.1 c1 z.1)] at h2
          exact go h2
        · have h1 := hc.2 c1
          obtain ⟨p, b, hp, hb, ho⟩ := hR.inn hk h1
          refine ⟨_, hR.inns, 12, p, hp, pl_12 hk, fun z ez => ⟨b, ez.trans hb, _, ho.mi, fun c2 z7 e7 => ?_, fun c2 => ?_⟩⟩
          · subst e7
            rw [if_neg (fun z => c2 z.2)] at h2
            exact go h2
          · rw [if_pos ⟨h1, c2⟩] at h2
            exact h2.symm
  exact ⟨13, key 12 0 rfl rfl⟩
theorem pr_X2_emptyPlace (g : gG) (A : RA) (f : Row) (M : nM) (o : Nat) (hpre : pre_X2_emptyPlace g A f M o) : wp_X2_emptyPlace g A f (fun r => post_X2_emptyPlace g A f M o r) M o := by
  have hR : RoadAt g M o A f := hpre
  have key : ∀ (n k : Nat), n + k = 12 → emP f 12 0 = emP f n k → wpb_X2_emptyPlace_2 (fun r => post_X2_emptyPlace g A f M o r) g A f M o (n + 1) (nI k) := by
    intro n
    induction n with
    | zero =>
      intro k h1 h2
      refine ⟨fun c => ⟨fun _ => h2.symm, fun c2 => absurd c c2⟩, fun c => ?_⟩
      have := lt12 c (by omega); omega
    | succ n ih =>
      intro k h1 h2
      have es : emP f (n + 1) k = if f (3 + k) = 1 then emP f n (k + 1) else nI k := rfl
      rw [es] at h2
      refine ⟨fun c => ?_, fun c => ?_⟩
      · have := ge12 c (by omega); omega
      · have hk := lt12 c (by omega)
        refine ⟨A, f, ⟨hR, isPt_n hk⟩, hR.o, fun r er => ?_⟩
        have hc := has_cases hk er
        have go := ih (k + 1) (by omega)
        rw [nI_succ] at go
        refine ⟨fun c1 => ⟨fun c2 => absurd c2 c, fun _ => ?_⟩, fun c1 z7 e7 => ?_⟩
        · rw [if_neg (hc.1 c1)] at h2
          exact h2.symm
        · subst e7
          rw [if_pos (hc.2 c1)] at h2
          exact go h2
  exact ⟨13, key 12 0 rfl rfl⟩
theorem pr_X2_danglingAt (g : gG) (A : RA) (f : Row) (M : nM) (o : Nat) (x : Int32) (hpre : pre_X2_danglingAt g A f M o x) : wp_X2_danglingAt g A f (fun r => post_X2_danglingAt g A f M o x r) M o x := by
  obtain ⟨hR, hx⟩ := hpre
  refine ⟨fun e => ?_, fun e => ?_⟩
  · show (0 : Int32) = _
    unfold dngO
    rw [if_neg (fun z => z.1 e)]
  · obtain ⟨k, hk, rfl⟩ := isPt_pl hx e
    obtain ⟨p, hp, hc⟩ := hR.pl
    refine ⟨_, hR.inns, 12, p, hp, pl_12 hk, fun z ez => ?_⟩
    rw [cl_12 hk] at ez
    subst ez
    have hh := innc_has (hc k hk) hk
    refine ⟨fun e1 => ?_, fun b e1 => ?_⟩
    · show (1 : Int32) = _; unfold dngO; rw [if_pos ⟨e, hh.1 e1⟩]
    · show (0 : Int32) = _; unfold dngO; rw [if_neg (fun z => by have := hh.2 b e1; rw [this] at z; exact Bool.noConfusion z.2)]
theorem pr_X2_danglingPointers (g : gG) (A : RA) (f : Row) (M : nM) (o : Nat) (hpre : pre_X2_danglingPointers g A f M o) : wp_X2_danglingPointers g A f (fun r => post_X2_danglingPointers g A f M o r) M o := by
  obtain ⟨hR, hPt⟩ := hpre
  have key : ∀ (n k : Nat), n + k = 13 → k ≤ 12 → wpb_X2_danglingPointers_26 (fun r => post_X2_danglingPointers g A f M o r) g A f M o n (dngF f k) (nI k) := by
    intro n
    induction n with
    | zero => intro k h1 h2; omega
    | succ n ih =>
      intro k h1 h2
      refine ⟨fun c => ?_, fun c => ?_⟩
      · have := ge12 c h2
        subst this
        rfl
      · have hk := lt12 c h2
        refine ⟨A, f, ⟨hR, isPt_n hk⟩, hR.o, fun r er => ?_⟩
        have hc := has_cases hk er
        have es : dngF f (k + 1) = dngF f k + if f (3 + k) = 1 then dngO f (f (54 + k)) + dngO f (f (66 + k)) else 0 := rfl
        have go := ih (k + 1) (by omega) (by omega)
        rw [es, nI_succ] at go
        refine ⟨fun c1 z7 e7 => ?_, fun c1 => ?_⟩
        · subst e7
          rw [if_neg (hc.1 c1), Int32.add_zero] at go; exact go
        · have h1 := hc.2 c1
          rw [if_pos h1] at go
          obtain ⟨q, hq, hqe⟩ := hR.lk.nxa
          obtain ⟨q2, hq2, hqe2⟩ := hR.lk.ska
          have hp := hPt.2.2.2.2 k hk
          refine ⟨_, hR.lks, _, hR.lk.nx, 12, q, hq, pl_12 hk, fun z ez => ?_⟩
          rw [cl_12 hk, hqe k hk] at ez
          subst ez
          refine ⟨A, f, ⟨hR, hp.1⟩, hR.o, fun r2 er2 => ?_⟩
          refine ⟨_, hR.lks, _, hR.lk.sk, 12, q2, hq2, pl_12 hk, fun z ez => ?_⟩
          rw [cl_12 hk, hqe2 k hk] at ez
          subst ez
          refine ⟨A, f, ⟨hR, hp.2⟩, hR.o, fun r3 er3 z6 e6 z7 e7 => ?_⟩
          have er2 : r2 = _ := er2
          have er3 : r3 = _ := er3
          subst e6 e7 er2 er3
          exact go
  refine ⟨_, hR.lks, _, hR.lk.fs, A, f, ⟨hR, hPt.2.1⟩, hR.o, fun r1 e1 => ⟨_, hR.lks, _, hR.lk.se, A, f, ⟨hR, hPt.2.2.1⟩, hR.o, fun r2 e2 z ez => ⟨13, ?_⟩⟩⟩
  have e1 : r1 = _ := e1
  have e2 : r2 = _ := e2
  subst ez e1 e2
  exact key 13 0 rfl (by decide)
theorem has_pl {f : Row} {x : Int32} (h : hasI f x = true) : ∃ k, k < 12 ∧ x = nI k ∧ f (3 + k) = 1 := by
  obtain ⟨k, hk, rfl⟩ := hasI_pl h
  exact ⟨k, hk, rfl, hasI_1 hk h⟩
theorem pr_X2_distance (g : gG) (A : RA) (f : Row) (M : nM) (o : Nat) (x : Int32) (y : Int32) (hpre : pre_X2_distance g A f M o x y) : wp_X2_distance g A f (fun r => post_X2_distance g A f M o x y r) M o x y := by
  obtain ⟨hR, hx, hy⟩ := hpre
  obtain ⟨k, hk, rfl, h1⟩ := has_pl hx
  obtain ⟨j, hj, rfl, h2⟩ := has_pl hy
  obtain ⟨p, b, hp, hb, ho⟩ := hR.inn hk h1
  obtain ⟨p2, b2, hp2, hb2, ho2⟩ := hR.inn hj h2
  refine ⟨_, hR.inns, 12, p, hp, pl_12 hk, fun z ez => ⟨b, ez.trans hb, _, ho.mi, _, hR.inns, 12, p2, hp2, pl_12 hj, fun z2 ez2 => ⟨b2, ez2.trans hb2, _, ho2.mi, ?_⟩⟩⟩
  show _ = dstF f (nI k).toNatClampNeg (nI j).toNatClampNeg
  rw [cl_12 hk, cl_12 hj]
  rfl
theorem upd0 {f : Row} {w : Int32} {k : Nat} (h : k ≠ 0) : upd f 0 w k = f k := if_neg h
theorem dst_upd0 {f : Row} {w : Int32} {x y : Nat} : dstF (upd f 0 w) x y = dstF f x y := by
  unfold dstF
  rw [upd0 (by omega), upd0 (by omega)]
theorem has_upd0 {f : Row} {w x : Int32} : hasI (upd f 0 w) x = hasI f x := by
  unfold hasI
  rw [upd0 (by omega)]
theorem can_upd0 {f : Row} {w x y : Int32} : canF (upd f 0 w) x y = (hasI f y && decide (f (27 + y.toNatClampNeg) = 1) && decide (dstF f x.toNatClampNeg y.toNatClampNeg ≤ w)) := by
  unfold canF
  rw [has_upd0, dst_upd0, upd0 (by omega)]
  rfl
theorem pr_X2_canRide (g : gG) (A : RA) (f : Row) (M : nM) (o : Nat) (x : Int32) (y : Int32) (w : Int32) (hpre : pre_X2_canRide g A f M o x y w) : wp_X2_canRide g A f (fun r => post_X2_canRide g A f M o x y w r) M o x y w := by
  obtain ⟨hR, hx, hy, hOK⟩ := hpre
  refine ⟨A, f, ⟨hR, hy⟩, hR.o, fun r er => ?_⟩
  have er : r = b2i (hasI f y) := er
  have key : ∀ v, v = b2i (hasI f y && decide (f (27 + y.toNatClampNeg) = 1) && decide (dstF f x.toNatClampNeg y.toNatClampNeg ≤ w)) → post_X2_canRide g A f M o x y w v := fun v hv => by
    show v = _
    rw [can_upd0]; exact hv
  refine ⟨fun c => ⟨isB_0, ?_⟩, fun c => ?_⟩
  · have : hasI f y = false := b2i_0 (er ▸ c)
    exact key 0 (by rw [this]; rfl)
  · have hy1 : hasI f y = true := b2i_1 (er ▸ c)
    obtain ⟨k, hk, rfl, h1⟩ := has_pl hy1
    obtain ⟨p, b, hp, hb, ho⟩ := hR.inn hk h1
    refine ⟨_, hR.inns, 12, p, hp, pl_12 hk, fun z ez => ⟨b, ez.trans hb, _, ho.op, fun c2 => ⟨isB_0, ?_⟩, fun c2 => ?_⟩⟩
    · refine key 0 ?_
      rw [cl_12 hk, c2, hy1]; rfl
    · have h27 := (((hOK k hk).2 h1).2.1).resolve_left c2
      refine ⟨A, f, ⟨hR, hx, hy1⟩, hR.o, fun r2 er2 => ?_⟩
      have er2 : r2 = dstF f x.toNatClampNeg (nI k).toNatClampNeg := er2
      refine ⟨fun c3 => ⟨isB_0, key 0 ?_⟩, fun c3 => ⟨isB_1, key 1 ?_⟩⟩
      · rw [← er2, hy1, decide_eq_false (fun z => (Int32.not_le.mpr c3) z)]
        cases decide (f (27 + (nI k).toNatClampNeg) = 1) <;> rfl
      · rw [← er2, hy1, cl_12 hk, h27, decide_eq_true (Int32.not_lt.mp c3)]; rfl
theorem pr_X2_stageEnd (g : gG) (A : RA) (f : Row) (M : nM) (o : Nat) (x : Int32) (w : Int32) (hpre : pre_X2_stageEnd g A f M o x w) : wp_X2_stageEnd g A f (fun r => post_X2_stageEnd g A f M o x w r) M o x w := by
  obtain ⟨hR, hx, hOK, hPt⟩ := hpre
  obtain ⟨k, hk, rfl, h1⟩ := has_pl hx
  obtain ⟨q, hq, hqe⟩ := hR.lk.nxa
  obtain ⟨q2, hq2, hqe2⟩ := hR.lk.ska
  have hp := hPt.2.2.2.2 k hk
  have key : ∀ v, v = (if canF (upd f 0 w) (nI k) (f (54 + k)) = true then f (54 + k) else if canF (upd f 0 w) (nI k) (f (66 + k)) = true then f (66 + k) else -1) → post_X2_stageEnd g A f M o (nI k) w v := fun v hv => by
    show v = stgE (upd f 0 w) (nI k)
    unfold stgE ndF
    rw [cl_12 hk, upd0 (by omega), upd0 (by omega), hv]
    by_cases h : canF (upd f 0 w) (nI k) (f (54 + k)) = true
    · simp only [if_pos h]
    · simp only [if_neg h]
  refine ⟨_, hR.lks, _, hR.lk.nx, 12, q, hq, pl_12 hk, fun z ez => ?_⟩
  rw [cl_12 hk, hqe k hk] at ez
  subst ez
  refine ⟨A, f, ⟨hR, hx, hp.1, hOK⟩, hR.o, fun r er => ?_⟩
  have er : r = b2i (canF (upd f 0 w) (nI k) (f (54 + k))) := er
  refine ⟨fun c => ?_, fun c => ?_⟩
  · have hc := b2i_0 (er ▸ c)
    refine ⟨_, hR.lks, _, hR.lk.sk, 12, q2, hq2, pl_12 hk, fun z ez => ?_⟩
    rw [cl_12 hk, hqe2 k hk] at ez
    subst ez
    refine ⟨A, f, ⟨hR, hx, hp.2, hOK⟩, hR.o, fun r2 er2 => ?_⟩
    have er2 : r2 = b2i (canF (upd f 0 w) (nI k) (f (66 + k))) := er2
    refine ⟨fun c2 => key _ ?_, fun c2 => ?_⟩
    · have hc2 : canF (upd f 0 w) (nI k) (f (66 + k)) = false := b2i_0 (er2 ▸ c2)
      rw [if_neg (by rw [hc]; exact Bool.noConfusion), if_neg (by rw [hc2]; exact Bool.noConfusion)]
    · refine ⟨_, hR.lks, _, hR.lk.sk, 12, q2, hq2, pl_12 hk, fun z ez => key _ ?_⟩
      rw [cl_12 hk, hqe2 k hk] at ez
      rw [if_neg (by rw [hc]; exact Bool.noConfusion), if_pos (b2i_1 (er2 ▸ c2))]; exact ez
  · refine ⟨_, hR.lks, _, hR.lk.nx, 12, q, hq, pl_12 hk, fun z ez => key _ ?_⟩
    rw [cl_12 hk, hqe k hk] at ez
    rw [if_pos (b2i_1 (er ▸ c))]; exact ez
theorem pr_X2_difference (g : gG) (M : nM) (x : Int32) (y : Int32) : wp_X2_difference g (fun r => post_X2_difference g M x y r) M x y :=
  ⟨fun c => by show (1 : Int32) = _; rw [if_neg c], fun c => by show (0 : Int32) = _; rw [if_pos c]⟩
theorem dif_n {f c : Row} {x : Nat} {r : Int32} (h : r = if f x = c x then 0 else 1) : r = nI (difC f c x) := by
  rw [h]; unfold difC
  by_cases e : f x = c x
  · rw [if_pos e, if_pos e]; rfl
  · rw [if_neg e, if_neg e]; rfl
theorem pr_X2_wrongAt (g : gG) (A : RA) (f : Row) (nA : Nat) (sA : Nat) (c : Row) (M : nM) (o : Nat) (x : Int32) (l : Nat) (hpre : pre_X2_wrongAt g A f nA sA c M o x l) : wp_X2_wrongAt g A f nA sA c (fun r => post_X2_wrongAt g A f nA sA c M o x l r) M o x l := by
  obtain ⟨hR, ⟨tl, ow, hL⟩, k, hk, rfl⟩ := hpre
  obtain ⟨q, hq, hqe⟩ := hR.lk.nxa
  obtain ⟨q2, hq2, hqe2⟩ := hR.lk.ska
  obtain ⟨d, hd, hde⟩ := hL.nxa
  obtain ⟨d2, hd2, hde2⟩ := hL.ska
  refine ⟨_, hR.lks, _, hR.lk.nx, 12, q, hq, pl_12 hk, fun z ez => ⟨_, hL.nx, 12, d, hd, pl_12 hk, fun z2 ez2 r er => ?_⟩⟩
  refine ⟨_, hR.lks, _, hR.lk.sk, 12, q2, hq2, pl_12 hk, fun z3 ez3 => ⟨_, hL.sk, 12, d2, hd2, pl_12 hk, fun z4 ez4 r2 er2 => ?_⟩⟩
  rw [cl_12 hk, hqe k hk] at ez
  rw [cl_12 hk, hde k hk] at ez2
  rw [cl_12 hk, hqe2 k hk] at ez3
  rw [cl_12 hk, hde2 k hk] at ez4
  subst ez ez2 ez3 ez4
  have er := dif_n er
  have er2 := dif_n er2
  show r + r2 = nI (difC f c (54 + (nI k).toNatClampNeg) + difC f c (66 + (nI k).toNatClampNeg))
  rw [er, er2, cl_12 hk, nI_add]
theorem difC_dif {f c : Row} {x : Nat} (h : c x = rebF f x) : difC f c x = dif f x := by
  unfold difC dif
  rw [h]
theorem pr_X2_wrongValues (g : gG) (A : RA) (f : Row) (nA : Nat) (sA : Nat) (c : Row) (M : nM) (o : Nat) (l : Nat) (hpre : pre_X2_wrongValues g A f nA sA c M o l) : wp_X2_wrongValues g A f nA sA c (fun r => post_X2_wrongValues g A f nA sA c M o l r) M o l := by
  obtain ⟨hR, hL', hc0⟩ := hpre
  obtain ⟨tl, ow, hL⟩ := id hL'
  have key : ∀ (n k : Nat), n + k = 13 → k ≤ 12 → wpb_X2_wrongValues_47 (fun r => post_X2_wrongValues g A f nA sA c M o l r) g A f nA sA c M o l n (nI (wpl f k)) (nI k) := by
    intro n
    induction n with
    | zero => intro k h1 h2; omega
    | succ n ih =>
      intro k h1 h2
      refine ⟨fun c => ?_, fun c => ?_⟩
      · have := ge12 c h2
        subst this
        show nI (wpl f 12) = nI (wroN f 27)
        rw [wpl_wro]
      · have hk := lt12 c h2
        refine ⟨A, f, ⟨hR, isPt_n hk⟩, hR.o, fun r er => ?_⟩
        have hc := has_cases hk er
        have es : wpl f (k + 1) = wpl f k + if f (3 + k) = 1 then dif f (54 + k) + dif f (66 + k) else 0 := rfl
        have go := ih (k + 1) (by omega) (by omega)
        rw [es, nI_succ] at go
        refine ⟨fun c1 z6 e6 z7 e7 => ?_, fun c1 => ?_⟩
        · subst e6 e7
          rw [if_neg (hc.1 c1), Nat.add_zero] at go
          rw [Int32.add_zero]; exact go
        · rw [if_pos (hc.2 c1)] at go
          refine ⟨A, f, nA, sA, _, ⟨hR, ⟨tl, ow, hL⟩, k, hk, rfl⟩, hR.o, fun r2 er2 z6 e6 z7 e7 => ?_⟩
          have er2 : r2 = nI (difC f _ (54 + (nI k).toNatClampNeg) + difC f _ (66 + (nI k).toNatClampNeg)) := er2
          rw [cl_12 hk, difC_dif (hc0 _ (by omega) (by omega)), difC_dif (hc0 _ (by omega) (by omega))] at er2
          subst e6 e7 er2
          rw [nI_add]; exact go
  refine ⟨_, hR.lks, _, hR.lk.fs, _, hL.fs, fun r1 e1 => ⟨_, hR.lks, _, hR.lk.se, _, hL.se, fun r2 e2 => ⟨_, hR.lks, _, hR.lk.ct, _, hL.ct, fun r3 e3 z ez => ⟨13, ?_⟩⟩⟩⟩
  have e1 := dif_n e1
  have e2 := dif_n e2
  have e3 := dif_n e3
  rw [difC_dif (hc0 _ (by omega) (by omega))] at e1 e2 e3
  rw [e1, e2, e3, nI_add, nI_add] at ez
  subst ez
  exact key 13 0 rfl (by decide)
theorem pr_X2_faultyInn (g : gG) (A : RA) (f : Row) (nA : Nat) (sA : Nat) (c : Row) (M : nM) (o : Nat) (l : Nat) (hpre : pre_X2_faultyInn g A f nA sA c M o l) : wp_X2_faultyInn g A f nA sA c (fun r => post_X2_faultyInn g A f nA sA c M o l r) M o l := by
  obtain ⟨hR, ⟨tl, ow, hL⟩, hc0⟩ := hpre
  have key : ∀ (n k : Nat), n + k = 12 → fiP f 12 0 = fiP f n k → wpb_X2_faultyInn_2 (fun r => post_X2_faultyInn g A f nA sA c M o l r) g A f nA sA c M o l (n + 1) (nI k) := by
    intro n
    induction n with
    | zero =>
      intro k h1 h2
      refine ⟨fun c => h2.symm, fun c => ?_⟩
      have := lt12 c (by omega); omega
    | succ n ih =>
      intro k h1 h2
      have es : fiP f (n + 1) k = if f (3 + k) = 1 ∧ 0 < dif f (54 + k) + dif f (66 + k) then nI k else fiP f n (k + 1) := rfl
      rw [es] at h2
      refine ⟨fun c => ?_, fun c => ?_⟩
      · have := ge12 c (by omega); omega
      · have hk := lt12 c (by omega)
        refine ⟨A, f, ⟨hR, isPt_n hk⟩, hR.o, fun r er => ?_⟩
        have hc := has_cases hk er
        have go := ih (k + 1) (by omega)
        rw [nI_succ] at go
        refine ⟨fun c1 z7 e7 => ?_, fun c1 => ?_⟩
        · subst e7
          rw [if_neg (fun z => hc.1 c1 z.1)] at h2
          exact go h2
        · refine ⟨A, f, nA, sA, _, ⟨hR, ⟨tl, ow, hL⟩, k, hk, rfl⟩, hR.o, fun r2 er2 => ?_⟩
          have er2 : r2 = nI (difC f _ (54 + (nI k).toNatClampNeg) + difC f _ (66 + (nI k).toNatClampNeg)) := er2
          rw [cl_12 hk, difC_dif (hc0 _ (by omega) (by omega)), difC_dif (hc0 _ (by omega) (by omega))] at er2
          have hle : ∀ x, dif f x ≤ 1 := fun x => by unfold dif; split <;> decide
          have l1 := hle (54 + k)
          have l2 := hle (66 + k)
          refine ⟨fun c2 z7 e7 => ?_, fun c2 => ?_⟩
          · subst e7
            rw [er2] at c2
            rw [if_neg (fun z => nI_nle z.2 (by omega) c2)] at h2
            exact go h2
          · rw [er2] at c2
            have : 0 < dif f (54 + k) + dif f (66 + k) := by
              rcases Nat.eq_zero_or_pos (dif f (54 + k) + dif f (66 + k)) with e | e
              · rw [e] at c2; exact absurd (by decide : nI 0 ≤ 0) c2
              · exact e
            rw [if_pos ⟨hc.2 c1, this⟩] at h2
            exact h2.symm
  exact ⟨13, key 12 0 rfl rfl⟩
