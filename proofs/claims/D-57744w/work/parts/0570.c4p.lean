set_option maxRecDepth 100000
/-! CLASS SIDE 4: the inns by miles, the correct links, the chain -/
def Lm (l : List Nat) : List Int32 := l.map nI
def pre_X2_byMiles (g : gG) (A : RA) (f : Row) (M : nM) (o : Nat) : Prop := RoadAt g M o A f ∧ MD f
/-- a fresh list -/
def NewL (g : gG) (l : List Nat) (M : nM) (r : Option Nat) (M' : nM) : Prop := ∃ q, r = some q ∧ M q = none ∧ ListAt g M' q (Lm l) ∧ Kp M M' Nn
def post_X2_byMiles (g : gG) (_ : RA) (f : Row) (M : nM) (_ : Nat) (r : Option Nat) (M' : nM) : Prop := NewL g (bmL f 12) M r M'
def pre_X2_elementOr (g : gG) (L : List Int32) (d : Int32) (M : nM) (u : Nat) (x : Int32) (b : Nat) : Prop := ListAt g M u L ∧ IntAt g b d ∧ ∃ k, k < 30 ∧ x = nI k
def post_X2_elementOr (g : gG) (L : List Int32) (d : Int32) (_ : nM) (_ : Nat) (x : Int32) (_ : Nat) (r : Option Nat) : Prop := ∃ a, r = some a ∧ IntAt g a (L.getD x.toNatClampNeg d)
def RIn (f : Row) : Prop := RowOK f ∧ MD f
def pre_X2_correctLinks (g : gG) (A : RA) (f : Row) (M : nM) (o : Nat) : Prop := RoadAt g M o A f ∧ RIn f
def post_X2_correctLinks (g : gG) (_ : RA) (f : Row) (M : nM) (_ : Nat) (r : Option Nat) (M' : nM) : Prop :=
  ∃ q n s c, r = some q ∧ M q = none ∧ LkAt g M' q (q, 0) q n s c ∧ (∀ x, 51 ≤ x → x < 78 → c x = rebF f x) ∧ Kp M M' Nn
def pre_X2_wrongValues_2 (g : gG) (A : RA) (f : Row) (M : nM) (o : Nat) : Prop := RoadAt g M o A f ∧ RIn f
def post_X2_wrongValues_2 (_ : gG) (_ : RA) (f : Row) (M : nM) (_ : Nat) (r : Int32) (M' : nM) : Prop := r = nI (wroN f 27) ∧ Kp M M' Nn
def pre_X2_rebuild (g : gG) (A : RA) (f : Row) (M : nM) (o : Nat) : Prop := RoadAt g M o A f ∧ RIn f
def post_X2_rebuild (g : gG) (A : RA) (f : Row) (M : nM) (o : Nat) (r : Int32) (M' : nM) : Prop := r = nI (wroN f 27) ∧ RoadAt g M' o A (rebF f) ∧ Kp M M' (· = o)
def pre_X2_repairedValue (g : gG) (A : RA) (f : Row) (M : nM) (o : Nat) : Prop := RoadAt g M o A f ∧ RIn f ∧ wroN f 27 = 1
def post_X2_repairedValue (_ : gG) (_ : RA) (f : Row) (M : nM) (_ : Nat) (r : Int32) (M' : nM) : Prop := r = rebF f (fauF f).toNatClampNeg ∧ Kp M M' Nn
def pre_X2_chain (g : gG) (A : RA) (f : Row) (M : nM) (o : Nat) : Prop := RoadAt g M o A f ∧ PT f
def post_X2_chain (g : gG) (_ : RA) (f : Row) (M : nM) (_ : Nat) (r : Option Nat) (M' : nM) : Prop := NewL g (chF f).1 M r M'
def pre_X2_hasCycle (g : gG) (A : RA) (f : Row) (M : nM) (o : Nat) : Prop := RoadAt g M o A f ∧ PT f
def post_X2_hasCycle (_ : gG) (_ : RA) (f : Row) (M : nM) (_ : Nat) (r : Int32) (M' : nM) : Prop := r = b2i (hasI f (chF f).2) ∧ Kp M M' Nn
def pre_X2_descents (g : gG) (A : RA) (f : Row) (M : nM) (o : Nat) : Prop := RoadAt g M o A f ∧ PT f
def post_X2_descents (_ : gG) (_ : RA) (f : Row) (M : nM) (_ : Nat) (r : Int32) (M' : nM) : Prop := r = dscL f none (chF f).1 ∧ Kp M M' Nn
def wpb_X2_byMiles_87 (post : Option Nat → nM → Prop) (K10 : nM → Nat → Nat → Nat → Int32 → Prop) (g : gG) (A : RA) (f : Row) (o : Nat) (M : nM) (kc : Nat) (ks : Nat) (x1 : Nat) (x2 : Int32) : Prop :=
  kc ≤ 13 ∧ ks ≤ 183 ∧ ∀ z12, z12 = x2 + 1 → K10 M kc ks x1 z12
def wpb_X2_byMiles_76 (post : Option Nat → nM → Prop) (K10 : nM → Nat → Nat → Nat → Int32 → Prop) (g : gG) (A : RA) (f : Row) (o : Nat) (M : nM) (kc : Nat) (ks : Nat) (x1 : Nat) (x2 : Int32) (x3 : Int32) : Prop :=
  kc ≤ 13 ∧ ks ≤ 183 ∧ pre_J7_valueOf g  M x2 ∧ ∀ r32, post_J7_valueOf g  M x2 r32 → ∃ b33, r32 = some b33 ∧ ∃ g_34 : List Int32, ∃ g_35 : Int32, pre_J3_add g g_34 g_35 M x1 x3 b33 ∧ oC M x1 10 ∧ kc + 1 ≤ 13 ∧ ks + 15 ≤ 183 ∧ ∀ M38, post_J3_add g g_34 g_35 M x1 x3 b33 M38 → wpb_X2_byMiles_87 post K10 g A f o M38 (kc + 1) (ks + 15) x1 x2
def wpb_X2_byMiles_31 (post : Option Nat → nM → Prop) (K10 : nM → Nat → Nat → Nat → Int32 → Prop) (g : gG) (A : RA) (f : Row) (o : Nat) : Nat → nM → Nat → Nat → Nat → Int32 → Int32 → Prop
  | 0 => fun _ _ _ _ _ _ => False
  | n + 1 => fun M kc ks x1 x2 x3 => kc ≤ 13 ∧ ks ≤ 183 ∧ (x3 ≤ 0 → wpb_X2_byMiles_76 post K10 g A f o M kc ks x1 x2 x3) ∧ (¬ x3 ≤ 0 → ∃ v14, fR M o 1 0 (some v14) ∧ ∃ g_15 : List Int32, pre_J3_get g g_15 M x1 (x3 - 1) ∧ oC M x1 10 ∧ ∀ r16, post_J3_get g g_15 M x1 (x3 - 1) r16 → ∃ b17, r16 = some b17 ∧ (∃ v, IntAt g b17 v) ∧ ∃ g_19 : Int32, pre_J7_intValue g g_19 M b17 ∧ (∃ v, IntAt g b17 v) ∧ ∀ r20, post_J7_intValue g g_19 M b17 r20 → ∃ nf21 f21, aQ g M 3 v14 nf21 f21 ∧ vp_in r20 nf21 ∧ ∀ z22, z22 = f21 r20.toNatClampNeg → ∃ b23, z22 = some b23 ∧ ∃ v24, fI M b23 4 0 v24 ∧ ∃ v25, fR M o 1 0 (some v25) ∧ ∃ nf26 f26, aQ g M 3 v25 nf26 f26 ∧ vp_in x2 nf26 ∧ ∀ z27, z27 = f26 x2.toNatClampNeg → ∃ b28, z27 = some b28 ∧ ∃ v29, fI M b28 4 0 v29 ∧ (v24 ≤ v29 → wpb_X2_byMiles_76 post K10 g A f o M kc ks x1 x2 x3) ∧ (¬ v24 ≤ v29 → ∀ z31, z31 = x3 + (-1) → (wpb_X2_byMiles_31 post K10 g A f o n) M kc ks x1 x2 z31))
def wpb_X2_byMiles_10 (post : Option Nat → nM → Prop)  (g : gG) (A : RA) (f : Row) (o : Nat) : Nat → nM → Nat → Nat → Nat → Int32 → Prop
  | 0 => fun _ _ _ _ _ => False
  | n + 1 => fun M kc ks x1 x2 => kc ≤ 13 ∧ ks ≤ 183 ∧ (12 ≤ x2 → post (some x1) M) ∧ (¬ 12 ≤ x2 → ∃ g_6 : RA, ∃ g_7 : Row, pre_X2_hasInn g g_6 g_7 M o x2 ∧ oC M o 1 ∧ ∀ r8, post_X2_hasInn g g_6 g_7 M o x2 r8 → (r8 = 0 → wpb_X2_byMiles_87 post (wpb_X2_byMiles_10 post  g A f o n) g A f o M kc ks x1 x2) ∧ (¬ r8 = 0 → ∃ g_10 : List Int32, pre_J3_size g g_10 M x1 ∧ oC M x1 10 ∧ ∀ r11, post_J3_size g g_10 M x1 r11 → ∃ n_, wpb_X2_byMiles_31 post (wpb_X2_byMiles_10 post  g A f o n) g A f o n_ M kc ks x1 x2 r11))
def wp_X2_byMiles (g : gG) (A : RA) (f : Row) (post : Option Nat → nM → Prop) (M : nM) (o : Nat) : Prop :=
  ∀ q1 M2, M q1 = none → M2 = nup M q1 ((fun q => (q, 0)) q1, .inr (10, [.int 0, .null, .int 0])) → pre_J3_init g  M2 q1 ∧ ∀ M4, post_J3_init g  M2 q1 M4 → ∃ n_, wpb_X2_byMiles_10 post  g A f o n_ M4 1 3 q1 0

def wp_X2_elementOr (g : gG) (L : List Int32) (d : Int32) (post : Option Nat → Prop) (M : nM) (u : Nat) (x : Int32) (b : Nat) : Prop :=
  ∃ g_1 : List Int32, pre_J3_size g g_1 M u ∧ oC M u 10 ∧ ∀ r2, post_J3_size g g_1 M u r2 → (r2 ≤ x → post (some b)) ∧ (¬ r2 ≤ x → ∃ g_4 : List Int32, pre_J3_get g g_4 M u x ∧ oC M u 10 ∧ ∀ r5, post_J3_get g g_4 M u x r5 → post r5)

def wpb_X2_correctLinks_63 (post : Option Nat → nM → Prop)  (g : gG) (A : RA) (f : Row) (o : Nat) : Nat → nM → Nat → Nat → Nat → Nat → Int32 → Prop
  | 0 => fun _ _ _ _ _ _ => False
  | n + 1 => fun M kc ks x1 x2 x3 => kc ≤ 16 ∧ ks ≤ 212 ∧ ∃ g_38 : List Int32, pre_J3_size g g_38 M x2 ∧ oC M x2 10 ∧ ∀ r39, post_J3_size g g_38 M x2 r39 → (r39 ≤ x3 → post (some x1) M) ∧ (¬ r39 ≤ x3 → ∃ v41, fR M x1 2 0 (some v41) ∧ ∃ g_42 : List Int32, pre_J3_get g g_42 M x2 x3 ∧ oC M x2 10 ∧ ∀ r43, post_J3_get g g_42 M x2 x3 r43 → ∃ b44, r43 = some b44 ∧ (∃ v, IntAt g b44 v) ∧ ∃ g_46 : Int32, pre_J7_intValue g g_46 M b44 ∧ (∃ v, IntAt g b44 v) ∧ ∀ r47, post_J7_intValue g g_46 M b44 r47 → pre_J7_valueOf g  M (-1) ∧ ∀ r48, post_J7_valueOf g  M (-1) r48 → ∃ b49, r48 = some b49 ∧ ∃ g_50 : List Int32, ∃ g_51 : Int32, pre_X2_elementOr g g_50 g_51 M x2 (x3 + 1) b49 ∧ ∀ r52, post_X2_elementOr g g_50 g_51 M x2 (x3 + 1) b49 r52 → ∃ b53, r52 = some b53 ∧ (∃ v, IntAt g b53 v) ∧ ∃ g_55 : Int32, pre_J7_intValue g g_55 M b53 ∧ (∃ v, IntAt g b53 v) ∧ ∀ r56, post_J7_intValue g g_55 M b53 r56 → ∃ nf57 f57, aI g M v41 nf57 f57 ∧ vp_in r47 nf57 ∧ ∀ M58, aIW g M M58 v41 nf57 (upd f57 r47.toNatClampNeg r56) → ∃ v59, fR M58 x1 2 1 (some v59) ∧ ∃ g_60 : List Int32, pre_J3_get g g_60 M58 x2 x3 ∧ oC M58 x2 10 ∧ ∀ r61, post_J3_get g g_60 M58 x2 x3 r61 → ∃ b62, r61 = some b62 ∧ (∃ v, IntAt g b62 v) ∧ ∃ g_64 : Int32, pre_J7_intValue g g_64 M58 b62 ∧ (∃ v, IntAt g b62 v) ∧ ∀ r65, post_J7_intValue g g_64 M58 b62 r65 → pre_J7_valueOf g  M58 (-1) ∧ ∀ r66, post_J7_valueOf g  M58 (-1) r66 → ∃ b67, r66 = some b67 ∧ ∃ g_68 : List Int32, ∃ g_69 : Int32, pre_X2_elementOr g g_68 g_69 M58 x2 (x3 + 2) b67 ∧ ∀ r70, post_X2_elementOr g g_68 g_69 M58 x2 (x3 + 2) b67 r70 → ∃ b71, r70 = some b71 ∧ (∃ v, IntAt g b71 v) ∧ ∃ g_73 : Int32, pre_J7_intValue g g_73 M58 b71 ∧ (∃ v, IntAt g b71 v) ∧ ∀ r74, post_J7_intValue g g_73 M58 b71 r74 → ∃ nf75 f75, aI g M58 v59 nf75 f75 ∧ vp_in r65 nf75 ∧ ∀ M76, aIW g M58 M76 v59 nf75 (upd f75 r65.toNatClampNeg r74) → ∀ z77, z77 = x3 + 1 → (wpb_X2_correctLinks_63 post  g A f o n) M76 kc ks x1 x2 z77)
def wp_X2_correctLinks (g : gG) (A : RA) (f : Row) (post : Option Nat → nM → Prop) (M : nM) (o : Nat) : Prop :=
  ∀ q1 M2, M q1 = none → M2 = nup M q1 ((fun q => (q, 0)) q1, .inr (2, [.null, .null, .int 0, .int 0, .int 0])) → ∃ g_3 : Nat × Nat, ∃ g_4 : Nat, pre_X3_init g g_3 g_4 M2 q1 ∧ ∀ M6, post_X3_init g g_3 g_4 M2 q1 M6 → ∃ g_7 : RA, ∃ g_8 : Row, pre_X2_byMiles g g_7 g_8 M6 o ∧ oC M6 o 1 ∧ ∀ r9 M10, post_X2_byMiles g g_7 g_8 M6 o r9 M10 → ∃ b11, r9 = some b11 ∧ pre_J7_valueOf g  M10 (-1) ∧ ∀ r12, post_J7_valueOf g  M10 (-1) r12 → ∃ b13, r12 = some b13 ∧ ∃ g_14 : List Int32, ∃ g_15 : Int32, pre_X2_elementOr g g_14 g_15 M10 b11 0 b13 ∧ ∀ r16, post_X2_elementOr g g_14 g_15 M10 b11 0 b13 r16 → ∃ b17, r16 = some b17 ∧ (∃ v, IntAt g b17 v) ∧ ∃ g_19 : Int32, pre_J7_intValue g g_19 M10 b17 ∧ (∃ v, IntAt g b17 v) ∧ ∀ r20, post_J7_intValue g g_19 M10 b17 r20 → fL M10 q1 2 2 ∧ ∀ M22, fW M10 M22 q1 2 2 (.int r20) → pre_J7_valueOf g  M22 (-1) ∧ ∀ r23, post_J7_valueOf g  M22 (-1) r23 → ∃ b24, r23 = some b24 ∧ ∃ g_25 : List Int32, ∃ g_26 : Int32, pre_X2_elementOr g g_25 g_26 M22 b11 1 b24 ∧ ∀ r27, post_X2_elementOr g g_25 g_26 M22 b11 1 b24 r27 → ∃ b28, r27 = some b28 ∧ (∃ v, IntAt g b28 v) ∧ ∃ g_30 : Int32, pre_J7_intValue g g_30 M22 b28 ∧ (∃ v, IntAt g b28 v) ∧ ∀ r31, post_J7_intValue g g_30 M22 b28 r31 → fL M22 q1 2 3 ∧ ∀ M33, fW M22 M33 q1 2 3 (.int r31) → ∃ g_34 : List Int32, pre_J3_size g g_34 M33 b11 ∧ oC M33 b11 10 ∧ ∀ r35, post_J3_size g g_34 M33 b11 r35 → fL M33 q1 2 4 ∧ ∀ M37, fW M33 M37 q1 2 4 (.int r35) → ∃ n_, wpb_X2_correctLinks_63 post  g A f o n_ M37 16 212 q1 b11 0

def wp_X2_wrongValues_2 (g : gG) (A : RA) (f : Row) (post : Int32 → nM → Prop) (M : nM) (o : Nat) : Prop :=
  ∃ g_1 : RA, ∃ g_2 : Row, pre_X2_correctLinks g g_1 g_2 M o ∧ oC M o 1 ∧ ∀ r3 M4, post_X2_correctLinks g g_1 g_2 M o r3 M4 → ∃ b5, r3 = some b5 ∧ ∃ g_6 : RA, ∃ g_7 : Row, ∃ g_8 : Nat, ∃ g_9 : Nat, ∃ g_10 : Row, pre_X2_wrongValues g g_6 g_7 g_8 g_9 g_10 M4 o b5 ∧ oC M4 o 1 ∧ ∀ r11, post_X2_wrongValues g g_6 g_7 g_8 g_9 g_10 M4 o b5 r11 → post r11 M4

def wp_X2_rebuild (g : gG) (A : RA) (f : Row) (post : Int32 → nM → Prop) (M : nM) (o : Nat) : Prop :=
  ∃ g_1 : RA, ∃ g_2 : Row, pre_X2_correctLinks g g_1 g_2 M o ∧ oC M o 1 ∧ ∀ r3 M4, post_X2_correctLinks g g_1 g_2 M o r3 M4 → ∃ b5, r3 = some b5 ∧ ∃ g_6 : RA, ∃ g_7 : Row, ∃ g_8 : Nat, ∃ g_9 : Nat, ∃ g_10 : Row, pre_X2_wrongValues g g_6 g_7 g_8 g_9 g_10 M4 o b5 ∧ oC M4 o 1 ∧ ∀ r11, post_X2_wrongValues g g_6 g_7 g_8 g_9 g_10 M4 o b5 r11 → ∃ v12, fR M4 o 1 1 (some v12) ∧ ∃ g_13 : Nat × Nat, ∃ g_14 : Nat, ∃ g_15 : Nat, ∃ g_16 : Nat, ∃ g_17 : Row, ∃ g_18 : Nat × Nat, ∃ g_19 : Nat, ∃ g_20 : Nat, ∃ g_21 : Nat, ∃ g_22 : Row, pre_X3_take g g_13 g_14 g_15 g_16 g_17 g_18 g_19 g_20 g_21 g_22 M4 v12 b5 ∧ oC M4 v12 2 ∧ ∀ M24, post_X3_take g g_13 g_14 g_15 g_16 g_17 g_18 g_19 g_20 g_21 g_22 M4 v12 b5 M24 → post r11 M24

def wp_X2_repairedValue (g : gG) (A : RA) (f : Row) (post : Int32 → nM → Prop) (M : nM) (o : Nat) : Prop :=
  ∃ g_1 : RA, ∃ g_2 : Row, pre_X2_correctLinks g g_1 g_2 M o ∧ oC M o 1 ∧ ∀ r3 M4, post_X2_correctLinks g g_1 g_2 M o r3 M4 → ∃ b5, r3 = some b5 ∧ ∃ v6, fR M4 o 1 1 (some v6) ∧ ∃ v7, fI M4 v6 2 2 v7 ∧ ∃ v8, fI M4 b5 2 2 v8 ∧ (v7 = v8 → ∃ v10, fR M4 o 1 1 (some v10) ∧ ∃ v11, fI M4 v10 2 3 v11 ∧ ∃ v12, fI M4 b5 2 3 v12 ∧ (v11 = v12 → ∃ g_14 : RA, ∃ g_15 : Row, ∃ g_16 : Nat, ∃ g_17 : Nat, ∃ g_18 : Row, pre_X2_faultyInn g g_14 g_15 g_16 g_17 g_18 M4 o b5 ∧ oC M4 o 1 ∧ ∀ r19, post_X2_faultyInn g g_14 g_15 g_16 g_17 g_18 M4 o b5 r19 → (¬ r19 = (-1) → ∃ v21, fR M4 o 1 1 (some v21) ∧ ∃ v22, fR M4 v21 2 0 (some v22) ∧ ∃ nf23 f23, aI g M4 v22 nf23 f23 ∧ vp_in r19 nf23 ∧ ∀ z24, z24 = f23 r19.toNatClampNeg → ∃ v25, fR M4 b5 2 0 (some v25) ∧ ∃ nf26 f26, aI g M4 v25 nf26 f26 ∧ vp_in r19 nf26 ∧ ∀ z27, z27 = f26 r19.toNatClampNeg → (z24 = z27 → ∃ v29, fR M4 b5 2 1 (some v29) ∧ ∃ nf30 f30, aI g M4 v29 nf30 f30 ∧ vp_in r19 nf30 ∧ ∀ z31, z31 = f30 r19.toNatClampNeg → post z31 M4) ∧ (¬ z24 = z27 → ∃ v32, fR M4 b5 2 0 (some v32) ∧ ∃ nf33 f33, aI g M4 v32 nf33 f33 ∧ vp_in r19 nf33 ∧ ∀ z34, z34 = f33 r19.toNatClampNeg → post z34 M4)) ∧ (r19 = (-1) → ∃ v35, fI M4 b5 2 4 v35 ∧ post v35 M4)) ∧ (¬ v11 = v12 → ∃ v36, fI M4 b5 2 3 v36 ∧ post v36 M4)) ∧ (¬ v7 = v8 → ∃ v37, fI M4 b5 2 2 v37 ∧ post v37 M4)

def wpb_X2_chain_16 (post : Option Nat → nM → Prop)  (g : gG) (A : RA) (f : Row) (o : Nat) : Nat → nM → Nat → Nat → Nat → Int32 → Prop
  | 0 => fun _ _ _ _ _ => False
  | n + 1 => fun M kc ks x1 x2 => kc ≤ 13 ∧ ks ≤ 183 ∧ ∃ g_7 : RA, ∃ g_8 : Row, pre_X2_hasInn g g_7 g_8 M o x2 ∧ oC M o 1 ∧ ∀ r9, post_X2_hasInn g g_7 g_8 M o x2 r9 → (r9 = 0 → post (some x1) M) ∧ (¬ r9 = 0 → pre_J7_valueOf g  M x2 ∧ ∀ r11, post_J7_valueOf g  M x2 r11 → ∃ b12, r11 = some b12 ∧ ∃ g_13 : List Int32, ∃ g_14 : Int32, pre_J3_contains g g_13 g_14 M x1 b12 ∧ oC M x1 10 ∧ ∀ r15, post_J3_contains g g_13 g_14 M x1 b12 r15 → (¬ r15 = 0 → post (some x1) M) ∧ (r15 = 0 → pre_J7_valueOf g  M x2 ∧ ∀ r17, post_J7_valueOf g  M x2 r17 → ∃ b18, r17 = some b18 ∧ ∃ g_19 : List Int32, ∃ g_20 : Int32, pre_J3_add_2 g g_19 g_20 M x1 b18 ∧ oC M x1 10 ∧ kc + 1 ≤ 13 ∧ ks + 15 ≤ 183 ∧ ∀ r21 M23, post_J3_add_2 g g_19 g_20 M x1 b18 r21 M23 → ∃ v24, fR M23 o 1 1 (some v24) ∧ ∃ v25, fR M23 v24 2 0 (some v25) ∧ ∃ nf26 f26, aI g M23 v25 nf26 f26 ∧ vp_in x2 nf26 ∧ ∀ z27, z27 = f26 x2.toNatClampNeg → (wpb_X2_chain_16 post  g A f o n) M23 (kc + 1) (ks + 15) x1 z27))
def wp_X2_chain (g : gG) (A : RA) (f : Row) (post : Option Nat → nM → Prop) (M : nM) (o : Nat) : Prop :=
  ∀ q1 M2, M q1 = none → M2 = nup M q1 ((fun q => (q, 0)) q1, .inr (10, [.int 0, .null, .int 0])) → pre_J3_init g  M2 q1 ∧ ∀ M4, post_J3_init g  M2 q1 M4 → ∃ v5, fR M4 o 1 1 (some v5) ∧ ∃ v6, fI M4 v5 2 2 v6 ∧ ∃ n_, wpb_X2_chain_16 post  g A f o n_ M4 1 3 q1 v6

def wp_X2_hasCycle (g : gG) (A : RA) (f : Row) (post : Int32 → nM → Prop) (M : nM) (o : Nat) : Prop :=
  ∃ g_1 : RA, ∃ g_2 : Row, pre_X2_chain g g_1 g_2 M o ∧ oC M o 1 ∧ ∀ r3 M4, post_X2_chain g g_1 g_2 M o r3 M4 → ∃ b5, r3 = some b5 ∧ ∃ g_6 : List Int32, pre_J3_isEmpty g g_6 M4 b5 ∧ oC M4 b5 10 ∧ ∀ r7, post_J3_isEmpty g g_6 M4 b5 r7 → (¬ r7 = 0 → isB 0 ∧ post 0 M4) ∧ (r7 = 0 → ∃ v9, fR M4 o 1 1 (some v9) ∧ ∃ v10, fR M4 v9 2 0 (some v10) ∧ ∃ g_11 : List Int32, pre_J3_size g g_11 M4 b5 ∧ oC M4 b5 10 ∧ ∀ r12, post_J3_size g g_11 M4 b5 r12 → ∃ g_13 : List Int32, pre_J3_get g g_13 M4 b5 (r12 - 1) ∧ oC M4 b5 10 ∧ ∀ r14, post_J3_get g g_13 M4 b5 (r12 - 1) r14 → ∃ b15, r14 = some b15 ∧ (∃ v, IntAt g b15 v) ∧ ∃ g_17 : Int32, pre_J7_intValue g g_17 M4 b15 ∧ (∃ v, IntAt g b15 v) ∧ ∀ r18, post_J7_intValue g g_17 M4 b15 r18 → ∃ nf19 f19, aI g M4 v10 nf19 f19 ∧ vp_in r18 nf19 ∧ ∀ z20, z20 = f19 r18.toNatClampNeg → ∃ g_21 : RA, ∃ g_22 : Row, pre_X2_hasInn g g_21 g_22 M4 o z20 ∧ oC M4 o 1 ∧ ∀ r23, post_X2_hasInn g g_21 g_22 M4 o z20 r23 → (r23 = 0 → isB 0 ∧ post 0 M4) ∧ (¬ r23 = 0 → isB 1 ∧ post 1 M4))

def wpb_X2_descents_72 (post : Int32 → nM → Prop) (K9 : nM → Nat → Nat → Nat → Int32 → Int32 → Prop) (g : gG) (A : RA) (f : Row) (o : Nat) (M : nM) (kc : Nat) (ks : Nat) (x1 : Nat) (x3 : Int32) (s0 : Int32) (s1 : Int32) : Prop :=
  kc ≤ 13 ∧ ks ≤ 183 ∧ ∀ z32, z32 = (s1 + s0) → ∀ z33, z33 = x3 + 1 → K9 M kc ks x1 z32 z33
def wpb_X2_descents_9 (post : Int32 → nM → Prop)  (g : gG) (A : RA) (f : Row) (o : Nat) : Nat → nM → Nat → Nat → Nat → Int32 → Int32 → Prop
  | 0 => fun _ _ _ _ _ _ => False
  | n + 1 => fun M kc ks x1 x2 x3 => kc ≤ 13 ∧ ks ≤ 183 ∧ ∃ g_6 : List Int32, pre_J3_size g g_6 M x1 ∧ oC M x1 10 ∧ ∀ r7, post_J3_size g g_6 M x1 r7 → (r7 ≤ x3 → post x2 M) ∧ (¬ r7 ≤ x3 → ∃ v9, fR M o 1 0 (some v9) ∧ ∃ g_10 : List Int32, pre_J3_get g g_10 M x1 x3 ∧ oC M x1 10 ∧ ∀ r11, post_J3_get g g_10 M x1 x3 r11 → ∃ b12, r11 = some b12 ∧ (∃ v, IntAt g b12 v) ∧ ∃ g_14 : Int32, pre_J7_intValue g g_14 M b12 ∧ (∃ v, IntAt g b12 v) ∧ ∀ r15, post_J7_intValue g g_14 M b12 r15 → ∃ nf16 f16, aQ g M 3 v9 nf16 f16 ∧ vp_in r15 nf16 ∧ ∀ z17, z17 = f16 r15.toNatClampNeg → ∃ b18, z17 = some b18 ∧ ∃ v19, fI M b18 4 0 v19 ∧ ∃ v20, fR M o 1 0 (some v20) ∧ ∃ g_21 : List Int32, pre_J3_get g g_21 M x1 (x3 - 1) ∧ oC M x1 10 ∧ ∀ r22, post_J3_get g g_21 M x1 (x3 - 1) r22 → ∃ b23, r22 = some b23 ∧ (∃ v, IntAt g b23 v) ∧ ∃ g_25 : Int32, pre_J7_intValue g g_25 M b23 ∧ (∃ v, IntAt g b23 v) ∧ ∀ r26, post_J7_intValue g g_25 M b23 r26 → ∃ nf27 f27, aQ g M 3 v20 nf27 f27 ∧ vp_in r26 nf27 ∧ ∀ z28, z28 = f27 r26.toNatClampNeg → ∃ b29, z28 = some b29 ∧ ∃ v30, fI M b29 4 0 v30 ∧ (v30 ≤ v19 → wpb_X2_descents_72 post (wpb_X2_descents_9 post  g A f o n) g A f o M kc ks x1 x3 0 x2) ∧ (¬ v30 ≤ v19 → wpb_X2_descents_72 post (wpb_X2_descents_9 post  g A f o n) g A f o M kc ks x1 x3 1 x2))
def wp_X2_descents (g : gG) (A : RA) (f : Row) (post : Int32 → nM → Prop) (M : nM) (o : Nat) : Prop :=
  ∃ g_1 : RA, ∃ g_2 : Row, pre_X2_chain g g_1 g_2 M o ∧ oC M o 1 ∧ ∀ r3 M4, post_X2_chain g g_1 g_2 M o r3 M4 → ∃ b5, r3 = some b5 ∧ ∃ n_, wpb_X2_descents_9 post  g A f o n_ M4 13 183 b5 0 1
theorem vbc_pl {k : Nat} (h : k < 12) : ∃ j, j < 256 ∧ nI k = vb_c j := by
  refine ⟨128 + k, by omega, ?_⟩
  show nI k = nI (128 + k) - nI 128
  rw [pk_sub (by omega)]; congr 1; omega
theorem vbc_m1 : ∃ j, j < 256 ∧ (-1 : Int32) = vb_c j := ⟨127, by decide, by decide⟩
theorem lm_len {l : List Nat} : (Lm l).length = l.length := List.length_map _
theorem lm_get {l : List Nat} {k : Nat} {d : Nat} (h : k < l.length) : (Lm l).getD k 0 = nI (l.getD k d) := by
  rw [List.getD_eq_getElem?_getD, List.getD_eq_getElem?_getD]
  unfold Lm
  rw [List.getElem?_map, List.getElem?_eq_getElem h]
  rfl
theorem lm_d {l : List Nat} {k : Nat} : (Lm l).getD k (-1) = elemI l k := by
  rw [List.getD_eq_getElem?_getD]
  unfold Lm elemI
  rw [List.getElem?_map]
  cases l[k]? <;> rfl
theorem lm_ins {l : List Nat} {p a : Nat} : Lm (l.take a ++ p :: l.drop a) = (Lm l).take a ++ nI p :: (Lm l).drop a := by
  unfold Lm
  rw [List.map_append, List.map_cons, List.map_take, List.map_drop]
theorem bmI_ins {f : Row} {p : Nat} : ∀ {l : List Nat} {a : Nat}, Asc f l → a ≤ l.length → (∀ j y, l[j]? = some y → a ≤ j → f (15 + p) < f (15 + y)) → (a = 0 ∨ ∃ y, l[a - 1]? = some y ∧ ¬ f (15 + p) < f (15 + y)) → bmI f p l = l.take a ++ p :: l.drop a := by
  intro l
  induction l with
  | nil => intro a _ h _ _; have : a = 0 := by simpa using h
           subst this; rfl
  | cons y t ih =>
    intro a hA hl hg hb
    have es : bmI f p (y :: t) = if f (15 + p) < f (15 + y) then p :: y :: t else y :: bmI f p t := rfl
    rw [es]
    cases a with
    | zero => rw [if_pos (hg 0 y rfl (Nat.le_refl _))]; rfl
    | succ a =>
      have hA' := List.pairwise_cons.mp hA
      have hy : ¬ f (15 + p) < f (15 + y) := by
        rcases hb with hb | ⟨z, hz, hn⟩
        · omega
        · rw [Nat.add_sub_cancel] at hz
          cases a with
          | zero => cases hz; exact hn
          | succ a =>
            rw [List.getElem?_cons_succ] at hz
            exact fun c => hn (lt_tr c (hA'.1 z (List.mem_of_getElem? hz)))
      rw [if_neg hy, List.take_succ_cons, List.drop_succ_cons, List.cons_append]
      rw [ih hA'.2 (by simpa using hl) (fun j z hz hj => hg (j + 1) z (by rw [List.getElem?_cons_succ]; exact hz) (by omega)) ?_]
      cases a with
      | zero => exact Or.inl rfl
      | succ a =>
        rcases hb with hb | ⟨z, hz, hn⟩
        · omega
        · rw [Nat.add_sub_cancel, List.getElem?_cons_succ] at hz
          exact Or.inr ⟨z, by rw [Nat.add_sub_cancel]; exact hz, hn⟩
theorem bm_lt {f : Row} {n : Nat} : ∀ y ∈ bmL f n, y < n ∧ f (3 + y) = 1 := fun y h => bmL_mem.mp h
theorem bml_le {f : Row} : ∀ n, (bmL f n).length ≤ n := by
  intro n
  induction n with
  | zero => exact Nat.le_refl _
  | succ n ih =>
    show (if f (3 + n) = 1 then bmI f n (bmL f n) else bmL f n).length ≤ n + 1
    by_cases h : f (3 + n) = 1
    · rw [if_pos h, bmI_len]; omega
    · rw [if_neg h]; omega
/-- the addition at the place found -/
theorem bm_add {g : gG} {A : RA} {f : Row} {M0 M : nM} {o q k a kc ks : Nat} {K : nM → Nat → Nat → Nat → Int32 → Prop} (hq : M0 q = none) (hD : MD f) (hk : k < 12) (hi : f (3 + k) = 1) (ha : a ≤ (bmL f k).length) (hL : ListAt g M q (Lm (bmL f k))) (hK : Kp M0 M Nn) (h1 : kc ≤ 1 + k) (h2 : ks ≤ 3 + 15 * k) (hg : ∀ j y, (bmL f k)[j]? = some y → a ≤ j → f (15 + k) < f (15 + y)) (hb : a = 0 ∨ ∃ y, (bmL f k)[a - 1]? = some y ∧ ¬ f (15 + k) < f (15 + y))
    (kont : ∀ M' kc' ks', ListAt g M' q (Lm (bmL f (k + 1))) → Kp M0 M' Nn → kc' ≤ 1 + (k + 1) → ks' ≤ 3 + 15 * (k + 1) → K M' kc' ks' q (nI (k + 1))) :
    wpb_X2_byMiles_76 (fun r M' => post_X2_byMiles g A f M0 o r M') K g A f o M kc ks q (nI k) (nI a) := by
  have hlen := bml_le (f := f) k
  refine ⟨by omega, by omega, vbc_pl hk, fun r ⟨b, er, hI⟩ => ⟨b, er, Lm (bmL f k), nI k, ⟨hL, by rw [lm_len]; omega, hI, a, by rw [lm_len]; exact ha, rfl⟩, hL.o, by omega, by omega, fun M' ⟨hL', hK'⟩ => ⟨by omega, by omega, fun z ez => ?_⟩⟩⟩
  rw [nI_clamp (by omega), ← lm_ins, ← bmI_ins (bmL_asc hD k (by omega)) ha hg hb] at hL'
  have eb : bmL f (k + 1) = bmI f k (bmL f k) := by
    show (if f (3 + k) = 1 then bmI f k (bmL f k) else bmL f k) = _
    rw [if_pos hi]
  rw [ez, nI_1]
  refine kont M' _ _ (by rw [eb]; exact hL') (Kp.drop (q := q) (hK.n.trans (hK'.mono fun _ e => Or.inr e)) hq) (by omega) (by omega)
/-- the place among the laid ones -/
theorem bm_in {g : gG} {A : RA} {f : Row} {M0 M : nM} {o q k kc ks : Nat} {K : nM → Nat → Nat → Nat → Int32 → Prop} (hq : M0 q = none) (hD : MD f) (hk : k < 12) (hi : f (3 + k) = 1) (hR : RoadAt g M o A f) (hL : ListAt g M q (Lm (bmL f k))) (hK : Kp M0 M Nn) (h1 : kc ≤ 1 + k) (h2 : ks ≤ 3 + 15 * k)
    (kont : ∀ M' kc' ks', ListAt g M' q (Lm (bmL f (k + 1))) → Kp M0 M' Nn → kc' ≤ 1 + (k + 1) → ks' ≤ 3 + 15 * (k + 1) → K M' kc' ks' q (nI (k + 1))) : ∀ (n a : Nat), n = a → a ≤ (bmL f k).length → (∀ j y, (bmL f k)[j]? = some y → a ≤ j → f (15 + k) < f (15 + y)) →
    wpb_X2_byMiles_31 (fun r M' => post_X2_byMiles g A f M0 o r M') K g A f o (n + 1) M kc ks q (nI k) (nI a) := by
  have hlen := bml_le (f := f) k
  intro n
  induction n with
  | zero =>
    intro a ea ha hg
    subst ea
    exact ⟨by omega, by omega, fun _ => bm_add hq hD hk hi ha hL hK h1 h2 hg (Or.inl rfl) kont, fun c => absurd (by decide : nI 0 ≤ 0) c⟩
  | succ n ih =>
    intro a ea ha hg
    subst ea
    refine ⟨by omega, by omega, fun c => absurd c (nI_nle (Nat.succ_pos _) (by omega)), fun _ => ?_⟩
    have hn : n < (bmL f k).length := ha
    have em : nI (n + 1) - 1 = nI n := nI_pred n
    obtain ⟨y, hy⟩ : ∃ y, (bmL f k)[n]? = some y := ⟨_, List.getElem?_eq_getElem hn⟩
    have hyk := bm_lt y (List.mem_of_getElem? hy)
    have ey : (Lm (bmL f k)).getD n 0 = nI y := by
      rw [lm_get (d := 0) hn, List.getD_eq_getElem?_getD, hy]; rfl
    obtain ⟨p, b, hp, hb, ho⟩ := hR.inn (k := y) (by omega) hyk.2
    obtain ⟨p2, b2, hp2, hb2, ho2⟩ := hR.inn hk hi
    rw [em]
    refine ⟨_, hR.inns, Lm (bmL f k), ⟨hL, n, by rw [lm_len]; exact hn, rfl⟩, hL.o, fun r ⟨bb, er, hI⟩ => ⟨bb, er, ⟨_, hI⟩, _, hI, ⟨_, hI⟩, fun r2 er2 => ?_⟩⟩
    have er2 : r2 = nI y := by
      have : r2 = (Lm (bmL f k)).getD (nI n).toNatClampNeg 0 := er2
      rw [this, nI_clamp (by omega), ey]
    subst er2
    refine ⟨12, p, hp, pl_12 (by omega), fun z ez => ⟨b, ez.trans hb, _, ho.mi, _, hR.inns, 12, p2, hp2, pl_12 hk, fun z2 ez2 => ⟨b2, ez2.trans hb2, _, ho2.mi, fun c => ?_, fun c z3 ez3 => ?_⟩⟩⟩
    · exact bm_add hq hD hk hi ha hL hK h1 h2 hg (Or.inr ⟨y, hy, fun z => Int32.not_le.mpr z c⟩) kont
    · have : nI (n + 1) + (-1) = nI n := pk_m1 n
      rw [ez3, this]
      refine ih n rfl (by omega) (fun j z hz hj => ?_)
      rcases Nat.lt_or_ge n j with h | h
      · exact hg j z hz h
      · have : j = n := by omega
        subst this
        rw [hy] at hz; cases hz
        exact Int32.not_le.mp c
theorem pr_X2_byMiles (g : gG) (A : RA) (f : Row) (M : nM) (o : Nat) (hpre : pre_X2_byMiles g A f M o) : wp_X2_byMiles g A f (fun r M' => post_X2_byMiles g A f M o r M') M o := by
  obtain ⟨hR, hD⟩ := hpre
  intro q M1 hq e1
  refine ⟨nup_to e1, fun M2 ⟨hL, hB⟩ => ⟨13, ?_⟩⟩
  have key : ∀ (n k : Nat) (M' : nM) (kc ks : Nat), n + k = 13 → k ≤ 12 → ListAt g M' q (Lm (bmL f k)) → Kp M M' Nn → kc ≤ 1 + k → ks ≤ 3 + 15 * k → wpb_X2_byMiles_10 (fun r M' => post_X2_byMiles g A f M o r M') g A f o n M' kc ks q (nI k) := by
    intro n
    induction n with
    | zero => intro k M' kc ks h1 h2; omega
    | succ n ih =>
      intro k M' kc ks e e2 hL hK h1 h2
      have hR' := hR.kn hK
      refine ⟨by omega, by omega, fun c => ?_, fun c => ?_⟩
      · have := ge12 c e2
        subst this
        exact ⟨q, rfl, hq, hL, hK⟩
      · have hk := lt12 c e2
        refine ⟨A, f, ⟨hR', isPt_n hk⟩, hR'.o, fun r er => ?_⟩
        have hc := has_cases hk er
        refine ⟨fun c1 => ⟨by omega, by omega, fun z ez => ?_⟩, fun c1 => ⟨_, hL, hL.o, fun r2 er2 => ⟨(bmL f k).length + 1, ?_⟩⟩⟩
        · rw [ez, nI_1]
          have eb : bmL f (k + 1) = bmL f k := by
            show (if f (3 + k) = 1 then bmI f k (bmL f k) else bmL f k) = _
            rw [if_neg (hc.1 c1)]
          exact ih (k + 1) M' kc ks (by omega) (by omega) (by rw [eb]; exact hL) hK (by omega) (by omega)
        · have er2 : r2 = nI (Lm (bmL f k)).length := er2
          rw [er2, lm_len]
          refine bm_in hq hD hk (hc.2 c1) hR' hL hK h1 h2 (fun M2 kc2 ks2 a1 a2 a3 a4 => ih (k + 1) M2 kc2 ks2 (by omega) (by omega) a1 a2 a3 a4) _ _ rfl (Nat.le_refl _) (fun j y hy hj => ?_)
          rw [List.getElem?_eq_none hj] at hy; cases hy
  exact key 13 0 M2 1 3 rfl (by decide) hL (fun b t e hb _ _ => hB b _ (nne hb hq) (by rw [e1, nup_ne (nne hb hq)]; exact hb)) (by decide) (by decide)
theorem pr_X2_elementOr (g : gG) (L : List Int32) (d : Int32) (M : nM) (u : Nat) (x : Int32) (b : Nat) (hpre : pre_X2_elementOr g L d M u x b) : wp_X2_elementOr g L d (fun r => post_X2_elementOr g L d M u x b r) M u x b := by
  obtain ⟨hL, hI, k, hk, rfl⟩ := hpre
  have hl := hL.len
  have hc : (nI k).toNatClampNeg = k := nI_clamp (by omega)
  refine ⟨L, hL, hL.o, fun r er => ?_⟩
  have er : r = nI L.length := er
  subst er
  refine ⟨fun c => ⟨b, rfl, ?_⟩, fun c => ?_⟩
  · have : L.length ≤ k := (nI_leI (by omega) (by omega)).mp c
    rw [hc, List.getD_eq_getElem?_getD, List.getElem?_eq_none this]; exact hI
  · have hk2 : k < L.length := Nat.not_le.mp fun z => c ((nI_leI (by omega) (by omega)).mpr z)
    refine ⟨L, ⟨hL, k, hk2, rfl⟩, hL.o, fun r ⟨a, ea, ha⟩ => ⟨a, ea, ?_⟩⟩
    rw [hc] at ha ⊢
    rw [List.getD_eq_getElem?_getD, List.getElem?_eq_getElem hk2] at ha ⊢
    exact ha
theorem ListAt.kp {g : gG} {M M' : nM} {S : Nat → Prop} {q : Nat} {L : List Int32} (h : ListAt g M q L) (hK : Kp M M' S) (hS : ¬ S q) : ListAt g M' q L := by
  rcases h with ⟨h0, mo, e, h, h2⟩ | ⟨mo, e, N, p, h, h2, h3⟩
  · exact Or.inl ⟨h0, mo, e, hK _ _ _ h ⟨0, _, h⟩ hS, h2⟩
  · exact Or.inr ⟨mo, e, N, p, hK _ _ _ h ⟨0, _, h⟩ hS, hK _ _ _ h2 ⟨0, _, h⟩ hS, h3⟩
/-- a call of elementOr and intValue behind it: the value -/
theorem el_val {f : Row} {k : Nat} {g : gG} {a : Nat} (h : IntAt g a ((Lm (bmL f 12)).getD (nI k).toNatClampNeg (-1))) (hk : k < 30) : IntAt g a (elemI (bmL f 12) k) := by
  rw [nI_clamp (by omega), lm_d] at h
  exact h
/-- the correct links, the first k inns laid -/
def cKr (f : Row) (k : Nat) : Row := fun x => if 54 ≤ x ∧ x < 66 then (if x - 54 ∈ (bmL f 12).take k then rebF f x else -1) else if 66 ≤ x ∧ x < 78 then (if x - 66 ∈ (bmL f 12).take k then rebF f x else -1) else rebF f x
theorem cKr_54 {f : Row} {k y : Nat} (hy : y < 12) : cKr f k (54 + y) = if y ∈ (bmL f 12).take k then rebF f (54 + y) else -1 := by
  unfold cKr
  rw [if_pos (by omega), show 54 + y - 54 = y by omega]
theorem cKr_66 {f : Row} {k y : Nat} (hy : y < 12) : cKr f k (66 + y) = if y ∈ (bmL f 12).take k then rebF f (66 + y) else -1 := by
  unfold cKr
  rw [if_neg (by omega), if_pos (by omega), show 66 + y - 66 = y by omega]
theorem cKr_end {f : Row} {x : Nat} (h1 : 51 ≤ x) (h2 : x < 78) : cKr f (bmL f 12).length x = rebF f x := by
  have none : ∀ y, y < 12 → y ∉ bmL f 12 → rebF f (54 + y) = -1 ∧ rebF f (66 + y) = -1 := by
    intro y hy hn
    have h3 : ¬ f (3 + y) = 1 := fun z => hn (bmL_mem.mpr ⟨hy, z⟩)
    have hn1 : nxF f y = -1 := by unfold nxF; rw [if_neg h3]
    constructor
    · unfold rebF
      rw [if_neg (by omega), if_neg (by omega), if_neg (by omega), if_pos (by omega), show 54 + y - 54 = y by omega]; exact hn1
    · unfold rebF
      rw [if_neg (by omega), if_neg (by omega), if_neg (by omega), if_neg (by omega), if_pos (by omega), show 66 + y - 66 = y by omega, if_pos hn1]
  by_cases a : 54 ≤ x ∧ x < 66
  · obtain ⟨y, rfl⟩ : ∃ y, x = 54 + y := ⟨x - 54, by omega⟩
    rw [cKr_54 (by omega), List.take_length]
    by_cases m : y ∈ bmL f 12
    · rw [if_pos m]
    · rw [if_neg m, (none y (by omega) m).1]
  · by_cases b : 66 ≤ x ∧ x < 78
    · obtain ⟨y, rfl⟩ : ∃ y, x = 66 + y := ⟨x - 66, by omega⟩
      rw [cKr_66 (by omega), List.take_length]
      by_cases m : y ∈ bmL f 12
      · rw [if_pos m]
      · rw [if_neg m, (none y (by omega) m).2]
    · unfold cKr
      rw [if_neg a, if_neg b]
theorem take_mem {l : List Nat} {k y z : Nat} (h : l[k]? = some y) : z ∈ l.take (k + 1) ↔ z ∈ l.take k ∨ z = y := by
  rw [List.take_add_one, h]
  simp
theorem cl_loop {g : gG} {A : RA} {f : Row} {M0 : nM} {o q n s b : Nat} (hq : M0 q = none) (hb : M0 b = none) (hI : RIn f) : ∀ (N k : Nat) (M : nM), N + k = (bmL f 12).length → RoadAt g M o A f → ListAt g M b (Lm (bmL f 12)) → LkAt g M q (q, 0) q n s (cKr f k) → Kp M0 M Nn →
    wpb_X2_correctLinks_63 (fun r M' => post_X2_correctLinks g A f M0 o r M') g A f o (N + 1) M 16 212 q b (nI k) := by
  have hlen := bml_le (f := f) 12
  obtain ⟨r51, r52, r53, rl⟩ := reb_list hI.1 hI.2
  intro N
  induction N with
  | zero =>
    intro k M e hR hL hC hK
    have e : k = (bmL f 12).length := by omega
    subst e
    refine ⟨Nat.le_refl _, Nat.le_refl _, Lm (bmL f 12), hL, hL.o, fun r er => ⟨fun _ => ⟨q, n, s, _, rfl, hq, hC, fun x h1 h2 => cKr_end h1 h2, hK⟩, fun c => ?_⟩⟩
    have er : r = nI (Lm (bmL f 12)).length := er
    rw [er, lm_len] at c
    exact absurd (nI_le (Nat.le_refl _) (by omega)) c
  | succ N ih =>
    intro k M e hR hL hC hK
    have hk : k < (bmL f 12).length := by omega
    obtain ⟨y, hy⟩ : ∃ y, (bmL f 12)[k]? = some y := ⟨_, List.getElem?_eq_getElem hk⟩
    have hyk := bm_lt y (List.mem_of_getElem? hy)
    have ey : (Lm (bmL f 12)).getD (nI k).toNatClampNeg 0 = nI y := by
      rw [nI_clamp (by omega), lm_get (d := 0) hk, List.getD_eq_getElem?_getD, hy]; rfl
    have ryk := rl k y hy
    refine ⟨Nat.le_refl _, Nat.le_refl _, Lm (bmL f 12), hL, hL.o, fun r er => ⟨fun c => ?_, fun _ => ?_⟩⟩
    · have er : r = nI (Lm (bmL f 12)).length := er
      rw [er, lm_len] at c
      exact absurd c (nI_ge hk (by omega))
    · obtain ⟨h, hn, hne⟩ := hC.2.1
      obtain ⟨h', hs, hse⟩ := hC.2.2
      have gt : ∀ M', ListAt g M' b (Lm (bmL f 12)) → pre_J3_get g (Lm (bmL f 12)) M' b (nI k) := fun M' h => ⟨h, k, by rw [lm_len]; exact hk, rfl⟩
      refine ⟨n, ⟨_, _, hC.1, rfl⟩, _, gt M hL, hL.o, fun r1 ⟨b1, e1, i1⟩ => ⟨b1, e1, ⟨_, i1⟩, _, i1, ⟨_, i1⟩, fun v1 ev1 => ⟨vbc_m1, fun r2 ⟨b2, e2, i2⟩ => ⟨b2, e2, Lm (bmL f 12), -1, ⟨hL, i2, k + 1, by omega, nI_1 k⟩, fun r3 ⟨b3, e3, i3⟩ => ?_⟩⟩⟩⟩
      rw [nI_1] at i3
      have i3 := el_val i3 (by omega)
      have ev1 : v1 = nI y := Eq.trans ev1 ey
      subst ev1
      refine ⟨b3, e3, ⟨_, i3⟩, _, i3, ⟨_, i3⟩, fun v3 ev3 => ⟨12, h, ⟨_, hn⟩, pl_12 hyk.1, fun M1 w1 => ?_⟩⟩
      have ev3 : v3 = elemI (bmL f 12) (k + 1) := ev3
      subst ev3
      have w1 := w1.eq hn
      rw [cl_12 hyk.1] at w1
      have kp1 : Kp M M1 (· = q) := by rw [w1]; exact Kp.ow hn rfl
      have dqb : b ≠ q := by
        obtain ⟨t, fs, hb1, -⟩ := hL.sz
        exact mne hb1 hC.1 (fun e => by cases e)
      have hL1 : ListAt g M1 b (Lm (bmL f 12)) := hL.kp kp1 dqb
      have dqn : q ≠ n := mne hC.1 hn kne'
      have dqs : q ≠ s := mne hC.1 hs kne'
      have dns : n ≠ s := mne hn hs (tne (fun e => by cases e))
      have q1 := nup_at w1 dqn hC.1
      have s1 := nup_at w1 dns.symm hs
      have n1 := nup_to w1
      refine ⟨s, ⟨_, _, q1, rfl⟩, _, gt M1 hL1, hL1.o, fun r4 ⟨b4, e4, i4⟩ => ⟨b4, e4, ⟨_, i4⟩, _, i4, ⟨_, i4⟩, fun v4 ev4 => ⟨vbc_m1, fun r5 ⟨b5, e5, i5⟩ => ⟨b5, e5, Lm (bmL f 12), -1, ⟨hL1, i5, k + 2, by omega, nI_add k 2⟩, fun r6 ⟨b6, e6, i6⟩ => ?_⟩⟩⟩⟩
      rw [show nI k + 2 = nI (k + 2) from nI_add k 2] at i6
      have i6 := el_val i6 (by omega)
      have ev4 : v4 = nI y := Eq.trans ev4 ey
      subst ev4
      refine ⟨b6, e6, ⟨_, i6⟩, _, i6, ⟨_, i6⟩, fun v6 ev6 => ⟨12, h', ⟨_, s1⟩, pl_12 hyk.1, fun M2 w2 z ez => ?_⟩⟩
      have ev6 : v6 = elemI (bmL f 12) (k + 2) := ev6
      subst ev6
      have w2 := w2.eq s1
      rw [cl_12 hyk.1] at w2
      have kp2 : Kp M1 M2 (· = q) := by rw [w2]; exact Kp.ow s1 rfl
      have kk : Kp M M2 (· = q) := kp1.trans kp2
      rw [ez, nI_1]
      refine ih (k + 1) M2 (by omega) (hR.kp kk (fun e => by
        have := hR.1
        rw [e, hC.1] at this
        cases this) (fun b' e' ⟨t, fs, hh⟩ => by rw [e', hC.1] at hh; cases hh)) (hL1.kp kp2 dqb) ⟨?_, ⟨_, nup_at w2 dns n1, fun j hj => ?_⟩, ⟨_, nup_to w2, fun j hj => ?_⟩⟩ (Kp.drop (q := q) (hK.n.trans (kk.mono fun _ e => Or.inr e)) hq)
      · have e51 : ∀ x, 51 ≤ x → x < 54 → cKr f (k + 1) x = cKr f k x := fun x h1 h2 => by
          unfold cKr
          rw [if_neg (by omega), if_neg (by omega), if_neg (by omega), if_neg (by omega)]
        rw [e51 51 (by decide) (by decide), e51 52 (by decide) (by decide), e51 53 (by decide) (by decide)]
        exact nup_at w2 dqs q1
      · rw [cKr_54 hj]
        by_cases e : j = y
        · subst e
          rw [if_pos ((take_mem hy).mpr (Or.inr rfl)), ryk.1]
          exact if_pos rfl
        · have e2 : (j ∈ (bmL f 12).take (k + 1)) = (j ∈ (bmL f 12).take k) := propext ((take_mem hy).trans ⟨fun h => h.resolve_right e, Or.inl⟩)
          have : upd h y (elemI (bmL f 12) (k + 1)) j = h j := if_neg e
          rw [this, hne j hj, cKr_54 hj]
          simp only [e2]
      · rw [cKr_66 hj]
        by_cases e : j = y
        · subst e
          rw [if_pos ((take_mem hy).mpr (Or.inr rfl)), ryk.2]
          exact if_pos rfl
        · have e2 : (j ∈ (bmL f 12).take (k + 1)) = (j ∈ (bmL f 12).take k) := propext ((take_mem hy).trans ⟨fun h => h.resolve_right e, Or.inl⟩)
          have : upd h' y (elemI (bmL f 12) (k + 2)) j = h' j := if_neg e
          rw [this, hse j hj, cKr_66 hj]
          simp only [e2]
theorem ListAt.wo {g : gG} {M : nM} {q : Nat} {L : List Int32} (h : ListAt g M q L) : wo M q := by
  rcases h with ⟨rfl, mo, e, h, -⟩ | ⟨mo, e, N, p, h, -⟩
  · exact ⟨0, _, h⟩
  · exact ⟨0, _, h⟩
theorem pr_X2_correctLinks (g : gG) (A : RA) (f : Row) (M : nM) (o : Nat) (hpre : pre_X2_correctLinks g A f M o) : wp_X2_correctLinks g A f (fun r M' => post_X2_correctLinks g A f M o r M') M o := by
  obtain ⟨hR, hI⟩ := hpre
  obtain ⟨r51, r52, r53, rl⟩ := reb_list hI.1 hI.2
  have hlen := bml_le (f := f) 12
  intro q M1 hq e1
  refine ⟨(q, 0), q, nup_to e1, fun M2 ⟨⟨n, s, hC⟩, hB⟩ => ?_⟩
  have k2 : Kp M M2 Nn := fun b t e hb _ _ => hB b _ (nne hb hq) (by rw [e1, nup_ne (nne hb hq)]; exact hb)
  have hR2 := hR.kn k2
  refine ⟨A, f, ⟨hR2, hI.2⟩, hR2.o, fun r M3 ⟨b, er, hb, hL, k3⟩ => ⟨b, er, vbc_m1, fun r1 ⟨b1, f1, i1⟩ => ?_⟩⟩
  have hC3 := hC.kp k3 ⟨0, _, hC.1⟩ ⟨0, _, hC.1⟩ (fun z => z) (fun z => z)
  have dqb : b ≠ q := fun e => by rw [e, hC.1] at hb; cases hb
  have z0 : (0 : Int32) = nI 0 := rfl
  have z1 : (1 : Int32) = nI 1 := rfl
  refine ⟨b1, f1, Lm (bmL f 12), -1, ⟨hL, i1, 0, by decide, rfl⟩, fun r2 ⟨b2, f2, i2⟩ => ?_⟩
  rw [z0] at i2
  have i2 := el_val i2 (by decide)
  refine ⟨b2, f2, ⟨_, i2⟩, _, i2, ⟨_, i2⟩, fun v2 ev2 => ⟨⟨_, _, hC3.1, (by decide : (2:Nat) < 5)⟩, fun M4 w4 => ?_⟩⟩
  have ev2 : v2 = elemI (bmL f 12) 0 := ev2
  have w4 := w4.eq hC3.1
  have q4 := nup_to w4
  have kp4 : Kp M3 M4 (· = q) := by rw [w4]; exact Kp.ow hC3.1 rfl
  have hL4 := hL.kp kp4 dqb
  refine ⟨vbc_m1, fun r3 ⟨b3, f3, i3⟩ => ⟨b3, f3, Lm (bmL f 12), -1, ⟨hL4, i3, 1, by decide, rfl⟩, fun r4 ⟨b4, f4, i4⟩ => ?_⟩⟩
  rw [z1] at i4
  have i4 := el_val i4 (by decide)
  refine ⟨b4, f4, ⟨_, i4⟩, _, i4, ⟨_, i4⟩, fun v4 ev4 => ⟨⟨_, _, q4, (by decide : (3:Nat) < 5)⟩, fun M5 w5 => ?_⟩⟩
  have ev4 : v4 = elemI (bmL f 12) 1 := ev4
  have w5 := w5.eq q4
  have q5 := nup_to w5
  have kp5 : Kp M4 M5 (· = q) := by rw [w5]; exact Kp.ow q4 rfl
  have hL5 := hL4.kp kp5 dqb
  refine ⟨Lm (bmL f 12), hL5, hL5.o, fun r5 er5 => ⟨⟨_, _, q5, (by decide : (4:Nat) < 5)⟩, fun M6 w6 => ⟨(bmL f 12).length + 1, ?_⟩⟩⟩
  have er5 : r5 = nI (Lm (bmL f 12)).length := er5
  have w6 := w6.eq q5
  have q6 := nup_to w6
  have kp6 : Kp M5 M6 (· = q) := by rw [w6]; exact Kp.ow q5 rfl
  have kk := kp4.trans (kp5.trans kp6)
  have hR6 := (hR2.kn k3).kp kk (fun e => by
        have := (hR2.kn k3).1
        rw [e, hC3.1] at this
        cases this) (fun b' e' ⟨t, fs, hh⟩ => by rw [e', hC3.1] at hh; cases hh)
  have hb0 : M b = none := by
    cases e : M b with
    | none => rfl
    | some c => rw [hB b c (nne e hq) (by rw [e1, nup_ne (nne e hq)]; exact e)] at hb; cases hb
  obtain ⟨c1, ⟨h, hn, hne⟩, ⟨h', hs, hse⟩⟩ := hC3
  have dn : n ≠ q := mne hn c1 kne
  have ds : s ≠ q := mne hs c1 kne
  refine cl_loop hq hb0 hI _ 0 M6 rfl hR6 (hL5.kp kp6 dqb) ⟨?_, ⟨h, nup_at w6 dn (nup_at w5 dn (nup_at w4 dn hn)), fun j hj => ?_⟩, ⟨h', nup_at w6 ds (nup_at w5 ds (nup_at w4 ds hs)), fun j hj => ?_⟩⟩ (Kp.drop (q := q) ((k2.n.trans k3.n).trans (kk.mono fun _ e => Or.inr e)) hq)
  · have e51 : ∀ x, 51 ≤ x → x < 54 → cKr f 0 x = rebF f x := fun x h1 h2 => by
      unfold cKr
      rw [if_neg (by omega), if_neg (by omega)]
    rw [e51 51 (by decide) (by decide), e51 52 (by decide) (by decide), e51 53 (by decide) (by decide), r51, r52, r53, ← ev2, ← ev4, ← lm_len, ← er5]
    exact q6
  · rw [cKr_54 hj, List.take_zero, if_neg (by simp), hne j hj]
    show lk0 (54 + j) = -1
    unfold lk0; rw [if_neg (by omega)]
  · rw [cKr_66 hj, List.take_zero, if_neg (by simp), hse j hj]
    show lk0 (66 + j) = -1
    unfold lk0; rw [if_neg (by omega)]
theorem pr_X2_wrongValues_2 (g : gG) (A : RA) (f : Row) (M : nM) (o : Nat) (hpre : pre_X2_wrongValues_2 g A f M o) : wp_X2_wrongValues_2 g A f (fun r M' => post_X2_wrongValues_2 g A f M o r M') M o := by
  obtain ⟨hR, hI⟩ := hpre
  refine ⟨A, f, ⟨hR, hI⟩, hR.o, fun r M1 ⟨q, n, s, c, er, hq, hC, hc, hK⟩ => ⟨q, er, ?_⟩⟩
  have hR1 := hR.kn hK
  exact ⟨A, f, n, s, c, ⟨hR1, ⟨_, _, hC⟩, hc⟩, hR1.o, fun r2 e2 => ⟨e2, hK⟩⟩
theorem InnC.congr {M : nM} {z : Option Nat} {f h : Row} {k : Nat} (hk : k < 12) (e : ∀ x, x < 51 → f x = h x) (hc : InnC M z f k) : InnC M z h k := by
  unfold InnC InnO at hc ⊢
  rw [e (3 + k) (by omega), e (15 + k) (by omega), e (27 + k) (by omega), e (39 + k) (by omega)] at hc
  exact hc
theorem LkAt.congr {g : gG} {M : nM} {l ow n s : Nat} {tl : Nat × Nat} {f h : Row} (e : ∀ x, 51 ≤ x → x < 78 → f x = h x) (hc : LkAt g M l tl ow n s f) : LkAt g M l tl ow n s h := by
  obtain ⟨a1, ⟨p, a2, a3⟩, ⟨q, a4, a5⟩⟩ := hc
  rw [e 51 (by decide) (by decide), e 52 (by decide) (by decide), e 53 (by decide) (by decide)] at a1
  exact ⟨a1, ⟨p, a2, fun k hk => (a3 k hk).trans (e _ (by omega) (by omega))⟩, ⟨q, a4, fun k hk => (a5 k hk).trans (e _ (by omega) (by omega))⟩⟩
/-- new links of a road -/
theorem RoadAt.relink {g : gG} {M M' : nM} {o : Nat} {A : RA} {f c h : Row} (hR : RoadAt g M o A f) (hC : LkAt g M' A.2.1 (o, 2) o A.2.2.1 A.2.2.2 c) (hb : ∀ b, b ≠ A.2.1 → b ≠ A.2.2.1 → b ≠ A.2.2.2 → M' b = M b) (hlo : ∀ x, x < 51 → f x = h x) (hhi : ∀ x, 51 ≤ x → x < 78 → c x = h x) : RoadAt g M' o A h ∧ Kp M M' (· = o) := by
  obtain ⟨a1, ⟨p, a2, a3⟩, a4⟩ := hR
  obtain ⟨l1, ⟨x, l2, l3⟩, ⟨y, l4, l5⟩⟩ := id a4
  have kp : Kp M M' (· = o) := fun b t e hbb _ hn => by
    rw [hb b (fun z => ?_) (fun z => ?_) (fun z => ?_)]
    · exact hbb
    · rw [z, l1] at hbb; cases hbb; exact hn rfl
    · rw [z, l2] at hbb; cases hbb; exact hn rfl
    · rw [z, l4] at hbb; cases hbb; exact hn rfl
  have o1 := (hb o (mne a1 l1 (tne (fun e => by cases e))) (mne a1 l2 kne') (mne a1 l4 kne')).trans a1
  have i1 := (hb A.1 (mne a2 l1 kne) (mne a2 l2 (tne (fun e => by cases e))) (mne a2 l4 (tne (fun e => by cases e)))).trans a2
  rw [hlo 0 (by decide), hlo 1 (by decide), hlo 2 (by decide)] at o1
  refine ⟨⟨o1, ⟨p, i1, fun k hk => ?_⟩, hC.congr hhi⟩, kp⟩
  refine InnC.congr hk hlo ((a3 k hk).kp kp (fun b' e' ⟨t, fs, hh⟩ => by rw [e', a1] at hh; cases hh))
theorem pr_X2_rebuild (g : gG) (A : RA) (f : Row) (M : nM) (o : Nat) (hpre : pre_X2_rebuild g A f M o) : wp_X2_rebuild g A f (fun r M' => post_X2_rebuild g A f M o r M') M o := by
  obtain ⟨hR, hI⟩ := hpre
  refine ⟨A, f, ⟨hR, hI⟩, hR.o, fun r M1 ⟨q, n, s, c, er, hq, hC, hc, hK⟩ => ⟨q, er, ?_⟩⟩
  have hR1 := hR.kn hK
  have doq : o ≠ q := nne hR.1 hq
  refine ⟨A, f, n, s, c, ⟨hR1, ⟨_, _, hC⟩, hc⟩, hR1.o, fun r2 e2 => ⟨_, hR1.lks, (o, 2), o, A.2.2.1, A.2.2.2, f, (q, 0), q, n, s, c, ⟨hR1.lk, hC, doq, fun e => by cases e⟩, hR1.lk.o, fun M2 ⟨h1, h2⟩ => ?_⟩⟩
  have rr := hR1.relink h1 h2 (h := rebF f) (fun x hx => (reb_lo hx).symm) hc
  exact ⟨e2, rr.1, hK.n.trans rr.2⟩
/-- one wrong value alone -/
theorem wro_one {f : Row} {d x : Nat} (h : wroN f 27 = 1) (hd1 : 51 ≤ d) (hd2 : d < 78) (hds : stoF f d = true) (hdw : f d ≠ rebF f d) (hx1 : 51 ≤ x) (hx2 : x < 78) (hxs : stoF f x = true) (hxw : f x ≠ rebF f x) : x = d := by
  obtain ⟨k0, rfl⟩ : ∃ k0, d = 51 + k0 := ⟨d - 51, by omega⟩
  have e := wro_fix (f := f) (k0 := k0) (by omega) hds hdw 27 (Nat.le_refl _)
  rw [h, if_pos (by omega)] at e
  have z := (wroN_0 (upd f (51 + k0) (rebF f (51 + k0))) 27).mp (by omega)
  by_cases hx : x = 51 + k0
  · exact hx
  · have hz := z (x - 51) (by omega)
    rw [show 51 + (x - 51) = x by omega] at hz
    rw [sto_upd (by omega)] at hz
    have := hz hxs
    rw [reb_upd (by omega) hx1 hx2] at this
    have u : upd f (51 + k0) (rebF f (51 + k0)) x = f x := if_neg hx
    rw [u] at this
    exact absurd this hxw
theorem fiP_spec {f : Row} : ∀ n k, n + k = 12 → (fiP f n k = -1 ∧ ∀ y, k ≤ y → y < 12 → f (3 + y) = 1 → f (54 + y) = rebF f (54 + y) ∧ f (66 + y) = rebF f (66 + y)) ∨ ∃ y, y < 12 ∧ fiP f n k = nI y ∧ f (3 + y) = 1 ∧ (f (54 + y) ≠ rebF f (54 + y) ∨ f (66 + y) ≠ rebF f (66 + y)) := by
  intro n
  induction n with
  | zero => intro k hk; exact Or.inl ⟨rfl, fun y h1 h2 => by omega⟩
  | succ n ih =>
    intro k hk
    have es : fiP f (n + 1) k = if f (3 + k) = 1 ∧ 0 < dif f (54 + k) + dif f (66 + k) then nI k else fiP f n (k + 1) := rfl
    have d0 : ∀ x, dif f x = 0 ↔ f x = rebF f x := fun x => by
      unfold dif
      by_cases e : f x = rebF f x
      · rw [if_pos e]; exact ⟨fun _ => e, fun _ => rfl⟩
      · rw [if_neg e]; exact ⟨(fun z => by cases z), fun z => absurd z e⟩
    by_cases c : f (3 + k) = 1 ∧ 0 < dif f (54 + k) + dif f (66 + k)
    · refine Or.inr ⟨k, by omega, by rw [es, if_pos c], c.1, ?_⟩
      rcases Nat.eq_zero_or_pos (dif f (54 + k)) with z | z
      · refine Or.inr (fun e => ?_)
        have := (d0 _).mpr e
        omega
      · refine Or.inl (fun e => ?_)
        have := (d0 _).mpr e
        omega
    · rw [es, if_neg c]
      rcases ih (k + 1) (by omega) with ⟨h1, h2⟩ | h
      · refine Or.inl ⟨h1, fun y hy1 hy2 hi => ?_⟩
        rcases Nat.eq_or_lt_of_le hy1 with e | e
        · subst e
          have : ¬ 0 < dif f (54 + k) + dif f (66 + k) := fun z => c ⟨hi, z⟩
          exact ⟨(d0 _).mp (by omega), (d0 _).mp (by omega)⟩
        · exact h2 y e hy2 hi
      · exact Or.inr h
theorem pr_X2_repairedValue (g : gG) (A : RA) (f : Row) (M : nM) (o : Nat) (hpre : pre_X2_repairedValue g A f M o) : wp_X2_repairedValue g A f (fun r M' => post_X2_repairedValue g A f M o r M') M o := by
  obtain ⟨hR, hI, h1⟩ := hpre
  obtain ⟨d, hd1, hd2, hde, hds, hdw⟩ : ∃ d, 51 ≤ d ∧ d < 78 ∧ fauF f = nI d ∧ stoF f d = true ∧ f d ≠ rebF f d := by
    rcases fau_spec hI.1 hI.2 with ⟨-, h⟩ | ⟨d, a, b, c, e, h, -⟩
    · exact absurd h1 h
    · exact ⟨d, a, b, c, e, h⟩
  have fin : ∀ x v M', 51 ≤ x → x < 78 → stoF f x = true → f x ≠ rebF f x → v = rebF f x → Kp M M' Nn → post_X2_repairedValue g A f M o v M' := fun x v M' a b cc e hv hk => by
    have := wro_one h1 hd1 hd2 hds hdw a b cc e
    subst this
    refine ⟨?_, hk⟩
    rw [hde, nI_clamp (by omega)]; exact hv
  have s51 : ∀ x, 51 ≤ x → x < 54 → stoF f x = true := fun x a b => by
    unfold stoF
    rw [decide_eq_true a, decide_eq_true b]; rfl
  refine ⟨A, f, ⟨hR, hI⟩, hR.o, fun r M1 ⟨q, n, s, c, er, hq, hC, hc, hK⟩ => ⟨q, er, ?_⟩⟩
  have hR1 := hR.kn hK
  refine ⟨_, hR1.lks, _, hR1.lk.fs, _, hC.fs, fun c1 => ⟨_, hR1.lks, _, hR1.lk.se, _, hC.se, fun c2 => ?_, fun c2 => ⟨_, hC.se, ?_⟩⟩, fun c1 => ⟨_, hC.fs, ?_⟩⟩
  · rw [hc 51 (by decide) (by decide)] at c1
    rw [hc 52 (by decide) (by decide)] at c2
    refine ⟨A, f, n, s, c, ⟨hR1, ⟨_, _, hC⟩, hc⟩, hR1.o, fun r2 e2 => ?_⟩
    have e2 : r2 = fiP f 12 0 := e2
    rcases fiP_spec (f := f) 12 0 rfl with ⟨g1, g2⟩ | ⟨y, hy, g1, g2, g3⟩
    · refine ⟨fun z => absurd (e2.trans g1) z, fun _ => ⟨_, hC.ct, ?_⟩⟩
      have dd : d = 53 := by
        by_cases a51 : d = 51
        · subst a51; exact absurd c1 hdw
        by_cases a52 : d = 52
        · subst a52; exact absurd c2 hdw
        by_cases a53 : d = 53
        · exact a53
        by_cases a66 : d < 66
        · obtain ⟨y, rfl⟩ : ∃ y, d = 54 + y := ⟨d - 54, by omega⟩
          rw [sto_54 (by omega)] at hds
          exact absurd (g2 y (Nat.zero_le _) (by omega) (of_decide_eq_true hds)).1 hdw
        · obtain ⟨y, rfl⟩ : ∃ y, d = 66 + y := ⟨d - 66, by omega⟩
          rw [sto_66 (by omega)] at hds
          exact absurd (g2 y (Nat.zero_le _) (by omega) (of_decide_eq_true hds)).2 hdw
      subst dd
      exact fin 53 _ M1 (by decide) (by decide) hds hdw (hc 53 (by decide) (by decide)) hK
    · rw [g1] at e2
      subst e2
      obtain ⟨p, hp, hpe⟩ := hR1.lk.nxa
      obtain ⟨p2, hp2, hpe2⟩ := hC.nxa
      obtain ⟨p3, hp3, hpe3⟩ := hC.ska
      refine ⟨fun _ => ?_, fun z => absurd z (by have : ∀ y, y < 12 → ¬ nI y = -1 := by decide
                                                 exact this y hy)⟩
      refine ⟨_, hR1.lks, _, hR1.lk.nx, 12, p, hp, pl_12 hy, fun z ez => ⟨_, hC.nx, 12, p2, hp2, pl_12 hy, fun z2 ez2 => ?_⟩⟩
      rw [cl_12 hy, hpe y hy] at ez
      rw [cl_12 hy, hpe2 y hy, hc _ (by omega) (by omega)] at ez2
      subst ez ez2
      refine ⟨fun e => ⟨_, hC.sk, 12, p3, hp3, pl_12 hy, fun z ez => ?_⟩, fun e => ⟨_, hC.nx, 12, p2, hp2, pl_12 hy, fun z ez => ?_⟩⟩
      · rw [cl_12 hy, hpe3 y hy, hc _ (by omega) (by omega)] at ez
        exact fin (66 + y) _ M1 (by omega) (by omega) (by rw [sto_66 hy]; exact decide_eq_true g2) (g3.resolve_left (fun z => z e)) ez hK
      · rw [cl_12 hy, hpe2 y hy, hc _ (by omega) (by omega)] at ez
        exact fin (54 + y) _ M1 (by omega) (by omega) (by rw [sto_54 hy]; exact decide_eq_true g2) e ez hK
  · rw [hc 52 (by decide) (by decide)] at c2 ⊢
    exact fin 52 _ M1 (by decide) (by decide) (s51 52 (by decide) (by decide)) c2 rfl hK
  · rw [hc 51 (by decide) (by decide)] at c1 ⊢
    exact fin 51 _ M1 (by decide) (by decide) (s51 51 (by decide) (by decide)) c1 rfl hK
theorem lm_mem {l : List Nat} {k : Nat} (hk : k < 12) (hl : ∀ y ∈ l, y < 12) : nI k ∈ Lm l ↔ k ∈ l := by
  unfold Lm
  rw [List.mem_map]
  exact ⟨fun ⟨y, hy, e⟩ => by rw [← (nI_eq (by have := hl y hy; omega) (by omega)).mp e]; exact hy, fun h => ⟨k, h, rfl⟩⟩
theorem ch_loop {g : gG} {A : RA} {f : Row} {M0 : nM} {o q : Nat} (hq : M0 q = none) (hP : PT f) : ∀ (N : Nat) (l : List Nat) (x : Int32) (M : nM) (kc ks : Nat), N + l.length = 13 → l.Nodup → (∀ y ∈ l, y < 12) → isPt x → chG f N l x = chF f → RoadAt g M o A f → ListAt g M q (Lm l) → Kp M0 M Nn → kc ≤ 1 + l.length → ks ≤ 3 + 15 * l.length →
    wpb_X2_chain_16 (fun r M' => post_X2_chain g A f M0 o r M') g A f o N M kc ks q x := by
  intro N
  induction N with
  | zero =>
    intro l x M kc ks e hn hl
    have := nodup_lt 12 l hn hl
    omega
  | succ N ih =>
    intro l x M kc ks e hn hl hx hc hR hL hK h1 h2
    have hlen := nodup_lt 12 l hn hl
    have es : chG f (N + 1) l x = if hasI f x = true ∧ x.toNatClampNeg ∉ l then chG f N (l ++ [x.toNatClampNeg]) (f (54 + x.toNatClampNeg)) else (l, x) := rfl
    have fin : ¬ (hasI f x = true ∧ x.toNatClampNeg ∉ l) → post_X2_chain g A f M0 o (some q) M := fun z => by
      rw [es, if_neg z] at hc
      show NewL g (chF f).1 M0 (some q) M
      rw [← hc]
      exact ⟨q, rfl, hq, hL, hK⟩
    refine ⟨by omega, by omega, A, f, ⟨hR, hx⟩, hR.o, fun r er => ?_⟩
    have er : r = b2i (hasI f x) := er
    refine ⟨fun c => fin (fun z => ?_), fun c => ?_⟩
    · have : hasI f x = false := b2i_0 (er ▸ c)
      rw [this] at z; exact Bool.noConfusion z.1
    · have hh : hasI f x = true := b2i_1 (er ▸ c)
      obtain ⟨k, hk, rfl, h3⟩ := has_pl hh
      rw [cl_12 hk] at es fin
      refine ⟨vbc_pl hk, fun r1 ⟨b1, f1, i1⟩ => ⟨b1, f1, Lm l, nI k, ⟨hL, hL.len, i1⟩, hL.o, fun r2 e2 => ?_⟩⟩
      have e2 : r2 = b2i (decide (nI k ∈ Lm l)) := e2
      refine ⟨fun c2 => fin (fun z => ?_), fun c2 => ?_⟩
      · exact z.2 ((lm_mem hk hl).mp (of_decide_eq_true (b2i_1 (e2 ▸ c2))))
      · have hm : k ∉ l := fun z => of_decide_eq_false (b2i_0 (e2 ▸ c2)) ((lm_mem hk hl).mpr z)
        rw [es, if_pos ⟨hh, hm⟩] at hc
        have hnd : (l ++ [k]).Nodup := by
          rw [List.nodup_append]
          refine ⟨hn, by simp, fun a ha b hb => ?_⟩
          rw [List.mem_singleton] at hb
          subst hb
          exact fun e => hm (e ▸ ha)
        have hlt : ∀ y ∈ l ++ [k], y < 12 := by
          intro y hy
          rcases List.mem_append.mp hy with h | h
          · exact hl y h
          · rw [List.mem_singleton] at h; omega
        have hl12 := nodup_lt 12 _ hnd hlt
        rw [List.length_append] at hl12
        have hl12 : l.length + 1 ≤ 12 := hl12
        refine ⟨vbc_pl hk, fun r3 ⟨b3, f3, i3⟩ => ⟨b3, f3, Lm l, nI k, ⟨hL, by rw [lm_len]; omega, i3⟩, hL.o, by omega, by omega, fun r4 M1 ⟨hL1, k1⟩ => ?_⟩⟩
        have kk : Kp M0 M1 Nn := Kp.drop (q := q) (hK.n.trans (k1.mono fun _ e => Or.inr e)) hq
        have doq : o ≠ q := by
          obtain ⟨t, fs, hb1, -⟩ := hL.sz
          exact mne hR.1 hb1 (fun e => by cases e)
        have hR1 := hR.kp k1 doq (fun b' e' ⟨t, fs, hh⟩ => by
          obtain ⟨t', fs', hb1, -⟩ := hL.sz
          rw [e', hb1] at hh; cases hh)
        obtain ⟨p, hp, hpe⟩ := hR1.lk.nxa
        refine ⟨_, hR1.lks, _, hR1.lk.nx, 12, p, hp, pl_12 hk, fun z ez => ?_⟩
        rw [cl_12 hk, hpe k hk] at ez
        subst ez
        have el : Lm l ++ [nI k] = Lm (l ++ [k]) := by unfold Lm; rw [List.map_append]; rfl
        rw [el] at hL1
        exact ih (l ++ [k]) _ M1 _ _ (by rw [List.length_append]; simp; omega) hnd hlt (hP.2.2.2 k hk).1 hc hR1 hL1 kk (by rw [List.length_append]; simp; omega) (by rw [List.length_append]; simp; omega)
theorem pr_X2_chain (g : gG) (A : RA) (f : Row) (M : nM) (o : Nat) (hpre : pre_X2_chain g A f M o) : wp_X2_chain g A f (fun r M' => post_X2_chain g A f M o r M') M o := by
  obtain ⟨hR, hP⟩ := hpre
  intro q M1 hq e1
  refine ⟨nup_to e1, fun M2 ⟨hL, hB⟩ => ?_⟩
  have k2 : Kp M M2 Nn := fun b t e hb _ _ => hB b _ (nne hb hq) (by rw [e1, nup_ne (nne hb hq)]; exact hb)
  have hR2 := hR.kn k2
  exact ⟨_, hR2.lks, _, hR2.lk.fs, 13, ch_loop hq hP 13 [] _ M2 1 3 rfl List.nodup_nil (fun y h => by cases h) hP.1 rfl hR2 hL k2 (by decide) (by decide)⟩
theorem ch_lt {f : Row} : ∀ y ∈ (chF f).1, y < 12 ∧ f (3 + y) = 1 := by
  have key : ∀ {l : List Nat} {x e : Int32}, Chn f x l e → ∀ y ∈ l, y < 12 ∧ f (3 + y) = 1 := by
    intro l
    induction l with
    | nil => intro x e _ y hy; cases hy
    | cons a t ih =>
      intro x e h y hy
      obtain ⟨h1, h2, h3, h4⟩ := h
      rcases List.mem_cons.mp hy with h | h
      · subst h; exact ⟨h2, h3⟩
      · exact ih h4 y h
  exact key (chF_chn f)
theorem ch_nd {f : Row} : (chF f).1.Nodup := by
  have key : ∀ n l x, l.Nodup → (chG f n l x).1.Nodup := by
    intro n
    induction n with
    | zero => intro l x h; exact h
    | succ n ih =>
      intro l x h
      show (if hasI f x = true ∧ x.toNatClampNeg ∉ l then chG f n (l ++ [x.toNatClampNeg]) (f (54 + x.toNatClampNeg)) else (l, x)).1.Nodup
      by_cases c : hasI f x = true ∧ x.toNatClampNeg ∉ l
      · rw [if_pos c]
        refine ih _ _ ?_
        rw [List.nodup_append]
        refine ⟨h, by simp, fun a ha b hb => ?_⟩
        rw [List.mem_singleton] at hb
        subst hb
        exact fun e => c.2 (e ▸ ha)
      · rw [if_neg c]; exact h
  exact key 13 [] _ List.nodup_nil
theorem ch_len {f : Row} : (chF f).1.length ≤ 12 := nodup_lt 12 _ ch_nd (fun y h => (ch_lt y h).1)
theorem pr_X2_hasCycle (g : gG) (A : RA) (f : Row) (M : nM) (o : Nat) (hpre : pre_X2_hasCycle g A f M o) : wp_X2_hasCycle g A f (fun r M' => post_X2_hasCycle g A f M o r M') M o := by
  obtain ⟨hR, hP⟩ := hpre
  have hlen := ch_len (f := f)
  refine ⟨A, f, ⟨hR, hP⟩, hR.o, fun r M1 ⟨q, er, hq, hL, hK⟩ => ⟨q, er, Lm (chF f).1, ⟨hL, hL.len⟩, hL.o, fun r2 e2 => ?_⟩⟩
  have hR1 := hR.kn hK
  have e2 : r2 = b2i (Lm (chF f).1).isEmpty := e2
  have hc := cyc_iff f
  refine ⟨fun c => ⟨isB_0, ?_, hK⟩, fun c => ?_⟩
  · have hn : (chF f).1 = [] := by
      have := b2i_1 (e2 ▸ c)
      unfold Lm at this
      rw [List.isEmpty_iff, List.map_eq_nil_iff] at this
      exact this
    have : (chF f).1.getLast? = none := by rw [hn]; rfl
    rw [this] at hc
    rw [hc]; rfl
  · have hne : (chF f).1 ≠ [] := fun e => by
      have := b2i_0 (e2 ▸ c)
      rw [e] at this
      exact absurd this (by decide)
    obtain ⟨z, hz⟩ : ∃ z, (chF f).1.getLast? = some z := by
      cases h : (chF f).1.getLast? with
      | none => exact absurd (List.getLast?_eq_none_iff.mp h) hne
      | some z => exact ⟨z, rfl⟩
    have hpos : 0 < (chF f).1.length := by
      cases h : (chF f).1 with
      | nil => exact absurd h hne
      | cons a t => exact Nat.succ_pos _
    have hzi : (chF f).1[(chF f).1.length - 1]? = some z := by rw [← List.getLast?_eq_getElem?]; exact hz
    have hzm := ch_lt z (List.mem_of_getElem? hzi)
    rw [hz] at hc
    obtain ⟨p, hp, hpe⟩ := hR1.lk.nxa
    refine ⟨_, hR1.lks, _, hR1.lk.nx, Lm (chF f).1, hL, hL.o, fun r3 e3 => ?_⟩
    have e3 : r3 = nI (Lm (chF f).1).length := e3
    have em : r3 - 1 = nI ((chF f).1.length - 1) := by
      rw [e3, lm_len]
      obtain ⟨m, hm⟩ : ∃ m, (chF f).1.length = m + 1 := ⟨(chF f).1.length - 1, by omega⟩
      rw [hm, nI_pred, Nat.add_sub_cancel]
    rw [em]
    refine ⟨_, ⟨hL, _, by rw [lm_len]; omega, rfl⟩, hL.o, fun r4 ⟨b4, f4, i4⟩ => ⟨b4, f4, ⟨_, i4⟩, _, i4, ⟨_, i4⟩, fun v ev => ?_⟩⟩
    have ev : v = nI z := by
      have : v = (Lm (chF f).1).getD (nI ((chF f).1.length - 1)).toNatClampNeg 0 := ev
      rw [this, nI_clamp (by omega), lm_get (d := 0) (by omega), List.getD_eq_getElem?_getD, hzi]; rfl
    subst ev
    refine ⟨12, p, hp, pl_12 hzm.1, fun z2 ez => ?_⟩
    rw [cl_12 hzm.1, hpe z hzm.1] at ez
    subst ez
    refine ⟨A, f, ⟨hR1, (hP.2.2.2 z hzm.1).1⟩, hR1.o, fun r5 e5 => ?_⟩
    have e5 : r5 = b2i (hasI f (f (54 + z))) := e5
    have hc : hasI f (chF f).2 = hasI f (f (54 + z)) := hc
    refine ⟨fun c => ⟨isB_0, ?_, hK⟩, fun c => ⟨isB_1, ?_, hK⟩⟩
    · have hz : hasI f (f (54 + z)) = false := b2i_0 (e5 ▸ c)
      rw [hc, hz]; rfl
    · have hz : hasI f (f (54 + z)) = true := b2i_1 (e5 ▸ c)
      rw [hc, hz]; rfl
/-- the descents, counted forwards -/
def dscN (f : Row) (l : List Nat) : Nat → Int32
  | 0 => 0
  | k + 1 => dscN f l k + if f (15 + l.getD (k + 1) 0) < f (15 + l.getD k 0) then 1 else 0
theorem dscL_cons {f : Row} : ∀ (t : List Nat) (y : Nat), dscL f (some y) t = dscN f (y :: t) t.length := by
  intro t
  induction t with
  | nil => intro y; rfl
  | cons z t ih =>
    intro y
    have e1 : dscL f (some y) (z :: t) = (if f (15 + z) < f (15 + y) then 1 else 0) + dscL f (some z) t := rfl
    rw [e1, ih z]
    have key : ∀ k, (if f (15 + z) < f (15 + y) then (1 : Int32) else 0) + dscN f (z :: t) k = dscN f (y :: z :: t) (k + 1) := by
      intro k
      induction k with
      | zero => show _ + (0 : Int32) = 0 + _; rw [Int32.add_zero, Int32.zero_add]; rfl
      | succ k ihk =>
        have a1 : dscN f (z :: t) (k + 1) = dscN f (z :: t) k + if f (15 + (z :: t).getD (k + 1) 0) < f (15 + (z :: t).getD k 0) then 1 else 0 := rfl
        have a2 : dscN f (y :: z :: t) (k + 1 + 1) = dscN f (y :: z :: t) (k + 1) + if f (15 + (y :: z :: t).getD (k + 2) 0) < f (15 + (y :: z :: t).getD (k + 1) 0) then 1 else 0 := rfl
        rw [a1, a2, ← ihk, ← Int32.add_assoc]; rfl
    exact key t.length
theorem pr_X2_descents (g : gG) (A : RA) (f : Row) (M : nM) (o : Nat) (hpre : pre_X2_descents g A f M o) : wp_X2_descents g A f (fun r M' => post_X2_descents g A f M o r M') M o := by
  obtain ⟨hR, hP⟩ := hpre
  have hlen := ch_len (f := f)
  refine ⟨A, f, ⟨hR, hP⟩, hR.o, fun r M1 ⟨q, er, hq, hL, hK⟩ => ⟨q, er, max 1 (chF f).1.length - 1 + 1, ?_⟩⟩
  have hR1 := hR.kn hK
  have hend : dscL f none (chF f).1 = dscN f (chF f).1 ((chF f).1.length - 1) := by
    cases (chF f).1 with
    | nil => rfl
    | cons y t => exact dscL_cons t y
  generalize hl : (chF f).1 = l at *
  have hlt : ∀ y ∈ l, y < 12 ∧ f (3 + y) = 1 := fun y h => ch_lt y (by rw [hl]; exact h)
  have key : ∀ (n j : Nat), n + (j + 1) = max 1 l.length → wpb_X2_descents_9 (fun r M' => post_X2_descents g A f M o r M') g A f o (n + 1) M1 13 183 q (dscN f l j) (nI (j + 1)) := by
    intro n
    induction n with
    | zero =>
      intro j hj
      refine ⟨Nat.le_refl _, Nat.le_refl _, Lm l, hL, hL.o, fun r2 e2 => ?_⟩
      have e2 : r2 = nI (Lm l).length := e2
      rw [e2, lm_len]
      refine ⟨fun c => ⟨?_, hK⟩, fun c => absurd (nI_le (by omega) (by omega)) c⟩
      rw [hl, hend, show l.length - 1 = j by omega]
    | succ n ih =>
      intro j hj
      have hj1 : j + 1 < l.length := by omega
      obtain ⟨y, hy⟩ : ∃ y, l[j + 1]? = some y := ⟨_, List.getElem?_eq_getElem hj1⟩
      obtain ⟨z, hz⟩ : ∃ z, l[j]? = some z := ⟨_, List.getElem?_eq_getElem (by omega)⟩
      have hy2 := hlt y (List.mem_of_getElem? hy)
      have hz2 := hlt z (List.mem_of_getElem? hz)
      have gy : l.getD (j + 1) 0 = y := by rw [List.getD_eq_getElem?_getD, hy]; rfl
      have gz : l.getD j 0 = z := by rw [List.getD_eq_getElem?_getD, hz]; rfl
      refine ⟨Nat.le_refl _, Nat.le_refl _, Lm l, hL, hL.o, fun r2 e2 => ?_⟩
      have e2 : r2 = nI (Lm l).length := e2
      rw [e2, lm_len]
      refine ⟨fun c => absurd c (nI_ge hj1 (by omega)), fun _ => ?_⟩
      obtain ⟨p, b, hp, hb, ho⟩ := hR1.inn hy2.1 hy2.2
      obtain ⟨p2, b2, hp2, hb2, ho2⟩ := hR1.inn hz2.1 hz2.2
      refine ⟨_, hR1.inns, Lm l, ⟨hL, j + 1, by rw [lm_len]; exact hj1, rfl⟩, hL.o, fun r3 ⟨b3, f3, i3⟩ => ⟨b3, f3, ⟨_, i3⟩, _, i3, ⟨_, i3⟩, fun v ev => ?_⟩⟩
      have ev : v = nI y := by
        have : v = (Lm l).getD (nI (j + 1)).toNatClampNeg 0 := ev
        rw [this, nI_clamp (by omega), lm_get (d := 0) hj1, gy]
      subst ev
      refine ⟨12, p, hp, pl_12 hy2.1, fun z1 ez1 => ⟨b, ez1.trans hb, _, ho.mi, _, hR1.inns, Lm l, ?_⟩⟩
      rw [nI_pred]
      refine ⟨⟨hL, j, by rw [lm_len]; omega, rfl⟩, hL.o, fun r4 ⟨b4, f4, i4⟩ => ⟨b4, f4, ⟨_, i4⟩, _, i4, ⟨_, i4⟩, fun v ev => ?_⟩⟩
      have ev : v = nI z := by
        have : v = (Lm l).getD (nI j).toNatClampNeg 0 := ev
        rw [this, nI_clamp (by omega), lm_get (d := 0) (by omega), gz]
      subst ev
      have go := ih (j + 1) (by omega)
      have es : dscN f l (j + 1) = dscN f l j + if f (15 + l.getD (j + 1) 0) < f (15 + l.getD j 0) then 1 else 0 := rfl
      rw [es, gy, gz] at go
      refine ⟨12, p2, hp2, pl_12 hz2.1, fun z1 ez1 => ⟨b2, ez1.trans hb2, _, ho2.mi, fun c => ⟨Nat.le_refl _, Nat.le_refl _, fun z5 e5 z6 e6 => ?_⟩, fun c => ⟨Nat.le_refl _, Nat.le_refl _, fun z5 e5 z6 e6 => ?_⟩⟩⟩
      · rw [if_neg (fun z => Int32.not_le.mpr z c)] at go
        rw [e5, e6, nI_1]; exact go
      · rw [if_pos (Int32.not_le.mp c)] at go
        rw [e5, e6, nI_1]; exact go
  exact key (max 1 l.length - 1) 0 (by omega)
