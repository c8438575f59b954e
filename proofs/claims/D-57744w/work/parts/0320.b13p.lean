set_option maxRecDepth 100000
/-! PURE 13: what rides answer -/
def leaR (f : Row) (x y : Int32) : Nat → Nat → Int32
  | 0, _ => -1
  | n + 1, r => if (rdO (upd f 0 (nI r)) x y).1 = true then nI r else leaR f x y n (r + 1)
def opLea (S : AM) (x y : Int32) : OR := if both S x y = true then (0, leaR S.1 x y 999 1, S) else bad 1 S
def hlpR (f : Row) (x y : Int32) : Nat → Nat → Int32
  | 0, _ => -1
  | n + 1, k => if f (3 + k) = 1 ∧ f (27 + k) = 0 ∧ (rdO (upd f (27 + k) 1) x y).1 = true then nI k else hlpR f x y n (k + 1)
def opHlp (S : AM) (x y : Int32) : OR := if both S x y = true then (0, if (rdO S.1 x y).1 = true then -1 else hlpR S.1 x y 12 0, S) else bad 1 S
def neeN (f : Row) (x y : Int32) : Nat → Int32
  | 0 => 0
  | k + 1 => if ((nI k ≠ x ∧ nI k ≠ y) ∧ f (3 + k) = 1 ∧ f (27 + k) = 1) ∧ (rdO (upd f (27 + k) 0) x y).1 = false then neeN f x y k + 1 else neeN f x y k
def opNee (S : AM) (x y : Int32) : OR := if both S x y = true then (0, if (rdO S.1 x y).1 = true then neeN S.1 x y 12 else 0, S) else bad 1 S
def reaN (f : Row) (x : Int32) : Nat → Int32
  | 0 => 0
  | k + 1 => reaN f x k + if f (3 + k) = 1 ∧ (rdO f x (nI k)).1 = true then 1 else 0
def opRea (S : AM) (x : Int32) : OR := if hasI S.1 x = true then (0, reaN S.1 x 12, S) else bad 1 S
def neaN (f : Row) (x : Int32) : Nat → Int32
  | 0 => -1
  | k + 1 => if (nI k ≠ x ∧ f (3 + k) ≠ 0 ∧ f (27 + k) ≠ 0) ∧ (neaN f x k = -1 ∨ 0 < dstF f x.toNatClampNeg (neaN f x k).toNatClampNeg - dstF f x.toNatClampNeg k ∨ (dstF f x.toNatClampNeg (neaN f x k).toNatClampNeg - dstF f x.toNatClampNeg k = 0 ∧ f (15 + k) < f (15 + (neaN f x k).toNatClampNeg))) then nI k else neaN f x k
def opNea (S : AM) (x : Int32) : OR := if hasI S.1 x = true then (0, neaN S.1 x 12, S) else bad 1 S
def grpC (x : Row) (N k : Nat) : Int32 := if k < N then x k else 0
def grpR (x : Row) (N k : Nat) : Nat → Int32
  | 0 => 0
  | n + 1 => (grpR x N k n <<< 8) ||| grpC x N (k + n)
def opWri (S : AM) (x : Int32) : OR := if 0 ≤ x ∧ 4 * x.toNatClampNeg < S.2.2.2.2.1 then (0, grpR S.2.2.2.2.2 S.2.2.2.2.1 (4 * x.toNatClampNeg) 4, S) else bad 1 S
def pre_X6_leastRange (i : Nat → Int32) (a : Nat → Nat → Int32) (q : Nat → Nat) (_ _ : Int32) : Prop := ∃ t S, MAb i a q t S
def post_X6_leastRange (i : Nat → Int32) (a : Nat → Nat → Int32) (q : Nat → Nat) (x y : Int32) (r : Int32) (u : MSt) : Prop := ∀ t S, MAb i a q t S → OpR (opLea S x y) r u
def pre_X6_helpfulOpening (i : Nat → Int32) (a : Nat → Nat → Int32) (q : Nat → Nat) (_ _ : Int32) : Prop := ∃ t S, MAb i a q t S
def post_X6_helpfulOpening (i : Nat → Int32) (a : Nat → Nat → Int32) (q : Nat → Nat) (x y : Int32) (r : Int32) (u : MSt) : Prop := ∀ t S, MAb i a q t S → OpR (opHlp S x y) r u
def pre_X6_neededInns (i : Nat → Int32) (a : Nat → Nat → Int32) (q : Nat → Nat) (_ _ : Int32) : Prop := ∃ t S, MAb i a q t S
def post_X6_neededInns (i : Nat → Int32) (a : Nat → Nat → Int32) (q : Nat → Nat) (x y : Int32) (r : Int32) (u : MSt) : Prop := ∀ t S, MAb i a q t S → OpR (opNee S x y) r u
def pre_X6_reachableInns (i : Nat → Int32) (a : Nat → Nat → Int32) (q : Nat → Nat) (_ : Int32) : Prop := ∃ t S, MAb i a q t S
def post_X6_reachableInns (i : Nat → Int32) (a : Nat → Nat → Int32) (q : Nat → Nat) (x : Int32) (r : Int32) (u : MSt) : Prop := ∀ t S, MAb i a q t S → OpR (opRea S x) r u
def pre_X6_nearestOpenInn (i : Nat → Int32) (a : Nat → Nat → Int32) (q : Nat → Nat) (_ : Int32) : Prop := ∃ t S, MAb i a q t S
def post_X6_nearestOpenInn (i : Nat → Int32) (a : Nat → Nat → Int32) (q : Nat → Nat) (x : Int32) (r : Int32) (u : MSt) : Prop := ∀ t S, MAb i a q t S → OpR (opNea S x) r u
def pre_X6_written (i : Nat → Int32) (a : Nat → Nat → Int32) (q : Nat → Nat) (_ : Int32) : Prop := ∃ t S, MAb i a q t S
def post_X6_written (i : Nat → Int32) (a : Nat → Nat → Int32) (q : Nat → Nat) (x : Int32) (r : Int32) (u : MSt) : Prop := ∀ t S, MAb i a q t S → OpR (opWri S x) r u
def wpb_X6_send_87 (post : Int32 → MSt → Prop)  (x : Int32) (y : Int32) (i : Nat → Int32) (a : Nat → Nat → Int32) (q : Nat → Nat)  : Prop :=
  ∀ r27 i28 a29 q30, post_X6_fails i a q 3 r27 (i28, a29, q30) → post r27 (i28, a29, q30)
def wpb_X6_send_27 (post : Int32 → MSt → Prop)  (x : Int32) (y : Int32) (i : Nat → Int32) (a : Nat → Nat → Int32) (q : Nat → Nat)  : Prop :=
  ∀ r31 i32 a33 q34, post_X6_fails i a q 1 r31 (i32, a33, q34) → post r31 (i32, a33, q34)
def wp_X6_send (post : Int32 → MSt → Prop) (i : Nat → Int32) (a : Nat → Nat → Int32) (q : Nat → Nat) (x : Int32) (y : Int32) : Prop :=
  ∀ i1, i1 = upd i 0 0 → ∀ r2, post_X6_hasInnAt i1 a q 1 x r2 → (r2 = 0 → wpb_X6_send_27 post  x y i1 a q) ∧ (¬ r2 = 0 → ∀ r4, post_X6_hasInnAt i1 a q 1 y r4 → (¬ r4 = 0 → (¬ x = y → vp_in (39 + x) 78 ∧ ∀ z7, z7 = (a 1 (39 + x).toNatClampNeg) → pre_X6_rides i1 a q 1 x y ∧ ∀ r8 i9 a10 q11, post_X6_rides i1 a q 1 x y r8 (i9, a10, q11) → (r8 = 0 → wpb_X6_send_87 post  x y i9 a10 q11) ∧ (¬ r8 = 0 → (z7 = 0 → wpb_X6_send_87 post  x y i9 a10 q11) ∧ (¬ z7 = 0 → vp_in (39 + y) 78 ∧ (((a10 1 (39 + y).toNatClampNeg) + z7) ≤ 99 → pre_X6_remembers i9 a10 q11  ∧ ∀ i16 a17 q18, post_X6_remembers i9 a10 q11  (i16, a17, q18) → vp_in (39 + x) 78 ∧ ∀ a19, a19 = updA a17 1 (39 + x).toNatClampNeg 0 → vp_in (39 + y) 78 ∧ vp_in (39 + y) 78 ∧ ∀ a20, a20 = updA a19 1 (39 + y).toNatClampNeg ((a19 1 (39 + y).toNatClampNeg) + z7) → vp_in 1 78 ∧ vp_in 1 78 ∧ ∀ a21, a21 = updA a20 1 (1 : Int32).toNatClampNeg ((a20 1 (1 : Int32).toNatClampNeg) + (i16 12)) → vp_in 2 78 ∧ vp_in 2 78 ∧ ∀ a22, a22 = updA a21 1 (2 : Int32).toNatClampNeg ((a21 1 (2 : Int32).toNatClampNeg) + z7) → post (i16 12) (i16, a22, q18)) ∧ (¬ ((a10 1 (39 + y).toNatClampNeg) + z7) ≤ 99 → wpb_X6_send_87 post  x y i9 a10 q11)))) ∧ (x = y → ∀ r23 i24 a25 q26, post_X6_fails i1 a q 2 r23 (i24, a25, q26) → post r23 (i24, a25, q26))) ∧ (r4 = 0 → wpb_X6_send_27 post  x y i1 a q))

def wpb_X6_leastRange_33 (post : Int32 → MSt → Prop)  (x : Int32) (y : Int32) : Nat → (Nat → Int32) → (Nat → Nat → Int32) → (Nat → Nat) → Int32 → Prop
  | 0 => fun _ _ _ _ => False
  | n + 1 => fun i a q x3 => (999 < x3 → post (-1) (i, a, q)) ∧ (¬ 999 < x3 → vp_in 0 78 ∧ ∀ a13, a13 = updA a 5 (0 : Int32).toNatClampNeg x3 → pre_X6_rides i a13 q 5 x y ∧ ∀ r14 i15 a16 q17, post_X6_rides i a13 q 5 x y r14 (i15, a16, q17) → (r14 = 0 → ∀ z19, z19 = x3 + 1 → (wpb_X6_leastRange_33 post  x y n) i15 a16 q17 z19) ∧ (¬ r14 = 0 → post x3 (i15, a16, q17)))
def wp_X6_leastRange (post : Int32 → MSt → Prop) (i : Nat → Int32) (a : Nat → Nat → Int32) (q : Nat → Nat) (x : Int32) (y : Int32) : Prop :=
  ∀ i1, i1 = upd i 0 0 → ∀ r2, post_X6_areInns i1 a q x y r2 → (¬ r2 = 0 → ∀ i5 a6 q7, post_X6_copies i1 a q 1 5 (i5, a6, q7) → ∃ n, wpb_X6_leastRange_33 post  x y n i5 a6 q7 1) ∧ (r2 = 0 → ∀ r8 i9 a10 q11, post_X6_fails i1 a q 1 r8 (i9, a10, q11) → post r8 (i9, a10, q11))

def wpb_X6_helpfulOpening_111 (post : Int32 → MSt → Prop) (K33 : (Nat → Int32) → (Nat → Nat → Int32) → (Nat → Nat) → Int32 → Prop) (x : Int32) (y : Int32) (i : Nat → Int32) (a : Nat → Nat → Int32) (q : Nat → Nat) (x3 : Int32) : Prop :=
  ∀ z27, z27 = x3 + 1 → K33 i a q z27
def wpb_X6_helpfulOpening_33 (post : Int32 → MSt → Prop)  (x : Int32) (y : Int32) : Nat → (Nat → Int32) → (Nat → Nat → Int32) → (Nat → Nat) → Int32 → Prop
  | 0 => fun _ _ _ _ => False
  | n + 1 => fun i a q x3 => (12 ≤ x3 → post (-1) (i, a, q)) ∧ (¬ 12 ≤ x3 → pre_X6_rides i a q 1 x y ∧ ∀ r13 i14 a15 q16, post_X6_rides i a q 1 x y r13 (i14, a15, q16) → (¬ r13 = 0 → post (-1) (i14, a15, q16)) ∧ (r13 = 0 → vp_in (3 + x3) 78 ∧ (¬ (a15 1 (3 + x3).toNatClampNeg) = 1 → wpb_X6_helpfulOpening_111 post (wpb_X6_helpfulOpening_33 post  x y n) x y i14 a15 q16 x3) ∧ ((a15 1 (3 + x3).toNatClampNeg) = 1 → vp_in (27 + x3) 78 ∧ (¬ (a15 1 (27 + x3).toNatClampNeg) = 0 → wpb_X6_helpfulOpening_111 post (wpb_X6_helpfulOpening_33 post  x y n) x y i14 a15 q16 x3) ∧ ((a15 1 (27 + x3).toNatClampNeg) = 0 → vp_in (27 + x3) 78 ∧ ∀ a20, a20 = updA a15 5 (27 + x3).toNatClampNeg 1 → pre_X6_rides i14 a20 q16 5 x y ∧ ∀ r21 i22 a23 q24, post_X6_rides i14 a20 q16 5 x y r21 (i22, a23, q24) → (r21 = 0 → vp_in (27 + x3) 78 ∧ ∀ a26, a26 = updA a23 5 (27 + x3).toNatClampNeg 0 → wpb_X6_helpfulOpening_111 post (wpb_X6_helpfulOpening_33 post  x y n) x y i22 a26 q24 x3) ∧ (¬ r21 = 0 → post x3 (i22, a23, q24))))))
def wp_X6_helpfulOpening (post : Int32 → MSt → Prop) (i : Nat → Int32) (a : Nat → Nat → Int32) (q : Nat → Nat) (x : Int32) (y : Int32) : Prop :=
  ∀ i1, i1 = upd i 0 0 → ∀ r2, post_X6_areInns i1 a q x y r2 → (¬ r2 = 0 → ∀ i5 a6 q7, post_X6_copies i1 a q 1 5 (i5, a6, q7) → ∃ n, wpb_X6_helpfulOpening_33 post  x y n i5 a6 q7 0) ∧ (r2 = 0 → ∀ r8 i9 a10 q11, post_X6_fails i1 a q 1 r8 (i9, a10, q11) → post r8 (i9, a10, q11))

def wpb_X6_neededInns_138 (post : Int32 → MSt → Prop) (K36 : (Nat → Int32) → (Nat → Nat → Int32) → (Nat → Nat) → Int32 → Int32 → Prop) (x : Int32) (y : Int32) (i : Nat → Int32) (a : Nat → Nat → Int32) (q : Nat → Nat) (x3 : Int32) (x4 : Int32) : Prop :=
  ∀ z28, z28 = x4 + 1 → K36 i a q x3 z28
def wpb_X6_neededInns_125 (post : Int32 → MSt → Prop) (K36 : (Nat → Int32) → (Nat → Nat → Int32) → (Nat → Nat) → Int32 → Int32 → Prop) (x : Int32) (y : Int32) (i : Nat → Int32) (a : Nat → Nat → Int32) (q : Nat → Nat) (x4 : Int32) (s0 : Int32) (s1 : Int32) : Prop :=
  ∀ z29, z29 = (s1 + s0) → vp_in (27 + x4) 78 ∧ ∀ a30, a30 = updA a 5 (27 + x4).toNatClampNeg 1 → wpb_X6_neededInns_138 post K36 x y i a30 q z29 x4
def wpb_X6_neededInns_36 (post : Int32 → MSt → Prop)  (x : Int32) (y : Int32) : Nat → (Nat → Int32) → (Nat → Nat → Int32) → (Nat → Nat) → Int32 → Int32 → Prop
  | 0 => fun _ _ _ _ _ => False
  | n + 1 => fun i a q x3 x4 => (12 ≤ x4 → post x3 (i, a, q)) ∧ (¬ 12 ≤ x4 → pre_X6_rides i a q 1 x y ∧ ∀ r13 i14 a15 q16, post_X6_rides i a q 1 x y r13 (i14, a15, q16) → (r13 = 0 → post x3 (i14, a15, q16)) ∧ (¬ r13 = 0 → (x4 = x → wpb_X6_neededInns_138 post (wpb_X6_neededInns_36 post  x y n) x y i14 a15 q16 x3 x4) ∧ (¬ x4 = x → (x4 = y → wpb_X6_neededInns_138 post (wpb_X6_neededInns_36 post  x y n) x y i14 a15 q16 x3 x4) ∧ (¬ x4 = y → vp_in (3 + x4) 78 ∧ (¬ (a15 1 (3 + x4).toNatClampNeg) = 1 → wpb_X6_neededInns_138 post (wpb_X6_neededInns_36 post  x y n) x y i14 a15 q16 x3 x4) ∧ ((a15 1 (3 + x4).toNatClampNeg) = 1 → vp_in (27 + x4) 78 ∧ (¬ (a15 1 (27 + x4).toNatClampNeg) = 1 → wpb_X6_neededInns_138 post (wpb_X6_neededInns_36 post  x y n) x y i14 a15 q16 x3 x4) ∧ ((a15 1 (27 + x4).toNatClampNeg) = 1 → vp_in (27 + x4) 78 ∧ ∀ a22, a22 = updA a15 5 (27 + x4).toNatClampNeg 0 → pre_X6_rides i14 a22 q16 5 x y ∧ ∀ r23 i24 a25 q26, post_X6_rides i14 a22 q16 5 x y r23 (i24, a25, q26) → (r23 = 0 → wpb_X6_neededInns_125 post (wpb_X6_neededInns_36 post  x y n) x y i24 a25 q26 x4 1 x3) ∧ (¬ r23 = 0 → wpb_X6_neededInns_125 post (wpb_X6_neededInns_36 post  x y n) x y i24 a25 q26 x4 0 x3)))))))
def wp_X6_neededInns (post : Int32 → MSt → Prop) (i : Nat → Int32) (a : Nat → Nat → Int32) (q : Nat → Nat) (x : Int32) (y : Int32) : Prop :=
  ∀ i1, i1 = upd i 0 0 → ∀ r2, post_X6_areInns i1 a q x y r2 → (¬ r2 = 0 → ∀ i5 a6 q7, post_X6_copies i1 a q 1 5 (i5, a6, q7) → ∃ n, wpb_X6_neededInns_36 post  x y n i5 a6 q7 0 0) ∧ (r2 = 0 → ∀ r8 i9 a10 q11, post_X6_fails i1 a q 1 r8 (i9, a10, q11) → post r8 (i9, a10, q11))

def wpb_X6_reachableInns_63 (post : Int32 → MSt → Prop) (K26 : (Nat → Int32) → (Nat → Nat → Int32) → (Nat → Nat) → Int32 → Int32 → Prop) (x : Int32) (i : Nat → Int32) (a : Nat → Nat → Int32) (q : Nat → Nat) (x3 : Int32) (s0 : Int32) (s1 : Int32) : Prop :=
  ∀ z15, z15 = (s1 + s0) → ∀ z16, z16 = x3 + 1 → K26 i a q z15 z16
def wpb_X6_reachableInns_62 (post : Int32 → MSt → Prop) (K26 : (Nat → Int32) → (Nat → Nat → Int32) → (Nat → Nat) → Int32 → Int32 → Prop) (x : Int32) (i : Nat → Int32) (a : Nat → Nat → Int32) (q : Nat → Nat) (x3 : Int32) (s0 : Int32) : Prop :=
  wpb_X6_reachableInns_63 post K26 x i a q x3 0 s0
def wpb_X6_reachableInns_26 (post : Int32 → MSt → Prop)  (x : Int32) : Nat → (Nat → Int32) → (Nat → Nat → Int32) → (Nat → Nat) → Int32 → Int32 → Prop
  | 0 => fun _ _ _ _ _ => False
  | n + 1 => fun i a q x2 x3 => (12 ≤ x3 → post x2 (i, a, q)) ∧ (¬ 12 ≤ x3 → vp_in (3 + x3) 78 ∧ (¬ (a 1 (3 + x3).toNatClampNeg) = 1 → wpb_X6_reachableInns_62 post (wpb_X6_reachableInns_26 post  x n) x i a q x3 x2) ∧ ((a 1 (3 + x3).toNatClampNeg) = 1 → pre_X6_rides i a q 1 x x3 ∧ ∀ r10 i11 a12 q13, post_X6_rides i a q 1 x x3 r10 (i11, a12, q13) → (r10 = 0 → wpb_X6_reachableInns_62 post (wpb_X6_reachableInns_26 post  x n) x i11 a12 q13 x3 x2) ∧ (¬ r10 = 0 → wpb_X6_reachableInns_63 post (wpb_X6_reachableInns_26 post  x n) x i11 a12 q13 x3 1 x2)))
def wp_X6_reachableInns (post : Int32 → MSt → Prop) (i : Nat → Int32) (a : Nat → Nat → Int32) (q : Nat → Nat) (x : Int32) : Prop :=
  ∀ i1, i1 = upd i 0 0 → ∀ r2, post_X6_hasInnAt i1 a q 1 x r2 → (¬ r2 = 0 → ∃ n, wpb_X6_reachableInns_26 post  x n i1 a q 0 0) ∧ (r2 = 0 → ∀ r4 i5 a6 q7, post_X6_fails i1 a q 1 r4 (i5, a6, q7) → post r4 (i5, a6, q7))
theorem MAb.uniq {i : Nat → Int32} {a : Nat → Nat → Int32} {q : Nat → Nat} {t t' : Int32} {S S' : AM} (h : MAb i a q t S) (h' : MAb i a q t' S') : S = S' := by
  obtain ⟨f, kp, hs, ⟨L, b⟩, ⟨N, x⟩⟩ := S
  obtain ⟨f', kp', hs', ⟨L', b'⟩, ⟨N', x'⟩⟩ := S'
  obtain ⟨g0, g1, g2, g3, g4, g5, g6, g7, g8, g9⟩ := h
  obtain ⟨k0, k1, k2, k3, k4, k5, k6, k7, k8, k9⟩ := h'
  dsimp only at g1 g2 g3 g5 g6 g7 g8 g9 k1 k2 k3 k5 k6 k7 k8 k9
  have e1 : f = f' := g1.symm.trans k1
  have e3 : hs = hs' := g5.symm.trans k5
  have e4 : L = L' := (nI_eq (by omega) (by omega)).mp (g6.1.symm.trans k6.1)
  have e5 : b = b' := g7.symm.trans k7
  have e6 : N = N' := (nI_eq (by omega) (by omega)).mp (g8.1.symm.trans k8.1)
  have e7 : x = x' := g9.symm.trans k9
  have e2 : kp = kp' := by
    cases kp with
    | none =>
      cases kp' with
      | none => rfl
      | some k => exact absurd ((k3 k rfl).1.symm.trans (g2 rfl)) (by decide)
    | some k =>
      cases kp' with
      | none => exact absurd ((g3 k rfl).1.symm.trans (k2 rfl)) (by decide)
      | some k' => rw [← (g3 k rfl).2, ← (k3 k' rfl).2]
  rw [e1, e2, e3, e4, e5, e6, e7]
section MAB4
variable {i : Nat → Int32} {a : Nat → Nat → Int32} {q : Nat → Nat} {t : Int32} {S : AM} {i' : Nat → Int32} {a' : Nat → Nat → Int32} {q' : Nat → Nat}
theorem MAb.rd5 (h : MAb i a q t S) {x y r : Int32} (hs : post_X6_rides i a q 5 x y r (i', a', q')) : r = b2i (rdO (a 5) x y).1 ∧ MAb i' a' q' t S ∧ a' = a ∧ q' = q := by
  obtain ⟨h1, h2⟩ := hs
  cases h2
  exact ⟨h1, h.scr h.1 ⟨rfl, rfl, rfl, rfl⟩ (fun j _ _ _ _ => rfl), rfl, rfl⟩
theorem MAb.rd1 (h : MAb i a q t S) {x y r : Int32} (hs : post_X6_rides i a q 1 x y r (i', a', q')) : r = b2i (rdO S.1 x y).1 ∧ MAb i' a' q' t S ∧ a' = a ∧ q' = q := by
  obtain ⟨h1, h2, h3, h4⟩ := h.rds hs
  have h5 := hs.2
  cases h5
  exact ⟨h1, h2, rfl, rfl⟩
theorem MAb.tr (h : MAb i a q t S) {c : Nat} {v : Int32} : MAb i (updA a 5 c v) q t S := by
  rw [updA_setR]
  exact h.trl
end MAB4
theorem tr_upd {a : Nat → Nat → Int32} {f : Row} {c : Nat} {v : Int32} (h : a 5 = f) : updA a 5 c v 5 = upd f c v := by rw [updA_self, h]
theorem pr_X6_send (i : Nat → Int32) (a : Nat → Nat → Int32) (q : Nat → Nat) (x : Int32) (y : Int32) (hpre : pre_X6_send i a q x y) : wp_X6_send (fun r u => post_X6_send i a q x y r u) i a q x y := by
  obtain ⟨t0, S, h0⟩ := hpre
  have P : ∀ r u, OpR (opSnd S x y) r u → (fun r u => post_X6_send i a q x y r u) r u := fun r u h t S' hS => by rw [hS.uniq h0]; exact h
  obtain ⟨post, ep⟩ : ∃ post : Int32 → MSt → Prop, post = fun r u => post_X6_send i a q x y r u := ⟨_, rfl⟩
  rw [← ep] at P ⊢
  have h1 := h0.thr (t' := 0)
  unfold opSnd at P
  intro i1 e1 r2 h2
  subst e1
  unfold post_X6_hasInnAt at h2
  rw [h0.2.1] at h2
  subst h2
  refine ⟨fun c r31 i32 a33 q34 h31 => P _ _ ?_, fun c r4 h4 => ?_⟩
  · rw [if_neg (fun z => b2i_f c z.1)]
    exact h1.fail h31
  unfold post_X6_hasInnAt at h4
  rw [h0.2.1] at h4
  subst h4
  refine ⟨fun c2 => ⟨fun c3 => ?_, fun c3 r23 i24 a25 q26 h23 => P _ _ ?_⟩, fun c2 r31 i32 a33 q34 h31 => P _ _ ?_⟩
  · obtain ⟨kx, hkx, ekx⟩ := hasI_pl (b2i_1 c)
    obtain ⟨ky, hky, eky⟩ := hasI_pl (b2i_1 c2)
    have hx39 : (39 + x).toNatClampNeg = 39 + x.toNatClampNeg := by rw [ekx, a39, nI_clamp (by omega), nI_clamp (by omega)]
    have hy39 : (39 + y).toNatClampNeg = 39 + y.toNatClampNeg := by rw [eky, a39, nI_clamp (by omega), nI_clamp (by omega)]
    have hxin : vp_in (39 + x) 78 := by rw [ekx, a39]; exact vp_in_nI (by omega) (by omega)
    have hyin : vp_in (39 + y) 78 := by rw [eky, a39]; exact vp_in_nI (by omega) (by omega)
    have hc1 : vp_in 1 78 := by unfold vp_in; decide
    have hc2 : vp_in 2 78 := by unfold vp_in; decide
    rw [if_pos ⟨b2i_1 c, b2i_1 c2⟩, if_neg c3] at P
    refine ⟨hxin, fun z7 e7 => ⟨⟨kx, hkx, ekx⟩, fun r8 i9 a10 q11 h8 => ?_⟩⟩
    rw [hx39, h0.2.1] at e7
    obtain ⟨g1, g2, g3, g4⟩ := h1.rds h8
    refine ⟨fun c4 r27 i28 a29 q30 h27 => P _ _ ?_, fun c4 => ⟨fun c5 r27 i28 a29 q30 h27 => P _ _ ?_, fun c5 => ⟨hyin, fun c6 => ⟨g2.pr, fun i16 a17 q18 h16 => ⟨hxin, fun a19 e19 => ⟨hyin, hyin, fun a20 e20 => ⟨hc1, hc1, fun a21 e21 => ⟨hc2, hc2, fun a22 e22 => P _ _ ?_⟩⟩⟩⟩⟩, fun c6 r27 i28 a29 q30 h27 => P _ _ ?_⟩⟩⟩
    · rw [g1] at c4
      rw [if_neg (fun z => b2i_f c4 z.1)]
      exact g2.fail h27
    · rw [if_neg (fun z => z.2.1 (e7.symm.trans c5))]
      exact g2.fail h27
    · rw [g1] at c4
      rw [hy39, g4, h0.2.1, e7] at c6
      rw [if_pos ⟨b2i_1 c4, fun z => c5 (e7.trans z), c6⟩]
      have e12 : i16 12 = nI (24 - (rdO S.1 x y).2.1) := by
        rw [show i16 12 = i9 12 from h16.2.1 12 (by decide), g3]; rfl
      have g5 := g2.rem h16
      rw [hx39] at e19
      rw [hy39] at e20
      subst e7
      obtain ⟨f1, ef1⟩ : ∃ f1, f1 = upd S.1 (39 + x.toNatClampNeg) 0 := ⟨_, rfl⟩
      have m19 : MAb i16 a19 q18 0 (S.chg f1) := by rw [e19, ef1]; exact g5.set
      obtain ⟨f2, ef2⟩ : ∃ f2, f2 = upd f1 (39 + y.toNatClampNeg) (f1 (39 + y.toNatClampNeg) + S.1 (39 + x.toNatClampNeg)) := ⟨_, rfl⟩
      have m20 : MAb i16 a20 q18 0 (S.chg f2) := by rw [e20, m19.2.1, ef2]; exact m19.set
      obtain ⟨f3, ef3⟩ : ∃ f3, f3 = upd f2 1 (f2 1 + i16 12) := ⟨_, rfl⟩
      have m21 : MAb i16 a21 q18 0 (S.chg f3) := by rw [e21, m20.2.1, ef3]; exact m20.set
      have m22 : MAb i16 a22 q18 0 (S.chg (upd f3 2 (f3 2 + S.1 (39 + x.toNatClampNeg)))) := by rw [e22, m21.2.1]; exact m21.set
      have hm : MAb i16 a22 q18 0 (S.chg (sndF S.1 x y (i16 12))) := by rw [ef3, ef2, ef1] at m22; exact m22
      rw [e12] at hm ⊢
      exact ⟨rfl, hm⟩
    · rw [hy39, g4, h0.2.1, e7] at c6
      rw [if_neg (fun z => c6 z.2.2)]
      exact g2.fail h27
  · rw [if_pos ⟨b2i_1 c, b2i_1 c2⟩, if_pos c3]
    exact h1.fail h23
  · rw [if_neg (fun z => b2i_f c2 z.2)]
    exact h1.fail h31

theorem pr_X6_leastRange (i : Nat → Int32) (a : Nat → Nat → Int32) (q : Nat → Nat) (x : Int32) (y : Int32) (hpre : pre_X6_leastRange i a q x y) : wp_X6_leastRange (fun r u => post_X6_leastRange i a q x y r u) i a q x y := by
  obtain ⟨t0, S, h0⟩ := hpre
  have P : ∀ r u, OpR (opLea S x y) r u → (fun r u => post_X6_leastRange i a q x y r u) r u := fun r u h t S' hS => by rw [hS.uniq h0]; exact h
  obtain ⟨post, ep⟩ : ∃ post : Int32 → MSt → Prop, post = fun r u => post_X6_leastRange i a q x y r u := ⟨_, rfl⟩
  rw [← ep] at P ⊢
  unfold opLea at P
  intro i1 e1 r2 h2
  subst e1
  have h2 := are_of h2 h0
  subst h2
  refine ⟨fun c i5 a6 q7 h5 => ?_, fun c r8 i9 a10 q11 h8 => P _ _ ?_⟩
  rotate_left
  · rw [if_neg (b2i_f c)]
    exact (h0.thr (t' := 0)).fail h8
  rw [if_pos (b2i_1 c)] at P
  have h5 : (i5, a6, q7) = (upd i 0 0, setR a 5 (a 1), q) := h5
  obtain ⟨x1, x2⟩ := Prod.mk.inj h5
  obtain ⟨x2, x3⟩ := Prod.mk.inj x2
  have h6 : MAb i5 a6 q7 0 S := by rw [x1, x2, x3]; exact (h0.thr (t' := 0)).trl
  have e6 : a6 5 = upd S.1 0 (S.1 0) := by rw [x2, setR_self, h0.2.1, upd_same rfl]
  have key : ∀ n k i a q v, k + n = 1000 → MAb i a q 0 S → a 5 = upd S.1 0 v → leaR S.1 x y 999 1 = leaR S.1 x y n k → wpb_X6_leastRange_33 post x y (n + 1) i a q (nI k) := by
    intro n
    induction n with
    | zero =>
      intro k i a q v hk hM _ hr
      have : k = 1000 := by omega
      subst this
      exact ⟨fun _ => P _ _ ⟨hr.symm, hM⟩, fun h => absurd (by decide) h⟩
    | succ n ih =>
      intro k i a q v hk hM ha hr
      refine ⟨fun h => ?_, fun _ => ⟨by unfold vp_in; decide, fun a13 e13 => ⟨both_pl (b2i_1 c), fun r14 i15 a16 q17 h14 => ?_⟩⟩⟩
      · have h := (nI_ltI (a := 999) (by omega) (by omega)).mp h
        omega
      have hM1 : MAb i a13 q 0 S := by rw [e13]; exact hM.tr
      have ha1 : a13 5 = upd S.1 0 (nI k) := by rw [e13, tr_upd ha]; exact upd_upd
      obtain ⟨g1, g2, g3, -⟩ := hM1.rd5 h14
      rw [ha1] at g1
      have hr : leaR S.1 x y 999 1 = if (rdO (upd S.1 0 (nI k)) x y).1 = true then nI k else leaR S.1 x y n (k + 1) := hr
      subst g1
      refine ⟨fun c2 z19 e19 => ?_, fun c2 => P _ _ ⟨?_, g2⟩⟩
      · rw [if_neg (b2i_f c2)] at hr
        rw [e19, nI_1]
        exact ih (k + 1) _ _ _ _ (by omega) g2 (by rw [g3]; exact ha1) hr
      · rw [if_pos (b2i_1 c2)] at hr
        exact hr.symm
  exact ⟨1000, key 999 1 _ _ _ _ rfl h6 e6 rfl⟩
theorem pr_X6_helpfulOpening (i : Nat → Int32) (a : Nat → Nat → Int32) (q : Nat → Nat) (x : Int32) (y : Int32) (hpre : pre_X6_helpfulOpening i a q x y) : wp_X6_helpfulOpening (fun r u => post_X6_helpfulOpening i a q x y r u) i a q x y := by
  obtain ⟨t0, S, h0⟩ := hpre
  have P : ∀ r u, OpR (opHlp S x y) r u → (fun r u => post_X6_helpfulOpening i a q x y r u) r u := fun r u h t S' hS => by rw [hS.uniq h0]; exact h
  obtain ⟨post, ep⟩ : ∃ post : Int32 → MSt → Prop, post = fun r u => post_X6_helpfulOpening i a q x y r u := ⟨_, rfl⟩
  rw [← ep] at P ⊢
  unfold opHlp at P
  intro i1 e1 r2 h2
  subst e1
  have h2 := are_of h2 h0
  subst h2
  refine ⟨fun c i5 a6 q7 h5 => ?_, fun c r8 i9 a10 q11 h8 => P _ _ ?_⟩
  rotate_left
  · rw [if_neg (b2i_f c)]
    exact (h0.thr (t' := 0)).fail h8
  rw [if_pos (b2i_1 c)] at P
  have h5 : (i5, a6, q7) = (upd i 0 0, setR a 5 (a 1), q) := h5
  obtain ⟨x1, x2⟩ := Prod.mk.inj h5
  obtain ⟨x2, x3⟩ := Prod.mk.inj x2
  have h6 : MAb i5 a6 q7 0 S := by rw [x1, x2, x3]; exact (h0.thr (t' := 0)).trl
  have e6 : a6 5 = S.1 := by rw [x2, setR_self, h0.2.1]
  have key : ∀ n k i a q, k + n = 12 → MAb i a q 0 S → a 5 = S.1 → ((rdO S.1 x y).1 = true ∨ hlpR S.1 x y 12 0 = hlpR S.1 x y n k) → (n = 0 → (rdO S.1 x y).1 = false) → wpb_X6_helpfulOpening_33 post x y (n + 1) i a q (nI k) := by
    intro n
    induction n with
    | zero =>
      intro k i a q hk hM _ hr hn
      have : k = 12 := by omega
      subst this
      refine ⟨fun _ => P _ _ ⟨?_, hM⟩, fun h => absurd (by decide) h⟩
      have hf := hn rfl
      rcases hr with hr | hr
      · rw [hf] at hr; exact Bool.noConfusion hr
      · show -1 = if (rdO S.1 x y).1 = true then -1 else _
        rw [hr, if_neg (by rw [hf]; exact Bool.noConfusion)]; rfl
    | succ n ih =>
      intro k i a q hk hM ha hr hn
      refine ⟨fun h => absurd h (nI_ge (b := 12) (by omega) (by omega)), fun _ => ⟨both_pl (b2i_1 c), fun r13 i14 a15 q16 h13 => ?_⟩⟩
      obtain ⟨g1, g2, g3, g4⟩ := hM.rd1 h13
      subst g1 g3 g4
      refine ⟨fun c2 => P _ _ ⟨by rw [if_pos (b2i_1 c2)], g2⟩, fun c2 => ?_⟩
      have hf := b2i_0 c2
      rw [if_neg (b2i_f c2)] at P
      have hr : hlpR S.1 x y 12 0 = if S.1 (3 + k) = 1 ∧ S.1 (27 + k) = 0 ∧ (rdO (upd S.1 (27 + k) 1) x y).1 = true then nI k else hlpR S.1 x y n (k + 1) := by
        rcases hr with hr | hr
        · rw [hf] at hr; exact Bool.noConfusion hr
        · exact hr
      rw [a3, a27, nI_clamp (by omega), nI_clamp (by omega), hM.2.1]
      have nx : ∀ i' a', MAb i' a' q16 0 S → a' 5 = S.1 → ¬ (S.1 (3 + k) = 1 ∧ S.1 (27 + k) = 0 ∧ (rdO (upd S.1 (27 + k) 1) x y).1 = true) → wpb_X6_helpfulOpening_111 post (wpb_X6_helpfulOpening_33 post x y (n + 1)) x y i' a' q16 (nI k) := by
        intro i' a' hM' ha' hno z27 e27
        rw [e27, nI_1]
        rw [if_neg hno] at hr
        exact ih (k + 1) _ _ _ (by omega) hM' ha' (Or.inr hr) (fun _ => hf)
      refine ⟨vp_in_nI (by omega) (by omega), fun c3 => nx _ _ g2 ha (fun z => c3 z.1), fun c3 => ⟨vp_in_nI (by omega) (by omega), fun c4 => nx _ _ g2 ha (fun z => c4 z.2.1), fun c4 => ⟨vp_in_nI (by omega) (by omega), fun a20 e20 => ⟨both_pl (b2i_1 c), fun r21 i22 a23 q24 h21 => ?_⟩⟩⟩⟩
      have hM1 : MAb i14 a20 q16 0 S := by rw [e20]; exact g2.tr
      have ha1 : a20 5 = upd S.1 (27 + k) 1 := by rw [e20, tr_upd ha]
      obtain ⟨k1, k2, k3, k4⟩ := hM1.rd5 h21
      rw [ha1] at k1
      subst k1 k3 k4
      refine ⟨fun c5 => ⟨vp_in_nI (by omega) (by omega), fun a26 e26 => ?_⟩, fun c5 => P _ _ ⟨?_, k2⟩⟩
      · refine nx _ _ (by rw [e26]; exact k2.tr) ?_ (fun z => b2i_f c5 z.2.2)
        rw [e26, tr_upd ha1, upd_upd, upd_same c4]
      · rw [hr, if_pos ⟨c3, c4, b2i_1 c5⟩]
  by_cases hf : (rdO S.1 x y).1 = true
  · exact ⟨13, key 12 0 _ _ _ rfl h6 e6 (Or.inl hf) (fun z => absurd z (by decide))⟩
  · exact ⟨13, key 12 0 _ _ _ rfl h6 e6 (Or.inr rfl) (fun z => absurd z (by decide))⟩
theorem pr_X6_neededInns (i : Nat → Int32) (a : Nat → Nat → Int32) (q : Nat → Nat) (x : Int32) (y : Int32) (hpre : pre_X6_neededInns i a q x y) : wp_X6_neededInns (fun r u => post_X6_neededInns i a q x y r u) i a q x y := by
  obtain ⟨t0, S, h0⟩ := hpre
  have P : ∀ r u, OpR (opNee S x y) r u → (fun r u => post_X6_neededInns i a q x y r u) r u := fun r u h t S' hS => by rw [hS.uniq h0]; exact h
  obtain ⟨post, ep⟩ : ∃ post : Int32 → MSt → Prop, post = fun r u => post_X6_neededInns i a q x y r u := ⟨_, rfl⟩
  rw [← ep] at P ⊢
  unfold opNee at P
  intro i1 e1 r2 h2
  subst e1
  have h2 := are_of h2 h0
  subst h2
  refine ⟨fun c i5 a6 q7 h5 => ?_, fun c r8 i9 a10 q11 h8 => P _ _ ?_⟩
  rotate_left
  · rw [if_neg (b2i_f c)]
    exact (h0.thr (t' := 0)).fail h8
  rw [if_pos (b2i_1 c)] at P
  have h5 : (i5, a6, q7) = (upd i 0 0, setR a 5 (a 1), q) := h5
  obtain ⟨x1, x2⟩ := Prod.mk.inj h5
  obtain ⟨x2, x3⟩ := Prod.mk.inj x2
  have h6 : MAb i5 a6 q7 0 S := by rw [x1, x2, x3]; exact (h0.thr (t' := 0)).trl
  have e6 : a6 5 = S.1 := by rw [x2, setR_self, h0.2.1]
  have key : ∀ n k i a q, k + n = 12 → MAb i a q 0 S → a 5 = S.1 → ((rdO S.1 x y).1 = true ∨ k = 0) → wpb_X6_neededInns_36 post x y (n + 1) i a q (if (rdO S.1 x y).1 = true then neeN S.1 x y k else 0) (nI k) := by
    intro n
    induction n with
    | zero =>
      intro k i a q hk hM _ hr
      have : k = 12 := by omega
      subst this
      exact ⟨fun _ => P _ _ ⟨rfl, hM⟩, fun h => absurd (by decide) h⟩
    | succ n ih =>
      intro k i a q hk hM ha hr
      refine ⟨fun h => absurd h (nI_ge (b := 12) (by omega) (by omega)), fun _ => ⟨both_pl (b2i_1 c), fun r13 i14 a15 q16 h13 => ?_⟩⟩
      obtain ⟨g1, g2, g3, g4⟩ := hM.rd1 h13
      subst g1 g3 g4
      refine ⟨fun c2 => P _ _ ⟨by rw [if_neg (b2i_f c2), if_neg (b2i_f c2)], g2⟩, fun c2 => ?_⟩
      have hf := b2i_1 c2
      rw [a3, a27, nI_clamp (by omega), nI_clamp (by omega), hM.2.1, if_pos hf]
      simp only [hf, if_true] at ih
      have nx : ∀ i' a' v, MAb i' a' q16 0 S → a' 5 = S.1 → v = neeN S.1 x y (k + 1) → wpb_X6_neededInns_138 post (wpb_X6_neededInns_36 post x y (n + 1)) x y i' a' q16 v (nI k) := by
        intro i' a' v hM' ha' hv z27 e27
        rw [e27, nI_1, hv]
        exact ih (k + 1) _ _ _ (by omega) hM' ha' (Or.inl trivial)
      have en : neeN S.1 x y (k + 1) = if ((nI k ≠ x ∧ nI k ≠ y) ∧ S.1 (3 + k) = 1 ∧ S.1 (27 + k) = 1) ∧ (rdO (upd S.1 (27 + k) 0) x y).1 = false then neeN S.1 x y k + 1 else neeN S.1 x y k := rfl
      refine ⟨fun c3 => nx _ _ _ g2 ha (by rw [en, if_neg (fun z => z.1.1.1 c3)]), fun c3 => ⟨fun c4 => nx _ _ _ g2 ha (by rw [en, if_neg (fun z => z.1.1.2 c4)]), fun c4 => ⟨vp_in_nI (by omega) (by omega), fun c5 => nx _ _ _ g2 ha (by rw [en, if_neg (fun z => c5 z.1.2.1)]), fun c5 => ⟨vp_in_nI (by omega) (by omega), fun c6 => nx _ _ _ g2 ha (by rw [en, if_neg (fun z => c6 z.1.2.2)]), fun c6 => ⟨vp_in_nI (by omega) (by omega), fun a22 e22 => ⟨both_pl (b2i_1 c), fun r23 i24 a25 q26 h23 => ?_⟩⟩⟩⟩⟩⟩
      have hM1 : MAb i14 a22 q16 0 S := by rw [e22]; exact g2.tr
      have ha1 : a22 5 = upd S.1 (27 + k) 0 := by rw [e22, tr_upd ha]
      obtain ⟨k1, k2, k3, k4⟩ := hM1.rd5 h23
      rw [ha1] at k1
      subst k1 k3 k4
      have back : ∀ a30, a30 = updA a25 5 (27 + k) 1 → MAb i24 a30 q26 0 S ∧ a30 5 = S.1 := by
        intro a30 e30
        refine ⟨by rw [e30]; exact k2.tr, ?_⟩
        rw [e30, tr_upd ha1, upd_upd, upd_same c6]
      refine ⟨fun c7 z29 e29 => ?_, fun c7 z29 e29 => ?_⟩
      · rw [a27, nI_clamp (by omega)]
        refine ⟨vp_in_nI (by omega) (by omega), fun a30 e30 => ?_⟩
        obtain ⟨b1, b2⟩ := back a30 e30
        exact nx _ _ _ b1 b2 (by rw [en, if_pos ⟨⟨⟨c3, c4⟩, c5, c6⟩, b2i_0 c7⟩, e29])
      · rw [a27, nI_clamp (by omega)]
        refine ⟨vp_in_nI (by omega) (by omega), fun a30 e30 => ?_⟩
        obtain ⟨b1, b2⟩ := back a30 e30
        exact nx _ _ _ b1 b2 (by rw [en, if_neg (fun z => by rw [b2i_1 c7] at z; exact Bool.noConfusion z.2), e29, Int32.add_zero])
  have := key 12 0 _ _ _ rfl h6 e6 (Or.inr rfl)
  refine ⟨13, ?_⟩
  have e0 : (if (rdO S.1 x y).1 = true then neeN S.1 x y 0 else 0) = 0 := by split <;> rfl
  rw [e0] at this
  exact this
theorem pr_X6_reachableInns (i : Nat → Int32) (a : Nat → Nat → Int32) (q : Nat → Nat) (x : Int32) (hpre : pre_X6_reachableInns i a q x) : wp_X6_reachableInns (fun r u => post_X6_reachableInns i a q x r u) i a q x := by
  obtain ⟨t0, S, h0⟩ := hpre
  have P : ∀ r u, OpR (opRea S x) r u → (fun r u => post_X6_reachableInns i a q x r u) r u := fun r u h t S' hS => by rw [hS.uniq h0]; exact h
  obtain ⟨post, ep⟩ : ∃ post : Int32 → MSt → Prop, post = fun r u => post_X6_reachableInns i a q x r u := ⟨_, rfl⟩
  rw [← ep] at P ⊢
  unfold opRea at P
  intro i1 e1 r2 h2
  subst e1
  unfold post_X6_hasInnAt at h2
  rw [h0.2.1] at h2
  subst h2
  refine ⟨fun c => ?_, fun c r8 i9 a10 q11 h8 => P _ _ ?_⟩
  rotate_left
  · rw [if_neg (b2i_f c)]
    exact (h0.thr (t' := 0)).fail h8
  rw [if_pos (b2i_1 c)] at P
  have key : ∀ n k i a q, k + n = 12 → MAb i a q 0 S → wpb_X6_reachableInns_26 post x (n + 1) i a q (reaN S.1 x k) (nI k) := by
    intro n
    induction n with
    | zero =>
      intro k i a q hk hM
      have : k = 12 := by omega
      subst this
      exact ⟨fun _ => P _ _ ⟨rfl, hM⟩, fun h => absurd (by decide) h⟩
    | succ n ih =>
      intro k i a q hk hM
      refine ⟨fun h => absurd h (nI_ge (b := 12) (by omega) (by omega)), fun _ => ?_⟩
      rw [a3, nI_clamp (by omega), hM.2.1]
      have nx : ∀ i' a' q' v w, MAb i' a' q' 0 S → w = (if S.1 (3 + k) = 1 ∧ (rdO S.1 x (nI k)).1 = true then 1 else 0) → v = reaN S.1 x k → wpb_X6_reachableInns_63 post (wpb_X6_reachableInns_26 post x (n + 1)) x i' a' q' (nI k) w v := by
        intro i' a' q' v w hM' hw hv z15 e15 z16 e16
        rw [e15, e16, nI_1, hw, hv]
        exact ih (k + 1) _ _ _ (by omega) hM'
      refine ⟨vp_in_nI (by omega) (by omega), fun c2 => nx _ _ _ _ _ hM (by rw [if_neg (fun z => c2 z.1)]) rfl, fun c2 => ⟨hasI_pl (b2i_1 c), fun r10 i11 a12 q13 h10 => ?_⟩⟩
      obtain ⟨g1, g2, -, -⟩ := hM.rd1 h10
      subst g1
      refine ⟨fun c3 => nx _ _ _ _ _ g2 (by rw [if_neg (fun z => b2i_f c3 z.2)]) rfl, fun c3 => nx _ _ _ _ _ g2 (by rw [if_pos ⟨c2, b2i_1 c3⟩]) rfl⟩
  exact ⟨13, key 12 0 _ _ _ rfl h0.thr⟩
