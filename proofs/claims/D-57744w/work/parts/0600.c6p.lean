set_option maxRecDepth 100000
/-! CLASS SIDE 6: ArrayDeque and History. Their cells belong to the owner ow: (ow, 5) the history, (ow, 6) its deque, (ow, 7) the deque's array -/
def DqAt (g : gG) (M : nM) (d ow : Nat) (L : List Nat) : Prop := ∃ (e h : Nat) (p : Nat → Option Nat), M d = some ((ow, 6), .inr (9, [.ref e, .int (nI h), .int (nI ((h + L.length) % 17))])) ∧ M e = some ((ow, 7), .inl (g.2.2.2 4, 17, .inr (.inr (.inr (.inr p))))) ∧ h < 17 ∧ L.length ≤ 9 ∧ ∀ k y, L[k]? = some y → p ((h + k) % 17) = some y
def HsAt (g : gG) (M : nM) (h ow : Nat) (L : List Nat) : Prop := ∃ d, M h = some ((ow, 5), .inr (3, [.ref d, .int 8])) ∧ DqAt g M d ow L
/-- all but the deque and its array stand -/
def Dqf (M M' : nM) (ow : Nat) : Prop := ∀ b c, M b = some c → c.1 ≠ (ow, 6) → c.1 ≠ (ow, 7) → M' b = some c
theorem Dqf.trans {M M1 M2 : nM} {ow : Nat} (h : Dqf M M1 ow) (h2 : Dqf M1 M2 ow) : Dqf M M2 ow := fun b c e h6 h7 => h2 b c (h b c e h6 h7) h6 h7
theorem Dqf.rf {M : nM} {ow : Nat} : Dqf M M ow := fun _ _ h _ _ => h
theorem Dqf.kp {M M' : nM} {ow : Nat} (h : Dqf M M' ow) : Kp M M' (· = ow) := fun b t e hb _ hn => h b _ hb (fun z => hn (by rw [show t = (ow, 6) from z])) (fun z => hn (by rw [show t = (ow, 7) from z]))
theorem Dqf.up {M : nM} {ow q k : Nat} {x y : va_E} (h : M q = some ((ow, k), x)) (hk : k = 6 ∨ k = 7) : Dqf M (nup M q ((ow, k), y)) ow := fun b c hb h6 h7 => by
  rw [nup_ne (fun z => ?_)]
  · exact hb
  · rw [z, h] at hb
    cases hb
    rcases hk with rfl | rfl
    · exact h6 rfl
    · exact h7 rfl
def pre_J1_init (_ : gG) (ow : Nat) (M : nM) (o : Nat) : Prop := M o = some ((ow, 6), .inr (9, [.null, .int 0, .int 0]))
def post_J1_init (g : gG) (ow : Nat) (M : nM) (o : Nat) (M' : nM) : Prop := DqAt g M' o ow [] ∧ ExtB M M' o
def pre_J1_sub (_ : gG) (_ : nM) (x y z : Int32) : Prop := ∃ a b, a < 17 ∧ b < 17 ∧ x = nI a ∧ y = nI b ∧ z = 17
def post_J1_sub (_ : gG) (_ : nM) (x y _ r : Int32) : Prop := ∀ a b, a < 17 → b < 17 → x = nI a → y = nI b → r = nI ((a + 17 - b) % 17)
def pre_J1_inc (_ : gG) (_ : nM) (x y : Int32) : Prop := ∃ a, a < 17 ∧ x = nI a ∧ y = 17
def post_J1_inc (_ : gG) (_ : nM) (x _ r : Int32) : Prop := ∀ a, a < 17 → x = nI a → r = nI ((a + 1) % 17)
def pre_J1_dec (_ : gG) (_ : nM) (x y : Int32) : Prop := ∃ a, a < 17 ∧ x = nI a ∧ y = 17
def post_J1_dec (_ : gG) (_ : nM) (x _ r : Int32) : Prop := ∀ a, a < 17 → x = nI a → r = nI ((a + 16) % 17)
def pre_J1_elementAt (g : gG) (pp : Nat → Option Nat) (M : nM) (u : Nat) (x : Int32) : Prop := aQ g M 4 u 17 pp ∧ ∃ a, a < 17 ∧ x = nI a
def post_J1_elementAt (_ : gG) (pp : Nat → Option Nat) (_ : nM) (_ : Nat) (x : Int32) (r : Option Nat) : Prop := r = pp x.toNatClampNeg
def pre_J1_size (g : gG) (ow : Nat) (L : List Nat) (M : nM) (o : Nat) : Prop := DqAt g M o ow L
def post_J1_size (_ : gG) (_ : Nat) (L : List Nat) (_ : nM) (_ : Nat) (r : Int32) : Prop := r = nI L.length
def pre_J1_pollFirst (g : gG) (ow : Nat) (L : List Nat) (M : nM) (o : Nat) : Prop := DqAt g M o ow L ∧ L ≠ []
def post_J1_pollFirst (g : gG) (ow : Nat) (L : List Nat) (M : nM) (o : Nat) (r : Option Nat) (M' : nM) : Prop := r = L.head? ∧ DqAt g M' o ow L.tail ∧ Dqf M M' ow
def pre_J1_removeFirst (g : gG) (ow : Nat) (L : List Nat) (M : nM) (o : Nat) : Prop := DqAt g M o ow L ∧ L ≠ []
def post_J1_removeFirst (g : gG) (ow : Nat) (L : List Nat) (M : nM) (o : Nat) (r : Option Nat) (M' : nM) : Prop := r = L.head? ∧ DqAt g M' o ow L.tail ∧ Dqf M M' ow
def pre_J1_addLast (g : gG) (ow : Nat) (L : List Nat) (M : nM) (o b : Nat) : Prop := DqAt g M o ow L ∧ L.length ≤ 8 ∧ oC M b 1
def post_J1_addLast (g : gG) (ow : Nat) (L : List Nat) (M : nM) (o b : Nat) (M' : nM) : Prop := DqAt g M' o ow (L ++ [b]) ∧ Dqf M M' ow
def pre_J1_pollLast (g : gG) (ow : Nat) (L : List Nat) (M : nM) (o : Nat) : Prop := DqAt g M o ow L ∧ L ≠ []
def post_J1_pollLast (g : gG) (ow : Nat) (L : List Nat) (M : nM) (o : Nat) (r : Option Nat) (M' : nM) : Prop := r = L.getLast? ∧ DqAt g M' o ow L.dropLast ∧ Dqf M M' ow
def pre_J1_removeLast (g : gG) (ow : Nat) (L : List Nat) (M : nM) (o : Nat) : Prop := DqAt g M o ow L ∧ L ≠ []
def post_J1_removeLast (g : gG) (ow : Nat) (L : List Nat) (M : nM) (o : Nat) (r : Option Nat) (M' : nM) : Prop := r = L.getLast? ∧ DqAt g M' o ow L.dropLast ∧ Dqf M M' ow
def pre_X4_init (_ : gG) (ow : Nat) (M : nM) (o : Nat) (x : Int32) : Prop := M o = some ((ow, 5), .inr (3, [.null, .int 0])) ∧ x = 8
def post_X4_init (g : gG) (ow : Nat) (M : nM) (o : Nat) (_ : Int32) (M' : nM) : Prop := HsAt g M' o ow [] ∧ ExtB M M' o
def pre_X4_size (g : gG) (ow : Nat) (L : List Nat) (M : nM) (o : Nat) : Prop := HsAt g M o ow L
def post_X4_size (_ : gG) (_ : Nat) (L : List Nat) (_ : nM) (_ : Nat) (r : Int32) : Prop := r = nI L.length
def pre_X4_add (g : gG) (ow : Nat) (L : List Nat) (M : nM) (o b : Nat) : Prop := HsAt g M o ow L ∧ L.length ≤ 8 ∧ (∀ y ∈ L, oC M y 1 ∧ wo M y ∧ y ≠ ow) ∧ oC M b 1 ∧ wo M b ∧ b ≠ ow
def post_X4_add (g : gG) (ow : Nat) (L : List Nat) (M : nM) (o b : Nat) (M' : nM) : Prop := HsAt g M' o ow (push8 L b) ∧ Dqf M M' ow
def pre_X4_takeLatest (g : gG) (ow : Nat) (L : List Nat) (M : nM) (o : Nat) : Prop := HsAt g M o ow L ∧ L ≠ [] ∧ ∀ y ∈ L, oC M y 1 ∧ wo M y ∧ y ≠ ow
def post_X4_takeLatest (g : gG) (ow : Nat) (L : List Nat) (M : nM) (o : Nat) (r : Option Nat) (M' : nM) : Prop := r = L.getLast? ∧ HsAt g M' o ow L.dropLast ∧ Dqf M M' ow
def wp_J1_init (g : gG) (ow : Nat) (post : nM → Prop) (M : nM) (o : Nat) : Prop :=
  (post_J0_init g  M o → ∀ q2 M3, M q2 = none → M3 = nup M q2 ((fun _ => (ow, 7)) q2, .inl (g.2.2.2 4, 17, .inr (.inr (.inr (.inr (fun _ => none)))))) → fL M3 o 9 0 ∧ ∀ M5, fW M3 M5 o 9 0 (.ref q2) → post M5)

def wp_J1_sub (g : gG) (post : Int32 → Prop) (M : nM) (x : Int32) (y : Int32) (z : Int32) : Prop :=
  ∀ z1, z1 = (x - y) → (0 ≤ (x - y) → post z1) ∧ (¬ 0 ≤ (x - y) → ∀ z3, z3 = (z1 + z) → post z3)

def wp_J1_inc (g : gG) (post : Int32 → Prop) (M : nM) (x : Int32) (y : Int32) : Prop :=
  ∀ z1, z1 = x + 1 → (z1 < y → post z1) ∧ (¬ z1 < y → post 0)

def wp_J1_dec (g : gG) (post : Int32 → Prop) (M : nM) (x : Int32) (y : Int32) : Prop :=
  ∀ z1, z1 = x + (-1) → (0 ≤ z1 → post z1) ∧ (¬ 0 ≤ z1 → ∀ z3, z3 = (y - 1) → post z3)

def wp_J1_elementAt (g : gG) (pp : Nat → Option Nat) (post : Option Nat → Prop) (M : nM) (u : Nat) (x : Int32) : Prop :=
  ∃ nf1 f1, aQ g M 4 u nf1 f1 ∧ vp_in x nf1 ∧ ∀ z2, z2 = f1 x.toNatClampNeg → post z2

def wp_J1_size (g : gG) (ow : Nat) (L : List Nat) (post : Int32 → Prop) (M : nM) (o : Nat) : Prop :=
  ∃ v1, fI M o 9 2 v1 ∧ ∃ v2, fI M o 9 1 v2 ∧ ∃ v3, fR M o 9 0 (some v3) ∧ ∃ nf4 f4, aQ g M 4 v3 nf4 f4 ∧ pre_J1_sub g  M v1 v2 (Int32.ofNat nf4) ∧ ∀ r5, post_J1_sub g  M v1 v2 (Int32.ofNat nf4) r5 → post r5

def wp_J1_pollFirst (g : gG) (ow : Nat) (L : List Nat) (post : Option Nat → nM → Prop) (M : nM) (o : Nat) : Prop :=
  ∃ v1, fR M o 9 0 (some v1) ∧ ∃ v2, fI M o 9 1 v2 ∧ ∃ g_3 : Nat → Option Nat, pre_J1_elementAt g g_3 M v1 v2 ∧ ∀ r4, post_J1_elementAt g g_3 M v1 v2 r4 → ∃ b5, r4 = some b5 ∧ ∃ nf6 f6, aQ g M 4 v1 nf6 f6 ∧ vp_in v2 nf6 ∧ ∀ M7, aQW g M M7 4 v1 nf6 (va_up f6 v2.toNatClampNeg none) → ∃ nf8 f8, aQ g M7 4 v1 nf8 f8 ∧ pre_J1_inc g  M7 v2 (Int32.ofNat nf8) ∧ ∀ r9, post_J1_inc g  M7 v2 (Int32.ofNat nf8) r9 → fL M7 o 9 1 ∧ ∀ M11, fW M7 M11 o 9 1 (.int r9) → post (some b5) M11

def wp_J1_removeFirst (g : gG) (ow : Nat) (L : List Nat) (post : Option Nat → nM → Prop) (M : nM) (o : Nat) : Prop :=
  ∃ g_1 : Nat, ∃ g_2 : List Nat, pre_J1_pollFirst g g_1 g_2 M o ∧ oC M o 9 ∧ ∀ r3 M4, post_J1_pollFirst g g_1 g_2 M o r3 M4 → ∃ b5, r3 = some b5 ∧ post (some b5) M4

def wp_J1_addLast (g : gG) (ow : Nat) (L : List Nat) (post : nM → Prop) (M : nM) (o : Nat) (b : Nat) : Prop :=
  ∃ v1, fR M o 9 0 (some v1) ∧ ∃ v2, fI M o 9 2 v2 ∧ oC M b 1 ∧ ∃ nf3 f3, aQ g M 4 v1 nf3 f3 ∧ vp_in v2 nf3 ∧ ∀ M4, aQW g M M4 4 v1 nf3 (va_up f3 v2.toNatClampNeg (some b)) → ∃ v5, fI M4 o 9 1 v5 ∧ ∃ v6, fI M4 o 9 2 v6 ∧ ∃ nf7 f7, aQ g M4 4 v1 nf7 f7 ∧ pre_J1_inc g  M4 v6 (Int32.ofNat nf7) ∧ ∀ r8, post_J1_inc g  M4 v6 (Int32.ofNat nf7) r8 → fL M4 o 9 2 ∧ ∀ M10, fW M4 M10 o 9 2 (.int r8) → (¬ v5 = r8 → post M10) ∧ (v5 = r8 → False)

def wp_J1_pollLast (g : gG) (ow : Nat) (L : List Nat) (post : Option Nat → nM → Prop) (M : nM) (o : Nat) : Prop :=
  ∃ v1, fR M o 9 0 (some v1) ∧ ∃ v2, fI M o 9 2 v2 ∧ ∃ nf3 f3, aQ g M 4 v1 nf3 f3 ∧ pre_J1_dec g  M v2 (Int32.ofNat nf3) ∧ ∀ r4, post_J1_dec g  M v2 (Int32.ofNat nf3) r4 → ∃ g_5 : Nat → Option Nat, pre_J1_elementAt g g_5 M v1 r4 ∧ ∀ r6, post_J1_elementAt g g_5 M v1 r4 r6 → ∃ b7, r6 = some b7 ∧ fL M o 9 2 ∧ ∀ M9, fW M M9 o 9 2 (.int r4) → ∃ nf10 f10, aQ g M9 4 v1 nf10 f10 ∧ vp_in r4 nf10 ∧ ∀ M11, aQW g M9 M11 4 v1 nf10 (va_up f10 r4.toNatClampNeg none) → post (some b7) M11

def wp_J1_removeLast (g : gG) (ow : Nat) (L : List Nat) (post : Option Nat → nM → Prop) (M : nM) (o : Nat) : Prop :=
  ∃ g_1 : Nat, ∃ g_2 : List Nat, pre_J1_pollLast g g_1 g_2 M o ∧ oC M o 9 ∧ ∀ r3 M4, post_J1_pollLast g g_1 g_2 M o r3 M4 → ∃ b5, r3 = some b5 ∧ post (some b5) M4

def wp_X4_init (g : gG) (ow : Nat) (post : nM → Prop) (M : nM) (o : Nat) (x : Int32) : Prop :=
  ∀ q1 M2, M q1 = none → M2 = nup M q1 ((fun _ => (ow, 6)) q1, .inr (9, [.null, .int 0, .int 0])) → ∃ g_3 : Nat, pre_J1_init g g_3 M2 q1 ∧ ∀ M5, post_J1_init g g_3 M2 q1 M5 → fL M5 o 3 0 ∧ ∀ M7, fW M5 M7 o 3 0 (.ref q1) → fL M7 o 3 1 ∧ ∀ M9, fW M7 M9 o 3 1 (.int x) → post M9

def wp_X4_size (g : gG) (ow : Nat) (L : List Nat) (post : Int32 → Prop) (M : nM) (o : Nat) : Prop :=
  ∃ v1, fR M o 3 0 (some v1) ∧ ∃ g_2 : Nat, ∃ g_3 : List Nat, pre_J1_size g g_2 g_3 M v1 ∧ oC M v1 9 ∧ ∀ r4, post_J1_size g g_2 g_3 M v1 r4 → post r4

def wpb_X4_add_25 (post : nM → Prop)  (g : gG) (ow : Nat) (L : List Nat) (o : Nat) (b : Nat) (M : nM)  : Prop :=
  ∃ v14, fR M o 3 0 (some v14) ∧ ∃ g_15 : Nat, ∃ g_16 : List Nat, pre_J1_addLast g g_15 g_16 M v14 b ∧ oC M v14 9 ∧ ∀ M18, post_J1_addLast g g_15 g_16 M v14 b M18 → post M18
def wp_X4_add (g : gG) (ow : Nat) (L : List Nat) (post : nM → Prop) (M : nM) (o : Nat) (b : Nat) : Prop :=
  ∃ v1, fR M o 3 0 (some v1) ∧ ∃ g_2 : Nat, ∃ g_3 : List Nat, pre_J1_size g g_2 g_3 M v1 ∧ oC M v1 9 ∧ ∀ r4, post_J1_size g g_2 g_3 M v1 r4 → ∃ v5, fI M o 3 1 v5 ∧ (¬ r4 = v5 → wpb_X4_add_25 post  g ow L o b M) ∧ (r4 = v5 → ∃ v7, fR M o 3 0 (some v7) ∧ ∃ g_8 : Nat, ∃ g_9 : List Nat, pre_J1_removeFirst g g_8 g_9 M v7 ∧ oC M v7 9 ∧ ∀ r10 M11, post_J1_removeFirst g g_8 g_9 M v7 r10 M11 → ∃ b12, r10 = some b12 ∧ oC M11 b12 1 ∧ wpb_X4_add_25 post  g ow L o b M11)

def wp_X4_takeLatest (g : gG) (ow : Nat) (L : List Nat) (post : Option Nat → nM → Prop) (M : nM) (o : Nat) : Prop :=
  ∃ v1, fR M o 3 0 (some v1) ∧ ∃ g_2 : Nat, ∃ g_3 : List Nat, pre_J1_removeLast g g_2 g_3 M v1 ∧ oC M v1 9 ∧ ∀ r4 M5, post_J1_removeLast g g_2 g_3 M v1 r4 M5 → ∃ b6, r4 = some b6 ∧ oC M5 b6 1 ∧ post (some b6) M5
theorem pr_J1_init (g : gG) (ow : Nat) (M : nM) (o : Nat) (hpre : pre_J1_init g ow M o) : wp_J1_init g ow (fun M' => post_J1_init g ow M o M') M o := by
  have h : M o = some ((ow, 6), .inr (9, [.null, .int 0, .int 0])) := hpre
  intro _ q M1 hq e1
  have doq : o ≠ q := nne h hq
  have o1 := nup_at e1 doq h
  refine ⟨⟨_, _, o1, (by decide : (0:Nat) < 3)⟩, fun M2 w2 => ?_⟩
  have w2 := w2.eq o1
  refine ⟨⟨q, 0, _, nup_to w2, nup_at w2 doq.symm (nup_to e1), by decide, Nat.zero_le _, fun k y hy => by simp at hy⟩, ?_⟩
  rw [w2, e1]
  exact (ExtB.upn (fun b c _ e => e) hq).upo
theorem sub17 {a b : Nat} (ha : a < 17) (hb : b < 17) (h : a < b) : (nI a - nI b) + 17 = nI (a + 17 - b) := by
  have e : (17 : Int32) = nI 17 := rfl
  rw [e, Int32.sub_eq_add_neg, Int32.add_assoc, Int32.add_comm (-nI b), ← Int32.add_assoc, nI_add, ← Int32.sub_eq_add_neg, pk_sub (by omega)]
theorem pr_J1_sub (g : gG) (M : nM) (x : Int32) (y : Int32) (z : Int32) (hpre : pre_J1_sub g M x y z) : wp_J1_sub g (fun r => post_J1_sub g M x y z r) M x y z := by
  obtain ⟨a, b, ha, hb, rfl, rfl, rfl⟩ := hpre
  have same : ∀ v, v = nI ((a + 17 - b) % 17) → post_J1_sub g M (nI a) (nI b) 17 v := fun v hv a' b' h1 h2 h3 h4 => by
    have e1 := (nI_eq (by omega) (by omega)).mp h3
    have e2 := (nI_eq (by omega) (by omega)).mp h4
    subst e1 e2; exact hv
  intro z1 e1
  rcases Nat.lt_or_ge a b with h | h
  · refine ⟨fun c => absurd (Int32.not_lt.mpr c) (fun z => z (pk_sneg (by omega) h)), fun _ z3 e3 => same _ ?_⟩
    rw [e3, e1, sub17 ha hb h]
    congr 1; omega
  · refine ⟨fun _ => same _ ?_, fun c => absurd (by rw [pk_sub h]; exact nI_pos' (by omega)) c⟩
    rw [e1, pk_sub h]; congr 1; omega
theorem pr_J1_inc (g : gG) (M : nM) (x : Int32) (y : Int32) (hpre : pre_J1_inc g M x y) : wp_J1_inc g (fun r => post_J1_inc g M x y r) M x y := by
  obtain ⟨a, ha, rfl, rfl⟩ := hpre
  have same : ∀ v, v = nI ((a + 1) % 17) → post_J1_inc g M (nI a) 17 v := fun v hv a' h1 h3 => by
    have e1 := (nI_eq (by omega) (by omega)).mp h3
    subst e1; exact hv
  intro z1 e1
  rw [nI_1] at e1
  subst e1
  have e17 : (17 : Int32) = nI 17 := rfl
  refine ⟨fun c => same _ ?_, fun c => same _ ?_⟩
  · have := (nI_ltI (by omega) (by decide)).mp (e17 ▸ c)
    congr 1; omega
  · have : ¬ a + 1 < 17 := fun z => c (e17 ▸ (nI_ltI (by omega) (by decide)).mpr z)
    have e : a + 1 = 17 := by omega
    rw [e]; rfl
theorem pr_J1_dec (g : gG) (M : nM) (x : Int32) (y : Int32) (hpre : pre_J1_dec g M x y) : wp_J1_dec g (fun r => post_J1_dec g M x y r) M x y := by
  obtain ⟨a, ha, rfl, rfl⟩ := hpre
  have same : ∀ v, v = nI ((a + 16) % 17) → post_J1_dec g M (nI a) 17 v := fun v hv a' h1 h3 => by
    have e1 := (nI_eq (by omega) (by omega)).mp h3
    subst e1; exact hv
  intro z1 e1
  cases a with
  | zero =>
    have e1 : z1 = -1 := e1
    subst e1
    exact ⟨fun c => absurd c (by decide), fun _ z3 e3 => same _ (by rw [e3]; decide)⟩
  | succ a =>
    rw [pk_m1] at e1
    subst e1
    refine ⟨fun _ => same _ (by congr 1; omega), fun c => absurd (nI_pos' (by omega)) c⟩
theorem pr_J1_elementAt (g : gG) (pp : Nat → Option Nat) (M : nM) (u : Nat) (x : Int32) (hpre : pre_J1_elementAt g pp M u x) : wp_J1_elementAt g pp (fun r => post_J1_elementAt g pp M u x r) M u x := by
  obtain ⟨h, a, ha, rfl⟩ := hpre
  exact ⟨17, pp, h, nI_in ha (by decide), fun z ez => ez⟩
theorem DqAt.o {g : gG} {M : nM} {d ow : Nat} {L : List Nat} (h : DqAt g M d ow L) : oC M d 9 := by
  obtain ⟨e, h, p, h1, -⟩ := h
  exact ⟨_, _, h1⟩
theorem pr_J1_size (g : gG) (ow : Nat) (L : List Nat) (M : nM) (o : Nat) (hpre : pre_J1_size g ow L M o) : wp_J1_size g ow L (fun r => post_J1_size g ow L M o r) M o := by
  obtain ⟨e, h, p, h1, h2, h3, h4, h5⟩ := id hpre
  refine ⟨_, ⟨_, _, h1, rfl⟩, _, ⟨_, _, h1, rfl⟩, e, ⟨_, _, h1, rfl⟩, 17, p, ⟨_, h2⟩, ⟨_, _, Nat.mod_lt _ (by decide), h3, rfl, rfl, rfl⟩, fun r hr => ?_⟩
  have := hr _ _ (Nat.mod_lt _ (by decide)) h3 rfl rfl
  show r = nI L.length
  rw [this]; congr 1; omega
theorem mod17 {h k : Nat} : (h + k) % 17 < 17 := Nat.mod_lt _ (by decide)
theorem pr_J1_pollFirst (g : gG) (ow : Nat) (L : List Nat) (M : nM) (o : Nat) (hpre : pre_J1_pollFirst g ow L M o) : wp_J1_pollFirst g ow L (fun r M' => post_J1_pollFirst g ow L M o r M') M o := by
  obtain ⟨⟨e, h, p, h1, h2, h3, h4, h5⟩, hne⟩ := hpre
  obtain ⟨y, t, rfl⟩ : ∃ y t, L = y :: t := by
    cases L with
    | nil => exact absurd rfl hne
    | cons y t => exact ⟨y, t, rfl⟩
  have ch : (nI h).toNatClampNeg = h := nI_clamp (by omega)
  have hy : p h = some y := by
    have := h5 0 y rfl
    rw [Nat.add_zero, Nat.mod_eq_of_lt h3] at this; exact this
  have doe : o ≠ e := mne h1 h2 kne'
  refine ⟨e, ⟨_, _, h1, rfl⟩, nI h, ⟨_, _, h1, rfl⟩, p, ⟨⟨_, h2⟩, h, h3, rfl⟩, fun r er => ⟨y, ?_, 17, p, ⟨_, h2⟩, nI_in h3 (by decide), fun M1 w1 => ?_⟩⟩
  · have er : r = p (nI h).toNatClampNeg := er
    rw [er, ch]; exact hy
  · have w1 := w1.eq h2
    rw [ch] at w1
    have o1 := nup_at w1 doe h1
    have e1 := nup_to w1
    refine ⟨17, _, ⟨_, e1⟩, ⟨h, h3, rfl, rfl⟩, fun r2 er2 => ⟨⟨_, _, o1, (by decide : (1:Nat) < 3)⟩, fun M2 w2 => ?_⟩⟩
    have er2 := er2 h h3 rfl
    have w2 := w2.eq o1
    refine ⟨rfl, ⟨e, (h + 1) % 17, _, ?_, nup_at w2 doe.symm e1, Nat.mod_lt _ (by decide), ?_, fun k z hz => ?_⟩, ?_⟩
    · have : nI ((h + (y :: t).length) % 17) = nI (((h + 1) % 17 + t.length) % 17) := by
        congr 1; rw [List.length_cons]; omega
      rw [← er2, List.tail_cons, ← this]
      exact nup_to w2
    · rw [List.length_cons] at h4; rw [List.tail_cons]; omega
    · rw [List.tail_cons] at hz
      have hk : k < t.length := by
        rcases Nat.lt_or_ge k t.length with q | q
        · exact q
        · rw [List.getElem?_eq_none q] at hz; cases hz
      rw [List.length_cons] at h4
      have := h5 (k + 1) z (by rw [List.getElem?_cons_succ]; exact hz)
      have e : ((h + 1) % 17 + k) % 17 = (h + (k + 1)) % 17 := by omega
      rw [e]
      have hn : (h + (k + 1)) % 17 ≠ h := by omega
      exact (if_neg hn).trans this
    · have k1 : Dqf M M1 ow := by rw [w1]; exact Dqf.up h2 (Or.inr rfl)
      rw [w2]; exact k1.trans (Dqf.up o1 (Or.inl rfl))
theorem pr_J1_removeFirst (g : gG) (ow : Nat) (L : List Nat) (M : nM) (o : Nat) (hpre : pre_J1_removeFirst g ow L M o) : wp_J1_removeFirst g ow L (fun r M' => post_J1_removeFirst g ow L M o r M') M o := by
  obtain ⟨h, hne⟩ := hpre
  refine ⟨ow, L, ⟨h, hne⟩, h.o, fun r M1 hr => ?_⟩
  cases L with
  | nil => exact absurd rfl hne
  | cons y t => exact ⟨y, hr.1, rfl, hr.2⟩
theorem pr_J1_addLast (g : gG) (ow : Nat) (L : List Nat) (M : nM) (o : Nat) (b : Nat) (hpre : pre_J1_addLast g ow L M o b) : wp_J1_addLast g ow L (fun M' => post_J1_addLast g ow L M o b M') M o b := by
  obtain ⟨⟨e, h, p, h1, h2, h3, h4, h5⟩, hl, hb⟩ := hpre
  have doe : o ≠ e := mne h1 h2 kne'
  have ht : (h + L.length) % 17 < 17 := mod17
  have ct : (nI ((h + L.length) % 17)).toNatClampNeg = (h + L.length) % 17 := nI_clamp (by omega)
  refine ⟨e, ⟨_, _, h1, rfl⟩, _, ⟨_, _, h1, rfl⟩, hb, 17, p, ⟨_, h2⟩, nI_in ht (by decide), fun M1 w1 => ?_⟩
  have w1 := w1.eq h2
  rw [ct] at w1
  have o1 := nup_at w1 doe h1
  have e1 := nup_to w1
  refine ⟨_, ⟨_, _, o1, rfl⟩, _, ⟨_, _, o1, rfl⟩, 17, _, ⟨_, e1⟩, ⟨_, ht, rfl, rfl⟩, fun r er => ⟨⟨_, _, o1, (by decide : (2:Nat) < 3)⟩, fun M2 w2 => ?_⟩⟩
  have er := er _ ht rfl
  have w2 := w2.eq o1
  refine ⟨fun _ => ⟨⟨e, h, _, ?_, nup_at w2 doe.symm e1, h3, by rw [List.length_append]; exact Nat.succ_le_succ hl, fun k z hz => ?_⟩, ?_⟩, fun c => ?_⟩
  · have : nI ((h + (L ++ [b]).length) % 17) = r := by
      rw [er]; congr 1; rw [List.length_append]; show (h + (L.length + 1)) % 17 = _; omega
    rw [this]
    exact nup_to w2
  · rcases Nat.lt_trichotomy k L.length with hk | hk | hk
    · rw [List.getElem?_append_left hk] at hz
      have hn : (h + k) % 17 ≠ (h + L.length) % 17 := by omega
      exact (if_neg hn).trans (h5 k z hz)
    · subst hk
      rw [List.getElem?_append_right (Nat.le_refl _), Nat.sub_self] at hz
      cases hz
      exact if_pos rfl
    · rw [List.getElem?_eq_none (by rw [List.length_append]; exact hk)] at hz
      cases hz
  · have k1 : Dqf M M1 ow := by rw [w1]; exact Dqf.up h2 (Or.inr rfl)
    rw [w2]; exact k1.trans (Dqf.up o1 (Or.inl rfl))
  · rw [er] at c
    have := (nI_eq (by omega) (by omega)).mp c
    omega
theorem pr_J1_pollLast (g : gG) (ow : Nat) (L : List Nat) (M : nM) (o : Nat) (hpre : pre_J1_pollLast g ow L M o) : wp_J1_pollLast g ow L (fun r M' => post_J1_pollLast g ow L M o r M') M o := by
  obtain ⟨⟨e, h, p, h1, h2, h3, h4, h5⟩, hne⟩ := hpre
  obtain ⟨y, hy⟩ : ∃ y, L.getLast? = some y := by
    cases hL : L.getLast? with
    | none => exact absurd (List.getLast?_eq_none_iff.mp hL) hne
    | some y => exact ⟨y, rfl⟩
  have hlen : 0 < L.length := by
    cases L with
    | nil => exact absurd rfl hne
    | cons a t => exact Nat.succ_pos _
  have hyi : L[L.length - 1]? = some y := by rw [← List.getLast?_eq_getElem?]; exact hy
  have hd : L.dropLast.length = L.length - 1 := List.length_dropLast
  have doe : o ≠ e := mne h1 h2 kne'
  have ht : (h + L.length) % 17 < 17 := mod17
  have et : ((h + L.length) % 17 + 16) % 17 = (h + (L.length - 1)) % 17 := by omega
  have hq : (h + (L.length - 1)) % 17 < 17 := mod17
  have cq : (nI ((h + (L.length - 1)) % 17)).toNatClampNeg = (h + (L.length - 1)) % 17 := nI_clamp (by omega)
  refine ⟨e, ⟨_, _, h1, rfl⟩, _, ⟨_, _, h1, rfl⟩, 17, p, ⟨_, h2⟩, ⟨_, ht, rfl, rfl⟩, fun r er => ?_⟩
  have er := er _ ht rfl
  rw [et] at er
  subst er
  refine ⟨p, ⟨⟨_, h2⟩, _, hq, rfl⟩, fun r2 er2 => ⟨y, ?_, ⟨_, _, h1, (by decide : (2:Nat) < 3)⟩, fun M1 w1 => ?_⟩⟩
  · have er2 : r2 = p (nI ((h + (L.length - 1)) % 17)).toNatClampNeg := er2
    rw [er2, cq]; exact h5 _ y hyi
  · have w1 := w1.eq h1
    have o1 := nup_to w1
    have e1 := nup_at w1 doe.symm h2
    refine ⟨17, p, ⟨_, e1⟩, nI_in hq (by decide), fun M2 w2 => ?_⟩
    have w2 := w2.eq e1
    rw [cq] at w2
    refine ⟨hy.symm, ⟨e, h, _, by rw [hd]; exact nup_at w2 doe o1, nup_to w2, h3, by rw [hd]; omega, fun k z hz => ?_⟩, ?_⟩
    · have hk : k < L.length - 1 := by
        rcases Nat.lt_or_ge k (L.length - 1) with q | q
        · exact q
        · rw [List.getElem?_eq_none (by rw [hd]; exact q)] at hz; cases hz
      rw [List.getElem?_dropLast, if_pos hk] at hz
      have hn : (h + k) % 17 ≠ (h + (L.length - 1)) % 17 := by omega
      exact (if_neg hn).trans (h5 k z hz)
    · have k1 : Dqf M M1 ow := by rw [w1]; exact Dqf.up h1 (Or.inl rfl)
      rw [w2]; exact k1.trans (Dqf.up e1 (Or.inr rfl))
theorem pr_J1_removeLast (g : gG) (ow : Nat) (L : List Nat) (M : nM) (o : Nat) (hpre : pre_J1_removeLast g ow L M o) : wp_J1_removeLast g ow L (fun r M' => post_J1_removeLast g ow L M o r M') M o := by
  obtain ⟨h, hne⟩ := hpre
  refine ⟨ow, L, ⟨h, hne⟩, h.o, fun r M1 hr => ?_⟩
  obtain ⟨y, hy⟩ : ∃ y, L.getLast? = some y := by
    cases hL : L.getLast? with
    | none => exact absurd (List.getLast?_eq_none_iff.mp hL) hne
    | some y => exact ⟨y, rfl⟩
  exact ⟨y, hr.1.trans hy, hy.symm, hr.2⟩
theorem pr_X4_init (g : gG) (ow : Nat) (M : nM) (o : Nat) (x : Int32) (hpre : pre_X4_init g ow M o x) : wp_X4_init g ow (fun M' => post_X4_init g ow M o x M') M o x := by
  obtain ⟨h, rfl⟩ := hpre
  intro q M1 hq e1
  have doq : o ≠ q := nne h hq
  have o1 := nup_at e1 doq h
  refine ⟨ow, nup_to e1, fun M2 ⟨hD, hB⟩ => ?_⟩
  have o2 := hB o _ doq o1
  refine ⟨⟨_, _, o2, (by decide : (0:Nat) < 2)⟩, fun M3 w3 => ?_⟩
  have w3 := w3.eq o2
  have o3 := nup_to w3
  refine ⟨⟨_, _, o3, (by decide : (1:Nat) < 2)⟩, fun M4 w4 => ?_⟩
  have w4 := w4.eq o3
  obtain ⟨e, hh, p, d1, d2, d3, d4, d5⟩ := hD
  have de : e ≠ o := mne d2 o2 kne
  refine ⟨⟨q, nup_to w4, e, hh, p, nup_at w4 doq.symm (nup_at w3 doq.symm d1), nup_at w4 de (nup_at w3 de d2), d3, d4, d5⟩, fun b c hb ec => ?_⟩
  rw [w4, nup_ne hb, w3, nup_ne hb]
  exact hB b c (nne ec hq) (by rw [e1, nup_ne (nne ec hq)]; exact ec)
theorem pr_X4_size (g : gG) (ow : Nat) (L : List Nat) (M : nM) (o : Nat) (hpre : pre_X4_size g ow L M o) : wp_X4_size g ow L (fun r => post_X4_size g ow L M o r) M o := by
  obtain ⟨d, h1, h2⟩ := hpre
  exact ⟨d, ⟨_, _, h1, rfl⟩, ow, L, h2, h2.o, fun r hr => hr⟩
theorem oC.kp {M M' : nM} {S : Nat → Prop} {b ci : Nat} (h : oC M b ci) (hw : wo M b) (hK : Kp M M' S) (hb : ¬ S b) : oC M' b ci := by
  obtain ⟨t, fs, h⟩ := h
  obtain ⟨k, x, hx⟩ := hw
  rw [h] at hx
  cases hx
  exact ⟨_, _, hK b (b, k) _ h ⟨k, _, h⟩ hb⟩
theorem pr_X4_add (g : gG) (ow : Nat) (L : List Nat) (M : nM) (o : Nat) (b : Nat) (hpre : pre_X4_add g ow L M o b) : wp_X4_add g ow L (fun M' => post_X4_add g ow L M o b M') M o b := by
  obtain ⟨⟨d, h1, h2⟩, hl, hy, hb, hbw, hbo⟩ := hpre
  have fin : ∀ (M1 : nM) (L1 : List Nat), DqAt g M1 d ow L1 → L1.length ≤ 8 → Dqf M M1 ow → push8 L b = L1 ++ [b] → wpb_X4_add_25 (fun M' => post_X4_add g ow L M o b M') g ow L o b M1 := by
    intro M1 L1 hD hl1 hK hp
    have o1 := hK o _ h1 (fun e => by cases e) (fun e => by cases e)
    exact ⟨d, ⟨_, _, o1, rfl⟩, ow, L1, ⟨hD, hl1, hb.kp hbw hK.kp hbo⟩, hD.o, fun M2 ⟨hD2, k2⟩ => ⟨⟨d, k2 o _ o1 (fun e => by cases e) (fun e => by cases e), by rw [hp]; exact hD2⟩, hK.trans k2⟩⟩
  refine ⟨d, ⟨_, _, h1, rfl⟩, ow, L, h2, h2.o, fun r er => ⟨8, ⟨_, _, h1, rfl⟩, fun c => ?_, fun c => ?_⟩⟩
  · have er : r = nI L.length := er
    have hn : L.length ≠ 8 := fun e => c (by rw [er, e]; rfl)
    exact fin M L h2 hl Dqf.rf (if_neg hn)
  · have er : r = nI L.length := er
    have e8 : (8 : Int32) = nI 8 := rfl
    have hn : L.length = 8 := (nI_eq (by omega) (by decide)).mp (er.symm.trans (c.trans e8))
    have hne : L ≠ [] := fun e => by rw [e] at hn; cases hn
    refine ⟨d, ⟨_, _, h1, rfl⟩, ow, L, ⟨h2, hne⟩, h2.o, fun r2 M1 ⟨er2, hD1, k1⟩ => ?_⟩
    obtain ⟨y, t, hL⟩ : ∃ y t, L = y :: t := by
      cases L with
      | nil => exact absurd rfl hne
      | cons y t => exact ⟨y, t, rfl⟩
    have hyy := hy y (by rw [hL]; exact List.mem_cons_self)
    refine ⟨y, by rw [er2, hL]; rfl, hyy.1.kp hyy.2.1 k1.kp hyy.2.2, fin M1 L.tail hD1 (by rw [List.length_tail]; omega) k1 ?_⟩
    unfold push8
    rw [if_pos hn]
theorem pr_X4_takeLatest (g : gG) (ow : Nat) (L : List Nat) (M : nM) (o : Nat) (hpre : pre_X4_takeLatest g ow L M o) : wp_X4_takeLatest g ow L (fun r M' => post_X4_takeLatest g ow L M o r M') M o := by
  obtain ⟨⟨d, h1, h2⟩, hne, hy⟩ := hpre
  refine ⟨d, ⟨_, _, h1, rfl⟩, ow, L, ⟨h2, hne⟩, h2.o, fun r M1 ⟨er, hD, k1⟩ => ?_⟩
  obtain ⟨y, hl⟩ : ∃ y, L.getLast? = some y := by
    cases hL : L.getLast? with
    | none => exact absurd (List.getLast?_eq_none_iff.mp hL) hne
    | some y => exact ⟨y, rfl⟩
  have hyy := hy y (List.mem_of_getLast? hl)
  exact ⟨y, er.trans hl, hyy.1.kp hyy.2.1 k1.kp hyy.2.2, hl.symm, ⟨d, k1 o _ h1 (fun e => by cases e) (fun e => by cases e), hD⟩, k1⟩
