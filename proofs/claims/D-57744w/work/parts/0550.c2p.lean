set_option maxRecDepth 100000
/-! CLASS SIDE 2: constructors and copies -/
/-- what stood before stands still -/
def Ext (M M' : nM) : Prop := ∀ b c, M b = some c → M' b = some c
/-- all but the cell o -/
def ExtB (M M' : nM) (o : Nat) : Prop := ∀ b c, b ≠ o → M b = some c → M' b = some c
theorem Ext.rfl' {M : nM} : Ext M M := fun _ _ h => h
theorem Ext.trans {M M1 M2 : nM} (h : Ext M M1) (h2 : Ext M1 M2) : Ext M M2 := fun b c e => h2 b c (h b c e)
theorem Ext.new {M : nM} {q : Nat} {c : nC} (h : M q = none) : Ext M (nup M q c) := fun b x e => by
  by_cases hb : b = q
  · subst hb; rw [h] at e; cases e
  · rw [nup_ne hb]; exact e
theorem ExtB.up {M : nM} {o : Nat} {c : nC} : ExtB M (nup M o c) o := fun b x hb e => by rw [nup_ne hb]; exact e
theorem ExtB.trans {M M1 M2 : nM} {o : Nat} (h : ExtB M M1 o) (h2 : ExtB M1 M2 o) : ExtB M M2 o := fun b c hb e => h2 b c hb (h b c hb e)
theorem Ext.B {M M' : nM} (h : Ext M M') (o : Nat) : ExtB M M' o := fun b c _ e => h b c e
theorem nne {M : nM} {a b : Nat} {c : nC} (ha : M a = some c) (hb : M b = none) : a ≠ b := fun e => by rw [e, hb] at ha; cases ha
/-- the owner r stands and owns itself -/
def wo (M : nM) (r : Nat) : Prop := ∃ k x, M r = some ((r, k), x)
/-- the cells of owners that stand stay, but those of the owners S -/
def Kp (M M' : nM) (S : Nat → Prop) : Prop := ∀ b t e, M b = some (t, e) → wo M t.1 → ¬ S t.1 → M' b = some (t, e)
abbrev Nn : Nat → Prop := fun _ => False
theorem Kp.rf {M : nM} {S : Nat → Prop} : Kp M M S := fun _ _ _ h _ _ => h
theorem Kp.wo {M M' : nM} {S : Nat → Prop} (h : Kp M M' S) {r : Nat} (hw : wo M r) (hr : ¬ S r) : wo M' r := by
  obtain ⟨k, x, e⟩ := hw
  exact ⟨k, x, h r (r, k) x e ⟨k, x, e⟩ hr⟩
theorem Kp.trans {M M1 M2 : nM} {S : Nat → Prop} (h : Kp M M1 S) (h2 : Kp M1 M2 S) : Kp M M2 S := fun b t e hb hw hs => h2 b t e (h b t e hb hw hs) (h.wo hw hs) hs
theorem Kp.mono {M M' : nM} {S T : Nat → Prop} (h : Kp M M' S) (hST : ∀ r, S r → T r) : Kp M M' T := fun b t e hb hw hs => h b t e hb hw (fun z => hs (hST _ z))
theorem Kp.n {M M' : nM} {S : Nat → Prop} (h : Kp M M' Nn) : Kp M M' S := h.mono (fun _ z => z.elim)
theorem Kp.new {M : nM} {S : Nat → Prop} {q : Nat} {c : nC} (h : M q = none) : Kp M (nup M q c) S := fun b t e hb _ _ => by
  rw [nup_ne (fun z => by rw [z, h] at hb; cases hb)]; exact hb
theorem Kp.ow {M : nM} {S : Nat → Prop} {q : Nat} {t : Nat × Nat} {x y : va_E} (h : M q = some (t, x)) (hs : S t.1) : Kp M (nup M q (t, y)) S := fun b t' e hb _ hn => by
  rw [nup_ne (fun z => by rw [z, h] at hb; cases hb; exact hn hs)]; exact hb
/-- owners that don't stand count for nothing -/
theorem Kp.drop {M M' : nM} {S : Nat → Prop} {q : Nat} (h : Kp M M' (fun r => S r ∨ r = q)) (hq : M q = none) : Kp M M' S := fun b t e hb hw hs => by
  refine h b t e hb hw (fun z => z.elim hs (fun e => ?_))
  obtain ⟨k, x, hx⟩ := hw
  rw [e, hq] at hx; cases hx
theorem Ext.kp {M M' : nM} {S : Nat → Prop} (h : Ext M M') : Kp M M' S := fun b t e hb _ _ => h b _ hb
theorem ExtB.kp {M M' : nM} {S : Nat → Prop} {o : Nat} {t : Nat × Nat} {x : va_E} (h : ExtB M M' o) (ho : M o = some (t, x)) (hs : S t.1) : Kp M M' S := fun b t' e hb _ hn => h b _ (fun z => by rw [z, ho] at hb; cases hb; exact hn hs) hb
theorem RoadAt.wo {g : gG} {M : nM} {r : Nat} {A : RA} {f : Row} (h : RoadAt g M r A f) : wo M r := ⟨0, _, h.1⟩
theorem InnO.kp {M M' : nM} {S : Nat → Prop} {b k : Nat} {f : Row} (h : InnO M b f k) (hK : Kp M M' S) (hS : ¬ S b) : InnO M' b f k := hK b (b, 0) _ h ⟨0, _, h⟩ hS
theorem InnC.kp {M M' : nM} {S : Nat → Prop} {z : Option Nat} {k : Nat} {f : Row} (h : InnC M z f k) (hK : Kp M M' S) (hS : ∀ b, S b → ¬ oC M b 4) : InnC M' z f k := by
  rcases h with h | ⟨b, h1, h2, h3⟩
  · exact Or.inl h
  · exact Or.inr ⟨b, h1, h2, h3.kp hK (fun z => hS b z ⟨_, _, h3⟩)⟩
theorem LkAt.kp {g : gG} {M M' : nM} {S : Nat → Prop} {l ow n s : Nat} {tl : Nat × Nat} {f : Row} (h : LkAt g M l tl ow n s f) (hK : Kp M M' S) (h1 : wo M tl.1) (h2 : wo M ow) (h3 : ¬ S tl.1) (h4 : ¬ S ow) : LkAt g M' l tl ow n s f := by
  obtain ⟨a1, ⟨p, a2, a3⟩, ⟨q, a4, a5⟩⟩ := h
  exact ⟨hK _ _ _ a1 h1 h3, ⟨p, hK _ _ _ a2 h2 h4, a3⟩, ⟨q, hK _ _ _ a4 h2 h4, a5⟩⟩
theorem RoadAt.kp {g : gG} {M M' : nM} {S : Nat → Prop} {r : Nat} {A : RA} {f : Row} (h : RoadAt g M r A f) (hK : Kp M M' S) (hr : ¬ S r) (hS : ∀ b, S b → ¬ oC M b 4) : RoadAt g M' r A f := by
  have hw := h.wo
  obtain ⟨a1, ⟨p, a2, a3⟩, a4⟩ := h
  exact ⟨hK _ _ _ a1 hw hr, ⟨p, hK _ _ _ a2 hw hr, fun k hk => (a3 k hk).kp hK hS⟩, a4.kp hK hw hw hr hr⟩
theorem RoadAt.kn {g : gG} {M M' : nM} {r : Nat} {A : RA} {f : Row} (h : RoadAt g M r A f) (hK : Kp M M' Nn) : RoadAt g M' r A f := h.kp hK (fun z => z) (fun _ z => z.elim)
def lk0 : Row := fun x => if x = 53 then 0 else -1
def rw0 : Row := fun x => if x < 51 then 0 else lk0 x
def pre_X3_init (_ : gG) (tl : Nat × Nat) (_ : Nat) (M : nM) (o : Nat) : Prop := M o = some (tl, .inr (2, [.null, .null, .int 0, .int 0, .int 0]))
def post_X3_init (g : gG) (tl : Nat × Nat) (ow : Nat) (M : nM) (o : Nat) (M' : nM) : Prop := (∃ n s, LkAt g M' o tl ow n s lk0) ∧ ExtB M M' o
def pre_X3_take (g : gG) (tl : Nat × Nat) (ow nA sA : Nat) (f : Row) (tm : Nat × Nat) (om nB sB : Nat) (h : Row) (M : nM) (o l : Nat) : Prop := LkAt g M o tl ow nA sA f ∧ LkAt g M l tm om nB sB h ∧ ow ≠ om ∧ tl ≠ tm
def post_X3_take (g : gG) (tl : Nat × Nat) (ow nA sA : Nat) (_ : Row) (_ : Nat × Nat) (_ _ _ : Nat) (h : Row) (M : nM) (o _ : Nat) (M' : nM) : Prop := LkAt g M' o tl ow nA sA h ∧ ∀ b, b ≠ o → b ≠ nA → b ≠ sA → M' b = M b
def pre_X5_init (_ : gG) (M : nM) (o : Nat) (_ y _ : Int32) : Prop := (∃ t, M o = some (t, .inr (4, [.int 0, .int 0, .int 0]))) ∧ isB y
def post_X5_init (_ : gG) (M : nM) (o : Nat) (x y z : Int32) (M' : nM) : Prop := ∀ t c, M o = some (t, c) → M' = nup M o (t, .inr (4, [.int x, .int y, .int z]))
def pre_X5_opened (_ : gG) (x z : Int32) (M : nM) (o : Nat) (y : Int32) : Prop := fI M o 4 0 x ∧ fI M o 4 2 z ∧ isB y
def post_X5_opened (_ : gG) (x z : Int32) (M : nM) (_ : Nat) (y : Int32) (r : Option Nat) (M' : nM) : Prop := ∃ q, r = some q ∧ M q = none ∧ M' = nup M q ((q, 0), .inr (4, [.int x, .int y, .int z]))
def pre_X5_withLetters (_ : gG) (x y : Int32) (M : nM) (o : Nat) (_ : Int32) : Prop := fI M o 4 0 x ∧ fI M o 4 1 y ∧ isB y
def post_X5_withLetters (_ : gG) (x y : Int32) (M : nM) (_ : Nat) (z : Int32) (r : Option Nat) (M' : nM) : Prop := ∃ q, r = some q ∧ M q = none ∧ M' = nup M q ((q, 0), .inr (4, [.int x, .int y, .int z]))
def pre_X2_init (_ : gG) (M : nM) (o : Nat) : Prop := M o = some ((o, 0), .inr (1, [.null, .null, .int 0, .int 0, .int 0]))
def post_X2_init (g : gG) (M : nM) (o : Nat) (M' : nM) : Prop := (∃ A, RoadAt g M' o A rw0) ∧ ExtB M M' o
def pre_X2_copy (g : gG) (A : RA) (f : Row) (M : nM) (o : Nat) : Prop := RoadAt g M o A f
def post_X2_copy (g : gG) (_ : RA) (f : Row) (M : nM) (_ : Nat) (r : Option Nat) (M' : nM) : Prop := ∃ q A', r = some q ∧ M q = none ∧ RoadAt g M' q A' f ∧ Kp M M' Nn
def wpb_X3_init_32 (post : nM → Prop)  (g : gG) (tl : Nat × Nat) (ow : Nat) (o : Nat) : Nat → nM → Nat → Nat → Int32 → Prop
  | 0 => fun _ _ _ _ => False
  | n + 1 => fun M kc ks x1 => kc ≤ 2 ∧ ks ≤ 24 ∧ (12 ≤ x1 → post M) ∧ (¬ 12 ≤ x1 → ∃ v14, fR M o 2 0 (some v14) ∧ ∃ nf15 f15, aI g M v14 nf15 f15 ∧ vp_in x1 nf15 ∧ ∀ M16, aIW g M M16 v14 nf15 (upd f15 x1.toNatClampNeg (-1)) → ∃ v17, fR M16 o 2 1 (some v17) ∧ ∃ nf18 f18, aI g M16 v17 nf18 f18 ∧ vp_in x1 nf18 ∧ ∀ M19, aIW g M16 M19 v17 nf18 (upd f18 x1.toNatClampNeg (-1)) → ∀ z20, z20 = x1 + 1 → (wpb_X3_init_32 post  g tl ow o n) M19 kc ks z20)
def wp_X3_init (g : gG) (tl : Nat × Nat) (ow : Nat) (post : nM → Prop) (M : nM) (o : Nat) : Prop :=
  ∀ q1 M2, M q1 = none → M2 = nup M q1 ((fun _ => (ow, 3)) q1, .inl (g.2.2.2 0, 12, .inl (fun _ => 0))) → fL M2 o 2 0 ∧ ∀ M4, fW M2 M4 o 2 0 (.ref q1) → ∀ q5 M6, M4 q5 = none → M6 = nup M4 q5 ((fun _ => (ow, 4)) q5, .inl (g.2.2.2 0, 12, .inl (fun _ => 0))) → fL M6 o 2 1 ∧ ∀ M8, fW M6 M8 o 2 1 (.ref q5) → fL M8 o 2 2 ∧ ∀ M10, fW M8 M10 o 2 2 (.int (-1)) → fL M10 o 2 3 ∧ ∀ M12, fW M10 M12 o 2 3 (.int (-1)) → ∃ n_, wpb_X3_init_32 post  g tl ow o n_ M12 2 24 0

def wp_X3_take (g : gG) (tl : Nat × Nat) (ow : Nat) (nA : Nat) (sA : Nat) (f : Row) (tm : Nat × Nat) (om : Nat) (nB : Nat) (sB : Nat) (h : Row) (post : nM → Prop) (M : nM) (o : Nat) (lk : Nat) : Prop :=
  ∃ v1, fR M lk 2 0 (some v1) ∧ ∃ v2, fR M o 2 0 (some v2) ∧ ∃ nf3a f3a nf3b f3b, aI g M v1 nf3a f3a ∧ aI g M v2 nf3b f3b ∧ ¬ (0 : Int32) < 0 ∧ ¬ (0 : Int32) < 0 ∧ ¬ (12 : Int32) < 0 ∧ (0 : Int32).toNatClampNeg + (12 : Int32).toNatClampNeg ≤ nf3a ∧ (0 : Int32).toNatClampNeg + (12 : Int32).toNatClampNeg ≤ nf3b ∧ ∀ M4, aIW g M M4 v2 nf3b (va_cpy f3a f3b (0 : Int32).toNatClampNeg (0 : Int32).toNatClampNeg (12 : Int32).toNatClampNeg) → ∃ v5, fR M4 lk 2 1 (some v5) ∧ ∃ v6, fR M4 o 2 1 (some v6) ∧ ∃ nf7a f7a nf7b f7b, aI g M4 v5 nf7a f7a ∧ aI g M4 v6 nf7b f7b ∧ ¬ (0 : Int32) < 0 ∧ ¬ (0 : Int32) < 0 ∧ ¬ (12 : Int32) < 0 ∧ (0 : Int32).toNatClampNeg + (12 : Int32).toNatClampNeg ≤ nf7a ∧ (0 : Int32).toNatClampNeg + (12 : Int32).toNatClampNeg ≤ nf7b ∧ ∀ M8, aIW g M4 M8 v6 nf7b (va_cpy f7a f7b (0 : Int32).toNatClampNeg (0 : Int32).toNatClampNeg (12 : Int32).toNatClampNeg) → ∃ v9, fI M8 lk 2 2 v9 ∧ fL M8 o 2 2 ∧ ∀ M11, fW M8 M11 o 2 2 (.int v9) → ∃ v12, fI M11 lk 2 3 v12 ∧ fL M11 o 2 3 ∧ ∀ M14, fW M11 M14 o 2 3 (.int v12) → ∃ v15, fI M14 lk 2 4 v15 ∧ fL M14 o 2 4 ∧ ∀ M17, fW M14 M17 o 2 4 (.int v15) → post M17

def wp_X5_init (g : gG) (post : nM → Prop) (M : nM) (o : Nat) (x : Int32) (y : Int32) (z : Int32) : Prop :=
  fL M o 4 0 ∧ ∀ M2, fW M M2 o 4 0 (.int x) → isB y ∧ fL M2 o 4 1 ∧ ∀ M4, fW M2 M4 o 4 1 (.int y) → fL M4 o 4 2 ∧ ∀ M6, fW M4 M6 o 4 2 (.int z) → post M6

def wp_X5_opened (g : gG) (x : Int32) (z : Int32) (post : Option Nat → nM → Prop) (M : nM) (o : Nat) (y : Int32) : Prop :=
  ∀ q1 M2, M q1 = none → M2 = nup M q1 ((fun q => (q, 0)) q1, .inr (4, [.int 0, .int 0, .int 0])) → ∃ v3, fI M2 o 4 0 v3 ∧ ∃ v4, fI M2 o 4 2 v4 ∧ pre_X5_init g  M2 q1 v3 y v4 ∧ ∀ M6, post_X5_init g  M2 q1 v3 y v4 M6 → post (some q1) M6

def wp_X5_withLetters (g : gG) (x : Int32) (y : Int32) (post : Option Nat → nM → Prop) (M : nM) (o : Nat) (z : Int32) : Prop :=
  ∀ q1 M2, M q1 = none → M2 = nup M q1 ((fun q => (q, 0)) q1, .inr (4, [.int 0, .int 0, .int 0])) → ∃ v3, fI M2 o 4 0 v3 ∧ ∃ v4, fI M2 o 4 1 v4 ∧ pre_X5_init g  M2 q1 v3 v4 z ∧ ∀ M6, post_X5_init g  M2 q1 v3 v4 z M6 → post (some q1) M6

def wp_X2_init (g : gG) (post : nM → Prop) (M : nM) (o : Nat) : Prop :=
  ∀ q1 M2, M q1 = none → M2 = nup M q1 ((fun _ => (o, 1)) q1, .inl (g.2.2.2 3, 12, .inr (.inr (.inr (.inr (fun _ => none)))))) → fL M2 o 1 0 ∧ ∀ M4, fW M2 M4 o 1 0 (.ref q1) → ∀ q5 M6, M4 q5 = none → M6 = nup M4 q5 ((fun _ => (o, 2)) q5, .inr (2, [.null, .null, .int 0, .int 0, .int 0])) → ∃ g_7 : Nat × Nat, ∃ g_8 : Nat, pre_X3_init g g_7 g_8 M6 q5 ∧ ∀ M10, post_X3_init g g_7 g_8 M6 q5 M10 → fL M10 o 1 1 ∧ ∀ M12, fW M10 M12 o 1 1 (.ref q5) → post M12

def wp_X2_copy (g : gG) (A : RA) (f : Row) (post : Option Nat → nM → Prop) (M : nM) (o : Nat) : Prop :=
  ∀ q1 M2, M q1 = none → M2 = nup M q1 ((fun q => (q, 0)) q1, .inr (1, [.null, .null, .int 0, .int 0, .int 0])) → pre_X2_init g  M2 q1 ∧ ∀ M4, post_X2_init g  M2 q1 M4 → ∃ v5, fR M4 o 1 0 (some v5) ∧ ∃ v6, fR M4 q1 1 0 (some v6) ∧ ∃ nf7a f7a nf7b f7b, aQ g M4 3 v5 nf7a f7a ∧ aQ g M4 3 v6 nf7b f7b ∧ ¬ (0 : Int32) < 0 ∧ ¬ (0 : Int32) < 0 ∧ ¬ (12 : Int32) < 0 ∧ (0 : Int32).toNatClampNeg + (12 : Int32).toNatClampNeg ≤ nf7a ∧ (0 : Int32).toNatClampNeg + (12 : Int32).toNatClampNeg ≤ nf7b ∧ (∀ k y, k < nf7a → f7a k = some y → oC M4 y 4) ∧ ∀ M8, aQW g M4 M8 3 v6 nf7b (va_cpy f7a f7b (0 : Int32).toNatClampNeg (0 : Int32).toNatClampNeg (12 : Int32).toNatClampNeg) → ∃ v9, fR M8 q1 1 1 (some v9) ∧ ∃ v10, fR M8 o 1 1 (some v10) ∧ ∃ g_11 : Nat × Nat, ∃ g_12 : Nat, ∃ g_13 : Nat, ∃ g_14 : Nat, ∃ g_15 : Row, ∃ g_16 : Nat × Nat, ∃ g_17 : Nat, ∃ g_18 : Nat, ∃ g_19 : Nat, ∃ g_20 : Row, pre_X3_take g g_11 g_12 g_13 g_14 g_15 g_16 g_17 g_18 g_19 g_20 M8 v9 v10 ∧ oC M8 v9 2 ∧ ∀ M22, post_X3_take g g_11 g_12 g_13 g_14 g_15 g_16 g_17 g_18 g_19 g_20 M8 v9 v10 M22 → ∃ v23, fI M22 o 1 2 v23 ∧ fL M22 q1 1 2 ∧ ∀ M25, fW M22 M25 q1 1 2 (.int v23) → ∃ v26, fI M25 o 1 3 v26 ∧ fL M25 q1 1 3 ∧ ∀ M28, fW M25 M28 q1 1 3 (.int v26) → ∃ v29, fI M28 o 1 4 v29 ∧ fL M28 q1 1 4 ∧ ∀ M31, fW M28 M31 q1 1 4 (.int v29) → post (some q1) M31
theorem fW.eq {M M' : nM} {o ci k : Nat} {v : Value} {t : Nat × Nat} {ci' : Nat} {fs : List Value} (h : fW M M' o ci k v) (e : M o = some (t, .inr (ci', fs))) : M' = nup M o (t, .inr (ci', fs.set k v)) := by
  obtain ⟨t', fs', h1, h2⟩ := h
  rw [e] at h1
  cases h1
  exact h2
theorem aIW.eq {g : gG} {M M' : nM} {b n : Nat} {f : Row} {t : Nat × Nat} {x : va_E} (h : aIW g M M' b n f) (e : M b = some (t, x)) : M' = nup M b (t, .inl (g.2.2.2 0, n, .inl f)) := by
  obtain ⟨t', f0, h1, h2⟩ := h
  rw [e] at h1
  cases h1
  exact h2
theorem aQW.eq {g : gG} {M M' : nM} {t0 b n : Nat} {f : Nat → Option Nat} {t : Nat × Nat} {x : va_E} (h : aQW g M M' t0 b n f) (e : M b = some (t, x)) : M' = nup M b (t, .inl (g.2.2.2 t0, n, .inr (.inr (.inr (.inr f))))) := by
  obtain ⟨t', f0, h1, h2⟩ := h
  rw [e] at h1
  cases h1
  exact h2
theorem mne {M : nM} {a b : Nat} {c d : nC} (ha : M a = some c) (hb : M b = some d) (h : c ≠ d) : a ≠ b := fun e => by
  rw [e, hb] at ha
  exact h (Option.some.inj ha).symm
theorem tne {t t' : Nat × Nat} {x y : va_E} (h : t ≠ t') : ((t, x) : nC) ≠ (t', y) := fun e => h (Prod.mk.inj e).1
theorem kne {t t' : Nat × Nat} {x : ClassId × vp_A} {y : Nat × List Value} : ((t, .inl x) : nC) ≠ (t', .inr y) := fun e => by have := (Prod.mk.inj e).2; cases this
theorem kne' {t t' : Nat × Nat} {x : ClassId × vp_A} {y : Nat × List Value} : ((t, .inr y) : nC) ≠ (t', .inl x) := fun e => by have := (Prod.mk.inj e).2; cases this
theorem ExtB.upn {M M1 : nM} {o q : Nat} {c : nC} (h : ExtB M M1 o) (hq : M q = none) : ExtB M (nup M1 q c) o := fun b x hb e => by
  rw [nup_ne (nne e hq)]
  exact h b x hb e
theorem ExtB.upo {M M1 : nM} {o : Nat} {c : nC} (h : ExtB M M1 o) : ExtB M (nup M1 o c) o := fun b x hb e => by
  rw [nup_ne hb]
  exact h b x hb e
theorem ExtB.none {M M1 : nM} {o q : Nat} (h : ExtB M M1 o) (hq : M1 q = none) (ho : q ≠ o) : M q = none := by
  cases e : M q with
  | none => rfl
  | some c => rw [h q c ho e] at hq; cases hq
theorem Ext.none {M M1 : nM} {q : Nat} (h : Ext M M1) (hq : M1 q = none) : M q = none := by
  cases e : M q with
  | none => rfl
  | some c => rw [h q c e] at hq; cases hq
theorem nup_at {M M' : nM} {a b : Nat} {c : nC} {x : Option nC} (e : M' = nup M a c) (h : b ≠ a) (hb : M b = x) : M' b = x := by rw [e, nup_ne h]; exact hb
theorem nup_to {M M' : nM} {a : Nat} {c : nC} (e : M' = nup M a c) : M' a = some c := by rw [e, nup_self]
/-- the loop of Links' constructor -/
theorem lk_loop {g : gG} {tl : Nat × Nat} {ow o n s : Nat} {M0 : nM} (hn0 : M0 n = none) (hs0 : M0 s = none) : ∀ (N k : Nat) (M : nM) (h1 h2 : Row), N + k = 13 → k ≤ 12 → M o = some (tl, .inr (2, [.ref n, .ref s, .int (-1), .int (-1), .int 0])) → M n = some ((ow, 3), .inl (g.2.2.2 0, 12, .inl h1)) → M s = some ((ow, 4), .inl (g.2.2.2 0, 12, .inl h2)) → (∀ j, j < k → h1 j = -1 ∧ h2 j = -1) → ExtB M0 M o →
    wpb_X3_init_32 (fun M' => post_X3_init g tl ow M0 o M') g tl ow o N M 2 24 (nI k) := by
  intro N
  induction N with
  | zero => intro k M h1 h2 e1 e2; omega
  | succ N ih =>
    intro k M h1 h2 e1 e2 ho hn hs hj hE
    refine ⟨Nat.le_refl _, Nat.le_refl _, fun c => ⟨⟨n, s, ho, ⟨h1, hn, ?_⟩, ⟨h2, hs, ?_⟩⟩, hE⟩, fun c => ?_⟩
    · have := ge12 c e2
      subst this
      intro j hj2
      rw [(hj j hj2).1]
      show (-1 : Int32) = lk0 (54 + j)
      unfold lk0; rw [if_neg (by omega)]
    · have := ge12 c e2
      subst this
      intro j hj2
      rw [(hj j hj2).2]
      show (-1 : Int32) = lk0 (66 + j)
      unfold lk0; rw [if_neg (by omega)]
    · have hk := lt12 c e2
      have d1 : o ≠ n := mne ho hn kne'
      have d2 : o ≠ s := mne ho hs kne'
      have d3 : n ≠ s := mne hn hs (tne (fun e => by cases e))
      refine ⟨n, ⟨_, _, ho, rfl⟩, 12, h1, ⟨_, hn⟩, pl_12 hk, fun M1 w1 => ?_⟩
      have w1 := w1.eq hn
      have ho1 := nup_at w1 d1 ho
      have hs1 := nup_at w1 d3.symm hs
      have hn1 := nup_to w1
      refine ⟨s, ⟨_, _, ho1, rfl⟩, 12, h2, ⟨_, hs1⟩, pl_12 hk, fun M2 w2 z ez => ?_⟩
      have w2 := w2.eq hs1
      have ho2 := nup_at w2 d2 ho1
      have hn2 := nup_at w2 d3 hn1
      have hs2 := nup_to w2
      rw [ez, ← nI_succ]
      rw [cl_12 hk] at hn2 hs2
      refine ih (k + 1) M2 _ _ (by omega) (by omega) ho2 hn2 hs2 (fun j hj2 => ?_) ?_
      · by_cases e : j = k
        · subst e; exact ⟨if_pos rfl, if_pos rfl⟩
        · have := hj j (by omega)
          exact ⟨(if_neg e).trans this.1, (if_neg e).trans this.2⟩
      · rw [w2, w1]
        exact (hE.upn hn0).upn hs0
theorem pr_X3_init (g : gG) (tl : Nat × Nat) (ow : Nat) (M : nM) (o : Nat) (hpre : pre_X3_init g tl ow M o) : wp_X3_init g tl ow (fun M' => post_X3_init g tl ow M o M') M o := by
  have h0 : M o = some (tl, .inr (2, [.null, .null, .int 0, .int 0, .int 0])) := hpre
  intro n M1 hn e1
  have d1 : o ≠ n := nne h0 hn
  have o1 : M1 o = some (tl, .inr (2, [.null, .null, .int 0, .int 0, .int 0])) := by rw [e1, nup_ne d1]; exact h0
  have n1 : M1 n = some ((ow, 3), .inl (g.2.2.2 0, 12, .inl (fun _ => 0))) := by rw [e1, nup_self]
  refine ⟨⟨_, _, o1, (by decide : (0:Nat) < 5)⟩, fun M2 w2 => ?_⟩
  have w2 := w2.eq o1
  have o2 : M2 o = some (tl, .inr (2, [.ref n, .null, .int 0, .int 0, .int 0])) := by rw [w2, nup_self]; rfl
  have n2 := nup_at w2 d1.symm n1
  intro s M3 hs e3
  have d2 : o ≠ s := nne o2 hs
  have d3 : n ≠ s := nne n2 hs
  have o3 : M3 o = some (tl, .inr (2, [.ref n, .null, .int 0, .int 0, .int 0])) := by rw [e3, nup_ne d2]; exact o2
  have n3 := nup_at e3 d3 n2
  have s3 : M3 s = some ((ow, 4), .inl (g.2.2.2 0, 12, .inl (fun _ => 0))) := by rw [e3, nup_self]
  refine ⟨⟨_, _, o3, (by decide : (1:Nat) < 5)⟩, fun M4 w4 => ?_⟩
  have w4 := w4.eq o3
  have o4 : M4 o = some (tl, .inr (2, [.ref n, .ref s, .int 0, .int 0, .int 0])) := by rw [w4, nup_self]; rfl
  refine ⟨⟨_, _, o4, (by decide : (2:Nat) < 5)⟩, fun M5 w5 => ?_⟩
  have w5 := w5.eq o4
  have o5 : M5 o = some (tl, .inr (2, [.ref n, .ref s, .int (-1), .int 0, .int 0])) := by rw [w5, nup_self]; rfl
  refine ⟨⟨_, _, o5, (by decide : (3:Nat) < 5)⟩, fun M6 w6 => ⟨13, ?_⟩⟩
  have w6 := w6.eq o5
  have o6 : M6 o = some (tl, .inr (2, [.ref n, .ref s, .int (-1), .int (-1), .int 0])) := by rw [w6, nup_self]; rfl
  have hs0 : M s = none := by
    cases e : M s with
    | none => rfl
    | some c =>
      have : M2 s = some c := by
        rw [w2, nup_ne d2.symm, e1, nup_ne d3.symm]; exact e
      rw [this] at hs; cases hs
  refine lk_loop hn hs0 13 0 M6 (fun _ => 0) (fun _ => 0) rfl (by decide) o6 ?_ ?_ (fun j hj => absurd hj (Nat.not_lt_zero _)) ?_
  · rw [w6, nup_ne d1.symm, w5, nup_ne d1.symm, w4, nup_ne d1.symm]; exact n3
  · rw [w6, nup_ne d2.symm, w5, nup_ne d2.symm, w4, nup_ne d2.symm]; exact s3
  · rw [w6, w5, w4, e3, w2, e1]
    exact ((((ExtB.upn (fun b c _ e => e) hn).upo.upn hs0).upo).upo).upo
theorem cn0 : (0 : Int32).toNatClampNeg = 0 := rfl
theorem cn12 : (12 : Int32).toNatClampNeg = 12 := rfl
theorem nlt0 : ¬ (0 : Int32) < 0 := by decide
theorem nlt12 : ¬ (12 : Int32) < 0 := by decide
theorem cpy12 {α : Type} {f h : Nat → α} {k : Nat} (hk : k < 12) : va_cpy f h (0 : Int32).toNatClampNeg (0 : Int32).toNatClampNeg (12 : Int32).toNatClampNeg k = f k := by
  rw [cn0, cn12, pk_cpy_in (by omega) (by omega)]
  rw [Nat.sub_zero, Nat.zero_add]
theorem pr_X3_take (g : gG) (tl : Nat × Nat) (ow : Nat) (nA : Nat) (sA : Nat) (f : Row) (tm : Nat × Nat) (om : Nat) (nB : Nat) (sB : Nat) (h : Row) (M : nM) (o : Nat) (l : Nat) (hpre : pre_X3_take g tl ow nA sA f tm om nB sB h M o l) : wp_X3_take g tl ow nA sA f tm om nB sB h (fun M' => post_X3_take g tl ow nA sA f tm om nB sB h M o l M') M o l := by
  obtain ⟨⟨ho, ⟨p1, hn, hp1⟩, ⟨p2, hs, hp2⟩⟩, ⟨hl, ⟨q1, hnB, hq1⟩, ⟨q2, hsB, hq2⟩⟩, hw, ht⟩ := hpre
  have don : o ≠ nA := mne ho hn kne'
  have dos : o ≠ sA := mne ho hs kne'
  have dns : nA ≠ sA := mne hn hs (tne (fun e => by cases e))
  have dln : l ≠ nA := mne hl hn kne'
  have dls : l ≠ sA := mne hl hs kne'
  have dlo : l ≠ o := mne hl ho (tne (fun e => ht e.symm))
  have dsBn : sB ≠ nA := mne hsB hn (tne (fun e => by cases e))
  refine ⟨nB, ⟨_, _, hl, rfl⟩, nA, ⟨_, _, ho, rfl⟩, 12, q1, 12, p1, ⟨_, hnB⟩, ⟨_, hn⟩, nlt0, nlt0, nlt12, (by decide), (by decide), fun M1 w1 => ?_⟩
  have w1 := w1.eq hn
  have l1 := nup_at w1 dln hl
  have o1 := nup_at w1 don ho
  have s1 := nup_at w1 dns.symm hs
  have sB1 := nup_at w1 dsBn hsB
  have n1 := nup_to w1
  refine ⟨sB, ⟨_, _, l1, rfl⟩, sA, ⟨_, _, o1, rfl⟩, 12, q2, 12, p2, ⟨_, sB1⟩, ⟨_, s1⟩, nlt0, nlt0, nlt12, (by decide), (by decide), fun M2 w2 => ?_⟩
  have w2 := w2.eq s1
  have l2 := nup_at w2 dls l1
  have o2 := nup_at w2 dos o1
  have n2 := nup_at w2 dns n1
  have s2 := nup_to w2
  refine ⟨_, ⟨_, _, l2, rfl⟩, ⟨_, _, o2, (by decide : (2:Nat) < 5)⟩, fun M3 w3 => ?_⟩
  have w3 := w3.eq o2
  have l3 := nup_at w3 dlo l2
  have o3 := nup_to w3
  refine ⟨_, ⟨_, _, l3, rfl⟩, ⟨_, _, o3, (by decide : (3:Nat) < 5)⟩, fun M4 w4 => ?_⟩
  have w4 := w4.eq o3
  have l4 := nup_at w4 dlo l3
  have o4 := nup_to w4
  refine ⟨_, ⟨_, _, l4, rfl⟩, ⟨_, _, o4, (by decide : (4:Nat) < 5)⟩, fun M5 w5 => ?_⟩
  have w5 := w5.eq o4
  refine ⟨⟨nup_to w5, ⟨_, nup_at w5 don.symm (nup_at w4 don.symm (nup_at w3 don.symm n2)), fun k hk => ?_⟩, ⟨_, nup_at w5 dos.symm (nup_at w4 dos.symm (nup_at w3 dos.symm s2)), fun k hk => ?_⟩⟩, fun b h1 h2 h3 => ?_⟩
  · rw [cpy12 hk]; exact hq1 k hk
  · rw [cpy12 hk]; exact hq2 k hk
  · rw [w5, nup_ne h1, w4, nup_ne h1, w3, nup_ne h1, w2, nup_ne h3, w1, nup_ne h2]
theorem pr_X5_init (g : gG) (M : nM) (o : Nat) (x : Int32) (y : Int32) (z : Int32) (hpre : pre_X5_init g M o x y z) : wp_X5_init g (fun M' => post_X5_init g M o x y z M') M o x y z := by
  obtain ⟨⟨t, h⟩, hb⟩ := hpre
  refine ⟨⟨_, _, h, (by decide : (0:Nat) < 3)⟩, fun M1 w1 => ⟨hb, ?_⟩⟩
  have w1 := w1.eq h
  have o1 := nup_to w1
  refine ⟨⟨_, _, o1, (by decide : (1:Nat) < 3)⟩, fun M2 w2 => ?_⟩
  have w2 := w2.eq o1
  have o2 := nup_to w2
  refine ⟨⟨_, _, o2, (by decide : (2:Nat) < 3)⟩, fun M3 w3 => ?_⟩
  have w3 := w3.eq o2
  intro t' c e
  rw [h] at e
  cases e
  funext b
  by_cases hb : b = o
  · subst hb
    rw [nup_to w3, nup_self]; rfl
  · rw [w3, nup_ne hb, w2, nup_ne hb, w1, nup_ne hb, nup_ne hb]
theorem fI.ext {M M' : nM} {o ci k : Nat} {z : Int32} (h : fI M o ci k z) (hE : Ext M M') : fI M' o ci k z := by
  obtain ⟨t, fs, h1, h2⟩ := h
  exact ⟨t, fs, hE _ _ h1, h2⟩
theorem nup_nup {M : nM} {q : Nat} {c d : nC} : nup (nup M q c) q d = nup M q d := by
  funext b
  by_cases hb : b = q
  · subst hb; rw [nup_self, nup_self]
  · rw [nup_ne hb, nup_ne hb, nup_ne hb]
theorem pr_X5_opened (g : gG) (x : Int32) (z : Int32) (M : nM) (o : Nat) (y : Int32) (hpre : pre_X5_opened g x z M o y) : wp_X5_opened g x z (fun r M' => post_X5_opened g x z M o y r M') M o y := by
  obtain ⟨h1, h2, hb⟩ := hpre
  intro q M1 hq e1
  have hE : Ext M M1 := by rw [e1]; exact Ext.new hq
  refine ⟨x, h1.ext hE, z, h2.ext hE, ⟨⟨_, nup_to e1⟩, hb⟩, fun M2 w2 => ⟨q, rfl, hq, ?_⟩⟩
  rw [w2 _ _ (nup_to e1), e1, nup_nup]
theorem pr_X5_withLetters (g : gG) (x : Int32) (y : Int32) (M : nM) (o : Nat) (z : Int32) (hpre : pre_X5_withLetters g x y M o z) : wp_X5_withLetters g x y (fun r M' => post_X5_withLetters g x y M o z r M') M o z := by
  obtain ⟨h1, h2, hb⟩ := hpre
  intro q M1 hq e1
  have hE : Ext M M1 := by rw [e1]; exact Ext.new hq
  refine ⟨x, h1.ext hE, y, h2.ext hE, ⟨⟨_, nup_to e1⟩, hb⟩, fun M2 w2 => ⟨q, rfl, hq, ?_⟩⟩
  rw [w2 _ _ (nup_to e1), e1, nup_nup]
theorem pr_X2_init (g : gG) (M : nM) (o : Nat) (hpre : pre_X2_init g M o) : wp_X2_init g (fun M' => post_X2_init g M o M') M o := by
  have h0 : M o = some ((o, 0), .inr (1, [.null, .null, .int 0, .int 0, .int 0])) := hpre
  intro q M1 hq e1
  have doq : o ≠ q := nne h0 hq
  have o1 := nup_at e1 doq h0
  have q1 := nup_to e1
  refine ⟨⟨_, _, o1, (by decide : (0:Nat) < 5)⟩, fun M2 w2 => ?_⟩
  have w2 := w2.eq o1
  have o2 := nup_to w2
  have q2 := nup_at w2 doq.symm q1
  intro l M3 hl e3
  have dol : o ≠ l := nne o2 hl
  have dql : q ≠ l := nne q2 hl
  have o3 := nup_at e3 dol o2
  have q3 := nup_at e3 dql q2
  have hl0 : M l = none := by
    cases e : M l with
    | none => rfl
    | some c => rw [nup_at w2 dol.symm (nup_at e1 dql.symm e)] at hl; cases hl
  refine ⟨(o, 2), o, nup_to e3, fun M4 ⟨⟨n, s, hL⟩, hB⟩ => ?_⟩
  have o4 := hB o _ dol o3
  have q4 := hB q _ dql q3
  refine ⟨⟨_, _, o4, (by decide : (1:Nat) < 5)⟩, fun M5 w5 => ?_⟩
  have w5 := w5.eq o4
  obtain ⟨hL1, ⟨p1, hL2, hL3⟩, ⟨p2, hL4, hL5⟩⟩ := hL
  have dn : n ≠ o := (mne o4 hL2 kne').symm
  have ds : s ≠ o := (mne o4 hL4 kne').symm
  refine ⟨⟨(q, l, n, s), nup_to w5, ⟨fun _ => none, nup_at w5 doq.symm q4, fun k hk => Or.inl ⟨rfl, ?_⟩⟩, nup_at w5 dol.symm hL1, ⟨p1, nup_at w5 dn hL2, fun k hk => ?_⟩, ⟨p2, nup_at w5 ds hL4, fun k hk => ?_⟩⟩, ?_⟩
  · show rw0 (3 + k) = 0; unfold rw0; rw [if_pos (by omega)]
  · rw [hL3 k hk]; show _ = rw0 (54 + k); unfold rw0; rw [if_neg (by omega)]
  · rw [hL5 k hk]; show _ = rw0 (66 + k); unfold rw0; rw [if_neg (by omega)]
  · intro b c hb e
    rw [w5, nup_ne hb]
    refine hB b c (nne e hl0) ?_
    rw [e3, nup_ne (nne e hl0), w2, nup_ne hb, e1, nup_ne (nne e hq)]
    exact e
theorem pr_X2_copy (g : gG) (A : RA) (f : Row) (M : nM) (o : Nat) (hpre : pre_X2_copy g A f M o) : wp_X2_copy g A f (fun r M' => post_X2_copy g A f M o r M') M o := by
  have hR : RoadAt g M o A f := hpre
  intro q M1 hq e1
  refine ⟨nup_to e1, fun M2 ⟨⟨B, hQ⟩, hB⟩ => ?_⟩
  have k2 : Kp M M2 Nn := fun b t e hb _ _ => hB b _ (nne hb hq) (by rw [e1, nup_ne (nne hb hq)]; exact hb)
  have hR2 := hR.kn k2
  have doq : o ≠ q := nne hR.1 hq
  obtain ⟨p, hp, hpc⟩ := hR2.2.1
  obtain ⟨p0, hp0, -⟩ := hQ.2.1
  refine ⟨A.1, hR2.inns, B.1, hQ.inns, 12, p, 12, p0, ⟨_, hp⟩, ⟨_, hp0⟩, nlt0, nlt0, nlt12, (by decide), (by decide), fun k y hk hy => ?_, fun M3 w3 => ?_⟩
  · rcases hpc k hk with ⟨h, -⟩ | ⟨b, h, -, h2⟩
    · rw [h] at hy; cases hy
    · rw [h] at hy; cases hy
      exact ⟨_, _, h2⟩
  have w3 := w3.eq hp0
  have k3 : Kp M2 M3 (· = q) := by rw [w3]; exact Kp.ow hp0 rfl
  have hnq : ∀ N : nM, (∃ x, N q = some ((q, 0), .inr (1, x))) → ∀ b, b = q → ¬ oC N b 4 := fun N ⟨x, hx⟩ b e ⟨t, fs, h⟩ => by
    rw [e, hx] at h; cases h
  have hR3 := hR2.kp k3 doq (hnq M2 ⟨_, hQ.1⟩)
  have q3 := nup_at w3 (mne hQ.1 hp0 kne') hQ.1
  have i3 := nup_to w3
  have hL := hQ.2.2
  have l3 : LkAt g M3 B.2.1 (q, 2) q B.2.2.1 B.2.2.2 rw0 := by
    obtain ⟨a1, ⟨x, a2, a3⟩, ⟨y, a4, a5⟩⟩ := hL
    exact ⟨nup_at w3 (mne a1 hp0 kne') a1, ⟨x, nup_at w3 (mne a2 hp0 (tne (fun e => by cases e))) a2, a3⟩, ⟨y, nup_at w3 (mne a4 hp0 (tne (fun e => by cases e))) a4, a5⟩⟩
  have hd : (q, 2) ≠ (o, 2) := fun e => doq (Prod.mk.inj e).1.symm
  refine ⟨B.2.1, ⟨_, _, q3, rfl⟩, A.2.1, hR3.lks, (q, 2), q, B.2.2.1, B.2.2.2, rw0, (o, 2), o, A.2.2.1, A.2.2.2, f, ⟨l3, hR3.lk, doq.symm, hd⟩, l3.o, fun M4 ⟨l4, h4⟩ => ?_⟩
  have k4 : Kp M3 M4 (· = q) := fun b t e hb _ hn => by
    obtain ⟨a1, ⟨x, a2, a3⟩, ⟨y, a4, a5⟩⟩ := l3
    rw [h4 b (fun z => ?_) (fun z => ?_) (fun z => ?_)]; exact hb
    · rw [z, a1] at hb; cases hb; exact hn rfl
    · rw [z, a2] at hb; cases hb; exact hn rfl
    · rw [z, a4] at hb; cases hb; exact hn rfl
  have hR4 := hR3.kp k4 doq (hnq M3 ⟨_, q3⟩)
  have q4 := (h4 q (mne q3 l3.1 (tne (fun e => by cases e))) (mne q3 l3.2.1.choose_spec.1 kne') (mne q3 l3.2.2.choose_spec.1 kne')).trans q3
  have i4 := (h4 B.1 (mne i3 l3.1 kne) (mne i3 l3.2.1.choose_spec.1 (tne (fun e => by cases e))) (mne i3 l3.2.2.choose_spec.1 (tne (fun e => by cases e)))).trans i3
  refine ⟨_, hR4.rng, ⟨_, _, q4, (by decide : (2:Nat) < 5)⟩, fun M5 w5 => ?_⟩
  have w5 := w5.eq q4
  have q5 := nup_to w5
  have k5 : Kp M4 M5 (· = q) := by rw [w5]; exact Kp.ow q4 rfl
  have hR5 := hR4.kp k5 doq (hnq M4 ⟨_, q4⟩)
  refine ⟨_, hR5.rid, ⟨_, _, q5, (by decide : (3:Nat) < 5)⟩, fun M6 w6 => ?_⟩
  have w6 := w6.eq q5
  have q6 := nup_to w6
  have k6 : Kp M5 M6 (· = q) := by rw [w6]; exact Kp.ow q5 rfl
  have hR6 := hR5.kp k6 doq (hnq M5 ⟨_, q5⟩)
  refine ⟨_, hR6.del, ⟨_, _, q6, (by decide : (4:Nat) < 5)⟩, fun M7 w7 => ?_⟩
  have w7 := w7.eq q6
  have k7 : Kp M6 M7 (· = q) := by rw [w7]; exact Kp.ow q6 rfl
  have kk : Kp M M7 Nn := Kp.drop (q := q) (((k2.n.trans (k3.mono fun _ => Or.inr)).trans (k4.mono fun _ => Or.inr)).trans (((k5.mono fun _ => Or.inr).trans (k6.mono fun _ => Or.inr)).trans (k7.mono fun _ => Or.inr))) hq
  obtain ⟨a1, ⟨x, a2, a3⟩, ⟨y, a4, a5⟩⟩ := l4
  have dq : ∀ {b : Nat} {t : Nat × Nat} {z : va_E}, M4 b = some (t, z) → t ≠ (q, 0) → b ≠ q := fun h ht => mne h q4 (tne ht)
  have up : ∀ {b : Nat} {c : Option nC}, b ≠ q → M4 b = c → M7 b = c := fun hb h => nup_at w7 hb (nup_at w6 hb (nup_at w5 hb h))
  refine ⟨q, B, rfl, hq, ⟨nup_to w7, ⟨_, up (dq i4 (fun e => by cases e)) i4, fun k hk => ?_⟩, up (dq a1 (fun e => by cases e)) a1, ⟨x, up (dq a2 (fun e => by cases e)) a2, a3⟩, ⟨y, up (dq a4 (fun e => by cases e)) a4, a5⟩⟩, kk⟩
  rw [cpy12 hk]
  exact (hpc k hk).kp (k3.trans (k4.trans (k5.trans (k6.trans k7)))) (hnq M2 ⟨_, hQ.1⟩)
