set_option maxRecDepth 100000
/-! CLASS SIDE 5: a ride -/
/-- a ride's fields -/
def rdV (R : Bool × Nat × Nat × Int32 × Nat) : List Value := [.int (b2i R.1), .int (b2i (!R.1 && decide (0 < R.2.1))), .int (nI R.2.2.1), .int (nI (24 - R.2.1)), .int (nI R.2.2.2.2), .int R.2.2.2.1]
def pre_X9_init (g : gG) (A : RA) (f : Row) (M : nM) (o r : Nat) (x _ _ : Int32) : Prop := (∃ t, M o = some (t, .inr (8, [.int 0, .int 0, .int 0, .int 0, .int 0, .int 0]))) ∧ RoadAt g M r A f ∧ hasI f x = true ∧ RowOK f ∧ RowPt f
def post_X9_init (_ : gG) (_ : RA) (f : Row) (M : nM) (o _ : Nat) (x y w : Int32) (M' : nM) : Prop := ∀ t c, M o = some (t, c) → M' = nup M o (t, .inr (8, rdV (rdO (upd f 0 w) x y)))
def wpb_X9_init_157 (post : nM → Prop)  (g : gG) (A : RA) (f : Row) (o : Nat) (r : Nat) (x : Int32) (y : Int32) (w : Int32) (M : nM) (x5 : Int32) (x6 : Int32) (x7 : Int32) (x8 : Int32) (s0 : Int32) (s1 : Nat) : Prop :=
  isB s0 ∧ fL M s1 8 1 ∧ ∀ M24, fW M M24 s1 8 1 (.int s0) → fL M24 o 8 2 ∧ ∀ M26, fW M24 M26 o 8 2 (.int x5) → fL M26 o 8 3 ∧ ∀ M28, fW M26 M28 o 8 3 (.int x6) → fL M28 o 8 4 ∧ ∀ M30, fW M28 M30 o 8 4 (.int x8) → fL M30 o 8 5 ∧ ∀ M32, fW M30 M32 o 8 5 (.int x7) → post M32
def wpb_X9_init_156 (post : nM → Prop)  (g : gG) (A : RA) (f : Row) (o : Nat) (r : Nat) (x : Int32) (y : Int32) (w : Int32) (M : nM) (x5 : Int32) (x6 : Int32) (x7 : Int32) (x8 : Int32) (s0 : Nat) : Prop :=
  wpb_X9_init_157 post  g A f o r x y w M x5 x6 x7 x8 0 s0
def wpb_X9_init_135 (post : nM → Prop)  (g : gG) (A : RA) (f : Row) (o : Nat) (r : Nat) (x : Int32) (y : Int32) (w : Int32) (M : nM) (x5 : Int32) (x6 : Int32) (x7 : Int32) (x8 : Int32) (x9 : Int32) (s0 : Int32) (s1 : Nat) : Prop :=
  isB s0 ∧ fL M s1 8 0 ∧ ∀ M19, fW M M19 s1 8 0 (.int s0) → ∃ v20, fI M19 o 8 0 v20 ∧ (¬ v20 = 0 → wpb_X9_init_156 post  g A f o r x y w M19 x5 x6 x7 x8 o) ∧ (v20 = 0 → (¬ x9 = (-1) → wpb_X9_init_156 post  g A f o r x y w M19 x5 x6 x7 x8 o) ∧ (x9 = (-1) → wpb_X9_init_157 post  g A f o r x y w M19 x5 x6 x7 x8 1 o))
def wpb_X9_init_123 (post : nM → Prop)  (g : gG) (A : RA) (f : Row) (o : Nat) (r : Nat) (x : Int32) (y : Int32) (w : Int32) (M : nM) (x5 : Int32) (x6 : Int32) (x7 : Int32) (x8 : Int32) (x9 : Int32) : Prop :=
  (¬ x5 = y → wpb_X9_init_135 post  g A f o r x y w M x5 x6 x7 x8 x9 0 o) ∧ (x5 = y → wpb_X9_init_135 post  g A f o r x y w M x5 x6 x7 x8 x9 1 o)
def wpb_X9_init_118 (post : nM → Prop) (K36 : nM → Int32 → Int32 → Int32 → Int32 → Int32 → Prop) (g : gG) (A : RA) (f : Row) (o : Nat) (r : Nat) (x : Int32) (y : Int32) (w : Int32) (M : nM) (x5 : Int32) (x6 : Int32) (x7 : Int32) (x8 : Int32) (s0 : Int32) : Prop :=
  K36 M x5 x6 x7 x8 s0
def wpb_X9_init_90 (post : nM → Prop) (K36 : nM → Int32 → Int32 → Int32 → Int32 → Int32 → Prop) (g : gG) (A : RA) (f : Row) (o : Nat) (r : Nat) (x : Int32) (y : Int32) (w : Int32) (M : nM) (x6 : Int32) (x7 : Int32) (x9 : Int32) (s0 : Int32) (s1 : Int32) : Prop :=
  ∀ z33, z33 = (s1 + s0) → ∀ z34, z34 = x6 + 1 → (¬ x9 = y → ∃ g_36 : RA, ∃ g_37 : Row, pre_X2_stageEnd g g_36 g_37 M r x9 w ∧ oC M r 1 ∧ ∀ r38, post_X2_stageEnd g g_36 g_37 M r x9 w r38 → wpb_X9_init_118 post K36 g A f o r x y w M x9 z34 x7 z33 r38) ∧ (x9 = y → wpb_X9_init_118 post K36 g A f o r x y w M x9 z34 x7 z33 (-1))
def wpb_X9_init_36 (post : nM → Prop)  (g : gG) (A : RA) (f : Row) (o : Nat) (r : Nat) (x : Int32) (y : Int32) (w : Int32) : Nat → nM → Int32 → Int32 → Int32 → Int32 → Int32 → Prop
  | 0 => fun _ _ _ _ _ _ => False
  | n + 1 => fun M x5 x6 x7 x8 x9 => (x5 = y → wpb_X9_init_123 post  g A f o r x y w M x5 x6 x7 x8 x9) ∧ (¬ x5 = y → (x9 = (-1) → wpb_X9_init_123 post  g A f o r x y w M x5 x6 x7 x8 x9) ∧ (¬ x9 = (-1) → (24 ≤ x6 → wpb_X9_init_123 post  g A f o r x y w M x5 x6 x7 x8 x9) ∧ (¬ 24 ≤ x6 → ∃ g_8 : RA, ∃ g_9 : Row, pre_X2_distance g g_8 g_9 M r x5 x9 ∧ oC M r 1 ∧ ∀ r10, post_X2_distance g g_8 g_9 M r x5 x9 r10 → ∀ z11, z11 = (x7 + r10) → ∃ v12, fR M r 1 1 (some v12) ∧ ∃ v13, fR M v12 2 0 (some v13) ∧ ∃ nf14 f14, aI g M v13 nf14 f14 ∧ vp_in x5 nf14 ∧ ∀ z15, z15 = f14 x5.toNatClampNeg → (¬ x9 = z15 → wpb_X9_init_90 post (wpb_X9_init_36 post  g A f o r x y w n) g A f o r x y w M x6 z11 x9 1 x8) ∧ (x9 = z15 → wpb_X9_init_90 post (wpb_X9_init_36 post  g A f o r x y w n) g A f o r x y w M x6 z11 x9 0 x8))))
def wpb_X9_init_34 (post : nM → Prop)  (g : gG) (A : RA) (f : Row) (o : Nat) (r : Nat) (x : Int32) (y : Int32) (w : Int32) (M : nM) (x5 : Int32) (x6 : Int32) (x7 : Int32) (x8 : Int32) (s0 : Int32) : Prop :=
  ∃ n_, wpb_X9_init_36 post  g A f o r x y w n_ M x5 x6 x7 x8 s0
def wp_X9_init (g : gG) (A : RA) (f : Row) (post : nM → Prop) (M : nM) (o : Nat) (r : Nat) (x : Int32) (y : Int32) (w : Int32) : Prop :=
  (¬ x = y → ∃ g_2 : RA, ∃ g_3 : Row, pre_X2_stageEnd g g_2 g_3 M r x w ∧ oC M r 1 ∧ ∀ r4, post_X2_stageEnd g g_2 g_3 M r x w r4 → wpb_X9_init_34 post  g A f o r x y w M x 0 0 0 r4) ∧ (x = y → wpb_X9_init_34 post  g A f o r x y w M x 0 0 0 (-1))
theorem ride_end {g : gG} {A : RA} {f : Row} {M : nM} {o r : Nat} {x y w x5 x6 x7 x8 x9 : Int32} {t : Nat × Nat} (ho : M o = some (t, .inr (8, [.int 0, .int 0, .int 0, .int 0, .int 0, .int 0]))) {R : Bool × Nat × Nat × Int32 × Nat} (hR : rdO (upd f 0 w) x y = R) (h5 : x5 = nI R.2.2.1) (h6 : x6 = nI (24 - R.2.1)) (h7 : x7 = R.2.2.2.1) (h8 : x8 = nI R.2.2.2.2) (ha : (R.1 = true ↔ x5 = y)) (hs : R.1 = false → (x9 = -1 ↔ 0 < R.2.1)) :
    wpb_X9_init_123 (fun M' => post_X9_init g A f M o r x y w M') g A f o r x y w M x5 x6 x7 x8 x9 := by
  have tail : ∀ (M1 : nM) (v1 : Int32), M1 = nup M o (t, .inr (8, [.int (b2i R.1), .int 0, .int 0, .int 0, .int 0, .int 0])) → v1 = b2i (!R.1 && decide (0 < R.2.1)) → wpb_X9_init_157 (fun M' => post_X9_init g A f M o r x y w M') g A f o r x y w M1 x5 x6 x7 x8 v1 o := by
    intro M1 v1 e1 ev
    have o1 := nup_to e1
    refine ⟨by rw [ev]; exact isB_b _, ⟨_, _, o1, (by decide : (1:Nat) < 6)⟩, fun M2 w2 => ?_⟩
    have w2 := w2.eq o1
    have o2 := nup_to w2
    refine ⟨⟨_, _, o2, (by decide : (2:Nat) < 6)⟩, fun M3 w3 => ?_⟩
    have w3 := w3.eq o2
    have o3 := nup_to w3
    refine ⟨⟨_, _, o3, (by decide : (3:Nat) < 6)⟩, fun M4 w4 => ?_⟩
    have w4 := w4.eq o3
    have o4 := nup_to w4
    refine ⟨⟨_, _, o4, (by decide : (4:Nat) < 6)⟩, fun M5 w5 => ?_⟩
    have w5 := w5.eq o4
    have o5 := nup_to w5
    refine ⟨⟨_, _, o5, (by decide : (5:Nat) < 6)⟩, fun M6 w6 => ?_⟩
    have w6 := w6.eq o5
    intro t' c e
    rw [ho] at e
    cases e
    rw [hR, w6, w5, w4, w3, w2, e1, nup_nup, nup_nup, nup_nup, nup_nup, nup_nup, ev, h5, h6, h7, h8]
    rfl
  have mid : ∀ v0, v0 = b2i R.1 → wpb_X9_init_135 (fun M' => post_X9_init g A f M o r x y w M') g A f o r x y w M x5 x6 x7 x8 x9 v0 o := by
    intro v0 ev
    refine ⟨by rw [ev]; exact isB_b _, ⟨_, _, ho, (by decide : (0:Nat) < 6)⟩, fun M1 w1 => ?_⟩
    have w1 := w1.eq ho
    have o1 := nup_to w1
    have e1 : M1 = nup M o (t, .inr (8, [.int (b2i R.1), .int 0, .int 0, .int 0, .int 0, .int 0])) := by rw [w1, ev]; rfl
    refine ⟨v0, ⟨_, _, o1, rfl⟩, fun c => tail M1 0 e1 ?_, fun c => ⟨fun c2 => tail M1 0 e1 ?_, fun c2 => tail M1 1 e1 ?_⟩⟩
    · have : R.1 = true := b2i_1 (ev ▸ c)
      rw [this]; rfl
    · have hf : R.1 = false := b2i_0 (ev ▸ c)
      rw [hf, decide_eq_false (fun z => c2 ((hs hf).mpr z))]; rfl
    · have hf : R.1 = false := b2i_0 (ev ▸ c)
      rw [hf, decide_eq_true ((hs hf).mp c2)]; rfl
  refine ⟨fun c => mid 0 ?_, fun c => mid 1 ?_⟩
  · have : R.1 = false := Bool.eq_false_iff.mpr (fun z => c (ha.mp z))
    rw [this]; rfl
  · rw [ha.mpr c]; rfl
/-- the next inn, or -1 -/
def nxtE (f : Row) (y : Int32) (e : Nat) : Int32 := if nI e = y then -1 else stgE f (nI e)
theorem stgE_n {f : Row} {e : Nat} (he : e < 12) : stgE f (nI e) = if canF f (nI e) (ndF f e) = true then ndF f e else -1 := by
  unfold stgE
  rw [cl_12 he]
theorem hasN1 (f : Row) : hasI f (-1) = false := hasI_m1 f
theorem ride_loop {g : gG} {A : RA} {f : Row} {M : nM} {o r : Nat} {x y w : Int32} {t : Nat × Nat} (ho : M o = some (t, .inr (8, [.int 0, .int 0, .int 0, .int 0, .int 0, .int 0]))) (hR : RoadAt g M r A f) (hOK : RowOK f) (hPt : RowPt f) (hx : isPl x) : ∀ (n e sk : Nat) (mi : Int32), n ≤ 24 → e < 12 → f (3 + e) = 1 → rdO (upd f 0 w) x y = rdG (upd f 0 w) y n e mi sk →
    wpb_X9_init_36 (fun M' => post_X9_init g A f M o r x y w M') g A f o r x y w (n + 1) M (nI e) (nI (24 - n)) mi (nI sk) (nxtE (upd f 0 w) y e) := by
  intro n
  induction n with
  | zero =>
    intro e sk mi hn he h3 hG
    have es : rdG (upd f 0 w) y 0 e mi sk = (decide (nI e = y), 0, e, mi, sk) := rfl
    rw [es] at hG
    have fin : wpb_X9_init_123 (fun M' => post_X9_init g A f M o r x y w M') g A f o r x y w M (nI e) (nI (24 - 0)) mi (nI sk) (nxtE (upd f 0 w) y e) := by
      refine ride_end ho hG rfl rfl rfl rfl ⟨fun z => of_decide_eq_true z, fun z => decide_eq_true z⟩ (fun z => ?_)
      have hne : ¬ nI e = y := of_decide_eq_false z
      have h1 : (rdO (upd f 0 w) x y).1 = false := by rw [hG]; exact z
      have h2 : (rdO (upd f 0 w) x y).2.1 = 0 := by rw [hG]
      have hc := not_stuck hx h1 h2
      rw [hG] at hc
      have hc : canF (upd f 0 w) (nI e) (ndF (upd f 0 w) e) = true := hc
      unfold nxtE
      rw [if_neg hne, stgE_n he, if_pos hc]
      refine ⟨fun z => ?_, fun z => absurd z (Nat.lt_irrefl 0)⟩
      rw [z] at hc
      unfold canF at hc
      rw [hasN1] at hc
      exact Bool.noConfusion hc
    exact ⟨fun _ => fin, fun _ => ⟨fun _ => fin, fun _ => ⟨fun _ => fin, fun c => absurd (by decide : (24 : Int32) ≤ nI (24 - 0)) c⟩⟩⟩
  | succ n ih =>
    intro e sk mi hn he h3 hG
    have es : rdG (upd f 0 w) y (n + 1) e mi sk = if nI e = y then (true, n + 1, e, mi, sk) else if canF (upd f 0 w) (nI e) (ndF (upd f 0 w) e) = true then rdG (upd f 0 w) y n (ndF (upd f 0 w) e).toNatClampNeg (mi + dstF (upd f 0 w) e (ndF (upd f 0 w) e).toNatClampNeg) (sk + if canF (upd f 0 w) (nI e) (upd f 0 w (54 + e)) = true then 0 else 1) else (false, n + 1, e, mi, sk) := rfl
    rw [es] at hG
    refine ⟨fun c => ?_, fun c => ?_⟩
    · rw [if_pos c] at hG
      exact ride_end ho hG rfl rfl rfl rfl ⟨fun _ => c, fun _ => rfl⟩ (fun z => Bool.noConfusion z)
    · rw [if_neg c] at hG
      have en : nxtE (upd f 0 w) y e = if canF (upd f 0 w) (nI e) (ndF (upd f 0 w) e) = true then ndF (upd f 0 w) e else -1 := by
        unfold nxtE
        rw [if_neg c, stgE_n he]
      by_cases hc : canF (upd f 0 w) (nI e) (ndF (upd f 0 w) e) = true
      · rw [if_pos hc] at hG en
        have hh : hasI f (ndF (upd f 0 w) e) = true := by
          have := hc
          unfold canF at this
          rw [has_upd0] at this
          cases h : hasI f (ndF (upd f 0 w) e) with
          | true => rfl
          | false => rw [h] at this; exact Bool.noConfusion this
        obtain ⟨e2, he2, en2, h32⟩ := has_pl hh
        rw [en, en2]
        rw [en2, cl_12 he2, dst_upd0] at hG
        have hne : ¬ nI e2 = -1 := by
          have : ∀ y, y < 12 → ¬ nI y = -1 := by decide
          exact this e2 he2
        refine ⟨fun z => absurd z hne, fun _ => ⟨fun z => absurd z (nI_ge (a := 24 - (n + 1)) (b := 24) (by omega) (by decide)), fun _ => ?_⟩⟩
        refine ⟨A, f, ⟨hR, by rw [hasI_n he]; exact decide_eq_true h3, by rw [← en2]; exact hh⟩, hR.o, fun r1 e1 z1 ez1 => ?_⟩
        have e1 : r1 = dstF f (nI e).toNatClampNeg (nI e2).toNatClampNeg := e1
        rw [cl_12 he, cl_12 he2] at e1
        obtain ⟨q, hq, hqe⟩ := hR.lk.nxa
        have nx54 : upd f 0 w (54 + e) = f (54 + e) := upd0 (by omega)
        have n66 : upd f 0 w (66 + e) = f (66 + e) := upd0 (by omega)
        refine ⟨_, hR.lks, _, hR.lk.nx, 12, q, hq, pl_12 he, fun z2 ez2 => ?_⟩
        rw [cl_12 he, hqe e he] at ez2
        have step : ∀ s0, s0 = nI (if canF (upd f 0 w) (nI e) (upd f 0 w (54 + e)) = true then 0 else 1) → wpb_X9_init_90 (fun M' => post_X9_init g A f M o r x y w M') (wpb_X9_init_36 (fun M' => post_X9_init g A f M o r x y w M') g A f o r x y w (n + 1)) g A f o r x y w M (nI (24 - (n + 1))) z1 (nI e2) s0 (nI sk) := by
          intro s0 es0 z3 ez3 z4 ez4
          have e4 : z4 = nI (24 - n) := by rw [ez4, nI_1]; congr 1; omega
          have e3 : z3 = nI (sk + if canF (upd f 0 w) (nI e) (upd f 0 w (54 + e)) = true then 0 else 1) := by rw [ez3, es0, nI_add]
          have ee : z1 = mi + dstF f e e2 := by rw [ez1, e1]
          have go := ih e2 (sk + if canF (upd f 0 w) (nI e) (upd f 0 w (54 + e)) = true then 0 else 1) (mi + dstF f e e2) (by omega) he2 h32 hG
          rw [← e4, ← e3, ← ee] at go
          refine ⟨fun c4 => ⟨A, f, ⟨hR, by rw [hasI_n he2]; exact decide_eq_true h32, hOK, hPt⟩, hR.o, fun r5 e5 => ?_⟩, fun c4 => ?_⟩
          · have e5 : r5 = stgE (upd f 0 w) (nI e2) := e5
            have : nxtE (upd f 0 w) y e2 = r5 := by unfold nxtE; rw [if_neg c4, e5]
            rw [this] at go
            exact go
          · have : nxtE (upd f 0 w) y e2 = -1 := by unfold nxtE; rw [if_pos c4]
            rw [this] at go
            exact go
        have nd : ndF (upd f 0 w) e = if canF (upd f 0 w) (nI e) (upd f 0 w (54 + e)) = true then upd f 0 w (54 + e) else upd f 0 w (66 + e) := rfl
        refine ⟨fun c3 => step 1 ?_, fun c3 => step 0 ?_⟩
        · by_cases cc : canF (upd f 0 w) (nI e) (upd f 0 w (54 + e)) = true
          · rw [if_pos cc, nx54] at nd
            exact absurd (en2.symm.trans (nd.trans ez2.symm)) c3
          · rw [if_neg cc]; rfl
        · by_cases cc : canF (upd f 0 w) (nI e) (upd f 0 w (54 + e)) = true
          · rw [if_pos cc]; rfl
          · have : canF (upd f 0 w) (nI e) (upd f 0 w (54 + e)) = true := by
              rw [nx54, ← ez2, ← c3, ← en2]; exact hc
            exact absurd this cc
      · rw [if_neg hc] at hG en
        rw [en]
        refine ⟨fun _ => ride_end ho hG rfl rfl rfl rfl ⟨fun z => Bool.noConfusion z, fun z => absurd z c⟩ (fun _ => ⟨fun _ => Nat.succ_pos n, fun _ => rfl⟩), fun z => absurd rfl z⟩
theorem pr_X9_init (g : gG) (A : RA) (f : Row) (M : nM) (o : Nat) (r : Nat) (x : Int32) (y : Int32) (w : Int32) (hpre : pre_X9_init g A f M o r x y w) : wp_X9_init g A f (fun M' => post_X9_init g A f M o r x y w M') M o r x y w := by
  obtain ⟨⟨t, ho⟩, hR, hx, hOK, hPt⟩ := hpre
  obtain ⟨e, he, rfl, h3⟩ := has_pl hx
  have hG : rdO (upd f 0 w) (nI e) y = rdG (upd f 0 w) y 24 e 0 0 := by unfold rdO; rw [cl_12 he]
  have go := ride_loop ho hR hOK hPt (w := w) (y := y) (x := nI e) ⟨e, he, rfl⟩ 24 e 0 0 (Nat.le_refl _) he h3 hG
  refine ⟨fun c => ⟨A, f, ⟨hR, hx, hOK, hPt⟩, hR.o, fun r1 e1 => ⟨25, ?_⟩⟩, fun c => ⟨25, ?_⟩⟩
  · have e1 : r1 = stgE (upd f 0 w) (nI e) := e1
    have : nxtE (upd f 0 w) y e = r1 := by unfold nxtE; rw [if_neg c, e1]
    rw [this] at go
    exact go
  · have : nxtE (upd f 0 w) y e = -1 := by unfold nxtE; rw [if_pos c]
    rw [this] at go
    exact go
