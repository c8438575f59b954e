set_option maxRecDepth 100000
/-! PURE 16: the written text -/
def tlen (i : Nat → Int32) : Nat := (i 19).toNatClampNeg
/-- l is written behind the text -/
def wrt (i : Nat → Int32) (a : Nat → Nat → Int32) (q : Nat → Nat) (l : List Int32) : MSt := (upd i 19 (nI (tlen i + l.length)), setR a 9 (putL (a 9) (tlen i) l), q)
def WT (i : Nat → Int32) (n : Nat) : Prop := ∃ N, i 19 = nI N ∧ N + n ≤ 800
def digL (v : Nat) : List Int32 := if v < 10 then [nI (48 + v)] else if v < 100 then [nI (48 + v / 10), nI (48 + v % 10)] else [nI (48 + v / 10 / 10), nI (48 + v / 10 % 10), nI (48 + v % 10)]
def numL (x : Int32) : List Int32 := 32 :: digL x.toNatClampNeg
def ptL (x : Int32) : List Int32 := if x = -1 then tx__20__2d_ else numL x
def inL (f : Row) (k : Nat) : List Int32 :=
  tx__3b_inn ++ (numL (nI k) ++ (numL (f (15 + k)) ++ ((if f (27 + k) = 1 then tx_ else tx__20_closed) ++ (if f (39 + k) ≤ 0 then [] else tx__20_letters ++ numL (f (39 + k))))))
def wrF (f : Row) (c : Nat) : Bool := stoF f c && decide (f c ≠ rebF f c)
def rowL (w : List Int32) (f : Row) (r : Nat) : Nat → Nat → List Int32
  | 0, _ => []
  | n + 1, k => (if wrF f (r + k) = true then w ++ (numL (nI k) ++ ptL (f (r + k))) else []) ++ rowL w f r n (k + 1)
def insL (f : Row) : Nat → Nat → List Int32
  | 0, _ => []
  | n + 1, k => (if f (3 + k) = 1 then inL f k else []) ++ insL f n (k + 1)
def wriL (f : Row) : List Int32 :=
  tx_road ++ (numL (f 0) ++ (insL f 12 0 ++ ((if wrF f 51 = true then tx__3b_first ++ ptL (f 51) else []) ++ ((if wrF f 52 = true then tx__3b_second ++ ptL (f 52) else []) ++ ((if wrF f 53 = true then tx__3b_count ++ numL (f 53) else []) ++ (rowL tx__3b_next f 54 12 0 ++ rowL tx__3b_skip f 66 12 0))))))
def RowPt (f : Row) : Prop := (∃ r, r ≤ 999 ∧ f 0 = nI r) ∧ isPt (f 51) ∧ isPt (f 52) ∧ (∃ c, c ≤ 12 ∧ f 53 = nI c) ∧ ∀ k, k < 12 → isPt (f (54 + k)) ∧ isPt (f (66 + k))
def opWrt (S : AM) : OR := (0, nI (wriL S.1).length, (S.1, S.2.1, S.2.2.1, S.2.2.2.1, ((wriL S.1).length, putL S.2.2.2.2.2 0 (wriL S.1))))
def pre_X6_writesByte (i : Nat → Int32) (_ : Nat → Nat → Int32) (_ : Nat → Nat) (x : Int32) : Prop := WT i 1 ∧ ∃ c, c < 128 ∧ x = nI c
def post_X6_writesByte (i : Nat → Int32) (a : Nat → Nat → Int32) (q : Nat → Nat) (x : Int32) (u : MSt) : Prop := u = wrt i a q [x]
def pre_X6_writes (i : Nat → Int32) (_ : Nat → Nat → Int32) (_ : Nat → Nat) (w : List Int32) : Prop := WT i w.length ∧ asc w
def post_X6_writes (i : Nat → Int32) (a : Nat → Nat → Int32) (q : Nat → Nat) (w : List Int32) (u : MSt) : Prop := u = wrt i a q w
def pre_X6_writesDigits_m (_ : Nat → Int32) (_ : Nat → Nat → Int32) (_ : Nat → Nat) (_ : Int32) : Prop := False
def pre_X6_writesDigits_0 (i : Nat → Int32) (_ : Nat → Nat → Int32) (_ : Nat → Nat) (x : Int32) : Prop := ∃ v, v < 10 ∧ x = nI v ∧ WT i (digL v).length
def pre_X6_writesDigits_1 (i : Nat → Int32) (_ : Nat → Nat → Int32) (_ : Nat → Nat) (x : Int32) : Prop := ∃ v, v < 100 ∧ x = nI v ∧ WT i (digL v).length
def pre_X6_writesDigits (i : Nat → Int32) (_ : Nat → Nat → Int32) (_ : Nat → Nat) (x : Int32) : Prop := ∃ v, v < 1000 ∧ x = nI v ∧ WT i (digL v).length
def post_X6_writesDigits (i : Nat → Int32) (a : Nat → Nat → Int32) (q : Nat → Nat) (x : Int32) (u : MSt) : Prop := u = wrt i a q (digL x.toNatClampNeg)
def pre_X6_writesNumber (i : Nat → Int32) (_ : Nat → Nat → Int32) (_ : Nat → Nat) (x : Int32) : Prop := ∃ v, v < 1000 ∧ x = nI v ∧ WT i (numL x).length
def post_X6_writesNumber (i : Nat → Int32) (a : Nat → Nat → Int32) (q : Nat → Nat) (x : Int32) (u : MSt) : Prop := u = wrt i a q (numL x)
def pre_X6_writesPointer (i : Nat → Int32) (_ : Nat → Nat → Int32) (_ : Nat → Nat) (x : Int32) : Prop := isPt x ∧ WT i (ptL x).length
def post_X6_writesPointer (i : Nat → Int32) (a : Nat → Nat → Int32) (q : Nat → Nat) (x : Int32) (u : MSt) : Prop := u = wrt i a q (ptL x)
def pre_X6_writesInn (i : Nat → Int32) (a : Nat → Nat → Int32) (_ : Nat → Nat) (x : Int32) : Prop := RowOK (a 1) ∧ ∃ k, k < 12 ∧ x = nI k ∧ a 1 (3 + k) = 1 ∧ WT i (inL (a 1) k).length
def post_X6_writesInn (i : Nat → Int32) (a : Nat → Nat → Int32) (q : Nat → Nat) (x : Int32) (u : MSt) : Prop := u = wrt i a q (inL (a 1) x.toNatClampNeg)
def pre_X6_isWrong (_ : Nat → Int32) (a : Nat → Nat → Int32) (_ : Nat → Nat) (x : Int32) : Prop := a 4 = rebF (a 1) ∧ ∃ k, k < 78 ∧ x = nI k
def post_X6_isWrong (_ : Nat → Int32) (a : Nat → Nat → Int32) (_ : Nat → Nat) (x r : Int32) : Prop := r = b2i (wrF (a 1) x.toNatClampNeg)
def pre_X6_writesRow (i : Nat → Int32) (a : Nat → Nat → Int32) (_ : Nat → Nat) (w : List Int32) (x : Int32) : Prop := RowPt (a 1) ∧ a 4 = rebF (a 1) ∧ asc w ∧ ∃ r, (r = 54 ∨ r = 66) ∧ x = nI r ∧ WT i (rowL w (a 1) r 12 0).length
def post_X6_writesRow (i : Nat → Int32) (a : Nat → Nat → Int32) (q : Nat → Nat) (w : List Int32) (x : Int32) (u : MSt) : Prop := u = wrt i a q (rowL w (a 1) x.toNatClampNeg 12 0)
def pre_X6_write (i : Nat → Int32) (a : Nat → Nat → Int32) (q : Nat → Nat) : Prop := (∃ t S, MAb i a q t S) ∧ RowOK (a 1) ∧ RowPt (a 1)
def post_X6_write (i : Nat → Int32) (a : Nat → Nat → Int32) (q : Nat → Nat) (r : Int32) (u : MSt) : Prop := ∀ t S, MAb i a q t S → OpR (opWrt S) r u
def wp_X6_writesByte (post : MSt → Prop) (i : Nat → Int32) (a : Nat → Nat → Int32) (q : Nat → Nat) (x : Int32) : Prop :=
  vp_in (i 19) 800 ∧ ∀ a1, a1 = updA a 9 (i 19).toNatClampNeg x.toInt8.toInt32.toInt8.toInt32 → ∀ i2, i2 = upd i 19 ((i 19) + 1) → post (i2, a1, q)

def wpb_X6_writes_2 (post : MSt → Prop)  (w : List Int32) : Nat → (Nat → Int32) → (Nat → Nat → Int32) → (Nat → Nat) → Int32 → Prop
  | 0 => fun _ _ _ _ => False
  | n + 1 => fun i a q x2 => ∀ r1, r1 = nI (w).length → (r1 ≤ x2 → post (i, a, q)) ∧ (¬ r1 ≤ x2 → vp_in x2 (w).length ∧ ∀ r3, r3 = (w).getD x2.toNatClampNeg 0 → pre_X6_writesByte i a q r3 ∧ ∀ i5 a6 q7, post_X6_writesByte i a q r3 (i5, a6, q7) → ∀ z8, z8 = x2 + 1 → (wpb_X6_writes_2 post  w n) i5 a6 q7 z8)
def wp_X6_writes (post : MSt → Prop) (i : Nat → Int32) (a : Nat → Nat → Int32) (q : Nat → Nat) (w : List Int32) : Prop :=
  ∃ n, wpb_X6_writes_2 post  w n i a q 0

def wpb_X6_writesDigits_0_14 (post : MSt → Prop)  (x : Int32) (i : Nat → Int32) (a : Nat → Nat → Int32) (q : Nat → Nat)  : Prop :=
  pre_X6_writesByte i a q (48 + (x - x / 10 * 10)) ∧ ∀ i7 a8 q9, post_X6_writesByte i a q (48 + (x - x / 10 * 10)) (i7, a8, q9) → post (i7, a8, q9)
def wp_X6_writesDigits_0 (post : MSt → Prop) (i : Nat → Int32) (a : Nat → Nat → Int32) (q : Nat → Nat) (x : Int32) : Prop :=
  (x ≤ 9 → wpb_X6_writesDigits_0_14 post  x i a q) ∧ (¬ x ≤ 9 → pre_X6_writesDigits_m i a q (x / 10) ∧ ∀ i3 a4 q5, post_X6_writesDigits i a q (x / 10) (i3, a4, q5) → wpb_X6_writesDigits_0_14 post  x i3 a4 q5)

def wpb_X6_writesDigits_1_14 (post : MSt → Prop)  (x : Int32) (i : Nat → Int32) (a : Nat → Nat → Int32) (q : Nat → Nat)  : Prop :=
  pre_X6_writesByte i a q (48 + (x - x / 10 * 10)) ∧ ∀ i7 a8 q9, post_X6_writesByte i a q (48 + (x - x / 10 * 10)) (i7, a8, q9) → post (i7, a8, q9)
def wp_X6_writesDigits_1 (post : MSt → Prop) (i : Nat → Int32) (a : Nat → Nat → Int32) (q : Nat → Nat) (x : Int32) : Prop :=
  (x ≤ 9 → wpb_X6_writesDigits_1_14 post  x i a q) ∧ (¬ x ≤ 9 → pre_X6_writesDigits_0 i a q (x / 10) ∧ ∀ i3 a4 q5, post_X6_writesDigits i a q (x / 10) (i3, a4, q5) → wpb_X6_writesDigits_1_14 post  x i3 a4 q5)

def wpb_X6_writesDigits_14 (post : MSt → Prop)  (x : Int32) (i : Nat → Int32) (a : Nat → Nat → Int32) (q : Nat → Nat)  : Prop :=
  pre_X6_writesByte i a q (48 + (x - x / 10 * 10)) ∧ ∀ i7 a8 q9, post_X6_writesByte i a q (48 + (x - x / 10 * 10)) (i7, a8, q9) → post (i7, a8, q9)
def wp_X6_writesDigits (post : MSt → Prop) (i : Nat → Int32) (a : Nat → Nat → Int32) (q : Nat → Nat) (x : Int32) : Prop :=
  (x ≤ 9 → wpb_X6_writesDigits_14 post  x i a q) ∧ (¬ x ≤ 9 → pre_X6_writesDigits_1 i a q (x / 10) ∧ ∀ i3 a4 q5, post_X6_writesDigits i a q (x / 10) (i3, a4, q5) → wpb_X6_writesDigits_14 post  x i3 a4 q5)

def wp_X6_writesNumber (post : MSt → Prop) (i : Nat → Int32) (a : Nat → Nat → Int32) (q : Nat → Nat) (x : Int32) : Prop :=
  pre_X6_writesByte i a q 32 ∧ ∀ i2 a3 q4, post_X6_writesByte i a q 32 (i2, a3, q4) → pre_X6_writesDigits i2 a3 q4 x ∧ ∀ i6 a7 q8, post_X6_writesDigits i2 a3 q4 x (i6, a7, q8) → post (i6, a7, q8)

def wp_X6_writesPointer (post : MSt → Prop) (i : Nat → Int32) (a : Nat → Nat → Int32) (q : Nat → Nat) (x : Int32) : Prop :=
  (¬ x = (-1) → pre_X6_writesNumber i a q x ∧ ∀ i3 a4 q5, post_X6_writesNumber i a q x (i3, a4, q5) → post (i3, a4, q5)) ∧ (x = (-1) → pre_X6_writes i a q tx__20__2d_ ∧ ∀ i8 a9 q10, post_X6_writes i a q tx__20__2d_ (i8, a9, q10) → post (i8, a9, q10))
theorem b8_id {c : Nat} (h : c < 128) : (nI c).toInt8.toInt32 = nI c := by
  have : ∀ c, c < 128 → (nI c).toInt8.toInt32 = nI c := by decide
  exact this c h
theorem WT.tl {i : Nat → Int32} {n : Nat} (h : WT i n) : i 19 = nI (tlen i) ∧ tlen i + n ≤ 800 := by
  obtain ⟨N, e, hN⟩ := h
  have : tlen i = N := by unfold tlen; rw [e, nI_clamp (by omega)]
  rw [this]
  exact ⟨e, hN⟩
theorem wrt_wrt {i : Nat → Int32} {a : Nat → Nat → Int32} {q : Nat → Nat} {s t : List Int32} (h : WT i (s.length + t.length)) : wrt (wrt i a q s).1 (wrt i a q s).2.1 (wrt i a q s).2.2 t = wrt i a q (s ++ t) := by
  obtain ⟨h1, h2⟩ := h.tl
  have e : tlen (upd i 19 (nI (tlen i + s.length))) = tlen i + s.length := by
    show (nI (tlen i + s.length)).toNatClampNeg = _
    exact nI_clamp (by omega)
  unfold wrt
  dsimp only
  rw [e, upd_upd, setR_self, setR_setR, ← putL_app, List.length_append, Nat.add_assoc]
theorem WT.mid {i : Nat → Int32} {a : Nat → Nat → Int32} {q : Nat → Nat} {s : List Int32} {n : Nat} (h : WT i (s.length + n)) : WT (wrt i a q s).1 n := by
  obtain ⟨h1, h2⟩ := h.tl
  exact ⟨tlen i + s.length, rfl, by omega⟩
theorem WT.lo {i : Nat → Int32} {m n : Nat} (h : WT i m) (hn : n ≤ m) : WT i n := by
  obtain ⟨N, h1, h2⟩ := h
  exact ⟨N, h1, by omega⟩
theorem wrt_nil {i : Nat → Int32} {a : Nat → Nat → Int32} {q : Nat → Nat} (h : WT i 0) : wrt i a q [] = (i, a, q) := by
  obtain ⟨h1, h2⟩ := h.tl
  show (upd i 19 (nI (tlen i + 0)), setR a 9 (a 9), q) = _
  rw [setR_id, Nat.add_zero, upd_same h1]
theorem pr_X6_writesByte (i : Nat → Int32) (a : Nat → Nat → Int32) (q : Nat → Nat) (x : Int32) (hpre : pre_X6_writesByte i a q x) : wp_X6_writesByte (fun u => post_X6_writesByte i a q x u) i a q x := by
  obtain ⟨h, c, hc, ec⟩ := hpre
  obtain ⟨h1, h2⟩ := h.tl
  unfold wp_X6_writesByte
  rw [h1, nI_clamp (by omega)]
  refine ⟨vp_in_nI (by omega) (by omega), fun a1 e1 i2 e2 => ?_⟩
  rw [e2, e1, Int8.toInt8_toInt32, ec, b8_id hc, nI_1]
  rfl
theorem pr_X6_writes (i : Nat → Int32) (a : Nat → Nat → Int32) (q : Nat → Nat) (w : List Int32) (hpre : pre_X6_writes i a q w) : wp_X6_writes (fun u => post_X6_writes i a q w u) i a q w := by
  obtain ⟨h, ha⟩ := hpre
  obtain ⟨h1, h2⟩ := h.tl
  have key : ∀ n k, k + n = w.length → wpb_X6_writes_2 (fun u => post_X6_writes i a q w u) w (n + 1) (wrt i a q (w.take k)).1 (wrt i a q (w.take k)).2.1 (wrt i a q (w.take k)).2.2 (nI k) := by
    intro n
    induction n with
    | zero =>
      intro k hk r1 e1
      rw [e1, show k = w.length by omega, List.take_length]
      exact ⟨fun _ => rfl, fun h => absurd (Int32.le_refl _) h⟩
    | succ n ih =>
      intro k hk r1 e1
      have hkl : k < w.length := by omega
      have htk : (w.take k).length = k := by rw [List.length_take]; omega
      rw [e1]
      refine ⟨fun h => absurd h (nI_ge (by omega) (by omega)), fun _ => ⟨vp_in_nI hkl (by omega), fun r3 e3 => ?_⟩⟩
      have er : r3 = w[k] := by
        rw [e3, nI_clamp (by omega), List.getD_eq_getElem?_getD, List.getElem?_eq_getElem hkl]; rfl
      refine ⟨⟨(h.lo (n := (w.take k).length + 1) (by omega)).mid, ?_⟩, fun i5 a6 q7 h5 z8 e8 => ?_⟩
      · rw [er]; exact ha _ (List.getElem_mem hkl)
      · have h5 : (i5, a6, q7) = wrt (wrt i a q (w.take k)).1 (wrt i a q (w.take k)).2.1 (wrt i a q (w.take k)).2.2 [r3] := h5
        rw [wrt_wrt (h.lo (by rw [htk]; show k + 1 ≤ _; omega)), er, List.take_append_getElem hkl] at h5
        rw [e8, nI_1]
        have := ih (k + 1) (by omega)
        rw [← h5] at this
        exact this
  have := key w.length 0 (Nat.zero_add _)
  rw [List.take_zero, wrt_nil (h.lo (Nat.zero_le _))] at this
  exact ⟨_, this⟩
theorem nI_div10 {v : Nat} (h : v < 1000) : nI v / 10 = nI (v / 10) ∧ nI v - nI v / 10 * 10 = nI (v % 10) := by
  have : ∀ v, v < 1000 → nI v / 10 = nI (v / 10) ∧ nI v - nI v / 10 * 10 = nI (v % 10) := by decide
  exact this v h
theorem digL_step {v : Nat} (h : 10 ≤ v) (h2 : v < 1000) : digL v = digL (v / 10) ++ [nI (48 + v % 10)] := by
  unfold digL
  rw [if_neg (by omega)]
  by_cases c : v < 100
  · rw [if_pos c, if_pos (by omega)]; rfl
  · rw [if_neg c, if_neg (by omega), if_pos (by omega)]; rfl
theorem digL_len (v : Nat) : 1 ≤ (digL v).length ∧ (digL v).length ≤ 3 := by
  unfold digL
  split
  · simp
  split <;> simp
theorem dig_end {i : Nat → Int32} {a : Nat → Nat → Int32} {q : Nat → Nat} {v : Nat} (hv : v < 1000) (post : MSt → Prop) (h : WT i 1) (P : post (wrt i a q [nI (48 + v % 10)])) : pre_X6_writesByte i a q (48 + (nI v - nI v / 10 * 10)) ∧ ∀ i7 a8 q9, post_X6_writesByte i a q (48 + (nI v - nI v / 10 * 10)) (i7, a8, q9) → post (i7, a8, q9) := by
  rw [(nI_div10 hv).2, show (48 : Int32) + nI (v % 10) = nI (48 + v % 10) from nI_add 48 _]
  refine ⟨⟨h, _, by omega, rfl⟩, fun i7 a8 q9 h7 => ?_⟩
  unfold post_X6_writesByte at h7
  rw [h7]
  exact P
theorem pr_X6_writesDigits_0 (i : Nat → Int32) (a : Nat → Nat → Int32) (q : Nat → Nat) (x : Int32) (hpre : pre_X6_writesDigits_0 i a q x) : wp_X6_writesDigits_0 (fun u => post_X6_writesDigits i a q x u) i a q x := by
  obtain ⟨v, hv, ev, h⟩ := hpre
  subst ev
  have e : digL v = [nI (48 + v % 10)] := by unfold digL; rw [if_pos hv, Nat.mod_eq_of_lt hv]
  refine ⟨fun _ => dig_end (by omega) _ (h.lo (digL_len v).1) ?_, fun c => absurd ?_ c⟩
  · show _ = _
    rw [nI_clamp (by omega), e]
  · exact (nI_leI (b := 9) (by omega) (by omega)).mpr (by omega)
theorem dig_rec {i : Nat → Int32} {a : Nat → Nat → Int32} {q : Nat → Nat} {v : Nat} (hv : v < 1000) (h10 : 10 ≤ v) (h : WT i (digL v).length) {i3 : Nat → Int32} {a4 : Nat → Nat → Int32} {q5 : Nat → Nat} (h3 : post_X6_writesDigits i a q (nI v / 10) (i3, a4, q5)) :
    pre_X6_writesByte i3 a4 q5 (48 + (nI v - nI v / 10 * 10)) ∧ ∀ i7 a8 q9, post_X6_writesByte i3 a4 q5 (48 + (nI v - nI v / 10 * 10)) (i7, a8, q9) → post_X6_writesDigits i a q (nI v) (i7, a8, q9) := by
  have h3 : (i3, a4, q5) = wrt i a q (digL (nI v / 10).toNatClampNeg) := h3
  rw [(nI_div10 hv).1, nI_clamp (by omega)] at h3
  rw [digL_step h10 hv, List.length_append] at h
  have h4 := h.mid (a := a) (q := q)
  rw [← h3] at h4
  refine dig_end hv (fun u => post_X6_writesDigits i a q (nI v) u) h4 ?_
  show _ = _
  rw [nI_clamp (by omega), digL_step h10 hv, ← wrt_wrt h, ← h3]
theorem pr_X6_writesDigits_1 (i : Nat → Int32) (a : Nat → Nat → Int32) (q : Nat → Nat) (x : Int32) (hpre : pre_X6_writesDigits_1 i a q x) : wp_X6_writesDigits_1 (fun u => post_X6_writesDigits i a q x u) i a q x := by
  obtain ⟨v, hv, ev, h⟩ := hpre
  subst ev
  have h9 : nI v ≤ 9 ↔ v ≤ 9 := nI_leI (b := 9) (by omega) (by omega)
  unfold wp_X6_writesDigits_1
  rw [h9]
  refine ⟨fun c => dig_end (by omega) _ (h.lo (digL_len v).1) ?_, fun c => ⟨⟨v / 10, by omega, (nI_div10 (by omega)).1, ?_⟩, fun i3 a4 q5 h3 => dig_rec (by omega) (by omega) h h3⟩⟩
  · show _ = _
    have e : digL v = [nI (48 + v % 10)] := by unfold digL; rw [if_pos (by omega), Nat.mod_eq_of_lt (by omega)]
    rw [nI_clamp (by omega), e]
  · rw [digL_step (by omega) (by omega), List.length_append] at h
    exact h.lo (by omega)
theorem pr_X6_writesDigits (i : Nat → Int32) (a : Nat → Nat → Int32) (q : Nat → Nat) (x : Int32) (hpre : pre_X6_writesDigits i a q x) : wp_X6_writesDigits (fun u => post_X6_writesDigits i a q x u) i a q x := by
  obtain ⟨v, hv, ev, h⟩ := hpre
  subst ev
  have h9 : nI v ≤ 9 ↔ v ≤ 9 := nI_leI (b := 9) (by omega) (by omega)
  unfold wp_X6_writesDigits
  rw [h9]
  refine ⟨fun c => dig_end (by omega) _ (h.lo (digL_len v).1) ?_, fun c => ⟨⟨v / 10, by omega, (nI_div10 (by omega)).1, ?_⟩, fun i3 a4 q5 h3 => dig_rec (by omega) (by omega) h h3⟩⟩
  · show _ = _
    have e : digL v = [nI (48 + v % 10)] := by unfold digL; rw [if_pos (by omega), Nat.mod_eq_of_lt (by omega)]
    rw [nI_clamp (by omega), e]
  · rw [digL_step (by omega) (by omega), List.length_append] at h
    exact h.lo (by omega)
theorem pr_X6_writesNumber (i : Nat → Int32) (a : Nat → Nat → Int32) (q : Nat → Nat) (x : Int32) (hpre : pre_X6_writesNumber i a q x) : wp_X6_writesNumber (fun u => post_X6_writesNumber i a q x u) i a q x := by
  obtain ⟨v, hv, ev, h⟩ := hpre
  subst ev
  have en : numL (nI v) = [32] ++ digL v := by unfold numL; rw [nI_clamp (by omega)]; rfl
  have hl : (numL (nI v)).length = ([32] : List Int32).length + (digL v).length := by rw [en, List.length_append]
  rw [hl] at h
  refine ⟨⟨h.lo (by show 1 ≤ 1 + _; omega), 32, by omega, rfl⟩, fun i2 a3 q4 h2 => ?_⟩
  have h2 : (i2, a3, q4) = wrt i a q [32] := h2
  have h3 := h.mid (a := a) (q := q)
  rw [← h2] at h3
  refine ⟨⟨v, hv, rfl, h3⟩, fun i6 a7 q8 h6 => ?_⟩
  have h6 : (i6, a7, q8) = wrt i2 a3 q4 (digL (nI v).toNatClampNeg) := h6
  show _ = _
  rw [h6, nI_clamp (by omega), en, ← wrt_wrt h, ← h2]
theorem pr_X6_writesPointer (i : Nat → Int32) (a : Nat → Nat → Int32) (q : Nat → Nat) (x : Int32) (hpre : pre_X6_writesPointer i a q x) : wp_X6_writesPointer (fun u => post_X6_writesPointer i a q x u) i a q x := by
  obtain ⟨hx, h⟩ := hpre
  refine ⟨fun c => ?_, fun c => ?_⟩
  · rcases hx with e | ⟨k, hk, e⟩
    · exact absurd e c
    have en : ptL x = numL x := if_neg c
    rw [en] at h
    refine ⟨⟨k, by omega, e, h⟩, fun i3 a4 q5 h3 => ?_⟩
    show _ = wrt i a q (ptL x)
    rw [en]; exact h3
  · have en : ptL x = tx__20__2d_ := if_pos c
    rw [en] at h
    refine ⟨⟨h, asc__20__2d_⟩, fun i3 a4 q5 h3 => ?_⟩
    show _ = wrt i a q (ptL x)
    rw [en]; exact h3
