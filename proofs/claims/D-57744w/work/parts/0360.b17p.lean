def wp_X6_isWrong (post : Int32 → Prop) (i : Nat → Int32) (a : Nat → Nat → Int32) (q : Nat → Nat) (x : Int32) : Prop :=
  pre_X6_isStored i a q 1 x ∧ ∀ r1, post_X6_isStored i a q 1 x r1 → (r1 = 0 → isB 0 ∧ post 0) ∧ (¬ r1 = 0 → vp_in x 78 ∧ vp_in x 78 ∧ ((a 1 x.toNatClampNeg) = (a 4 x.toNatClampNeg) → isB 0 ∧ post 0) ∧ (¬ (a 1 x.toNatClampNeg) = (a 4 x.toNatClampNeg) → isB 1 ∧ post 1))

def wpb_X6_writesInn_48 (post : MSt → Prop)  (x : Int32) (i : Nat → Int32) (a : Nat → Nat → Int32) (q : Nat → Nat) (s0 : List Int32) : Prop :=
  pre_X6_writes i a q s0 ∧ ∀ i18 a19 q20, post_X6_writes i a q s0 (i18, a19, q20) → vp_in (39 + x) 78 ∧ ((a19 1 (39 + x).toNatClampNeg) ≤ 0 → post (i18, a19, q20)) ∧ (¬ (a19 1 (39 + x).toNatClampNeg) ≤ 0 → pre_X6_writes i18 a19 q20 tx__20_letters ∧ ∀ i24 a25 q26, post_X6_writes i18 a19 q20 tx__20_letters (i24, a25, q26) → vp_in (39 + x) 78 ∧ pre_X6_writesNumber i24 a25 q26 (a25 1 (39 + x).toNatClampNeg) ∧ ∀ i28 a29 q30, post_X6_writesNumber i24 a25 q26 (a25 1 (39 + x).toNatClampNeg) (i28, a29, q30) → post (i28, a29, q30))
def wp_X6_writesInn (post : MSt → Prop) (i : Nat → Int32) (a : Nat → Nat → Int32) (q : Nat → Nat) (x : Int32) : Prop :=
  pre_X6_writes i a q tx__3b_inn ∧ ∀ i3 a4 q5, post_X6_writes i a q tx__3b_inn (i3, a4, q5) → pre_X6_writesNumber i3 a4 q5 x ∧ ∀ i7 a8 q9, post_X6_writesNumber i3 a4 q5 x (i7, a8, q9) → vp_in (15 + x) 78 ∧ pre_X6_writesNumber i7 a8 q9 (a8 1 (15 + x).toNatClampNeg) ∧ ∀ i11 a12 q13, post_X6_writesNumber i7 a8 q9 (a8 1 (15 + x).toNatClampNeg) (i11, a12, q13) → vp_in (27 + x) 78 ∧ (¬ (a12 1 (27 + x).toNatClampNeg) = 1 → wpb_X6_writesInn_48 post  x i11 a12 q13 tx__20_closed) ∧ ((a12 1 (27 + x).toNatClampNeg) = 1 → wpb_X6_writesInn_48 post  x i11 a12 q13 tx_)

def wpb_X6_writesRow_40 (post : MSt → Prop) (K2 : (Nat → Int32) → (Nat → Nat → Int32) → (Nat → Nat) → Int32 → Prop) (w : List Int32) (x : Int32) (i : Nat → Int32) (a : Nat → Nat → Int32) (q : Nat → Nat) (x3 : Int32) : Prop :=
  ∀ z16, z16 = x3 + 1 → K2 i a q z16
def wpb_X6_writesRow_2 (post : MSt → Prop)  (w : List Int32) (x : Int32) : Nat → (Nat → Int32) → (Nat → Nat → Int32) → (Nat → Nat) → Int32 → Prop
  | 0 => fun _ _ _ _ => False
  | n + 1 => fun i a q x3 => (12 ≤ x3 → post (i, a, q)) ∧ (¬ 12 ≤ x3 → pre_X6_isWrong i a q (x + x3) ∧ ∀ r2, post_X6_isWrong i a q (x + x3) r2 → (r2 = 0 → wpb_X6_writesRow_40 post (wpb_X6_writesRow_2 post  w x n) w x i a q x3) ∧ (¬ r2 = 0 → pre_X6_writes i a q w ∧ ∀ i5 a6 q7, post_X6_writes i a q w (i5, a6, q7) → pre_X6_writesNumber i5 a6 q7 x3 ∧ ∀ i9 a10 q11, post_X6_writesNumber i5 a6 q7 x3 (i9, a10, q11) → vp_in (x + x3) 78 ∧ pre_X6_writesPointer i9 a10 q11 (a10 1 (x + x3).toNatClampNeg) ∧ ∀ i13 a14 q15, post_X6_writesPointer i9 a10 q11 (a10 1 (x + x3).toNatClampNeg) (i13, a14, q15) → wpb_X6_writesRow_40 post (wpb_X6_writesRow_2 post  w x n) w x i13 a14 q15 x3))
def wp_X6_writesRow (post : MSt → Prop) (i : Nat → Int32) (a : Nat → Nat → Int32) (q : Nat → Nat) (w : List Int32) (x : Int32) : Prop :=
  ∃ n, wpb_X6_writesRow_2 post  w x n i a q 0

def wpb_X6_write_142 (post : Int32 → MSt → Prop)   (i : Nat → Int32) (a : Nat → Nat → Int32) (q : Nat → Nat)  : Prop :=
  pre_X6_writesRow i a q tx__3b_next 54 ∧ ∀ i57 a58 q59, post_X6_writesRow i a q tx__3b_next 54 (i57, a58, q59) → pre_X6_writesRow i57 a58 q59 tx__3b_skip 66 ∧ ∀ i62 a63 q64, post_X6_writesRow i57 a58 q59 tx__3b_skip 66 (i62, a63, q64) → post (i62 19) (i62, a63, q64)
def wpb_X6_write_115 (post : Int32 → MSt → Prop)   (i : Nat → Int32) (a : Nat → Nat → Int32) (q : Nat → Nat)  : Prop :=
  pre_X6_isWrong i a q 53 ∧ ∀ r44, post_X6_isWrong i a q 53 r44 → (r44 = 0 → wpb_X6_write_142 post   i a q) ∧ (¬ r44 = 0 → pre_X6_writes i a q tx__3b_count ∧ ∀ i48 a49 q50, post_X6_writes i a q tx__3b_count (i48, a49, q50) → vp_in 53 78 ∧ pre_X6_writesNumber i48 a49 q50 (a49 1 (53 : Int32).toNatClampNeg) ∧ ∀ i52 a53 q54, post_X6_writesNumber i48 a49 q50 (a49 1 (53 : Int32).toNatClampNeg) (i52, a53, q54) → wpb_X6_write_142 post   i52 a53 q54)
def wpb_X6_write_88 (post : Int32 → MSt → Prop)   (i : Nat → Int32) (a : Nat → Nat → Int32) (q : Nat → Nat)  : Prop :=
  pre_X6_isWrong i a q 52 ∧ ∀ r33, post_X6_isWrong i a q 52 r33 → (r33 = 0 → wpb_X6_write_115 post   i a q) ∧ (¬ r33 = 0 → pre_X6_writes i a q tx__3b_second ∧ ∀ i37 a38 q39, post_X6_writes i a q tx__3b_second (i37, a38, q39) → vp_in 52 78 ∧ pre_X6_writesPointer i37 a38 q39 (a38 1 (52 : Int32).toNatClampNeg) ∧ ∀ i41 a42 q43, post_X6_writesPointer i37 a38 q39 (a38 1 (52 : Int32).toNatClampNeg) (i41, a42, q43) → wpb_X6_write_115 post   i41 a42 q43)
def wpb_X6_write_55 (post : Int32 → MSt → Prop) (K32 : (Nat → Int32) → (Nat → Nat → Int32) → (Nat → Nat) → Int32 → Prop)  (i : Nat → Int32) (a : Nat → Nat → Int32) (q : Nat → Nat) (x1 : Int32) : Prop :=
  ∀ z65, z65 = x1 + 1 → K32 i a q z65
def wpb_X6_write_32 (post : Int32 → MSt → Prop)   : Nat → (Nat → Int32) → (Nat → Nat → Int32) → (Nat → Nat) → Int32 → Prop
  | 0 => fun _ _ _ _ => False
  | n + 1 => fun i a q x1 => (12 ≤ x1 → pre_X6_isWrong i a q 51 ∧ ∀ r17, post_X6_isWrong i a q 51 r17 → (r17 = 0 → wpb_X6_write_88 post   i a q) ∧ (¬ r17 = 0 → pre_X6_writes i a q tx__3b_first ∧ ∀ i21 a22 q23, post_X6_writes i a q tx__3b_first (i21, a22, q23) → vp_in 51 78 ∧ pre_X6_writesPointer i21 a22 q23 (a22 1 (51 : Int32).toNatClampNeg) ∧ ∀ i25 a26 q27, post_X6_writesPointer i21 a22 q23 (a22 1 (51 : Int32).toNatClampNeg) (i25, a26, q27) → wpb_X6_write_88 post   i25 a26 q27)) ∧ (¬ 12 ≤ x1 → vp_in (3 + x1) 78 ∧ (¬ (a 1 (3 + x1).toNatClampNeg) = 1 → wpb_X6_write_55 post (wpb_X6_write_32 post   n)  i a q x1) ∧ ((a 1 (3 + x1).toNatClampNeg) = 1 → pre_X6_writesInn i a q x1 ∧ ∀ i30 a31 q32, post_X6_writesInn i a q x1 (i30, a31, q32) → wpb_X6_write_55 post (wpb_X6_write_32 post   n)  i30 a31 q32 x1))
def wp_X6_write (post : Int32 → MSt → Prop) (i : Nat → Int32) (a : Nat → Nat → Int32) (q : Nat → Nat)  : Prop :=
  ∀ i1, i1 = upd i 0 0 → ∀ i3 a4 q5, post_X6_laysDue i1 a q  (i3, a4, q5) → ∀ i6, i6 = upd i3 19 0 → pre_X6_writes i6 a4 q5 tx_road ∧ ∀ i9 a10 q11, post_X6_writes i6 a4 q5 tx_road (i9, a10, q11) → vp_in 0 78 ∧ pre_X6_writesNumber i9 a10 q11 (a10 1 (0 : Int32).toNatClampNeg) ∧ ∀ i13 a14 q15, post_X6_writesNumber i9 a10 q11 (a10 1 (0 : Int32).toNatClampNeg) (i13, a14, q15) → ∃ n, wpb_X6_write_32 post   n i13 a14 q15 0
/-- the state is the text l behind (i0, a0) -/
theorem wrt_row {i : Nat → Int32} {a : Nat → Nat → Int32} {q : Nat → Nat} {l : List Int32} {j : Nat} (h : j ≠ 9) : (wrt i a q l).2.1 j = a j := setR_ne h
theorem numL_v {v : Nat} (h : v < 1000) : numL (nI v) = 32 :: digL v := by unfold numL; rw [nI_clamp (by omega)]
theorem numL_le (x : Int32) : (numL x).length ≤ 4 := by
  unfold numL
  have := (digL_len x.toNatClampNeg).2
  rw [List.length_cons]; omega
theorem dig2 {k : Nat} (h : k < 100) : (digL k).length ≤ 2 := by
  unfold digL
  split
  · simp
  · simp
theorem num2 {x : Int32} {k : Nat} (h : k < 100) (e : x = nI k) : (numL x).length ≤ 3 := by
  unfold numL
  rw [e, nI_clamp (by omega), List.length_cons]
  have := dig2 h
  omega
theorem ptL_le {x : Int32} (h : isPt x) : (ptL x).length ≤ 3 := by
  unfold ptL
  rcases h with e | ⟨k, hk, e⟩
  · rw [if_pos e]; decide
  · split
    · decide
    · exact num2 (by omega) e
theorem inL_le {f : Row} (h : RowOK f) {k : Nat} (hk : k < 12) (h1 : f (3 + k) = 1) : (inL f k).length ≤ 29 := by
  obtain ⟨-, -, ⟨l, hl, el⟩⟩ := (h k hk).2 h1
  unfold inL
  simp only [List.length_append]
  have a1 := num2 (x := nI k) (k := k) (by omega) rfl
  have a2 := numL_le (f (15 + k))
  have a3 := num2 (x := f (39 + k)) (by omega) el
  have a4 : (if f (27 + k) = 1 then tx_ else tx__20_closed).length ≤ 7 := by split <;> decide
  have a5 : (if f (39 + k) ≤ 0 then ([] : List Int32) else tx__20_letters ++ numL (f (39 + k))).length ≤ 11 := by
    split
    · decide
    · rw [List.length_append]
      have : tx__20_letters.length = 8 := rfl
      omega
  have a6 : tx__3b_inn.length = 4 := rfl
  omega
theorem insL_le {f : Row} (h : RowOK f) : ∀ n k, k + n ≤ 12 → (insL f n k).length ≤ 29 * n := by
  intro n
  induction n with
  | zero => intro k _; exact Nat.le_refl _
  | succ n ih =>
    intro k hk
    unfold insL
    rw [List.length_append]
    have := ih (k + 1) (by omega)
    split
    · rename_i h1
      have := inL_le h (by omega : k < 12) h1
      omega
    · show 0 + _ ≤ _
      omega
theorem rowL_le {w : List Int32} (hw : w.length ≤ 5) {f : Row} (h : RowPt f) {r : Nat} (hr : r = 54 ∨ r = 66) : ∀ n k, k + n ≤ 12 → (rowL w f r n k).length ≤ 11 * n := by
  intro n
  induction n with
  | zero => intro k _; exact Nat.le_refl _
  | succ n ih =>
    intro k hk
    unfold rowL
    rw [List.length_append]
    have h1 := ih (k + 1) (by omega)
    have hp : isPt (f (r + k)) := by
      have := h.2.2.2.2 k (by omega)
      rcases hr with e | e <;> subst e
      · exact this.1
      · exact this.2
    split
    · simp only [List.length_append]
      have a1 := num2 (x := nI k) (k := k) (by omega) rfl
      have a2 := ptL_le hp
      omega
    · show 0 + _ ≤ _
      omega
theorem pr_X6_isWrong (i : Nat → Int32) (a : Nat → Nat → Int32) (q : Nat → Nat) (x : Int32) (hpre : pre_X6_isWrong i a q x) : wp_X6_isWrong (fun r => post_X6_isWrong i a q x r) i a q x := by
  obtain ⟨h4, k, hk, ek⟩ := hpre
  subst ek
  refine ⟨⟨k, hk, rfl⟩, fun r1 h1 => ?_⟩
  have h1 : r1 = b2i (stoF (a 1) (nI k).toNatClampNeg) := h1
  rw [nI_clamp (by omega)] at h1 ⊢
  subst h1
  have P : ∀ r, r = b2i (wrF (a 1) k) → post_X6_isWrong i a q (nI k) r := fun r h => by
    unfold post_X6_isWrong
    rw [nI_clamp (by omega)]; exact h
  unfold wrF at P
  rw [h4]
  refine ⟨fun c => ⟨isB_0, P _ (by rw [b2i_0 c]; rfl)⟩, fun c => ⟨vp_in_nI hk (by omega), vp_in_nI hk (by omega), fun c2 => ⟨isB_0, P _ ?_⟩, fun c2 => ⟨isB_1, P _ ?_⟩⟩⟩
  · rw [decide_eq_false (fun z => z c2), Bool.and_false]; rfl
  · rw [b2i_1 c, decide_eq_true c2]; rfl
/-- the text l written, and t to come -/
def TS (i0 : Nat → Int32) (a0 : Nat → Nat → Int32) (q0 : Nat → Nat) (l : List Int32) (i : Nat → Int32) (a : Nat → Nat → Int32) (q : Nat → Nat) : Prop := (i, a, q) = wrt i0 a0 q0 l
section TXT
variable {i0 : Nat → Int32} {a0 : Nat → Nat → Int32} {q0 : Nat → Nat} {l s : List Int32} {i : Nat → Int32} {a : Nat → Nat → Int32} {q : Nat → Nat}
theorem TS.row (h : TS i0 a0 q0 l i a q) {j : Nat} (hj : j ≠ 9) : a j = a0 j := by
  have : a = (wrt i0 a0 q0 l).2.1 := by rw [← h]
  rw [this]; exact wrt_row hj
theorem TS.wt (h : TS i0 a0 q0 l i a q) {n m : Nat} (hW : WT i0 m) (hm : l.length + n ≤ m) : WT i n := by
  have := (hW.lo hm).mid (a := a0) (q := q0)
  rw [← h] at this
  exact this
theorem TS.app (h : TS i0 a0 q0 l i a q) {m : Nat} (hW : WT i0 m) (hm : l.length + s.length ≤ m) {i' : Nat → Int32} {a' : Nat → Nat → Int32} {q' : Nat → Nat} (e : (i', a', q') = wrt i a q s) : TS i0 a0 q0 (l ++ s) i' a' q' := by
  unfold TS
  rw [e, ← wrt_wrt (hW.lo hm), ← h]
theorem TS.nil (hW : WT i0 0) : TS i0 a0 q0 [] i0 a0 q0 := (wrt_nil hW).symm
end TXT
theorem pr_X6_writesInn (i : Nat → Int32) (a : Nat → Nat → Int32) (q : Nat → Nat) (x : Int32) (hpre : pre_X6_writesInn i a q x) : wp_X6_writesInn (fun u => post_X6_writesInn i a q x u) i a q x := by
  obtain ⟨hR, k, hk, ek, h1, hW⟩ := hpre
  subst ek
  obtain ⟨⟨m, hm, em⟩, ho, ⟨lt, hlt, elt⟩⟩ := (hR k hk).2 h1
  have P : ∀ u, u = wrt i a q (inL (a 1) k) → post_X6_writesInn i a q (nI k) u := fun u h => by
    unfold post_X6_writesInn
    rw [nI_clamp (by omega)]; exact h
  unfold inL at hW P
  simp only [List.length_append] at hW
  have T0 := TS.nil (a0 := a) (q0 := q) (hW.lo (Nat.zero_le _))
  refine ⟨⟨hW.lo (by omega), asc__3b_inn⟩, fun i3 a4 q5 h3 => ?_⟩
  have T1 := T0.app hW (s := tx__3b_inn) (by simp only [List.length_nil]; omega) h3
  refine ⟨⟨k, by omega, rfl, T1.wt hW (by simp only [List.nil_append]; omega)⟩, fun i7 a8 q9 h7 => ?_⟩
  have T2 := T1.app hW (s := numL (nI k)) (by simp only [List.nil_append]; omega) h7
  rw [a15, a27, nI_clamp (by omega), nI_clamp (by omega)]
  refine ⟨vp_in_nI (by omega) (by omega), ?_⟩
  rw [T2.row (by decide)]
  refine ⟨⟨m, by omega, em, T2.wt hW (by simp only [List.nil_append, List.length_append]; omega)⟩, fun i11 a12 q13 h11 => ?_⟩
  have T3 := T2.app hW (s := numL (a 1 (15 + k))) (by simp only [List.nil_append, List.length_append]; omega) h11
  refine ⟨vp_in_nI (by omega) (by omega), ?_⟩
  rw [T3.row (by decide)]
  have blk : ∀ w, asc w → w = (if a 1 (27 + k) = 1 then tx_ else tx__20_closed) → wpb_X6_writesInn_48 (fun u => post_X6_writesInn i a q (nI k) u) (nI k) i11 a12 q13 w := by
    intro w hw ew
    rw [← ew] at hW P
    refine ⟨⟨T3.wt hW (by simp only [List.nil_append, List.length_append]; omega), hw⟩, fun i18 a19 q20 h18 => ?_⟩
    have T4 := T3.app hW (s := w) (by simp only [List.nil_append, List.length_append]; omega) h18
    rw [a39, nI_clamp (by omega)]
    refine ⟨vp_in_nI (by omega) (by omega), ?_⟩
    rw [T4.row (by decide)]
    refine ⟨fun c => P _ ?_, fun c => ?_⟩
    · rw [if_pos c]
      simpa only [TS, List.nil_append, List.append_nil, List.append_assoc] using T4
    · rw [if_neg c] at hW P
      rw [List.length_append] at hW
      refine ⟨⟨T4.wt hW (by simp only [List.nil_append, List.length_append]; omega), asc__20_letters⟩, fun i24 a25 q26 h24 => ?_⟩
      have T5 := T4.app hW (s := tx__20_letters) (by simp only [List.nil_append, List.length_append]; omega) h24
      refine ⟨vp_in_nI (by omega) (by omega), ?_⟩
      rw [T5.row (by decide)]
      refine ⟨⟨lt, by omega, elt, T5.wt hW (by simp only [List.nil_append, List.length_append]; omega)⟩, fun i28 a29 q30 h28 => P _ ?_⟩
      have T6 := T5.app hW (s := numL (a 1 (39 + k))) (by simp only [List.nil_append, List.length_append]; omega) h28
      simpa only [TS, List.nil_append, List.append_assoc] using T6
  exact ⟨fun c => blk _ asc__20_closed (by rw [if_neg c]), fun c => blk _ (fun _ h => by cases h) (by rw [if_pos c])⟩
theorem pr_X6_writesRow (i : Nat → Int32) (a : Nat → Nat → Int32) (q : Nat → Nat) (w : List Int32) (x : Int32) (hpre : pre_X6_writesRow i a q w x) : wp_X6_writesRow (fun u => post_X6_writesRow i a q w x u) i a q w x := by
  obtain ⟨hR, h4, hw, r, hr, er, hW⟩ := hpre
  subst er
  have P : ∀ u, u = wrt i a q (rowL w (a 1) r 12 0) → post_X6_writesRow i a q w (nI r) u := fun u h => by
    unfold post_X6_writesRow
    rw [nI_clamp (by omega)]; exact h
  have key : ∀ n k l i' a' q', k + n = 12 → TS i a q l i' a' q' → l ++ rowL w (a 1) r n k = rowL w (a 1) r 12 0 → wpb_X6_writesRow_2 (fun u => post_X6_writesRow i a q w (nI r) u) w (nI r) (n + 1) i' a' q' (nI k) := by
    intro n
    induction n with
    | zero =>
      intro k l i' a' q' hk T e
      have : k = 12 := by omega
      subst this
      refine ⟨fun _ => P _ ?_, fun h => absurd (by decide) h⟩
      rw [← e]
      show _ = wrt i a q (l ++ [])
      rw [List.append_nil]
      exact T
    | succ n ih =>
      intro k l i' a' q' hk T e
      refine ⟨fun h => absurd h (nI_ge (b := 12) (by omega) (by omega)), fun _ => ?_⟩
      have ex : nI r + nI k = nI (r + k) := nI_add _ _
      rw [ex]
      have a41 : a' 4 = a 4 := T.row (by decide)
      have a11 : a' 1 = a 1 := T.row (by decide)
      refine ⟨⟨by rw [a41, a11]; exact h4, r + k, by omega, rfl⟩, fun r2 h2 => ?_⟩
      have h2 : r2 = b2i (wrF (a' 1) (nI (r + k)).toNatClampNeg) := h2
      rw [nI_clamp (by omega), a11] at h2
      subst h2
      have e : l ++ ((if wrF (a 1) (r + k) = true then w ++ (numL (nI k) ++ ptL (a 1 (r + k))) else []) ++ rowL w (a 1) r n (k + 1)) = rowL w (a 1) r 12 0 := e
      refine ⟨fun c z16 e16 => ?_, fun c => ?_⟩
      · rw [if_neg (b2i_f c)] at e
        rw [e16, nI_1]
        exact ih (k + 1) l _ _ _ (by omega) T e
      · rw [if_pos (b2i_1 c)] at e
        rw [← e] at hW
        simp only [List.length_append] at hW
        refine ⟨⟨T.wt hW (by omega), hw⟩, fun i5 a6 q7 h5 => ?_⟩
        have T1 := T.app hW (s := w) (by omega) h5
        refine ⟨⟨k, by omega, rfl, T1.wt hW (by simp only [List.length_append]; omega)⟩, fun i9 a10 q11 h9 => ?_⟩
        have T2 := T1.app hW (s := numL (nI k)) (by simp only [List.length_append]; omega) h9
        rw [nI_clamp (by omega), T2.row (by decide)]
        have hp : isPt (a 1 (r + k)) := by
          have := hR.2.2.2.2 k (by omega)
          rcases hr with e | e <;> subst e
          · exact this.1
          · exact this.2
        refine ⟨vp_in_nI (by omega) (by omega), ⟨hp, T2.wt hW (by simp only [List.length_append]; omega)⟩, fun i13 a14 q15 h13 z16 e16 => ?_⟩
        have T3 := T2.app hW (s := ptL (a 1 (r + k))) (by simp only [List.length_append]; omega) h13
        rw [e16, nI_1]
        refine ih (k + 1) _ _ _ _ (by omega) T3 ?_
        rw [← e]
        simp only [List.append_assoc]
  exact ⟨13, key 12 0 [] i a q rfl (TS.nil (hW.lo (Nat.zero_le _))) (List.nil_append _)⟩
theorem pr_X6_write (i : Nat → Int32) (a : Nat → Nat → Int32) (q : Nat → Nat)  (hpre : pre_X6_write i a q ) : wp_X6_write (fun r u => post_X6_write i a q  r u) i a q  := by
  obtain ⟨⟨t0, S, h0⟩, hR, hP⟩ := hpre
  have PP : ∀ r u, OpR (opWrt S) r u → (fun r u => post_X6_write i a q r u) r u := fun r u h t S' hS => by rw [hS.uniq h0]; exact h
  obtain ⟨post, ep⟩ : ∃ post : Int32 → MSt → Prop, post = fun r u => post_X6_write i a q r u := ⟨_, rfl⟩
  rw [← ep] at PP ⊢
  intro i1 e1 i3 a4 q5 h3 i6 e6
  subst e1
  have h3 : (i3, a4, q5) = (upd i 0 0, setR a 4 (rebF (a 1)), q) := h3
  obtain ⟨x1, x2⟩ := Prod.mk.inj h3
  obtain ⟨x2, x3⟩ := Prod.mk.inj x2
  rw [x1] at e6
  have ef : a 1 = S.1 := h0.2.1
  have r41 : a4 1 = S.1 := by rw [x2, ← ef]; exact setR_ne (by decide)
  have r44 : a4 4 = rebF S.1 := by rw [x2, ← ef]; exact setR_self
  rw [ef] at hR hP
  have hW : WT i6 800 := ⟨0, by rw [e6]; rfl, by omega⟩
  have tl0 : tlen i6 = 0 := by unfold tlen; rw [e6]; rfl
  have P : ∀ i' a' q', TS i6 a4 q5 (wriL S.1) i' a' q' → post (i' 19) (i', a', q') := by
    intro i' a' q' T
    unfold TS wrt at T
    rw [tl0, Nat.zero_add] at T
    obtain ⟨y1, y2⟩ := Prod.mk.inj T
    obtain ⟨y2, y3⟩ := Prod.mk.inj y2
    have hlen : (wriL S.1).length ≤ 800 := by
      have g1 := insL_le hR 12 0 (by omega)
      have g2 := rowL_le (w := tx__3b_next) (by decide) hP (Or.inl rfl) 12 0 (by omega)
      have g3 := rowL_le (w := tx__3b_skip) (by decide) hP (Or.inr rfl) 12 0 (by omega)
      obtain ⟨g4, g5, g6, ⟨cc, hcc, ecc⟩, -⟩ := hP
      have g7 := ptL_le g5
      have g8 := ptL_le g6
      have g9 := num2 (by omega) ecc
      have g10 := numL_le (S.1 0)
      have z1 : (if wrF S.1 51 = true then tx__3b_first ++ ptL (S.1 51) else []).length ≤ 9 := by
        split
        · rw [List.length_append]; have : tx__3b_first.length = 6 := rfl; omega
        · exact Nat.zero_le _
      have z2 : (if wrF S.1 52 = true then tx__3b_second ++ ptL (S.1 52) else []).length ≤ 10 := by
        split
        · rw [List.length_append]; have : tx__3b_second.length = 7 := rfl; omega
        · exact Nat.zero_le _
      have z3 : (if wrF S.1 53 = true then tx__3b_count ++ numL (S.1 53) else []).length ≤ 9 := by
        split
        · rw [List.length_append]; have : tx__3b_count.length = 6 := rfl; omega
        · exact Nat.zero_le _
      have z4 : tx_road.length = 4 := rfl
      unfold wriL
      simp only [List.length_append]
      omega
    have hb : a4 9 = S.2.2.2.2.2 := by rw [x2, ← h0.2.2.2.2.2.2.2.2.2]; exact setR_ne (by decide)
    have h1 : MAb (upd i 0 0) (setR a 4 (rebF (a 1))) q 0 S := (h0.thr (t' := 0)).due
    rw [← x2, ← x3] at h1
    unfold opWrt at PP
    refine PP _ _ ⟨by rw [y1]; exact upd_s, ?_⟩
    rw [y1, y2, y3, e6, upd_upd, hb]
    obtain ⟨k0, k1, k2, k3, k4, k5, k6, k7, k8, k9⟩ := h1
    obtain ⟨NN, eNN⟩ : ∃ NN, NN = (wriL S.1).length := ⟨_, rfl⟩
    rw [← eNN] at hlen ⊢
    obtain ⟨tx, etx⟩ : ∃ tx, tx = putL S.2.2.2.2.2 0 (wriL S.1) := ⟨_, rfl⟩
    have w1 : setR a4 9 tx 1 = a4 1 := setR_ne (by decide)
    have w2 : setR a4 9 tx 2 = a4 2 := setR_ne (by decide)
    have w8 : setR a4 9 tx 8 = a4 8 := setR_ne (by decide)
    have w9 : setR a4 9 tx 9 = tx := setR_self
    have wh : hisL (upd (upd i 0 0) 19 (nI NN)) (setR a4 9 tx) q5 = hisL (upd i 0 0) a4 q5 := hisL_congr k4 rfl (fun j j1 j2 => setR_ne (by omega))
    rw [← etx]
    exact ⟨k0, w1.trans k1, k2, fun k ek => ⟨(k3 k ek).1, w2.trans (k3 k ek).2⟩, k4, wh.trans k5, k6, w8.trans k7, ⟨rfl, hlen⟩, w9⟩
  have T0 : TS i6 a4 q5 [] i6 a4 q5 := TS.nil (hW.lo (Nat.zero_le _))
  have e17 : ∀ {l i' a' q'}, TS i6 a4 q5 l i' a' q' → a' 1 = S.1 := fun T => (T.row (by decide)).trans r41
  have e47 : ∀ {l i' a' q'}, TS i6 a4 q5 l i' a' q' → a' 4 = rebF (a' 1) := fun T => by rw [e17 T, T.row (by decide)]; exact r44
  have g1 := insL_le hR 12 0 (by omega)
  have g2 := rowL_le (w := tx__3b_next) (by decide) hP (Or.inl rfl) 12 0 (by omega)
  have g3 := rowL_le (w := tx__3b_skip) (by decide) hP (Or.inr rfl) 12 0 (by omega)
  have g4 := numL_le (S.1 0)
  obtain ⟨⟨rr, hrr, err⟩, hp1, hp2, ⟨cc, hcc, ecc⟩, -⟩ := id hP
  have g5 := ptL_le hp1
  have g6 := ptL_le hp2
  have g7 := num2 (by omega) ecc
  have l1 : tx_road.length = 4 := rfl
  have l2 : tx__3b_first.length = 6 := rfl
  have l3 : tx__3b_second.length = 7 := rfl
  have l4 : tx__3b_count.length = 6 := rfl
  unfold wriL at P
  -- behind the header
  have b142 : ∀ l i' a' q', TS i6 a4 q5 l i' a' q' → l.length ≤ 400 → (∀ i' a' q', TS i6 a4 q5 (l ++ (rowL tx__3b_next S.1 54 12 0 ++ rowL tx__3b_skip S.1 66 12 0)) i' a' q' → post (i' 19) (i', a', q')) → wpb_X6_write_142 post i' a' q' := by
    intro l i' a' q' T hl K
    refine ⟨⟨by rw [e17 T]; exact hP, e47 T, asc__3b_next, 54, Or.inl rfl, rfl, by rw [e17 T]; exact T.wt hW (by omega)⟩, fun i57 a58 q59 h57 => ?_⟩
    unfold post_X6_writesRow at h57
    rw [e17 T, show (54 : Int32).toNatClampNeg = 54 from rfl] at h57
    have T1 := T.app hW (by omega) h57
    refine ⟨⟨by rw [e17 T1]; exact hP, e47 T1, asc__3b_skip, 66, Or.inr rfl, rfl, by rw [e17 T1]; exact T1.wt hW (by rw [List.length_append]; omega)⟩, fun i62 a63 q64 h62 => ?_⟩
    unfold post_X6_writesRow at h62
    rw [e17 T1, show (66 : Int32).toNatClampNeg = 66 from rfl] at h62
    have T2 := T1.app hW (by rw [List.length_append]; omega) h62
    rw [List.append_assoc] at T2
    exact K _ _ _ T2
  have wr : ∀ {l i' a' q'} {c : Int32} {k : Nat} {r : Int32}, TS i6 a4 q5 l i' a' q' → c = nI k → k < 78 → post_X6_isWrong i' a' q' c r → r = b2i (wrF S.1 k) := by
    intro l i' a' q' c k r T ec hk h
    have h : r = b2i (wrF (a' 1) c.toNatClampNeg) := h
    rw [h, e17 T, ec, nI_clamp (by omega)]
  have b115 : ∀ l i' a' q', TS i6 a4 q5 l i' a' q' → l.length ≤ 390 → (∀ i' a' q', TS i6 a4 q5 (l ++ ((if wrF S.1 53 = true then tx__3b_count ++ numL (S.1 53) else []) ++ (rowL tx__3b_next S.1 54 12 0 ++ rowL tx__3b_skip S.1 66 12 0))) i' a' q' → post (i' 19) (i', a', q')) → wpb_X6_write_115 post i' a' q' := by
    intro l i' a' q' T hl K
    refine ⟨⟨e47 T, 53, by omega, rfl⟩, fun r44 h44 => ?_⟩
    have h44 := wr T (k := 53) rfl (by omega) h44
    subst h44
    refine ⟨fun c => b142 l _ _ _ T (by omega) ?_, fun c => ⟨⟨T.wt hW (by omega), asc__3b_count⟩, fun i48 a49 q50 h48 => ⟨by unfold vp_in; decide, ?_⟩⟩⟩
    · rw [if_neg (b2i_f c), List.nil_append] at K
      exact K
    · rw [if_pos (b2i_1 c)] at K
      have T1 := T.app hW (s := tx__3b_count) (by omega) h48
      have er : a49 1 (53 : Int32).toNatClampNeg = S.1 53 := by rw [e17 T1]; rfl
      rw [er]
      refine ⟨⟨cc, by omega, ecc, T1.wt hW (by rw [List.length_append]; omega)⟩, fun i52 a53 q54 h52 => ?_⟩
      have T2 := T1.app hW (s := numL (S.1 53)) (by rw [List.length_append]; omega) h52
      refine b142 _ _ _ _ T2 (by simp only [List.length_append]; omega) ?_
      simpa only [List.append_assoc] using K
  have b88 : ∀ l i' a' q', TS i6 a4 q5 l i' a' q' → l.length ≤ 380 → (∀ i' a' q', TS i6 a4 q5 (l ++ ((if wrF S.1 52 = true then tx__3b_second ++ ptL (S.1 52) else []) ++ ((if wrF S.1 53 = true then tx__3b_count ++ numL (S.1 53) else []) ++ (rowL tx__3b_next S.1 54 12 0 ++ rowL tx__3b_skip S.1 66 12 0)))) i' a' q' → post (i' 19) (i', a', q')) → wpb_X6_write_88 post i' a' q' := by
    intro l i' a' q' T hl K
    refine ⟨⟨e47 T, 52, by omega, rfl⟩, fun r44 h44 => ?_⟩
    have h44 := wr T (k := 52) rfl (by omega) h44
    subst h44
    refine ⟨fun c => b115 l _ _ _ T (by omega) ?_, fun c => ⟨⟨T.wt hW (by omega), asc__3b_second⟩, fun i48 a49 q50 h48 => ⟨by unfold vp_in; decide, ?_⟩⟩⟩
    · rw [if_neg (b2i_f c), List.nil_append] at K
      exact K
    · rw [if_pos (b2i_1 c)] at K
      have T1 := T.app hW (s := tx__3b_second) (by omega) h48
      have er : a49 1 (52 : Int32).toNatClampNeg = S.1 52 := by rw [e17 T1]; rfl
      rw [er]
      refine ⟨⟨hp2, T1.wt hW (by rw [List.length_append]; omega)⟩, fun i52 a53 q54 h52 => ?_⟩
      have T2 := T1.app hW (s := ptL (S.1 52)) (by rw [List.length_append]; omega) h52
      refine b115 _ _ _ _ T2 (by simp only [List.length_append]; omega) ?_
      simpa only [List.append_assoc] using K
  have b51 : ∀ l i' a' q', TS i6 a4 q5 l i' a' q' → l.length ≤ 370 → (∀ i' a' q', TS i6 a4 q5 (l ++ ((if wrF S.1 51 = true then tx__3b_first ++ ptL (S.1 51) else []) ++ ((if wrF S.1 52 = true then tx__3b_second ++ ptL (S.1 52) else []) ++ ((if wrF S.1 53 = true then tx__3b_count ++ numL (S.1 53) else []) ++ (rowL tx__3b_next S.1 54 12 0 ++ rowL tx__3b_skip S.1 66 12 0))))) i' a' q' → post (i' 19) (i', a', q')) →
      pre_X6_isWrong i' a' q' 51 ∧ ∀ r17, post_X6_isWrong i' a' q' 51 r17 → (r17 = 0 → wpb_X6_write_88 post i' a' q') ∧ (¬ r17 = 0 → pre_X6_writes i' a' q' tx__3b_first ∧ ∀ i21 a22 q23, post_X6_writes i' a' q' tx__3b_first (i21, a22, q23) → vp_in 51 78 ∧ pre_X6_writesPointer i21 a22 q23 (a22 1 (51 : Int32).toNatClampNeg) ∧ ∀ i25 a26 q27, post_X6_writesPointer i21 a22 q23 (a22 1 (51 : Int32).toNatClampNeg) (i25, a26, q27) → wpb_X6_write_88 post i25 a26 q27) := by
    intro l i' a' q' T hl K
    refine ⟨⟨e47 T, 51, by omega, rfl⟩, fun r44 h44 => ?_⟩
    have h44 := wr T (k := 51) rfl (by omega) h44
    subst h44
    refine ⟨fun c => b88 l _ _ _ T (by omega) ?_, fun c => ⟨⟨T.wt hW (by omega), asc__3b_first⟩, fun i48 a49 q50 h48 => ⟨by unfold vp_in; decide, ?_⟩⟩⟩
    · rw [if_neg (b2i_f c), List.nil_append] at K
      exact K
    · rw [if_pos (b2i_1 c)] at K
      have T1 := T.app hW (s := tx__3b_first) (by omega) h48
      have er : a49 1 (51 : Int32).toNatClampNeg = S.1 51 := by rw [e17 T1]; rfl
      rw [er]
      refine ⟨⟨hp1, T1.wt hW (by rw [List.length_append]; omega)⟩, fun i52 a53 q54 h52 => ?_⟩
      have T2 := T1.app hW (s := ptL (S.1 51)) (by rw [List.length_append]; omega) h52
      refine b88 _ _ _ _ T2 (by simp only [List.length_append]; omega) ?_
      simpa only [List.append_assoc] using K
  have key : ∀ n k l i' a' q', k + n = 12 → TS i6 a4 q5 l i' a' q' → l.length + (insL S.1 n k).length ≤ 370 → (∀ i' a' q', TS i6 a4 q5 (l ++ (insL S.1 n k ++ ((if wrF S.1 51 = true then tx__3b_first ++ ptL (S.1 51) else []) ++ ((if wrF S.1 52 = true then tx__3b_second ++ ptL (S.1 52) else []) ++ ((if wrF S.1 53 = true then tx__3b_count ++ numL (S.1 53) else []) ++ (rowL tx__3b_next S.1 54 12 0 ++ rowL tx__3b_skip S.1 66 12 0)))))) i' a' q' → post (i' 19) (i', a', q')) → wpb_X6_write_32 post (n + 1) i' a' q' (nI k) := by
    intro n
    induction n with
    | zero =>
      intro k l i' a' q' hk T hl K
      have : k = 12 := by omega
      subst this
      refine ⟨fun _ => b51 l _ _ _ T (by omega) ?_, fun h => absurd (by decide) h⟩
      unfold insL at K
      rw [List.nil_append] at K
      exact K
    | succ n ih =>
      intro k l i' a' q' hk T hl K
      refine ⟨fun h => absurd h (nI_ge (b := 12) (by omega) (by omega)), fun _ => ?_⟩
      rw [a3, nI_clamp (by omega), e17 T]
      unfold insL at K hl
      rw [List.length_append] at hl
      refine ⟨vp_in_nI (by omega) (by omega), fun c z65 e65 => ?_, fun c => ?_⟩
      · rw [if_neg c] at K hl
        rw [List.nil_append] at K
        rw [e65, nI_1]
        exact ih (k + 1) l _ _ _ (by omega) T (by omega) K
      · rw [if_pos c] at K hl
        refine ⟨⟨by rw [e17 T]; exact hR, k, by omega, rfl, by rw [e17 T]; exact c, by rw [e17 T]; exact T.wt hW (by omega)⟩, fun i30 a31 q32 h30 z65 e65 => ?_⟩
        have h30 : (i30, a31, q32) = wrt i' a' q' (inL (a' 1) (nI k).toNatClampNeg) := h30
        rw [e17 T, nI_clamp (by omega)] at h30
        have T1 := T.app hW (by omega) h30
        rw [e65, nI_1]
        refine ih (k + 1) _ _ _ _ (by omega) T1 (by rw [List.length_append]; omega) ?_
        simpa only [List.append_assoc] using K
  refine ⟨⟨hW.lo (by decide), asc_road⟩, fun i9 a10 q11 h9 => ⟨by unfold vp_in; decide, ?_⟩⟩
  have T1 := T0.app hW (s := tx_road) (by decide) h9
  rw [List.nil_append] at T1
  have er : a10 1 (0 : Int32).toNatClampNeg = S.1 0 := by rw [e17 T1]; rfl
  rw [er]
  refine ⟨⟨rr, by omega, err, T1.wt hW (by omega)⟩, fun i13 a14 q15 h13 => ⟨13, ?_⟩⟩
  have T2 := T1.app hW (s := numL (S.1 0)) (by omega) h13
  refine key 12 0 _ _ _ _ rfl T2 (by rw [List.length_append]; omega) ?_
  simpa only [List.append_assoc] using P
