set_option maxRecDepth 100000
/-! PURE 6: the bytes of a number, the input's end -/
def byt (v k : Int32) : Int32 := (v >>> k) &&& 255
def bytO (x : Int32) : List Int32 := if x = 0 then [] else [x.toInt8.toInt32]
/-- the bytes that a number brings -/
def bytL (v : Int32) : List Int32 := bytO (byt v 24) ++ (bytO (byt v 16) ++ (bytO (byt v 8) ++ bytO (byt v 0)))
def putL (b : Nat → Int32) : Nat → List Int32 → Nat → Int32
  | _, [] => b
  | L, x :: t => putL (upd b L x) (L + 1) t
def post_X6_bytesOf (v r : Int32) : Prop := r = nI (bytL v).length
def pre_X6_brings (i : Nat → Int32) (_ : Nat → Nat → Int32) (_ : Nat → Nat) (v : Int32) : Prop := ∃ L, i 18 = nI L ∧ L + (bytL v).length ≤ 500
def post_X6_brings (i : Nat → Int32) (a : Nat → Nat → Int32) (q : Nat → Nat) (v : Int32) (u : MSt) : Prop :=
  u = (upd i 18 (nI (blen i + (bytL v).length)), setR a 8 (putL (a 8) (blen i) (bytL v)), q)
def byt5 (v0 v1 v2 v3 v4 : Int32) : List Int32 := bytL v0 ++ (bytL v1 ++ (bytL v2 ++ (bytL v3 ++ bytL v4)))
def pre_X6_append (i : Nat → Int32) (_ : Nat → Nat → Int32) (_ : Nat → Nat) (_ _ _ _ _ : Int32) : Prop := BOK i
def post_X6_append (i : Nat → Int32) (a : Nat → Nat → Int32) (q : Nat → Nat) (v0 v1 v2 v3 v4 r : Int32) (u : MSt) : Prop :=
  if blen i + (byt5 v0 v1 v2 v3 v4).length ≤ 500 then r = nI (blen i + (byt5 v0 v1 v2 v3 v4).length) ∧ u = (upd (upd i 0 0) 18 (nI (blen i + (byt5 v0 v1 v2 v3 v4).length)), setR a 8 (putL (a 8) (blen i) (byt5 v0 v1 v2 v3 v4)), q)
  else r = 0 ∧ u = (upd i 0 1, a, q)
def pre_X6_truncate (i : Nat → Int32) (_ : Nat → Nat → Int32) (_ : Nat → Nat) (_ : Int32) : Prop := BOK i
def post_X6_truncate (i : Nat → Int32) (a : Nat → Nat → Int32) (q : Nat → Nat) (v r : Int32) (u : MSt) : Prop :=
  if 0 ≤ v ∧ v ≤ i 18 then r = v ∧ u = (upd (upd i 0 0) 18 v, a, q) else r = 0 ∧ u = (upd i 0 1, a, q)
def wpb_X6_bytesOf_28 (post : Int32 → Prop) (K4 : Int32 → Int32 → Prop) (v : Int32) (x2 : Int32) (s0 : Int32) (s1 : Int32) : Prop :=
  ∀ z3, z3 = (s1 + s0) → ∀ z4, z4 = x2 + 1 → K4 z3 z4
def wpb_X6_bytesOf_4 (post : Int32 → Prop)  (v : Int32) : Nat → Int32 → Int32 → Prop
  | 0 => fun _ _ => False
  | n + 1 => fun x1 x2 => (4 ≤ x2 → post x1) ∧ (¬ 4 ≤ x2 → (¬ ((v >>> ((8 * x2) &&& 31)) &&& 255) = 0 → wpb_X6_bytesOf_28 post (wpb_X6_bytesOf_4 post  v n) v x2 1 x1) ∧ (((v >>> ((8 * x2) &&& 31)) &&& 255) = 0 → wpb_X6_bytesOf_28 post (wpb_X6_bytesOf_4 post  v n) v x2 0 x1))
def wp_X6_bytesOf (post : Int32 → Prop) (v : Int32) : Prop :=
  ∃ n, wpb_X6_bytesOf_4 post  v n 0 0

def wpb_X6_brings_40 (post : MSt → Prop) (K3 : (Nat → Int32) → (Nat → Nat → Int32) → (Nat → Nat) → Int32 → Prop) (v : Int32) (i : Nat → Int32) (a : Nat → Nat → Int32) (q : Nat → Nat) (x2 : Int32) : Prop :=
  ∀ z6, z6 = x2 + (-8) → K3 i a q z6
def wpb_X6_brings_3 (post : MSt → Prop)  (v : Int32) : Nat → (Nat → Int32) → (Nat → Nat → Int32) → (Nat → Nat) → Int32 → Prop
  | 0 => fun _ _ _ _ => False
  | n + 1 => fun i a q x2 => (x2 < 0 → post (i, a, q)) ∧ (¬ x2 < 0 → ∀ z2, z2 = ((v >>> (x2 &&& 31)) &&& 255) → (z2 = 0 → wpb_X6_brings_40 post (wpb_X6_brings_3 post  v n) v i a q x2) ∧ (¬ z2 = 0 → vp_in (i 18) 500 ∧ ∀ a4, a4 = updA a 8 (i 18).toNatClampNeg z2.toInt8.toInt32.toInt8.toInt32 → ∀ i5, i5 = upd i 18 ((i 18) + 1) → wpb_X6_brings_40 post (wpb_X6_brings_3 post  v n) v i5 a4 q x2))
def wp_X6_brings (post : MSt → Prop) (i : Nat → Int32) (a : Nat → Nat → Int32) (q : Nat → Nat) (v : Int32) : Prop :=
  ∃ n, wpb_X6_brings_3 post  v n i a q 24

def wp_X6_append (post : Int32 → MSt → Prop) (i : Nat → Int32) (a : Nat → Nat → Int32) (q : Nat → Nat) (v0 : Int32) (v1 : Int32) (v2 : Int32) (v3 : Int32) (v4 : Int32) : Prop :=
  ∀ i1, i1 = upd i 0 0 → ∀ r2, post_X6_bytesOf  v0 r2 → ∀ r3, post_X6_bytesOf  v1 r3 → ∀ r4, post_X6_bytesOf  v2 r4 → ∀ r5, post_X6_bytesOf  v3 r5 → ∀ r6, post_X6_bytesOf  v4 r6 → (((((((i1 18) + r2) + r3) + r4) + r5) + r6) ≤ 500 → pre_X6_brings i1 a q v0 ∧ ∀ i9 a10 q11, post_X6_brings i1 a q v0 (i9, a10, q11) → pre_X6_brings i9 a10 q11 v1 ∧ ∀ i13 a14 q15, post_X6_brings i9 a10 q11 v1 (i13, a14, q15) → pre_X6_brings i13 a14 q15 v2 ∧ ∀ i17 a18 q19, post_X6_brings i13 a14 q15 v2 (i17, a18, q19) → pre_X6_brings i17 a18 q19 v3 ∧ ∀ i21 a22 q23, post_X6_brings i17 a18 q19 v3 (i21, a22, q23) → pre_X6_brings i21 a22 q23 v4 ∧ ∀ i25 a26 q27, post_X6_brings i21 a22 q23 v4 (i25, a26, q27) → post (i25 18) (i25, a26, q27)) ∧ (¬ ((((((i1 18) + r2) + r3) + r4) + r5) + r6) ≤ 500 → ∀ r28 i29 a30 q31, post_X6_fails i1 a q 1 r28 (i29, a30, q31) → post r28 (i29, a30, q31))

def wp_X6_truncate (post : Int32 → MSt → Prop) (i : Nat → Int32) (a : Nat → Nat → Int32) (q : Nat → Nat) (v : Int32) : Prop :=
  ∀ i1, i1 = upd i 0 0 → ∀ r2, post_X6_isIn  v.toInt64 0 ((i1 18).toInt64) r2 → (¬ r2 = 0 → ∀ i4, i4 = upd i1 18 v → post (i4 18) (i4, a, q)) ∧ (r2 = 0 → ∀ r5 i6 a7 q8, post_X6_fails i1 a q 1 r5 (i6, a7, q8) → post r5 (i6, a7, q8))
theorem isIn_of {x : Int32} {lo hi : Int64} {r : Int32} (l h : Int32) (hl : l.toInt64 = lo) (hh : h.toInt64 = hi) (e : post_X6_isIn x.toInt64 lo hi r) : r = b2i (decide (l ≤ x ∧ x ≤ h)) :=
  e.trans (congrArg b2i (decide_eq_decide.mpr (i2l_in x l h hl hh)))
theorem upd_same {f : Nat → Int32} {k : Nat} {x : Int32} (h : f k = x) : upd f k x = f := by
  funext j
  unfold upd
  by_cases e : j = k
  · rw [if_pos e, e, h]
  · rw [if_neg e]
theorem putL_app {s t : List Int32} : ∀ {b : Nat → Int32} {L : Nat}, putL b L (s ++ t) = putL (putL b L s) (L + s.length) t := by
  induction s with
  | nil => intro b L; rfl
  | cons x s ih =>
    intro b L
    show putL (upd b L x) (L + 1) (s ++ t) = putL (putL (upd b L x) (L + 1) s) (L + (s.length + 1)) t
    rw [ih, show L + 1 + s.length = L + (s.length + 1) by omega]
theorem putL_lo {t : List Int32} : ∀ {b : Nat → Int32} {L k : Nat}, k < L → putL b L t k = b k := by
  induction t with
  | nil => intro b L k _; rfl
  | cons x t ih =>
    intro b L k h
    show putL (upd b L x) (L + 1) t k = b k
    rw [ih (by omega)]
    unfold upd
    rw [if_neg (by omega)]
theorem bytO_len (x : Int32) : nI (bytO x).length = if x = 0 then 0 else 1 := by
  unfold bytO
  by_cases h : x = 0 <;> simp [h, nI] <;> rfl
theorem bytO_le (x : Int32) : (bytO x).length ≤ 1 := by
  unfold bytO
  by_cases h : x = 0 <;> simp [h]
theorem bytL_le (v : Int32) : (bytL v).length ≤ 4 := by
  unfold bytL
  rw [List.length_append, List.length_append, List.length_append]
  have := bytO_le (byt v 24); have := bytO_le (byt v 16); have := bytO_le (byt v 8); have := bytO_le (byt v 0)
  omega
theorem pr_X6_bytesOf (v : Int32) : wp_X6_bytesOf (fun r => post_X6_bytesOf v r) v := by
  refine ⟨5, ?_⟩
  have st : ∀ (K : Int32 → Int32 → Prop) (n x k k' : Int32), k + 1 = k' → K (n + if x = 0 then 0 else 1) k' → (¬ x = 0 → wpb_X6_bytesOf_28 (fun r => post_X6_bytesOf v r) K v k 1 n) ∧ (x = 0 → wpb_X6_bytesOf_28 (fun r => post_X6_bytesOf v r) K v k 0 n) := by
    intro K n x k k' hk h
    refine ⟨fun hx z3 e3 z4 e4 => ?_, fun hx z3 e3 z4 e4 => ?_⟩
    · rw [e3, e4, hk]; rw [if_neg hx] at h; exact h
    · rw [e3, e4, hk]; rw [if_pos hx] at h; exact h
  refine ⟨fun h => absurd h (by decide), fun _ => st _ _ _ _ 1 rfl ?_⟩
  refine ⟨fun h => absurd h (by decide), fun _ => st _ _ _ _ 2 rfl ?_⟩
  refine ⟨fun h => absurd h (by decide), fun _ => st _ _ _ _ 3 rfl ?_⟩
  refine ⟨fun h => absurd h (by decide), fun _ => st _ _ _ _ 4 rfl ?_⟩
  refine ⟨fun _ => ?_, fun h => absurd (by decide) h⟩
  show _ = nI (bytL v).length
  unfold bytL
  rw [List.length_append, List.length_append, List.length_append, ← nI_add, ← nI_add, ← nI_add, bytO_len, bytO_len, bytO_len, bytO_len]
  unfold byt
  rw [show ((8 : Int32) * 0) &&& 31 = 0 from rfl, show ((8 : Int32) * 1) &&& 31 = 8 from rfl, show ((8 : Int32) * 2) &&& 31 = 16 from rfl, show ((8 : Int32) * 3) &&& 31 = 24 from rfl]
  generalize (if (v >>> (0 : Int32)) &&& 255 = 0 then (0 : Int32) else 1) = c0
  generalize (if (v >>> (8 : Int32)) &&& 255 = 0 then (0 : Int32) else 1) = c1
  generalize (if (v >>> (16 : Int32)) &&& 255 = 0 then (0 : Int32) else 1) = c2
  generalize (if (v >>> (24 : Int32)) &&& 255 = 0 then (0 : Int32) else 1) = c3
  rw [Int32.zero_add]
  ac_rfl
theorem pr_X6_brings (i : Nat → Int32) (a : Nat → Nat → Int32) (q : Nat → Nat) (v : Int32) (hpre : pre_X6_brings i a q v) : wp_X6_brings (fun u => post_X6_brings i a q v u) i a q v := by
  obtain ⟨L, h18, hL⟩ := hpre
  have hb : blen i = L := by unfold blen; rw [h18, nI_clamp (by omega)]
  have st : ∀ (l : List Int32) (n : Nat) (k k' x : Int32), ¬ k < 0 → k + (-8) = k' → (v >>> (k &&& 31)) &&& 255 = x → L + (l ++ bytO x).length ≤ 500 →
      wpb_X6_brings_3 (fun u => post_X6_brings i a q v u) v n (upd i 18 (nI (L + (l ++ bytO x).length))) (setR a 8 (putL (a 8) L (l ++ bytO x))) q k' →
      wpb_X6_brings_3 (fun u => post_X6_brings i a q v u) v (n + 1) (upd i 18 (nI (L + l.length))) (setR a 8 (putL (a 8) L l)) q k := by
    intro l n k k' x hk hk' hx hlen h
    refine ⟨fun z => absurd z hk, fun _ z2 e2 => ⟨fun z z6 e6 => ?_, fun z => ?_⟩⟩
    · rw [e6, hk']
      have : bytO x = [] := if_pos (hx.symm.trans (e2.symm.trans z))
      rw [this, List.append_nil] at h
      exact h
    · have e : bytO x = [x.toInt8.toInt32] := if_neg (fun w => z (e2.trans (hx.trans w)))
      rw [e, List.length_append] at hlen
      have hl1 : L + l.length < 500 := by simp only [List.length_cons, List.length_nil] at hlen; omega
      have f18 : upd i 18 (nI (L + l.length)) 18 = nI (L + l.length) := rfl
      rw [f18, nI_clamp (by omega)]
      refine ⟨vp_in_nI hl1 (by omega), fun a4 e4 i5 e5 z6 e6 => ?_⟩
      rw [e6, hk', e5, e4, e2, hx]
      rw [e, List.length_append, putL_app] at h
      rw [upd_upd, show nI (L + l.length) + 1 = nI (L + l.length + 1) from nI_1 _, updA_setR, setR_self, setR_setR, Int8.toInt8_toInt32]
      exact h
  refine ⟨5, ?_⟩
  have h0 := st [] 4 24 16 (byt v 24) (by decide) rfl rfl
  rw [show L + ([] : List Int32).length = L from rfl, upd_same h18, show putL (a 8) L [] = a 8 from rfl, setR_id, List.nil_append] at h0
  unfold bytL at hL
  simp only [List.length_append] at hL
  refine h0 (by omega) ?_
  refine st _ 3 16 8 (byt v 16) (by decide) rfl rfl (by simp only [List.length_append]; omega) ?_
  refine st _ 2 8 0 (byt v 8) (by decide) rfl rfl (by simp only [List.length_append]; omega) ?_
  refine st _ 1 0 (-8) (byt v 0) (by decide) rfl rfl (by simp only [List.length_append]; omega) ?_
  refine ⟨fun _ => ?_, fun h => absurd (by decide) h⟩
  show _ = _
  rw [hb]
  unfold bytL
  simp only [List.append_assoc]
theorem pr_X6_append (i : Nat → Int32) (a : Nat → Nat → Int32) (q : Nat → Nat) (v0 : Int32) (v1 : Int32) (v2 : Int32) (v3 : Int32) (v4 : Int32) (hpre : pre_X6_append i a q v0 v1 v2 v3 v4) : wp_X6_append (fun r u => post_X6_append i a q v0 v1 v2 v3 v4 r u) i a q v0 v1 v2 v3 v4 := by
  obtain ⟨hL, h18⟩ := BOK.len hpre
  intro i1 e1 r2 h2 r3 h3 r4 h4 r5 h5 r6 h6
  subst e1
  unfold post_X6_bytesOf at h2 h3 h4 h5 h6
  subst h2 h3 h4 h5 h6
  have g0 := bytL_le v0; have g1 := bytL_le v1; have g2 := bytL_le v2; have g3 := bytL_le v3; have g4 := bytL_le v4
  have f18 : upd i 0 0 18 = nI (blen i) := h18
  rw [f18, nI_add, nI_add, nI_add, nI_add, nI_add]
  have hle : nI (blen i + (bytL v0).length + (bytL v1).length + (bytL v2).length + (bytL v3).length + (bytL v4).length) ≤ 500 ↔ blen i + (bytL v0).length + (bytL v1).length + (bytL v2).length + (bytL v3).length + (bytL v4).length ≤ 500 := nI_leI (b := 500) (by omega) (by omega)
  have hlen : (byt5 v0 v1 v2 v3 v4).length = (bytL v0).length + ((bytL v1).length + ((bytL v2).length + ((bytL v3).length + (bytL v4).length))) := by unfold byt5; simp only [List.length_append]
  rw [hle]
  unfold post_X6_append
  have ex : ∀ (j : Nat → Int32) (n : Nat), n ≤ 500 → blen (upd j 18 (nI n)) = n := fun j n h => by show (nI n).toNatClampNeg = n; exact nI_clamp (by omega)
  refine ⟨fun h => ⟨⟨blen i, h18, by omega⟩, fun i9 a10 q11 h9 => ?_⟩, fun h r28 i29 a30 q31 h28 => ?_⟩
  · unfold post_X6_brings at h9
    cases h9
    rw [show blen (upd i 0 0) = blen i from rfl]
    refine ⟨⟨_, rfl, by omega⟩, fun i13 a14 q15 h13 => ?_⟩
    unfold post_X6_brings at h13
    cases h13
    rw [ex _ _ (by omega), upd_upd, setR_setR, setR_self, ← putL_app]
    refine ⟨⟨_, rfl, by omega⟩, fun i13 a14 q15 h13 => ?_⟩
    unfold post_X6_brings at h13
    cases h13
    rw [ex _ _ (by omega), upd_upd, setR_setR, setR_self, show blen i + (bytL v0).length + (bytL v1).length = blen i + (bytL v0 ++ bytL v1).length by rw [List.length_append]; omega, ← putL_app]
    refine ⟨⟨_, rfl, by simp only [List.length_append]; omega⟩, fun i13 a14 q15 h13 => ?_⟩
    unfold post_X6_brings at h13
    cases h13
    rw [ex _ _ (by simp only [List.length_append]; omega), upd_upd, setR_setR, setR_self, show blen i + (bytL v0 ++ bytL v1).length + (bytL v2).length = blen i + (bytL v0 ++ bytL v1 ++ bytL v2).length by simp only [List.length_append]; omega, ← putL_app]
    refine ⟨⟨_, rfl, by simp only [List.length_append]; omega⟩, fun i13 a14 q15 h13 => ?_⟩
    unfold post_X6_brings at h13
    cases h13
    rw [ex _ _ (by simp only [List.length_append]; omega), upd_upd, setR_setR, setR_self, show blen i + (bytL v0 ++ bytL v1 ++ bytL v2).length + (bytL v3).length = blen i + (bytL v0 ++ bytL v1 ++ bytL v2 ++ bytL v3).length by simp only [List.length_append]; omega, ← putL_app]
    rw [if_pos (by omega)]
    have e5 : bytL v0 ++ bytL v1 ++ bytL v2 ++ bytL v3 ++ bytL v4 = byt5 v0 v1 v2 v3 v4 := by unfold byt5; simp only [List.append_assoc]
    have e6 : blen i + (bytL v0 ++ bytL v1 ++ bytL v2 ++ bytL v3).length + (bytL v4).length = blen i + (byt5 v0 v1 v2 v3 v4).length := by rw [hlen]; simp only [List.length_append]; omega
    rw [e5, e6]
    exact ⟨rfl, rfl⟩
  · unfold post_X6_fails at h28
    dsimp only
    rw [if_neg (by omega)]
    refine ⟨h28.1, ?_⟩
    rw [h28.2, upd_upd]
theorem pr_X6_truncate (i : Nat → Int32) (a : Nat → Nat → Int32) (q : Nat → Nat) (v : Int32) (hpre : pre_X6_truncate i a q v) : wp_X6_truncate (fun r u => post_X6_truncate i a q v r u) i a q v := by
  intro i1 e1 r2 h2
  subst e1
  have h2 := isIn_of (0 : Int32) (i 18) rfl rfl h2
  subst h2
  unfold post_X6_truncate
  dsimp only
  refine ⟨fun h i4 e4 => ?_, fun h r5 i6 a7 q8 h5 => ?_⟩
  · rw [if_pos (of_decide_eq_true (b2i_1 h)), e4]
    exact ⟨rfl, rfl⟩
  · rw [if_neg (of_decide_eq_false (b2i_0 h))]
    unfold post_X6_fails at h5
    refine ⟨h5.1, ?_⟩
    rw [h5.2, upd_upd]
theorem b2i_f {b : Bool} (h : b2i b = 0) : ¬ b = true := by rw [b2i_0 h]; exact Bool.noConfusion
