set_option maxRecDepth 100000
/-! PURE: the wrong values counted by places, as the class counts them -/
def dif (f : Row) (x : Nat) : Nat := if f x = rebF f x then 0 else 1
def wpl (f : Row) : Nat → Nat
  | 0 => dif f 51 + dif f 52 + dif f 53
  | k + 1 => wpl f k + if f (3 + k) = 1 then dif f (54 + k) + dif f (66 + k) else 0
def wA (f : Row) (o : Nat) : Nat → Nat
  | 0 => 0
  | k + 1 => wA f o k + if f (3 + k) = 1 then dif f (o + k) else 0
theorem wro_c {f : Row} {k : Nat} {b : Bool} (hs : stoF f (51 + k) = b) : wroN f (k + 1) = wroN f k + (if b = true then dif f (51 + k) else 0) := by
  have e : wroN f (k + 1) = wroN f k + (if stoF f (51 + k) = true ∧ f (51 + k) ≠ rebF f (51 + k) then 1 else 0) := rfl
  rw [e, hs]
  cases b with
  | false => rw [if_neg (fun z => Bool.noConfusion z.1), if_neg (fun z => Bool.noConfusion z)]
  | true =>
    rw [if_pos rfl]
    unfold dif
    by_cases h : f (51 + k) = rebF f (51 + k)
    · rw [if_neg (fun z => z.2 h), if_pos h]
    · rw [if_pos ⟨rfl, h⟩, if_neg h]
theorem wro_A (f : Row) : ∀ n, n ≤ 12 → wroN f (3 + n) = wroN f 3 + wA f 54 n := by
  intro n
  induction n with
  | zero => intro _; rfl
  | succ n ih =>
    intro hn
    have e := wro_c (f := f) (k := 3 + n) (b := decide (f (3 + n) = 1)) (by rw [show 51 + (3 + n) = 54 + n by omega]; exact sto_54 (by omega))
    rw [show 3 + (n + 1) = 3 + n + 1 by omega, e, ih (by omega), show 51 + (3 + n) = 54 + n by omega]
    show _ = wroN f 3 + (wA f 54 n + if f (3 + n) = 1 then dif f (54 + n) else 0)
    by_cases h : f (3 + n) = 1
    · rw [if_pos (decide_eq_true h), if_pos h]; omega
    · rw [if_neg (by rw [decide_eq_false h]; exact Bool.noConfusion), if_neg h]; omega
theorem wro_B (f : Row) : ∀ n, n ≤ 12 → wroN f (15 + n) = wroN f 15 + wA f 66 n := by
  intro n
  induction n with
  | zero => intro _; rfl
  | succ n ih =>
    intro hn
    have e := wro_c (f := f) (k := 15 + n) (b := decide (f (3 + n) = 1)) (by rw [show 51 + (15 + n) = 66 + n by omega]; exact sto_66 (by omega))
    rw [show 15 + (n + 1) = 15 + n + 1 by omega, e, ih (by omega), show 51 + (15 + n) = 66 + n by omega]
    show _ = wroN f 15 + (wA f 66 n + if f (3 + n) = 1 then dif f (66 + n) else 0)
    by_cases h : f (3 + n) = 1
    · rw [if_pos (decide_eq_true h), if_pos h]; omega
    · rw [if_neg (by rw [decide_eq_false h]; exact Bool.noConfusion), if_neg h]; omega
theorem wpl_AB (f : Row) : ∀ n, wpl f n = dif f 51 + dif f 52 + dif f 53 + wA f 54 n + wA f 66 n := by
  intro n
  induction n with
  | zero => rfl
  | succ n ih =>
    show wpl f n + (if f (3 + n) = 1 then dif f (54 + n) + dif f (66 + n) else 0) = _ + (wA f 54 n + if f (3 + n) = 1 then dif f (54 + n) else 0) + (wA f 66 n + if f (3 + n) = 1 then dif f (66 + n) else 0)
    rw [ih]
    by_cases h : f (3 + n) = 1
    · rw [if_pos h, if_pos h, if_pos h]; omega
    · rw [if_neg h, if_neg h, if_neg h]; omega
/-- the class's count -/
theorem wpl_wro (f : Row) : wpl f 12 = wroN f 27 := by
  have h3 : wroN f 3 = dif f 51 + dif f 52 + dif f 53 := by
    have e0 := wro_c (f := f) (k := 0) (b := true) rfl
    have e1 := wro_c (f := f) (k := 1) (b := true) rfl
    have e2 := wro_c (f := f) (k := 2) (b := true) rfl
    rw [if_pos rfl] at e0 e1 e2
    have z : wroN f 0 = 0 := rfl
    rw [e2, e1, e0, z, Nat.zero_add]
  have a := wro_A f 12 (Nat.le_refl _)
  have b := wro_B f 12 (Nat.le_refl _)
  rw [wpl_AB, show (27 : Nat) = 15 + 12 from rfl, b, show (15 : Nat) = 3 + 12 from rfl, a, h3]
