set_option maxRecDepth 100000
/-! PURE: a sound road is one without a wrong stored value -/
theorem wroN_0 (f : Row) : ∀ n, wroN f n = 0 ↔ ∀ k, k < n → stoF f (51 + k) = true → f (51 + k) = rebF f (51 + k) := by
  intro n
  induction n with
  | zero => exact ⟨fun _ k h => absurd h (Nat.not_lt_zero _), fun _ => rfl⟩
  | succ n ih =>
    have e : wroN f (n + 1) = wroN f n + (if stoF f (51 + n) = true ∧ f (51 + n) ≠ rebF f (51 + n) then 1 else 0) := rfl
    rw [e]
    constructor
    · intro h k hk hs
      by_cases c : stoF f (51 + n) = true ∧ f (51 + n) ≠ rebF f (51 + n)
      · rw [if_pos c] at h; omega
      · rw [if_neg c, Nat.add_zero] at h
        by_cases ek : k = n
        · subst ek
          by_cases e2 : f (51 + k) = rebF f (51 + k)
          · exact e2
          · exact absurd ⟨hs, e2⟩ c
        · exact ih.mp h k (by omega) hs
    · intro h
      rw [ih.mpr (fun k hk => h k (by omega)), if_neg (fun z => z.2 (h n (by omega) z.1))]
def Chn (f : Row) : Int32 → List Nat → Int32 → Prop
  | x, [], e => x = e
  | x, y :: t, e => x = nI y ∧ y < 12 ∧ f (3 + y) = 1 ∧ Chn f (f (54 + y)) t e
theorem chG_chn (f : Row) : ∀ n l x, ∃ t, (chG f n l x).1 = l ++ t ∧ Chn f x t (chG f n l x).2 := by
  intro n
  induction n with
  | zero => intro l x; exact ⟨[], (List.append_nil _).symm, rfl⟩
  | succ n ih =>
    intro l x
    have e : chG f (n + 1) l x = if hasI f x = true ∧ x.toNatClampNeg ∉ l then chG f n (l ++ [x.toNatClampNeg]) (f (54 + x.toNatClampNeg)) else (l, x) := rfl
    rw [e]
    by_cases c : hasI f x = true ∧ x.toNatClampNeg ∉ l
    · rw [if_pos c]
      obtain ⟨k, hk, ek⟩ := hasI_pl c.1
      have ec : x.toNatClampNeg = k := by rw [ek, nI_clamp (by omega)]
      rw [ec]
      obtain ⟨t, h1, h2⟩ := ih (l ++ [k]) (f (54 + k))
      have h3 := c.1
      rw [ek, hasI_n hk] at h3
      exact ⟨k :: t, by rw [h1, List.append_assoc]; rfl, ek, hk, of_decide_eq_true h3, h2⟩
    · rw [if_neg c]
      exact ⟨[], (List.append_nil _).symm, rfl⟩
theorem chF_chn (f : Row) : Chn f (f 51) (chF f).1 (chF f).2 := by
  obtain ⟨t, h1, h2⟩ := chG_chn f 13 [] (f 51)
  have : (chF f).1 = t := h1
  rw [this]
  exact h2
theorem chn_el {f : Row} : ∀ {l : List Nat} {x : Int32}, Chn f x l (-1) → x = elemI l 0 ∧ ∀ k y, l[k]? = some y → f (54 + y) = elemI l (k + 1) ∧ y < 12 ∧ f (3 + y) = 1 := by
  intro l
  induction l with
  | nil => intro x h; exact ⟨h, fun k y e => by simp at e⟩
  | cons z t ih =>
    intro x h
    obtain ⟨h1, h2, h3, h4⟩ := h
    obtain ⟨g1, g2⟩ := ih h4
    refine ⟨h1, fun k y e => ?_⟩
    cases k with
    | zero =>
      have e : z = y := by simpa using e
      subst e
      exact ⟨g1, h2, h3⟩
    | succ k =>
      have e : t[k]? = some y := by simpa using e
      exact g2 k y e
theorem nodup_full : ∀ (l L : List Nat), l.Nodup → (∀ x ∈ l, x ∈ L) → L.length ≤ l.length → ∀ x ∈ L, x ∈ l := by
  intro l
  induction l with
  | nil =>
    intro L _ _ h x hx
    have : L = [] := List.length_eq_zero_iff.mp (Nat.le_zero.mp h)
    rw [this] at hx
    exact hx
  | cons a t ih =>
    intro L hn hs h x hx
    obtain ⟨h1, h2⟩ := List.nodup_cons.mp hn
    have ha := hs a List.mem_cons_self
    by_cases e : x = a
    · rw [e]; exact List.mem_cons_self
    · refine List.mem_cons_of_mem _ (ih (L.erase a) h2 (fun y hy => ?_) ?_ x ?_)
      · have hya : y ≠ a := fun e => h1 (e ▸ hy)
        exact (List.mem_erase_of_ne hya).mpr (hs y (List.mem_cons_of_mem _ hy))
      · rw [List.length_erase_of_mem ha]
        rw [List.length_cons] at h
        omega
      · exact (List.mem_erase_of_ne e).mpr hx
/-- ascending lists of the same inns are equal -/
theorem asc_uniq {f : Row} : ∀ {l L : List Nat}, Asc f l → Asc f L → (∀ x, x ∈ l ↔ x ∈ L) → l = L := by
  intro l
  induction l with
  | nil =>
    intro L _ _ h
    cases L with
    | nil => rfl
    | cons z t => exact absurd ((h z).mpr List.mem_cons_self) (by simp)
  | cons y t ih =>
    intro L hl hL h
    cases L with
    | nil => exact absurd ((h y).mp List.mem_cons_self) (by simp)
    | cons z u =>
      obtain ⟨a1, a2⟩ := List.pairwise_cons.mp hl
      obtain ⟨b1, b2⟩ := List.pairwise_cons.mp hL
      have e : y = z := by
        rcases List.mem_cons.mp ((h y).mp List.mem_cons_self) with e | hy
        · exact e
        · rcases List.mem_cons.mp ((h z).mpr List.mem_cons_self) with e | hz
          · exact e.symm
          · exact absurd (lt_tr (b1 y hy) (a1 z hz)) Int32.lt_irrefl
      subst e
      have : t = u := ih a2 b2 (fun x => by
        constructor
        · intro hx
          rcases List.mem_cons.mp ((h x).mp (List.mem_cons_of_mem _ hx)) with e | hx'
          · subst e; exact absurd (a1 x hx) Int32.lt_irrefl
          · exact hx'
        · intro hx
          rcases List.mem_cons.mp ((h x).mpr (List.mem_cons_of_mem _ hx)) with e | hx'
          · subst e; exact absurd (b1 x hx) Int32.lt_irrefl
          · exact hx')
      rw [this]
theorem souR_iff {f : Row} : ∀ {l : List Nat} {z : Nat}, souR f (some z) l = true ↔ (∀ y ∈ l, f (15 + z) < f (15 + y)) ∧ Asc f l ∧ ∀ y ∈ l, f (66 + y) = nxO f (f (54 + y)) := by
  intro l
  induction l with
  | nil => intro z; exact ⟨fun _ => ⟨fun y h => (by cases h), List.Pairwise.nil, fun y h => (by cases h)⟩, fun _ => rfl⟩
  | cons w t ih =>
    intro z
    have e : souR f (some z) (w :: t) = (decide (f (15 + z) < f (15 + w)) && decide (f (66 + w) = nxO f (f (54 + w))) && souR f (some w) t) := rfl
    rw [e, Bool.and_eq_true, Bool.and_eq_true, decide_eq_true_eq, decide_eq_true_eq, ih]
    constructor
    · rintro ⟨⟨h1, h2⟩, h3, h4, h5⟩
      refine ⟨fun y hy => ?_, List.pairwise_cons.mpr ⟨h3, h4⟩, fun y hy => ?_⟩
      · rcases List.mem_cons.mp hy with e | hy
        · rw [e]; exact h1
        · exact lt_tr h1 (h3 y hy)
      · rcases List.mem_cons.mp hy with e | hy
        · rw [e]; exact h2
        · exact h5 y hy
    · rintro ⟨h1, h2, h3⟩
      obtain ⟨h4, h5⟩ := List.pairwise_cons.mp h2
      exact ⟨⟨h1 w List.mem_cons_self, h3 w List.mem_cons_self⟩, h4, h5, fun y hy => h3 y (List.mem_cons_of_mem _ hy)⟩
theorem souR0_iff {f : Row} {l : List Nat} : souR f none l = true ↔ Asc f l ∧ ∀ y ∈ l, f (66 + y) = nxO f (f (54 + y)) := by
  cases l with
  | nil => exact ⟨fun _ => ⟨List.Pairwise.nil, fun y h => (by cases h)⟩, fun _ => rfl⟩
  | cons w t =>
    have e : souR f none (w :: t) = (true && decide (f (66 + w) = nxO f (f (54 + w))) && souR f (some w) t) := rfl
    rw [e, Bool.and_eq_true, Bool.true_and, decide_eq_true_eq, souR_iff]
    constructor
    · rintro ⟨h2, h3, h4, h5⟩
      refine ⟨List.pairwise_cons.mpr ⟨h3, h4⟩, fun y hy => ?_⟩
      rcases List.mem_cons.mp hy with e | hy
      · rw [e]; exact h2
      · exact h5 y hy
    · rintro ⟨h2, h3⟩
      obtain ⟨h4, h5⟩ := List.pairwise_cons.mp h2
      exact ⟨h3 w List.mem_cons_self, h4, h5, fun y hy => h3 y (List.mem_cons_of_mem _ hy)⟩
theorem elemI_none {l : List Nat} {k : Nat} (h : l.length ≤ k) : elemI l k = -1 := by
  unfold elemI
  rw [List.getElem?_eq_none h]
theorem elemI_some {l : List Nat} {k y : Nat} (h : l[k]? = some y) : elemI l k = nI y := by
  unfold elemI
  rw [h]
theorem hasI_m1 (f : Row) : hasI f (-1) = false := by
  unfold hasI
  rw [decide_eq_false (by decide)]
  rfl
/-- along an ascending list whose next pointers are right -/
theorem nxO_el {f : Row} {B : List Nat} (h : ∀ k y, B[k]? = some y → f (54 + y) = elemI B (k + 1) ∧ y < 12 ∧ f (3 + y) = 1) (j : Nat) : nxO f (elemI B j) = elemI B (j + 1) := by
  cases hj : B[j]? with
  | none =>
    have := List.getElem?_eq_none_iff.mp hj
    rw [elemI_none this, elemI_none (by omega)]
    unfold nxO
    rw [hasI_m1]; rfl
  | some y =>
    obtain ⟨h1, h2, h3⟩ := h j y hj
    rw [elemI_some hj, ← h1]
    unfold nxO
    rw [hasI_n h2, decide_eq_true h3, nI_clamp (by omega)]
    rfl
theorem asc_nodup {f : Row} {l : List Nat} (h : Asc f l) : l.Nodup := h.imp (fun hlt e => by subst e; exact Int32.lt_irrefl hlt)
theorem sto_54 {f : Row} {y : Nat} (hy : y < 12) : stoF f (54 + y) = decide (f (3 + y) = 1) := by
  unfold stoF
  rw [decide_eq_true (show 51 ≤ 54 + y by omega), decide_eq_false (show ¬ 54 + y < 54 by omega), show (54 + y - 54) % 12 = y by omega]
  rfl
theorem sto_66 {f : Row} {y : Nat} (hy : y < 12) : stoF f (66 + y) = decide (f (3 + y) = 1) := by
  unfold stoF
  rw [decide_eq_true (show 51 ≤ 66 + y by omega), decide_eq_false (show ¬ 66 + y < 54 by omega), show (66 + y - 54) % 12 = y by omega]
  rfl
theorem chG_right {f : Row} {B : List Nat} (hn : B.Nodup) (h : ∀ k y, B[k]? = some y → f (54 + y) = elemI B (k + 1) ∧ y < 12 ∧ f (3 + y) = 1) : ∀ n k, k ≤ B.length → B.length < k + n → chG f n (B.take k) (elemI B k) = (B, -1) := by
  intro n
  induction n with
  | zero => intro k h1 h2; omega
  | succ n ih =>
    intro k h1 h2
    have e : ∀ x l, chG f (n + 1) l x = if hasI f x = true ∧ x.toNatClampNeg ∉ l then chG f n (l ++ [x.toNatClampNeg]) (f (54 + x.toNatClampNeg)) else (l, x) := fun _ _ => rfl
    rcases Nat.lt_or_ge k B.length with hk | hk
    · have hy := List.getElem?_eq_getElem hk
      obtain ⟨g1, g2, g3⟩ := h k _ hy
      rw [elemI_some hy, e, nI_clamp (by omega), if_pos]
      · rw [List.take_append_getElem hk, g1]
        exact ih (k + 1) (by omega) (by omega)
      · refine ⟨by rw [hasI_n g2, decide_eq_true g3], fun hm => ?_⟩
        obtain ⟨j, hj⟩ := List.getElem?_of_mem hm
        have hjl := (List.getElem?_eq_some_iff.mp hj).1
        rw [List.length_take] at hjl
        rw [List.getElem?_take, if_pos (by omega)] at hj
        obtain ⟨hjb, ej⟩ := List.getElem?_eq_some_iff.mp hj
        have := List.pairwise_iff_getElem.mp hn j k hjb hk (by omega)
        exact this ej
    · have : k = B.length := by omega
      subst this
      rw [elemI_none (Nat.le_refl _), List.take_length, e, hasI_m1, if_neg (fun z => Bool.noConfusion z.1)]
/-- sound: no stored value is wrong -/
theorem sou_wro {f : Row} (hR : RowOK f) (hD : MD f) : souF f = true ↔ wroN f 27 = 0 := by
  obtain ⟨r51, r52, r53, rB⟩ := reb_list hR hD
  have hasc := bmL_asc hD 12 (Nat.le_refl _)
  have hBlen := bmL_len hR 12 (Nat.le_refl _)
  obtain ⟨B, eB⟩ : ∃ B, B = bmL f 12 := ⟨_, rfl⟩
  have hBm : ∀ y, y ∈ B ↔ y < 12 ∧ f (3 + y) = 1 := fun y => by rw [eB]; exact bmL_mem
  rw [← eB] at r51 r52 r53 rB hasc hBlen
  have hBn := asc_nodup hasc
  have hB12 : B.length ≤ 12 := nodup_lt 12 B hBn (fun y hy => ((hBm y).mp hy).1)
  rw [wroN_0]
  constructor
  · intro h
    unfold souF at h
    simp only [Bool.and_eq_true, decide_eq_true_eq] at h
    obtain ⟨⟨⟨⟨g1, g2⟩, g3⟩, g4⟩, g5⟩ := h
    have hc := chF_chn f
    rw [g2] at hc
    obtain ⟨l, el⟩ : ∃ l, l = (chF f).1 := ⟨_, rfl⟩
    obtain ⟨m1, m2, m3⟩ := chF_mem f
    rw [← el] at g1 g3 g5 hc m1 m2 m3
    obtain ⟨c1, c2⟩ := chn_el hc
    obtain ⟨s1, s2⟩ := souR0_iff.mp g5
    have hlen : l.length = B.length := (nI_eq (by omega) (by omega)).mp (g1.trans hBlen)
    have hsub : ∀ y ∈ l, y ∈ B := fun y hy => by
      obtain ⟨j, hj⟩ := List.getElem?_of_mem hy
      exact (hBm y).mpr (c2 j y hj).2
    have hlB : l = B := asc_uniq s1 hasc (fun y => ⟨hsub y, nodup_full l B m2 hsub (by omega) y⟩)
    subst hlB
    intro k hk hs
    by_cases k0 : k = 0
    · subst k0; exact c1.trans r51.symm
    by_cases k1 : k = 1
    · subst k1
      show f 52 = rebF f 52
      rw [g4, c1, nxO_el c2, r52]
    by_cases k2 : k = 2
    · subst k2; exact g3.trans r53.symm
    by_cases k15 : k < 15
    · have hy : k - 3 < 12 := by omega
      have e : 51 + k = 54 + (k - 3) := by omega
      rw [e] at hs ⊢
      rw [sto_54 hy, decide_eq_true_eq] at hs
      obtain ⟨j, hj⟩ := List.getElem?_of_mem ((hBm (k - 3)).mpr ⟨hy, hs⟩)
      rw [(c2 j _ hj).1, (rB j _ hj).1]
    · have hy : k - 15 < 12 := by omega
      have e : 51 + k = 66 + (k - 15) := by omega
      rw [e] at hs ⊢
      rw [sto_66 hy, decide_eq_true_eq] at hs
      have hm := (hBm (k - 15)).mpr ⟨hy, hs⟩
      obtain ⟨j, hj⟩ := List.getElem?_of_mem hm
      rw [s2 _ hm, (c2 j _ hj).1, nxO_el c2, (rB j _ hj).2]
  · intro h
    have q51 : f 51 = elemI B 0 := (h 0 (by omega) rfl).trans r51
    have q52 : f 52 = elemI B 1 := (h 1 (by omega) rfl).trans r52
    have q53 : f 53 = nI B.length := (h 2 (by omega) rfl).trans r53
    have q54 : ∀ k y, B[k]? = some y → f (54 + y) = elemI B (k + 1) ∧ y < 12 ∧ f (3 + y) = 1 := fun k y hk => by
      obtain ⟨b1, b2⟩ := (hBm y).mp (List.mem_of_getElem? hk)
      have := h (y + 3) (by omega)
      rw [show 51 + (y + 3) = 54 + y by omega, sto_54 b1, decide_eq_true b2] at this
      exact ⟨(this rfl).trans (rB k y hk).1, b1, b2⟩
    have q66 : ∀ k y, B[k]? = some y → f (66 + y) = elemI B (k + 2) := fun k y hk => by
      obtain ⟨b1, b2⟩ := (hBm y).mp (List.mem_of_getElem? hk)
      have := h (y + 15) (by omega)
      rw [show 51 + (y + 15) = 66 + y by omega, sto_66 b1, decide_eq_true b2] at this
      exact (this rfl).trans (rB k y hk).2
    have hch : chF f = (B, -1) := by
      have := chG_right hBn q54 13 0 (Nat.zero_le _) (by omega)
      rw [List.take_zero, ← q51] at this
      exact this
    unfold souF
    rw [hch]
    simp only [Bool.and_eq_true, decide_eq_true_eq]
    refine ⟨⟨⟨⟨hBlen.symm, trivial⟩, q53⟩, by rw [q51, nxO_el q54]; exact q52⟩, souR0_iff.mpr ⟨hasc, fun y hy => ?_⟩⟩
    obtain ⟨k, hk⟩ := List.getElem?_of_mem hy
    rw [q66 k y hk, (q54 k y hk).1, nxO_el q54]
