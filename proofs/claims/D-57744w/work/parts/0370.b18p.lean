theorem MAb.buf {i : Nat → Int32} {a : Nat → Nat → Int32} {q : Nat → Nat} {t : Int32} {S : AM} (h : MAb i a q t S) {L : Nat} (hL : L ≤ 500) (b : Row) : MAb (upd i 18 (nI L)) (setR a 8 b) q t (S.1, S.2.1, S.2.2.1, (L, b), S.2.2.2.2) := by
  obtain ⟨k0, k1, k2, k3, k4, k5, k6, k7, k8, k9⟩ := h
  have w1 : setR a 8 b 1 = a 1 := setR_ne (by decide)
  have w2 : setR a 8 b 2 = a 2 := setR_ne (by decide)
  have w9 : setR a 8 b 9 = a 9 := setR_ne (by decide)
  have w8 : setR a 8 b 8 = b := setR_self
  have wh : hisL (upd i 18 (nI L)) (setR a 8 b) q = hisL i a q := hisL_congr k4 rfl (fun j j1 j2 => setR_ne (by omega))
  exact ⟨k0, w1.trans k1, k2, fun k ek => ⟨(k3 k ek).1, w2.trans (k3 k ek).2⟩, k4, wh.trans k5, ⟨rfl, hL⟩, w8, k8, w9.trans k9⟩
theorem app_of {i : Nat → Int32} {a : Nat → Nat → Int32} {q : Nat → Nat} {t : Int32} {S : AM} (h : MAb i a q t S) {v0 v1 v2 v3 v4 r : Int32} {u : MSt} (e : post_X6_append i a q v0 v1 v2 v3 v4 r u) : OpR (opApp S v0 v1 v2 v3 v4) r u := by
  unfold post_X6_append at e
  unfold opApp
  rw [h.hbl] at e
  by_cases c : S.2.2.2.1.1 + (byt5 v0 v1 v2 v3 v4).length ≤ 500
  · rw [if_pos c] at e ⊢
    obtain ⟨e1, e2⟩ := e
    rw [e2]
    refine ⟨e1, ?_⟩
    have h8 : a 8 = S.2.2.2.1.2 := h.2.2.2.2.2.2.2.1
    rw [h8]
    exact (h.thr (t' := 0)).buf c _
  · rw [if_neg c] at e ⊢
    obtain ⟨e1, e2⟩ := e
    rw [e2]
    exact ⟨e1, h.thr⟩
theorem tru_of {i : Nat → Int32} {a : Nat → Nat → Int32} {q : Nat → Nat} {t : Int32} {S : AM} (h : MAb i a q t S) {v r : Int32} {u : MSt} (e : post_X6_truncate i a q v r u) : OpR (opTru S v) r u := by
  unfold post_X6_truncate at e
  unfold opTru
  have h18 : i 18 = nI S.2.2.2.1.1 := h.2.2.2.2.2.2.1.1
  have hL : S.2.2.2.1.1 ≤ 500 := h.2.2.2.2.2.2.1.2
  rw [h18] at e
  by_cases c : 0 ≤ v ∧ v ≤ nI S.2.2.2.1.1
  · rw [if_pos c] at e ⊢
    obtain ⟨e1, e2⟩ := e
    obtain ⟨k, hk, ek⟩ := nI_of2 (M := nI S.2.2.2.1.1) (n := S.2.2.2.1.1) (nI_toInt (by omega)) (Int32.not_lt.mpr c.1) c.2
    rw [e2]
    refine ⟨e1, ?_⟩
    have h8 : setR a 8 S.2.2.2.1.2 = a := by rw [← h.2.2.2.2.2.2.2.1, setR_id]
    have := (h.thr (t' := 0)).buf (L := k) (by omega) S.2.2.2.1.2
    rw [h8] at this
    rw [ek, nI_clamp (by omega)]
    exact this
  · rw [if_neg c] at e ⊢
    obtain ⟨e1, e2⟩ := e
    rw [e2]
    exact ⟨e1, h.thr⟩
