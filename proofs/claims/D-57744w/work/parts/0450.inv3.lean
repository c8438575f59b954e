set_option maxRecDepth 100000
/-! PURE: the first state's row; a sending's row -/
theorem rk_row5 : RK row5 := by
  have r0 : RK (upd (fun _ => 0) 0 40) := by
    refine ⟨fun k hk => ⟨Or.inl ?_, fun e => ?_⟩, fun x y hx hy e1 => ?_, 40, by omega, rfl⟩
    · show upd (fun _ => 0) 0 40 (3 + k) = 0
      exact upd_n (f := fun _ => 0) (by omega)
    · have : upd (fun _ => (0 : Int32)) 0 40 (3 + k) = 0 := upd_n (f := fun _ => 0) (by omega)
      rw [this] at e
      exact absurd e (by decide)
    · have : upd (fun _ => (0 : Int32)) 0 40 (3 + x) = 0 := upd_n (f := fun _ => 0) (by omega)
      rw [this] at e1
      exact absurd e1 (by decide)
  have r1 := rk_bld r0 (k := 0) (m := 10) (by omega) (by omega) (by decide)
  have r2 := rk_bld r1 (k := 1) (m := 75) (by omega) (by omega) (by decide)
  have r3 := rk_bld r2 (k := 2) (m := 30) (by omega) (by omega) (by decide)
  have r4 := rk_bld r3 (k := 3) (m := 55) (by omega) (by omega) (by decide)
  have r5 := rk_bld r4 (k := 4) (m := 90) (by omega) (by omega) (by decide)
  have i1 := inv_let (inv_reb r5) (k := 1) (l := 3) (by omega) (by omega)
  have i2 := inv_opn i1 (k := 3) (v := 0) (by omega) (Or.inl rfl)
  refine i2.1.congr (fun x hx => ?_)
  have e : ∀ (g h : Row), g x = h x → upd (upd g 40 3) 30 0 x = upd (upd h 40 3) 30 0 x := fun g h e => by
    unfold upd
    by_cases a : x = 30
    · rw [if_pos a, if_pos a]
    · rw [if_neg a, if_neg a]
      by_cases b : x = 40
      · rw [if_pos b, if_pos b]
      · rw [if_neg b, if_neg b]; exact e
  exact e _ _ (reb_lo hx).symm
theorem inv_S0 : InvR S0.1 := inv_reb rk_row5
theorem inv_snd {f : Row} (h : InvR f) {x y : Int32} {n : Int32} (hx : hasI f x = true) (hy : hasI f y = true) (hxy : x ≠ y) (hl : f (39 + y.toNatClampNeg) + f (39 + x.toNatClampNeg) ≤ 99) : InvR (sndF f x y n) := by
  obtain ⟨k, hk, ek⟩ := hasI_pl hx
  obtain ⟨j, hj, ej⟩ := hasI_pl hy
  have hne : k ≠ j := fun e => hxy (by rw [ek, ej, e])
  rw [ek, hasI_n hk, decide_eq_true_eq] at hx
  rw [ej, hasI_n hj, decide_eq_true_eq] at hy
  obtain ⟨-, -, lx, hlx, elx⟩ := (h.1.1 k hk).2 hx
  obtain ⟨-, -, ly, hly, ely⟩ := (h.1.1 j hj).2 hy
  rw [ek, ej, nI_clamp (by omega), nI_clamp (by omega), elx, ely, nI_add] at hl
  have hle : ly + lx ≤ 99 := (nI_leI (b := 99) (by omega) (by omega)).mp hl
  unfold sndF
  rw [ek, ej, nI_clamp (by omega), nI_clamp (by omega)]
  dsimp only
  have e1 : upd f (39 + k) 0 (39 + j) = nI ly := by rw [upd_n (f := f) (by omega)]; exact ely
  rw [e1, elx, nI_add]
  exact inv_ctr (inv_ctr (inv_let (inv_let h hk (l := 0) (by omega)) hj hle) (Or.inl rfl)) (Or.inr rfl)
