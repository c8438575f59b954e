set_option maxRecDepth 100000
/-! the first state: five inns -/
def row5 : Row := upd (upd (bldF (bldF (bldF (bldF (bldF (upd (fun _ => 0) 0 40) 0 10) 1 75) 2 30) 3 55) 4 90) 40 3) 30 0
def S0 : AM := (rebF row5, none, [], (0, fun _ => 0), (0, fun _ => 0))
theorem mab0 : MAb (fun _ => 0) (setR (fun _ _ => 0) 1 (rebF row5)) (fun j => 10 + j) 0 S0 := by
  refine ⟨rfl, setR_self, fun _ => rfl, fun k ek => ?_, ⟨⟨0, by omega, rfl⟩, fun k hk => ⟨by show 10 ≤ 10 + k; omega, by show 10 + k < 18; omega⟩, fun k m _ _ h => ?_⟩, rfl, ⟨rfl, Nat.zero_le _⟩, setR_ne (by decide), ⟨rfl, Nat.zero_le _⟩, setR_ne (by decide)⟩
  · exact absurd (show (none : Option Row) = some k from ek) (by simp)
  · have h : 10 + k = 10 + m := h
    omega
theorem pr_init : wpb_X6_init_82 (fun u => MAb u.1 u.2.1 u.2.2 0 S0) (fun _ => 0) (fun _ _ => 0) (fun j => 10 + j) := by
  have pl : ∀ k : Nat, k < 12 → isPl (nI k) := fun k hk => ⟨k, hk, rfl⟩
  have b : ∀ {i : Nat → Int32} {q : Nat → Nat} {f : Row} {x y : Int32} {u : MSt}, post_X6_builds i (setR (fun _ _ => 0) 1 f) q 1 x y u → u = (i, setR (fun _ _ => 0) 1 (bldF f x.toNatClampNeg y), q) := by
    intro i q f x y u h
    unfold post_X6_builds at h
    rw [h, setR_self, setR_setR]
  have u1 : ∀ {f : Row} {k : Nat} {x : Int32}, updA (setR (fun _ _ => 0) 1 f) 1 k x = setR (fun _ _ => 0) 1 (upd f k x) := fun {f k x} => by rw [updA_setR, setR_self, setR_setR]
  have e0 : (fun _ _ => 0 : Nat → Nat → Int32) = setR (fun _ _ => 0) 1 (fun _ => 0) := setR_id.symm
  refine ⟨by unfold vp_in; decide, fun a1 e1 => ?_⟩
  have e1 : a1 = setR (fun _ _ => 0) 1 (upd (fun _ => 0) 0 40) := e1
  subst e1
  refine ⟨pl 0 (by omega), fun i3 a4 q5 h => ?_⟩
  have h := b h
  cases h
  refine ⟨pl 1 (by omega), fun i3 a4 q5 h => ?_⟩
  have h := b h
  cases h
  refine ⟨pl 2 (by omega), fun i3 a4 q5 h => ?_⟩
  have h := b h
  cases h
  refine ⟨pl 3 (by omega), fun i3 a4 q5 h => ?_⟩
  have h := b h
  cases h
  refine ⟨pl 4 (by omega), fun i3 a4 q5 h => ?_⟩
  have h := b h
  cases h
  refine ⟨by unfold vp_in; decide, fun a22 e22 => ⟨by unfold vp_in; decide, fun a23 e23 i25 a26 q27 h => ?_⟩⟩
  rw [u1] at e22
  subst e22
  rw [u1] at e23
  subst e23
  unfold post_X6_rebuilds at h
  rw [setR_self, setR_setR] at h
  cases h
  exact mab0
/-- the model is made: its first state -/
theorem met_X6_new (l : Launch) (g : gG) (F : nM) (a : Nat) : Met l yX6_init (ws_ yX6_init cX6_init 1 none) rm_X6_init (va_Pc [.ref a] (Pg g (fun H => ∃ M, nh g M H ∧ IN F a M dfs6 []))) (fun _ st o t => (∃ (adr : Nat → Nat) (u : MSt), adr 0 = a ∧ o = .returned none ∧ MAb u.1 u.2.1 u.2.2 0 S0 ∧ MS g F adr u.1 u.2.1 u.2.2 t.heap) ∧ va_F (Ag g) st t) 17 2334 (Ag g) :=
  met_X6_init l g F a (fun u => MAb u.1 u.2.1 u.2.2 0 S0) pr_init
