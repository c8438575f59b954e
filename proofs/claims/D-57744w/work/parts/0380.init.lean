set_option maxRecDepth 100000
/-! THE MODEL'S CONSTRUCTOR -/
def IN (F : nM) (a : Nat) (M : nM) (fs : List Value) (L : List (Nat × Nat × va_E)) : Prop :=
  M a = some ((a, 0), .inr (5, fs)) ∧ (∀ x ∈ L, M x.2.1 = some ((a, x.1), x.2.2) ∧ x.1 ≠ 0) ∧ (∀ b c, F b = some c → M b = some c) ∧ ∀ b t x, F b = some (t, x) → t.1 ≠ a
theorem IN.ext {F M M1 : nM} {a : Nat} {fs : List Value} {L L' : List (Nat × Nat × va_E)} (h : IN F a M fs L) (hs : ∀ b c, M b = some c → M1 b = some c) (hL : ∀ x ∈ L', M1 x.2.1 = some ((a, x.1), x.2.2) ∧ x.1 ≠ 0) : IN F a M1 fs (L' ++ L) := by
  obtain ⟨h1, h2, h3, h4⟩ := h
  refine ⟨hs _ _ h1, fun x hx => ?_, fun b c e => hs _ _ (h3 b c e), h4⟩
  rcases List.mem_append.mp hx with hx | hx
  · exact hL x hx
  · exact ⟨hs _ _ (h2 x hx).1, (h2 x hx).2⟩
theorem IN.new {F M : nM} {a q k : Nat} {fs : List Value} {L : List (Nat × Nat × va_E)} {e : va_E} (h : IN F a M fs L) (hq : M q = none) (hk : k ≠ 0) : IN F a (nup M q ((a, k), e)) fs ([(k, q, e)] ++ L) := by
  refine h.ext (fun b c hb => ?_) (fun x hx => ?_)
  · rw [nup_ne (fun z => by rw [z, hq] at hb; cases hb)]; exact hb
  · rw [List.mem_singleton.mp hx]
    exact ⟨nup_self, hk⟩
theorem IN.put {F M : nM} {a : Nat} {fs fs' : List Value} {L : List (Nat × Nat × va_E)} (h : IN F a M fs L) : IN F a (nup M a ((a, 0), .inr (5, fs'))) fs' L := by
  obtain ⟨h1, h2, h3, h4⟩ := h
  refine ⟨nup_self, fun x hx => ⟨?_, (h2 x hx).2⟩, fun b c e => ?_, h4⟩
  · rw [nup_ne]
    · exact (h2 x hx).1
    · intro z
      have := (h2 x hx).1
      rw [z, h1] at this
      injection this with this
      injection this with this
      injection this with _ this
      exact (h2 x hx).2 this.symm
  · rw [nup_ne]
    · exact h3 b c e
    · intro z
      have h5 := h3 b c e
      rw [z, h1] at h5
      obtain ⟨t, y⟩ := c
      cases h5
      exact h4 b _ _ e rfl
abbrev dfs6 : List Value := [.int 0, .null, .null, .null, .null, .null, .null, .int 0, .int 0, .null, .int 0, .int 0, .int 0, .int 0, .int 0, .int 0, .null, .null, .int 0, .int 0, .int 0, .int 0, .int 0, .int 0, .int 0]
def adr9 (a q1 q2 q3 q4 q5 q6 q7 q8 q9 : Nat) : Nat → Nat := fun k => if 10 ≤ k then q6 + 1 + (k - 10) else [a, q1, q2, q3, q4, q5, q6, q7, q8, q9].getD k 0
abbrev rm_X6_init : Room := ({ frames := 4, cells := 17, slots := 2334, locals := 256 } : Room)
def wpb_X6_init_82 (post : MSt → Prop)   (i : Nat → Int32) (a : Nat → Nat → Int32) (q : Nat → Nat)  : Prop :=
  vp_in 0 78 ∧ ∀ a1, a1 = updA a 1 (0 : Int32).toNatClampNeg 40 → pre_X6_builds i a1 q 1 0 10 ∧ ∀ i3 a4 q5, post_X6_builds i a1 q 1 0 10 (i3, a4, q5) → pre_X6_builds i3 a4 q5 1 1 75 ∧ ∀ i7 a8 q9, post_X6_builds i3 a4 q5 1 1 75 (i7, a8, q9) → pre_X6_builds i7 a8 q9 1 2 30 ∧ ∀ i11 a12 q13, post_X6_builds i7 a8 q9 1 2 30 (i11, a12, q13) → pre_X6_builds i11 a12 q13 1 3 55 ∧ ∀ i15 a16 q17, post_X6_builds i11 a12 q13 1 3 55 (i15, a16, q17) → pre_X6_builds i15 a16 q17 1 4 90 ∧ ∀ i19 a20 q21, post_X6_builds i15 a16 q17 1 4 90 (i19, a20, q21) → vp_in 40 78 ∧ ∀ a22, a22 = updA a20 1 (40 : Int32).toNatClampNeg 3 → vp_in 30 78 ∧ ∀ a23, a23 = updA a22 1 (30 : Int32).toNatClampNeg 0 → ∀ i25 a26 q27, post_X6_rebuilds i19 a23 q21 1 (i25, a26, q27) → post (i25, a26, q27)
section
variable {p : Program} {l : Launch} {e : Env} {s : State} {m : MethodId} {args : Array Value} {below : List Frame} {meth : Method} {c : Code} {g : gG} {F : nM} {adr : Nat → Nat}
set_option maxHeartbeats 4000000 in
theorem wkb_X6_init_82 (C : Cx p s m args meth c cX6_init 1 RX6 none g) (post : MSt → Prop)   (i : Nat → Int32) (a : Nat → Nat → Int32) (q : Nat → Nat)  (hw : wpb_X6_init_82 post   i a q ) {H : Heap} {locs : List Loc} (hM : MS g F adr i a q H) (hS : va_S (Ag g) s.heap H locs) {ls : Array Slot} (hl : lv_has ls 1 [(0, .ref (adr 0))]) : W p l e rm_X6_init s m args below meth c H locs 17 2334 (MQ below (va_Qv post (fun u t => MS g F adr u.1 u.2.1 u.2.2 t.heap) (Ag g)) args s 17 2334 (Ag g)) (F0 m 82 ls []) := by
  have hx := C.1
  have hb := C.2.1
  have hown := C.2.2.2.1
  have hr := C.2.2.2.2.2.1
  have hlocks := C.2.2.2.2.2.2.1
  refine lv_aload_n hx hb dX6_init_82 rfl (lv_at hl 0 rfl) ?_
  refine m_get C hM 1 (by decide) q2339 rfl rfl dX6_init_83 ?_
  refine lv_iconst (v := 0) hx hb dX6_init_86 (by decide) ?_
  refine lv_bipush (v := 40) hx hb dX6_init_87 (by decide) ?_
  refine m_ast C hM hS (j := 1) rfl hw.1 dX6_init_89 (fun a1 H locs ea1 hM hS => ?_)
  have hw := hw.2 a1 ea1
  refine lv_aload_n hx hb dX6_init_90 rfl (lv_at hl 0 rfl) ?_
  refine m_get C hM 1 (by decide) q2339 rfl rfl dX6_init_91 ?_
  refine lv_iconst (v := 0) hx hb dX6_init_94 (by decide) ?_
  refine lv_bipush (v := 10) hx hb dX6_init_95 (by decide) ?_
  refine va_callv (va_runS (As := [.ref (adr 1), .int 0, .int 10]) (rest := []) C.fix (met_X6_builds l g F adr i a1 q 1 (by decide) 0 10 hw.1) (cw_X6_44 C.ts ⟨Nat.le_of_ble_eq_true rfl, Nat.le_of_ble_eq_true rfl⟩) (preS_of C (P := (MS g F adr i a1 q)) hS hM _) rfl rfl hl.1 rfl (lv_room (Nat.le_of_ble_eq_true rfl)) dX6_init_97 ⟨Nat.le_of_ble_eq_true rfl, Nat.le_of_ble_eq_true rfl⟩) hS (fun _ _ h => h) (fun _ h => h) (fun z_u t H locs ht _ hw1 hB _ _ hS => ?_)
  obtain ⟨i3, a4, q5⟩ := z_u
  have hM : MS g F adr i3 a4 q5 H := by rw [← ht]; exact hB
  have hw := hw.2 i3 a4 q5 hw1
  refine lv_aload_n hx hb dX6_init_100 rfl (lv_at hl 0 rfl) ?_
  refine m_get C hM 1 (by decide) q2339 rfl rfl dX6_init_101 ?_
  refine lv_iconst (v := 1) hx hb dX6_init_104 (by decide) ?_
  refine lv_bipush (v := 75) hx hb dX6_init_105 (by decide) ?_
  refine va_callv (va_runS (As := [.ref (adr 1), .int 1, .int 75]) (rest := []) C.fix (met_X6_builds l g F adr i3 a4 q5 1 (by decide) 1 75 hw.1) (cw_X6_44 C.ts ⟨Nat.le_of_ble_eq_true rfl, Nat.le_of_ble_eq_true rfl⟩) (preS_of C (P := (MS g F adr i3 a4 q5)) hS hM _) rfl rfl hl.1 rfl (lv_room (Nat.le_of_ble_eq_true rfl)) dX6_init_107 ⟨Nat.le_of_ble_eq_true rfl, Nat.le_of_ble_eq_true rfl⟩) hS (fun _ _ h => h) (fun _ h => h) (fun z_u t H locs ht _ hw1 hB _ _ hS => ?_)
  obtain ⟨i7, a8, q9⟩ := z_u
  have hM : MS g F adr i7 a8 q9 H := by rw [← ht]; exact hB
  have hw := hw.2 i7 a8 q9 hw1
  refine lv_aload_n hx hb dX6_init_110 rfl (lv_at hl 0 rfl) ?_
  refine m_get C hM 1 (by decide) q2339 rfl rfl dX6_init_111 ?_
  refine lv_iconst (v := 2) hx hb dX6_init_114 (by decide) ?_
  refine lv_bipush (v := 30) hx hb dX6_init_115 (by decide) ?_
  refine va_callv (va_runS (As := [.ref (adr 1), .int 2, .int 30]) (rest := []) C.fix (met_X6_builds l g F adr i7 a8 q9 1 (by decide) 2 30 hw.1) (cw_X6_44 C.ts ⟨Nat.le_of_ble_eq_true rfl, Nat.le_of_ble_eq_true rfl⟩) (preS_of C (P := (MS g F adr i7 a8 q9)) hS hM _) rfl rfl hl.1 rfl (lv_room (Nat.le_of_ble_eq_true rfl)) dX6_init_117 ⟨Nat.le_of_ble_eq_true rfl, Nat.le_of_ble_eq_true rfl⟩) hS (fun _ _ h => h) (fun _ h => h) (fun z_u t H locs ht _ hw1 hB _ _ hS => ?_)
  obtain ⟨i11, a12, q13⟩ := z_u
  have hM : MS g F adr i11 a12 q13 H := by rw [← ht]; exact hB
  have hw := hw.2 i11 a12 q13 hw1
  refine lv_aload_n hx hb dX6_init_120 rfl (lv_at hl 0 rfl) ?_
  refine m_get C hM 1 (by decide) q2339 rfl rfl dX6_init_121 ?_
  refine lv_iconst (v := 3) hx hb dX6_init_124 (by decide) ?_
  refine lv_bipush (v := 55) hx hb dX6_init_125 (by decide) ?_
  refine va_callv (va_runS (As := [.ref (adr 1), .int 3, .int 55]) (rest := []) C.fix (met_X6_builds l g F adr i11 a12 q13 1 (by decide) 3 55 hw.1) (cw_X6_44 C.ts ⟨Nat.le_of_ble_eq_true rfl, Nat.le_of_ble_eq_true rfl⟩) (preS_of C (P := (MS g F adr i11 a12 q13)) hS hM _) rfl rfl hl.1 rfl (lv_room (Nat.le_of_ble_eq_true rfl)) dX6_init_127 ⟨Nat.le_of_ble_eq_true rfl, Nat.le_of_ble_eq_true rfl⟩) hS (fun _ _ h => h) (fun _ h => h) (fun z_u t H locs ht _ hw1 hB _ _ hS => ?_)
  obtain ⟨i15, a16, q17⟩ := z_u
  have hM : MS g F adr i15 a16 q17 H := by rw [← ht]; exact hB
  have hw := hw.2 i15 a16 q17 hw1
  refine lv_aload_n hx hb dX6_init_130 rfl (lv_at hl 0 rfl) ?_
  refine m_get C hM 1 (by decide) q2339 rfl rfl dX6_init_131 ?_
  refine lv_iconst (v := 4) hx hb dX6_init_134 (by decide) ?_
  refine lv_bipush (v := 90) hx hb dX6_init_135 (by decide) ?_
  refine va_callv (va_runS (As := [.ref (adr 1), .int 4, .int 90]) (rest := []) C.fix (met_X6_builds l g F adr i15 a16 q17 1 (by decide) 4 90 hw.1) (cw_X6_44 C.ts ⟨Nat.le_of_ble_eq_true rfl, Nat.le_of_ble_eq_true rfl⟩) (preS_of C (P := (MS g F adr i15 a16 q17)) hS hM _) rfl rfl hl.1 rfl (lv_room (Nat.le_of_ble_eq_true rfl)) dX6_init_137 ⟨Nat.le_of_ble_eq_true rfl, Nat.le_of_ble_eq_true rfl⟩) hS (fun _ _ h => h) (fun _ h => h) (fun z_u t H locs ht _ hw1 hB _ _ hS => ?_)
  obtain ⟨i19, a20, q21⟩ := z_u
  have hM : MS g F adr i19 a20 q21 H := by rw [← ht]; exact hB
  have hw := hw.2 i19 a20 q21 hw1
  refine lv_aload_n hx hb dX6_init_140 rfl (lv_at hl 0 rfl) ?_
  refine m_get C hM 1 (by decide) q2339 rfl rfl dX6_init_141 ?_
  refine lv_bipush (v := 40) hx hb dX6_init_144 (by decide) ?_
  refine lv_iconst (v := 3) hx hb dX6_init_146 (by decide) ?_
  refine m_ast C hM hS (j := 1) rfl hw.1 dX6_init_147 (fun a22 H locs ea22 hM hS => ?_)
  have hw := hw.2 a22 ea22
  refine lv_aload_n hx hb dX6_init_148 rfl (lv_at hl 0 rfl) ?_
  refine m_get C hM 1 (by decide) q2339 rfl rfl dX6_init_149 ?_
  refine lv_bipush (v := 30) hx hb dX6_init_152 (by decide) ?_
  refine lv_iconst (v := 0) hx hb dX6_init_154 (by decide) ?_
  refine m_ast C hM hS (j := 1) rfl hw.1 dX6_init_155 (fun a23 H locs ea23 hM hS => ?_)
  have hw := hw.2 a23 ea23
  refine lv_aload_n hx hb dX6_init_156 rfl (lv_at hl 0 rfl) ?_
  refine m_get C hM 1 (by decide) q2339 rfl rfl dX6_init_157 ?_
  refine va_callv (va_runS (As := [.ref (adr 1)]) (rest := []) C.fix (met_X6_rebuilds l g F adr i19 a23 q21 1 (by decide) ) (cw_X6_48 C.ts ⟨Nat.le_of_ble_eq_true rfl, Nat.le_of_ble_eq_true rfl⟩) (preS_of C (P := (MS g F adr i19 a23 q21)) hS hM _) rfl rfl hl.1 rfl (lv_room (Nat.le_of_ble_eq_true rfl)) dX6_init_160 ⟨Nat.le_of_ble_eq_true rfl, Nat.le_of_ble_eq_true rfl⟩) hS (fun _ _ h => h) (fun _ h => h) (fun z_u t H locs ht _ hw1 hB _ _ hS => ?_)
  obtain ⟨i25, a26, q27⟩ := z_u
  have hM : MS g F adr i25 a26 q27 H := by rw [← ht]; exact hB
  have hw := hw i25 a26 q27 hw1
  exact W.vret hx hb hr (fun t ht _ => ⟨⟨(i25, a26, q27), rfl, hw, hM.at ht⟩, hS.F ht⟩) hS.2.2 dX6_init_163
end
set_option maxHeartbeats 4000000 in
theorem met_X6_init (l : Launch) (g : gG) (F : nM) (a : Nat) (post : MSt → Prop) (hw : wpb_X6_init_82 post (fun _ => 0) (fun _ _ => 0) (fun j => 10 + j)) : Met l yX6_init (ws_ yX6_init cX6_init 1 none) rm_X6_init (va_Pc [.ref a] (Pg g (fun H => ∃ M, nh g M H ∧ IN F a M dfs6 []))) (fun v st o t => (∃ (adr : Nat → Nat) (u : MSt), adr 0 = a ∧ o = .returned none ∧ post u ∧ MS g F adr u.1 u.2.1 u.2.2 t.heap) ∧ va_F (Ag g) st t) 17 2334 (Ag g) := by
  refine Met.ofW (cc := cX6_init) (maxL := 1) (ret := none) (by decide) rfl ?_
  intro p e s m args below meth c s₁ B hml hv
  obtain ⟨rfl, hG, M0, hM, hI⟩ := hv
  have C : Cx p s m _ meth c cX6_init 1 RX6 none g := Cx.of B hml hG
  have hin2 : meth.name = "<init>" := (name_of_methodNamed B.named B.method).1
  have hx := C.1
  have hb := C.2.1
  have hown := C.2.2.2.1
  have hr := C.2.2.2.2.2.1
  have hlocks := C.2.2.2.2.2.2.1
  have hS : va_S (Ag g) s.heap s.heap [] := va_S.rf
  refine lv_start ([.ref a] : List Value) (L := [(0, .ref a)]) (Nat.le_of_ble_eq_true rfl) rfl (fun ls hl => ?_)
  refine lv_aload_n hx hb dX6_init_0 rfl (lv_at hl 0 rfl) ?_
  refine W.objInit hx hb hown (C.ts _ q2323) (C.ts _ q121) (C.ts _ (lw_g (lw_at lw_m1 53 rfl) rfl)) rfl (C.2.2.1 ▸ hl.1) rfl dX6_init_1 (Nat.le_of_ble_eq_true rfl) (Nat.le_of_ble_eq_true rfl) ?_
  refine lv_aload_n hx hb dX6_init_4 rfl (lv_at hl 0 rfl) ?_
  refine lv_bipush (v := 78) hx hb dX6_init_5 (by decide) ?_
  refine g_newa C 0 (atype := .int) rfl (fun _ h => h) rfl q170 hM hS (n := 78) (N' := 78) (a0 := (78, .inl (fun _ => 0))) (fun _ => rfl) (by decide) rfl (by decide) (Nat.le_of_ble_eq_true rfl) (Nat.le_of_ble_eq_true rfl) dX6_init_7 (fun _ => (a, 1)) (fun q1 H1 hq hM hS => ?_)
  replace hI := IN.new (k := 1) (e := .inl (g.2.2.2 0, 78, .inl (fun _ => 0))) hI hq (by decide)
  refine g_putF C in_X6 tyX6 tyX6_ok nmX6 hM hS hI.1 rfl 1 (by decide) q2339 (fun _ h => h) rfl hin2 rfl (v := .ref q1) rfl rfl (Nat.le_of_ble_eq_true rfl) dX6_init_9 (fun H1 locs1 hM hS => ?_)
  replace hI := IN.put (fs' := (dfs6).set 1 (.ref q1)) hI
  refine lv_aload_n hx hb dX6_init_12 rfl (lv_at hl 0 rfl) ?_
  refine lv_bipush (v := 78) hx hb dX6_init_13 (by decide) ?_
  refine g_newa C 0 (atype := .int) rfl (fun _ h => h) rfl q170 hM hS (n := 78) (N' := 78) (a0 := (78, .inl (fun _ => 0))) (fun _ => rfl) (by decide) rfl (by decide) (Nat.le_of_ble_eq_true rfl) (Nat.le_of_ble_eq_true rfl) dX6_init_15 (fun _ => (a, 2)) (fun q2 H1 hq hM hS => ?_)
  replace hI := IN.new (k := 2) (e := .inl (g.2.2.2 0, 78, .inl (fun _ => 0))) hI hq (by decide)
  refine g_putF C in_X6 tyX6 tyX6_ok nmX6 hM hS hI.1 rfl 2 (by decide) q2340 (fun _ h => h) rfl hin2 rfl (v := .ref q2) rfl rfl (Nat.le_of_ble_eq_true rfl) dX6_init_17 (fun H1 locs1 hM hS => ?_)
  replace hI := IN.put (fs' := ((dfs6).set 1 (.ref q1)).set 2 (.ref q2)) hI
  refine lv_aload_n hx hb dX6_init_20 rfl (lv_at hl 0 rfl) ?_
  refine lv_bipush (v := 78) hx hb dX6_init_21 (by decide) ?_
  refine g_newa C 0 (atype := .int) rfl (fun _ h => h) rfl q170 hM hS (n := 78) (N' := 78) (a0 := (78, .inl (fun _ => 0))) (fun _ => rfl) (by decide) rfl (by decide) (Nat.le_of_ble_eq_true rfl) (Nat.le_of_ble_eq_true rfl) dX6_init_23 (fun _ => (a, 3)) (fun q3 H1 hq hM hS => ?_)
  replace hI := IN.new (k := 3) (e := .inl (g.2.2.2 0, 78, .inl (fun _ => 0))) hI hq (by decide)
  refine g_putF C in_X6 tyX6 tyX6_ok nmX6 hM hS hI.1 rfl 3 (by decide) q2341 (fun _ h => h) rfl hin2 rfl (v := .ref q3) rfl rfl (Nat.le_of_ble_eq_true rfl) dX6_init_25 (fun H1 locs1 hM hS => ?_)
  replace hI := IN.put (fs' := (((dfs6).set 1 (.ref q1)).set 2 (.ref q2)).set 3 (.ref q3)) hI
  refine lv_aload_n hx hb dX6_init_28 rfl (lv_at hl 0 rfl) ?_
  refine lv_bipush (v := 78) hx hb dX6_init_29 (by decide) ?_
  refine g_newa C 0 (atype := .int) rfl (fun _ h => h) rfl q170 hM hS (n := 78) (N' := 78) (a0 := (78, .inl (fun _ => 0))) (fun _ => rfl) (by decide) rfl (by decide) (Nat.le_of_ble_eq_true rfl) (Nat.le_of_ble_eq_true rfl) dX6_init_31 (fun _ => (a, 4)) (fun q4 H1 hq hM hS => ?_)
  replace hI := IN.new (k := 4) (e := .inl (g.2.2.2 0, 78, .inl (fun _ => 0))) hI hq (by decide)
  refine g_putF C in_X6 tyX6 tyX6_ok nmX6 hM hS hI.1 rfl 4 (by decide) q2342 (fun _ h => h) rfl hin2 rfl (v := .ref q4) rfl rfl (Nat.le_of_ble_eq_true rfl) dX6_init_33 (fun H1 locs1 hM hS => ?_)
  replace hI := IN.put (fs' := ((((dfs6).set 1 (.ref q1)).set 2 (.ref q2)).set 3 (.ref q3)).set 4 (.ref q4)) hI
  refine lv_aload_n hx hb dX6_init_36 rfl (lv_at hl 0 rfl) ?_
  refine lv_bipush (v := 78) hx hb dX6_init_37 (by decide) ?_
  refine g_newa C 0 (atype := .int) rfl (fun _ h => h) rfl q170 hM hS (n := 78) (N' := 78) (a0 := (78, .inl (fun _ => 0))) (fun _ => rfl) (by decide) rfl (by decide) (Nat.le_of_ble_eq_true rfl) (Nat.le_of_ble_eq_true rfl) dX6_init_39 (fun _ => (a, 5)) (fun q5 H1 hq hM hS => ?_)
  replace hI := IN.new (k := 5) (e := .inl (g.2.2.2 0, 78, .inl (fun _ => 0))) hI hq (by decide)
  refine g_putF C in_X6 tyX6 tyX6_ok nmX6 hM hS hI.1 rfl 5 (by decide) q2343 (fun _ h => h) rfl hin2 rfl (v := .ref q5) rfl rfl (Nat.le_of_ble_eq_true rfl) dX6_init_41 (fun H1 locs1 hM hS => ?_)
  replace hI := IN.put (fs' := (((((dfs6).set 1 (.ref q1)).set 2 (.ref q2)).set 3 (.ref q3)).set 4 (.ref q4)).set 5 (.ref q5)) hI
  refine lv_aload_n hx hb dX6_init_44 rfl (lv_at hl 0 rfl) ?_
  refine lv_bipush (v := 8) hx hb dX6_init_45 (by decide) ?_
  refine lv_bipush (v := 78) hx hb dX6_init_47 (by decide) ?_
  refine g_multi C q2324 q170 hM hS (n := 8) (k := 78) (N := 8) (K := 78) rfl rfl (by decide) (by decide) (by decide) (Nat.le_of_ble_eq_true rfl) (Nat.le_of_ble_eq_true rfl) dX6_init_49 (fun j => if j = 0 then (a, 6) else (a, 9 + j)) (fun q6 H1 M1 hno hout hinn hsub hM hS => ?_)
  replace hI := hI.ext (L' := (6, q6, (.inl (g.2.2.2 6, 8, .inr (.inr (.inr (.inr (fun j => some (q6 + 1 + j)))))) : va_E)) :: (List.range 8).map (fun j => (10 + j, q6 + 1 + j, (.inl (g.2.2.2 0, 78, .inl (fun _ => 0)) : va_E)))) hsub (fun x hx => by
    rcases List.mem_cons.mp hx with e | hx
    · rw [e]; exact ⟨hout, by show 6 ≠ 0; decide⟩
    · obtain ⟨j, hj, e⟩ := List.mem_map.mp hx
      rw [← e]
      have := hinn j (List.mem_range.mp hj)
      rw [if_neg (by omega), show 9 + (j + 1) = 10 + j by omega] at this
      exact ⟨this, by show 10 + j ≠ 0; omega⟩)
  refine g_putF C in_X6 tyX6 tyX6_ok nmX6 hM hS hI.1 rfl 6 (by decide) q2344 (fun _ h => h) rfl hin2 rfl (v := .ref q6) rfl rfl (Nat.le_of_ble_eq_true rfl) dX6_init_53 (fun H1 locs1 hM hS => ?_)
  replace hI := IN.put (fs' := ((((((dfs6).set 1 (.ref q1)).set 2 (.ref q2)).set 3 (.ref q3)).set 4 (.ref q4)).set 5 (.ref q5)).set 6 (.ref q6)) hI
  refine lv_aload_n hx hb dX6_init_56 rfl (lv_at hl 0 rfl) ?_
  refine lv_bipush (v := 12) hx hb dX6_init_57 (by decide) ?_
  refine g_newa C 0 (atype := .int) rfl (fun _ h => h) rfl q170 hM hS (n := 12) (N' := 12) (a0 := (12, .inl (fun _ => 0))) (fun _ => rfl) (by decide) rfl (by decide) (Nat.le_of_ble_eq_true rfl) (Nat.le_of_ble_eq_true rfl) dX6_init_59 (fun _ => (a, 7)) (fun q7 H1 hq hM hS => ?_)
  replace hI := IN.new (k := 7) (e := .inl (g.2.2.2 0, 12, .inl (fun _ => 0))) hI hq (by decide)
  refine g_putF C in_X6 tyX6 tyX6_ok nmX6 hM hS hI.1 rfl 9 (by decide) q2347 (fun _ h => h) rfl hin2 rfl (v := .ref q7) rfl rfl (Nat.le_of_ble_eq_true rfl) dX6_init_61 (fun H1 locs1 hM hS => ?_)
  replace hI := IN.put (fs' := (((((((dfs6).set 1 (.ref q1)).set 2 (.ref q2)).set 3 (.ref q3)).set 4 (.ref q4)).set 5 (.ref q5)).set 6 (.ref q6)).set 9 (.ref q7)) hI
  refine lv_aload_n hx hb dX6_init_64 rfl (lv_at hl 0 rfl) ?_
  refine lv_sipush (v := 500) hx hb dX6_init_65 (by decide) ?_
  refine g_newa C 1 (atype := .byte) rfl (fun _ h => h) rfl q169 hM hS (n := 500) (N' := 500) (a0 := (500, .inl (fun _ => 0))) (fun _ => rfl) (by decide) rfl (by decide) (Nat.le_of_ble_eq_true rfl) (Nat.le_of_ble_eq_true rfl) dX6_init_68 (fun _ => (a, 8)) (fun q8 H1 hq hM hS => ?_)
  replace hI := IN.new (k := 8) (e := .inl (g.2.2.2 1, 500, .inl (fun _ => 0))) hI hq (by decide)
  refine g_putF C in_X6 tyX6 tyX6_ok nmX6 hM hS hI.1 rfl 16 (by decide) q2354 (fun _ h => h) rfl hin2 rfl (v := .ref q8) rfl rfl (Nat.le_of_ble_eq_true rfl) dX6_init_70 (fun H1 locs1 hM hS => ?_)
  replace hI := IN.put (fs' := ((((((((dfs6).set 1 (.ref q1)).set 2 (.ref q2)).set 3 (.ref q3)).set 4 (.ref q4)).set 5 (.ref q5)).set 6 (.ref q6)).set 9 (.ref q7)).set 16 (.ref q8)) hI
  refine lv_aload_n hx hb dX6_init_73 rfl (lv_at hl 0 rfl) ?_
  refine lv_sipush (v := 800) hx hb dX6_init_74 (by decide) ?_
  refine g_newa C 1 (atype := .byte) rfl (fun _ h => h) rfl q169 hM hS (n := 800) (N' := 800) (a0 := (800, .inl (fun _ => 0))) (fun _ => rfl) (by decide) rfl (by decide) (Nat.le_of_ble_eq_true rfl) (Nat.le_of_ble_eq_true rfl) dX6_init_77 (fun _ => (a, 9)) (fun q9 H1 hq hM hS => ?_)
  replace hI := IN.new (k := 9) (e := .inl (g.2.2.2 1, 800, .inl (fun _ => 0))) hI hq (by decide)
  refine g_putF C in_X6 tyX6 tyX6_ok nmX6 hM hS hI.1 rfl 17 (by decide) q2355 (fun _ h => h) rfl hin2 rfl (v := .ref q9) rfl rfl (Nat.le_of_ble_eq_true rfl) dX6_init_79 (fun H1 locs1 hM hS => ?_)
  replace hI := IN.put (fs' := (((((((((dfs6).set 1 (.ref q1)).set 2 (.ref q2)).set 3 (.ref q3)).set 4 (.ref q4)).set 5 (.ref q5)).set 6 (.ref q6)).set 9 (.ref q7)).set 16 (.ref q8)).set 17 (.ref q9)) hI
  obtain ⟨h1, h2, h3, h4⟩ := hI
  have f9 : _ = some ((a, 9), (.inl (g.2.2.2 1, 800, .inl (fun _ => 0)) : va_E)) := (h2 (9, q9, _) (List.mem_append_left _ (List.mem_singleton.mpr rfl))).1
  have f8 : _ = some ((a, 8), (.inl (g.2.2.2 1, 500, .inl (fun _ => 0)) : va_E)) := (h2 (8, q8, _) (List.mem_append_right _ (List.mem_append_left _ (List.mem_singleton.mpr rfl)))).1
  have f7 : _ = some ((a, 7), (.inl (g.2.2.2 0, 12, .inl (fun _ => 0)) : va_E)) := (h2 (7, q7, _) (List.mem_append_right _ (List.mem_append_right _ (List.mem_append_left _ (List.mem_singleton.mpr rfl))))).1
  have f6 : _ = some ((a, 6), (.inl (g.2.2.2 6, 8, .inr (.inr (.inr (.inr (fun j => some (q6 + 1 + j)))))) : va_E)) := (h2 (6, q6, _) (List.mem_append_right _ (List.mem_append_right _ (List.mem_append_right _ (List.mem_append_left _ (List.mem_cons_self)))))).1
  have f5 : _ = some ((a, 5), (.inl (g.2.2.2 0, 78, .inl (fun _ => 0)) : va_E)) := (h2 (5, q5, _) (List.mem_append_right _ (List.mem_append_right _ (List.mem_append_right _ (List.mem_append_right _ (List.mem_append_left _ (List.mem_singleton.mpr rfl))))))).1
  have f4 : _ = some ((a, 4), (.inl (g.2.2.2 0, 78, .inl (fun _ => 0)) : va_E)) := (h2 (4, q4, _) (List.mem_append_right _ (List.mem_append_right _ (List.mem_append_right _ (List.mem_append_right _ (List.mem_append_right _ (List.mem_append_left _ (List.mem_singleton.mpr rfl)))))))).1
  have f3 : _ = some ((a, 3), (.inl (g.2.2.2 0, 78, .inl (fun _ => 0)) : va_E)) := (h2 (3, q3, _) (List.mem_append_right _ (List.mem_append_right _ (List.mem_append_right _ (List.mem_append_right _ (List.mem_append_right _ (List.mem_append_right _ (List.mem_append_left _ (List.mem_singleton.mpr rfl))))))))).1
  have f2 : _ = some ((a, 2), (.inl (g.2.2.2 0, 78, .inl (fun _ => 0)) : va_E)) := (h2 (2, q2, _) (List.mem_append_right _ (List.mem_append_right _ (List.mem_append_right _ (List.mem_append_right _ (List.mem_append_right _ (List.mem_append_right _ (List.mem_append_right _ (List.mem_append_left _ (List.mem_singleton.mpr rfl)))))))))).1
  have f1 : _ = some ((a, 1), (.inl (g.2.2.2 0, 78, .inl (fun _ => 0)) : va_E)) := (h2 (1, q1, _) (List.mem_append_right _ (List.mem_append_right _ (List.mem_append_right _ (List.mem_append_right _ (List.mem_append_right _ (List.mem_append_right _ (List.mem_append_right _ (List.mem_append_right _ (List.mem_append_left _ (List.mem_singleton.mpr rfl))))))))))).1
  have fr := fun (j : Nat) (hj : j < 8) => (h2 (10 + j, q6 + 1 + j, _) (List.mem_append_right _ (List.mem_append_right _ (List.mem_append_right _ (List.mem_append_left _ (List.mem_cons_of_mem _ (List.mem_map.mpr ⟨j, List.mem_range.mpr hj, rfl⟩))))))).1
  have eq6 : (fun j => some ((adr9 a q1 q2 q3 q4 q5 q6 q7 q8 q9) (10 + j))) = fun j => some (q6 + 1 + j) := funext fun j => by
    unfold adr9
    rw [if_pos (by omega), show 10 + j - 10 = j by omega]
  have hMA : ∀ H, nh g _ H → MS g F (adr9 a q1 q2 q3 q4 q5 q6 q7 q8 q9) (fun _ => 0) (fun _ _ => 0) (fun j => 10 + j) H := fun H hH => by
    refine ⟨_, hH, fun k hk => ?_, h3, h4⟩
    by_cases h10 : 10 ≤ k
    · obtain ⟨j, rfl⟩ : ∃ j, k = 10 + j := ⟨k - 10, by omega⟩
      have e : (adr9 a q1 q2 q3 q4 q5 q6 q7 q8 q9) (10 + j) = q6 + 1 + j := by unfold adr9; rw [if_pos (by omega), show 10 + j - 10 = j by omega]
      rw [e, mcell_i (by simp only [mint, Bool.or_eq_true, Bool.and_eq_true, beq_iff_eq, decide_eq_true_eq]; omega)]
      have el : mlen (10 + j) = 78 := by unfold mlen; rw [if_neg (by omega), if_neg (by omega), if_neg (by omega)]
      rw [el]
      exact fr j (by omega)
    · have : k = 0 ∨ k = 1 ∨ k = 2 ∨ k = 3 ∨ k = 4 ∨ k = 5 ∨ k = 6 ∨ k = 7 ∨ k = 8 ∨ k = 9 := by omega
      rcases this with e | e | e | e | e | e | e | e | e | e <;> subst e
      · exact h1
      · exact f1
      · exact f2
      · exact f3
      · exact f4
      · exact f5
      · show _ = some ((a, 6), (.inl (g.2.2.2 6, 8, .inr (.inr (.inr (.inr (fun j => some ((adr9 a q1 q2 q3 q4 q5 q6 q7 q8 q9) (10 + j))))))) : va_E))
        rw [eq6]; exact f6
      · exact f7
      · exact f8
      · exact f9
  have hk := wkb_X6_init_82 (p := p) (l := l) (e := e) (below := below) (F := F) (adr := (adr9 a q1 q2 q3 q4 q5 q6 q7 q8 q9)) C post (fun _ => 0) (fun _ _ => 0) (fun j => 10 + j) hw (hMA _ hM) hS hl
  intro T hT X
  obtain ⟨t, st, o, z1, z2, ⟨⟨u, z3, z4, z5⟩, z6⟩, z7⟩ := hk T hT X
  exact ⟨t, st, o, z1, z2, ⟨⟨(adr9 a q1 q2 q3 q4 q5 q6 q7 q8 q9), u, rfl, z3, z4, z5⟩, z6⟩, z7⟩
