/-- all but the count of open updates -/
def Sim0 (N M : MSt) : Prop := SimP N M ∧ SimL N M ∧ SimU N M ∧ SimT N M ∧ N 7 0 = lives M ∧ N 9 0 = M 38 0
theorem Sim.z {N M : MSt} (h : Sim N M) : Sim0 N M := ⟨h.p, h.l, h.u, h.t, h.cc.2⟩
theorem Sim0.s {N M : MSt} (h : Sim0 N M) (ho : N 6 0 = opens M) : Sim N M := ⟨h.1, h.2.1, h.2.2.1, h.2.2.2.1, ho, h.2.2.2.2⟩
def FlA2 (N M : MSt) : Prop := ∀ r, 0 ≤ r → r < M 12 0 → M 14 r = 2 → N 29 r = b01 (Und M r)
theorem pg_lg {f : Nat} (a : lgF f = true) : pgF f = false := by
  cases e : pgF f
  · rfl
  · exfalso
    simp only [pgF, Bool.or_eq_true, beq_iff_eq] at e
    rcases e with (((((((((e | e) | e) | e) | e) | e) | e) | e) | e) | e) | e <;> subst e <;> revert a <;> decide
theorem und_w (M : MSt) (t u : Int) : s_und M t u 18 (M 12 0) = 0 ∧ s_und M t u 19 (M 12 0) = 0 ∧ s_und M t u 20 (M 12 0) = M 18 u ∧ s_und M t u 21 (M 12 0) = M 19 u := by
  unfold s_und
  rw [bcm_o rfl, bcm_o rfl, bcm_o rfl, bcm_o rfl, tch_o rfl, tch_o rfl, tch_o rfl, tch_o rfl]
  refine ⟨?_, ?_, ?_, ?_⟩
  · rw [up_ne (by simp), up_ne (by simp), up_ne (by simp)]; simp [app, up]
  · rw [up_ne (by simp), up_ne (by simp), up_ne (by simp)]; simp [app, up]
  · rw [up_ne (by simp), up_same]
  · rw [up_same]
theorem und_pg {M : MSt} {t u i : Int} {f : Nat} (h : npg f = false) : s_und M t u f i = bcm (tch M (M 16 u / 4)) (M 16 u) (M 18 u) (M 19 u) (M 11 0 + M 12 0 + 1) f i := by
  unfold s_und
  refine bcm_c (congrFun (tch_pg (fun f i h => ?_) h) i)
  have hl := npg_lg h
  rw [up_ne (fun q => by rw [q.1] at hl; cases hl), up_ne (fun q => by rw [q.1] at hl; cases hl), up_ne (fun q => by rw [q.1] at hl; cases hl), app_np h]
noncomputable def unN (N : MSt) (t u : Int) : MSt := pst (up (up (up (up (ntN (tN N (N 23 u / 4)) 3 t (N 23 u)) 26 (N 3 0) (N 24 u)) 27 (N 3 0) (N 25 u)) 28 (N 3 0) u) 29 u 1) (N 23 u / 4) (N 23 u) (N 24 u) (N 25 u) (N 4 0 + (N 3 0 + 1))
theorem unN_pg {N : MSt} {t u i : Int} {f : Nat} (h : npF f = true ∨ f = 2) : unN N t u f i = pst (tN N (N 23 u / 4)) (N 23 u / 4) (N 23 u) (N 24 u) (N 25 u) (N 4 0 + (N 3 0 + 1)) f i := by
  have hf : f < 20 ∧ f ≠ 3 := by
    rcases h with h | h
    · simp only [npF, Bool.or_eq_true, beq_iff_eq] at h
      omega
    · omega
  have e0 : ∀ (f' : Nat) (i' : Int), f' < 20 → f' ≠ 3 → up (up (up (up (ntN (tN N (N 23 u / 4)) 3 t (N 23 u)) 26 (N 3 0) (N 24 u)) 27 (N 3 0) (N 25 u)) 28 (N 3 0) u) 29 u 1 f' i' = tN N (N 23 u / 4) f' i' := fun f' i' a c => by
    rw [up_ne (by omega), up_ne (by omega), up_ne (by omega), up_ne (by omega), ntN_o c (by omega) (by omega)]
  unfold unN
  unfold pst
  rw [e0 15 _ (by decide) (by decide)]
  unfold up at e0 ⊢
  simp only [e0 f i hf.1 hf.2]
theorem unN_o {N : MSt} {t u i : Int} {f : Nat} (h : npF f = false) (h1 : f ≠ 3) (h2 : f ≠ 50) (h4 : ¬ (20 ≤ f ∧ f ≤ 30 ∧ i = N 3 0)) (h5 : ¬ (f = 29 ∧ i = u)) : unN N t u f i = N f i := by
  unfold unN
  rw [pst_o h, up_ne h5, up_ne (by omega), up_ne (by omega), up_ne (by omega), ntN_o h1 h2 (by rw [tN_o rfl]; exact h4), tN_o h]
theorem unN_n (N : MSt) (t u : Int) : (unN N t u 20 (N 3 0) = N 4 0 + (N 3 0 + 1) ∧ unN N t u 21 (N 3 0) = 3 ∧ unN N t u 22 (N 3 0) = t ∧ unN N t u 23 (N 3 0) = N 23 u) ∧
    unN N t u 24 (N 3 0) = 0 ∧ unN N t u 25 (N 3 0) = 0 ∧ unN N t u 26 (N 3 0) = N 24 u ∧ unN N t u 27 (N 3 0) = N 25 u ∧ unN N t u 28 (N 3 0) = u ∧ unN N t u 29 u = 1 ∧ unN N t u 3 0 = N 3 0 + 1 ∧ unN N t u 50 0 = ntN (tN N (N 23 u / 4)) 3 t (N 23 u) 50 0 := by
  have er : tN N (N 23 u / 4) 3 0 = N 3 0 := tN_o rfl
  have eg : tN N (N 23 u / 4) 4 0 = N 4 0 := tN_o rfl
  have q := ntN_n (tN N (N 23 u / 4)) 3 t (N 23 u)
  rw [er, eg] at q
  obtain ⟨q1, q2, q3, q4, q5, q6, q7, q8, q9, q10, q11, q12⟩ := q
  have g : ∀ (f : Nat) (i : Int), npF f = false → unN N t u f i = up (up (up (up (ntN (tN N (N 23 u / 4)) 3 t (N 23 u)) 26 (N 3 0) (N 24 u)) 27 (N 3 0) (N 25 u)) 28 (N 3 0) u) 29 u 1 f i := fun f i a => by
    unfold unN
    rw [pst_o a]
  rw [g 20 _ rfl, g 21 _ rfl, g 22 _ rfl, g 23 _ rfl, g 24 _ rfl, g 25 _ rfl, g 26 _ rfl, g 27 _ rfl, g 28 _ rfl, g 29 _ rfl, g 3 _ rfl, g 50 _ rfl]
  simp only [up, Nat.reduceEqDiff, false_and, if_false, and_self, if_true, q1, q2, q3, q4, q5, q6, q7, q10, q11]
theorem unN_u {N : MSt} {t u i : Int} (h : i ≠ N 3 0) : unN N t u 29 i = if i = u then 1 else N 29 i := by
  by_cases e : i = u
  · rw [if_pos e, e]; exact (unN_n N t u).2.2.2.2.2.2.1
  · rw [if_neg e]; exact unN_o rfl (by decide) (by decide) (by omega) (fun z => e z.2)
theorem Sim0_und {N M : MSt} {t u : Int} (h : Sim0 N M) (hf1 : 1 ≤ M 0 0) (hu : 0 ≤ u ∧ u < M 12 0) (hku : M 14 u = 2) (hk : 0 ≤ M 16 u ∧ M 16 u ≤ 31) : Sim0 (unN N t u) (s_und M t u) ∧ (FlA2 N M → FlA2 (unN N t u) (s_und M t u)) := by
  obtain ⟨hSP, hSL, hSU, hST, hlv, hvl⟩ := h
  have hr : N 3 0 = M 12 0 := hSL.1.2.1
  have hg : N 4 0 = M 11 0 := hSL.1.1
  have hR0 := hSL.1.2.2.1
  obtain ⟨⟨u1, u2, u3, u4⟩, ⟨u5, u6, u7⟩, u8, u9, u10, u11, u12, -⟩ := hSL.2 u hu.1 hu.2
  have ha : Add M (s_und M t u) := ⟨und_o rfl rfl, und_n.1, fun f i a b c => und_l (pg_lg a) b c⟩
  obtain ⟨m1, m2, m3, m4, m5⟩ := und_n (M := M) (t := t) (u := u)
  obtain ⟨w1, w2, w3, w4⟩ := und_w M t u
  obtain ⟨⟨n1, n2, n3, n4⟩, n5, n6, n7, n8, n9, n10, n14, n15⟩ := unN_n N t u
  have hp : 0 ≤ M 16 u / 4 ∧ M 16 u / 4 < 8 := by omega
  have hP := SimP_tch hSP hp hf1
  have hin := tch_self (M := M) (p := M 16 u / 4) ((hSP.2.2.2.1 _ hp.1 hp.2).1)
  have mo : ∀ f : Nat, pgF f = false → lgF f = false → s_und M t u f = M f := fun f a b => funext fun i => und_o a b
  have eS : s_und M t u 23 = M 23 := mo _ rfl rfl
  have eP : s_und M t u 24 = M 24 := mo _ rfl rfl
  have eLv : ∀ x, LvT (s_und M t u) x ↔ LvT M x := fun x => by unfold LvT; rw [top_c eP, Liv_c eS]
  have kb : ∀ q, q < M 12 0 → s_und M t u 14 q = M 14 q ∧ s_und M t u 15 q = M 15 q := fun q z => ⟨und_l rfl (by decide) (by omega), und_l rfl (by decide) (by omega)⟩
  have nu : ∀ q, q < M 12 0 → unN N t u 29 q = if q = u then 1 else N 29 q := fun q z => unN_u (by omega)
  have nz : ∀ q, q < M 12 0 → unN N t u 29 q = 0 → N 29 q = 0 := fun q z y => by
    rw [nu q z] at y
    by_cases e : q = u
    · rw [if_pos e] at y; exact absurd y (by decide)
    · rw [if_neg e] at y; exact y
  have fl : ∀ r, r < M 12 0 → N 29 r = b01 (Und M r) → unN N t u 29 r = b01 (Und (s_und M t u) r) := fun r b q => by
    rw [nu r b]
    by_cases e : r = u
    · rw [if_pos e, b01_t]
      exact (Und_und hu.2 b).mpr (Or.inr e)
    · rw [if_neg e, q]
      refine b01_c ?_
      rw [Und_und hu.2 b]
      exact ⟨Or.inl, fun z => by rcases z with z | z; exact z; exact absurd z e⟩
  refine ⟨⟨?_, ?_, ?_, ?_, ?_, ?_⟩, fun hA r a b c => ?_⟩
  · have z := SimP_set (k := M 16 u) (now := M 18 u) (v := M 19 u) (v' := M 19 u) (l := M 11 0 + M 12 0 + 1) hP hk hin u11 (fun _ => rfl)
    have np : ∀ f : Nat, npF f = true ∨ f = 2 → unN N t u f = pst (tN N (M 16 u / 4)) (M 16 u / 4) (M 16 u) (M 18 u) (M 19 u) (M 11 0 + M 12 0 + 1) f := fun f e => funext fun i => by rw [unN_pg e, hr, hg, u4, u5, u6, show M 11 0 + (M 12 0 + 1) = M 11 0 + M 12 0 + 1 from by omega]
    have mp : ∀ f : Nat, npg f = false → s_und M t u f = bcm (tch M (M 16 u / 4)) (M 16 u) (M 18 u) (M 19 u) (M 11 0 + M 12 0 + 1) f := fun f e => funext fun i => und_pg e
    exact z.c (congrFun (np _ (Or.inl rfl)) 0) (congrFun (np _ (Or.inr rfl)) 0) (congrFun (np _ (Or.inl rfl)) 0) (np _ (Or.inl rfl)) (np _ (Or.inl rfl)) (np _ (Or.inl rfl)) (np _ (Or.inl rfl)) (np _ (Or.inl rfl)) (np _ (Or.inl rfl)) (np _ (Or.inl rfl)) (np _ (Or.inl rfl)) (congrFun (mp _ rfl) 0) (congrFun (mp _ rfl) 0) (mp _ rfl) (mp _ rfl) (congrFun (mp _ rfl) 0) (mp _ rfl) (mp _ rfl) (mp _ rfl) (mp _ rfl) (mp _ rfl) (mp _ rfl) (mp _ rfl)
  · refine hSL.add ha (unN_o rfl (by decide) (by decide) (by omega) (by simp)) n14 ?_ (fun f i a b c => unN_o (by
      rcases (show f = 20 ∨ f = 21 ∨ f = 22 ∨ f = 23 ∨ f = 24 ∨ f = 25 ∨ f = 26 ∨ f = 27 ∨ f = 28 from by omega) with rfl | rfl | rfl | rfl | rfl | rfl | rfl | rfl | rfl <;> rfl) (by omega) (by omega) (by omega) (by omega)) ?_
    · rw [n15, ← hr]
      have := (ntN_e (N := tN N (N 23 u / 4)) (kd := 3) (t := t) (k := N 23 u) (by rw [tN_o rfl, tN_o rfl, hr]; exact hSL.1.2.2.2)).2
      rw [tN_o rfl] at this
      exact this
    · rw [hr] at n1 n2 n3 n4 n5 n6 n7 n8 n9
      unfold EntS
      rw [n1, n2, n3, n4, n5, n6, n7, n8, n9, m2, m3, m4, m5, w1, w2, w3, w4, ha.1, hg]
      refine ⟨⟨by omega, rfl, rfl, u4⟩, ⟨rfl, rfl, u5⟩, ?_, fun _ => rfl, Or.inl ⟨rfl, hu.1, hu.2, rfl⟩, Or.inl rfl, u11, ⟨by decide, by decide⟩, fun z => by rcases z with z | z <;> exact absurd z (by decide)⟩
      rcases u11 with z | z
      · rw [z, if_neg (by decide)]; exact u9 z
      · rw [z, if_pos rfl, u6]
  · refine ⟨fun r a b c d => ?_, fun t' a b c => ?_⟩
    · rw [m1] at b
      rw [eLv] at d
      by_cases e : r = M 12 0
      · rw [e, m2] at c; exact absurd c (by decide)
      · have b' : r < M 12 0 := by omega
        rw [(kb r b').1] at c
        rw [(kb r b').2] at d ⊢
        have hh := hSU.1 r a b' c d
        rw [unN_o (f := 30) rfl (by decide) (by decide) (by omega) (by simp)]
        exact ⟨fl r b' hh.1, Lnk.c hh.2 (fun q x y => ⟨(kb q (by omega)).1, (kb q (by omega)).2, fun _ _ z => nz q (by omega) z⟩)⟩
    · rw [eLv] at c
      have b : t' < M 22 0 := by rw [show s_und M t u 22 0 = M 22 0 from und_o rfl rfl] at b; exact b
      rw [m1, unN_o (f := 36) rfl (by decide) (by decide) (by omega) (by simp)]
      have hl := Lnk.c (N' := unN N t u) (M' := s_und M t u) (hSU.2 t' a b c) (fun q x y => ⟨(kb q y).1, (kb q y).2, fun _ _ z => nz q y z⟩)
      refine hl.mono (by omega) (fun q x y z _ _ => ?_)
      rw [show q = M 12 0 from by omega, m2] at z
      exact absurd z (by decide)
  · have no : ∀ f : Nat, npF f = false → f ≠ 3 → f ≠ 50 → ¬ (20 ≤ f ∧ f ≤ 30) → unN N t u f = N f := fun f a b c e => funext fun i => unN_o a b c (by omega) (by omega)
    exact hST.c (congrFun (no _ rfl (by decide) (by decide) (by decide)) 0) (congrFun (no _ rfl (by decide) (by decide) (by decide)) 0) (no _ rfl (by decide) (by decide) (by decide)) (no _ rfl (by decide) (by decide) (by decide)) (no _ rfl (by decide) (by decide) (by decide)) (no _ rfl (by decide) (by decide) (by decide)) (no _ rfl (by decide) (by decide) (by decide)) (no _ rfl (by decide) (by decide) (by decide)) (no _ rfl (by decide) (by decide) (by decide)) (no _ rfl (by decide) (by decide) (by decide)) (no _ rfl (by decide) (by decide) (by decide)) (no _ rfl (by decide) (by decide) (by decide)) (no _ rfl (by decide) (by decide) (by decide)) (und_o rfl rfl) eP (mo _ rfl rfl) eS (mo _ rfl rfl) (mo _ rfl rfl) (mo _ rfl rfl) (mo _ rfl rfl)
  · rw [unN_o rfl (by decide) (by decide) (by omega) (by simp), hlv]
    exact (lives_c eS (und_o rfl rfl)).symm
  · rw [unN_o rfl (by decide) (by decide) (by omega) (by simp), hvl]
    exact (und_o rfl rfl).symm
  · rw [m1] at b
    by_cases e : r = M 12 0
    · rw [e, m2] at c; exact absurd c (by decide)
    · rw [(kb r (by omega)).1] at c
      exact fl r (by omega) (hA r a (by omega) c)

