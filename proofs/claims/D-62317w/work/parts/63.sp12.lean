theorem cntN_split {P P1 P2 : Int → Prop} : ∀ n : Nat, (∀ i, 0 ≤ i → i < (n : Int) → (P i ↔ P1 i ∨ P2 i) ∧ ¬ (P1 i ∧ P2 i)) → cntN P n = cntN P1 n + cntN P2 n := by
  intro n
  induction n with
  | zero => intro _; rfl
  | succ n ih =>
    intro h
    have h1 := ih (fun i a b => h i a (by omega))
    have h2 := h n (by omega) (by omega)
    show cntN P n + b01 (P n) = (cntN P1 n + b01 (P1 n)) + (cntN P2 n + b01 (P2 n))
    by_cases a : P1 n
    · have b : ¬ P2 n := fun b => h2.2 ⟨a, b⟩
      rw [b01_t a, b01_f b, b01_t (h2.1.mpr (Or.inl a))]; omega
    · by_cases b : P2 n
      · rw [b01_f a, b01_t b, b01_t (h2.1.mpr (Or.inr b))]; omega
      · rw [b01_f a, b01_f b, b01_f (fun z => by rcases h2.1.mp z with z | z; exact a z; exact b z)]; omega
theorem top_self {M : MSt} {t : Int} (h : M 24 t < 0) : top M t = t := top_root h
/-- where a top has committed: the ones whose top lives are not below it -/
theorem cm_out {M : MSt} {t x : Int} (hp : ParOk M) (hd : DepOk M) (ht : M 24 t < 0) (hx : inM M x) (h : LvT (cm1 M t) x) : LvT M x ∧ ¬ InS M t x := by
  have e : top M x ≠ t := fun e => by
    unfold LvT Liv at h
    rw [top_c (cm1_par M t), cm1_s, if_pos e] at h
    rcases h with z | z <;> exact absurd z (by decide)
  refine ⟨?_, fun z => e ((InS_top hp hd hx z).1.trans (top_self ht))⟩
  unfold LvT Liv at h ⊢
  rw [top_c (cm1_par M t), cm1_s, if_neg e] at h
  exact h
theorem cm_in {M : MSt} {t x : Int} (hp : ParOk M) (hd : DepOk M) (hx : inM M x) : top M x = t → InS M t x := fun e => by
  have := (InS_tops hp hd hx).2
  rw [e] at this
  exact this
/-- the store while a top's updates are being closed -/
def CmI (Nc M : MSt) (t : Int) (N1 : MSt) : Prop := (∀ f i, f ≠ 29 → f ≠ 36 → f ≠ 6 → N1 f i = Nc f i) ∧ (∀ r, 0 ≤ r → r < M 12 0 → ¬ InS M t (M 15 r) → N1 29 r = Nc 29 r) ∧ (∀ u, inM M u → ¬ InS M t u → N1 36 u = Nc 36 u) ∧ CH N1 M (InS M t)
theorem cm_start {N M : MSt} {t : Int} (h : Sim N M) (hw : WF M) (hd : DepOk M) (ht : inM M t) (hl : Liv M t) (hpt : M 24 t < 0) : CmI (cmN N t) (cm1 M t) t (cmN N t) ∧ cmN N t 6 0 = opens (cm1 M t) + cnt (cnd (cmN N t) (cm1 M t) (InS (cm1 M t) t) 0) (cm1 M t 12 0) := by
  have hR0 := h.l.1.2.2.1
  have hr : N 3 0 = M 12 0 := h.l.1.2.1
  have ha := cm1_add M t
  obtain ⟨m1, m2, m3, -⟩ := cm1_n M t
  have eP := cm1_par M t
  have hlt : LvT M t := by unfold LvT; rw [top_self hpt]; exact hl
  have kb : ∀ q, q < M 12 0 → cm1 M t 14 q = M 14 q ∧ cm1 M t 15 q = M 15 q := fun q z => ⟨cm1_l (by decide) (by decide) (by omega), cm1_l (by decide) (by decide) (by omega)⟩
  have nu : ∀ q, q < M 12 0 → cmN N t 29 q = N 29 q := fun q z => cmN_o (by decide) (by decide) (by omega) (by simp) (by decide)
  refine ⟨⟨fun _ _ _ _ _ => rfl, fun _ _ _ _ => rfl, fun _ _ _ => rfl, fun u hu hs => ?_⟩, ?_⟩
  · have hu : inM M u := by unfold inM at hu ⊢; rw [show cm1 M t 22 0 = M 22 0 from cm1_o rfl (by decide)] at hu; exact hu
    have w := CH_of h.z hw.par hd hlt u hu ((InS_c eP t u).mp hs)
    refine ⟨?_, fun r a b c d => ?_⟩
    · rw [m1, cmN_o (f := 36) (by decide) (by decide) (by omega) (by simp) (by decide)]
      have hl2 := Lnk.c (N' := cmN N t) (M' := cm1 M t) w.1 (fun q x y => ⟨(kb q y).1, (kb q y).2, fun _ _ z => by rw [nu q y] at z; exact z⟩)
      refine hl2.mono (by omega) (fun q x y z _ _ => ?_)
      rw [show q = M 12 0 from by omega, m2] at z
      exact absurd z (by decide)
    · rw [m1] at b
      by_cases e : r = M 12 0
      · rw [e, m2] at c; exact absurd c (by decide)
      · have b' : r < M 12 0 := by omega
        rw [(kb r b').1] at c
        rw [(kb r b').2] at d
        rw [cmN_o (f := 30) (by decide) (by decide) (by omega) (by simp) (by decide)]
        exact Lnk.c (w.2 r a b' c d) (fun q x y => ⟨(kb q (by omega)).1, (kb q (by omega)).2, fun _ _ z => by rw [nu q (by omega)] at z; exact z⟩)
  · rw [cmN_o (by decide) (by decide) (by omega) (by simp) (by decide), h.cc.1]
    unfold opens
    rw [m1, cnt_s hR0, cnt_s hR0, b01_f (show ¬ Opn (cm1 M t) (M 12 0) from fun z => by have := z.1; rw [m2] at this; exact absurd this (by decide)), b01_f (show ¬ cnd (cmN N t) (cm1 M t) (InS (cm1 M t) t) 0 (M 12 0) from fun z => by have := z.2.1; rw [m2] at this; exact absurd this (by decide))]
    have sp := cntN_split (P := Opn M) (P1 := Opn (cm1 M t)) (P2 := cnd (cmN N t) (cm1 M t) (InS (cm1 M t) t) 0) (M 12 0).toNat (fun i a b => by
      have b : i < M 12 0 := by omega
      have hb := hw.bys i a b
      have eU : Und (cm1 M t) i ↔ Und M i := by rw [Und_add ha b, m2]; simp
      have eO : Opn (cm1 M t) i ↔ Opn M i ∧ top M (M 15 i) ≠ t := by
        unfold Opn
        rw [eU, (kb i b).1, (kb i b).2, top_c eP, cm1_s]
        by_cases e : top M (M 15 i) = t
        · rw [if_pos e]; exact ⟨fun z => absurd rfl z.2.1, fun z => absurd e z.2⟩
        · rw [if_neg e]; exact ⟨fun z => ⟨z, e⟩, fun z => z.1⟩
      have eC : cnd (cmN N t) (cm1 M t) (InS (cm1 M t) t) 0 i ↔ Opn M i ∧ top M (M 15 i) = t := by
        have w := cnd_u (pt := 0) (r := i) h.z hw.par hd (fun r x y => hw.bys r x y) hlt
        have w2 : cnd (cmN N t) (cm1 M t) (InS (cm1 M t) t) 0 i ↔ cnd N M (InS M t) 0 i := by
          unfold cnd
          rw [m1, (kb i b).1, (kb i b).2, nu i b, InS_c eP, show cm1 M t 11 0 = M 11 0 from cm1_o rfl (by decide)]
          exact ⟨fun z => ⟨⟨a, b⟩, z.2⟩, fun z => ⟨⟨a, by omega⟩, z.2⟩⟩
        rw [w2, w]
        unfold ucd
        have hbs := hw.base
        exact ⟨fun z => ⟨z.2.2.1, (InS_top hw.par hd hb z.2.2.2).1.trans (top_self hpt)⟩, fun z => ⟨⟨a, b⟩, by omega, z.1, cm_in hw.par hd hb z.2⟩⟩
      rw [eO, eC]
      refine ⟨⟨fun z => ?_, fun z => by rcases z with z | z <;> exact z.1⟩, fun z => z.1.2 z.2.2⟩
      by_cases e : top M (M 15 i) = t
      · exact Or.inr ⟨z, e⟩
      · exact Or.inl ⟨z, e⟩)
    show cntN _ _ = cntN _ _ + 0 + (cntN _ _ + 0)
    omega

