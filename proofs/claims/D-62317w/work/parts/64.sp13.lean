theorem cm_end {N M N1 : MSt} {t L : Int} (h : Sim N M) (hw : WF M) (hd : DepOk M) (ht : inM M t) (hl : Liv M t) (hpt : M 24 t < 0) (hc : CmI (cmN N t) (cm1 M t) t N1) (ho : N1 6 0 = opens (cm1 M t)) : Sim (up N1 5 0 L) (up (cm1 M t) 13 0 L) := by
  obtain ⟨s1, s2, s3, s4, s5⟩ := Sim_cm h ht hl
  obtain ⟨c1, c2, c3, c4⟩ := hc
  have hr : N 3 0 = M 12 0 := h.l.1.2.1
  have ha := cm1_add M t
  obtain ⟨m1, m2, m3, -⟩ := cm1_n M t
  have eP := cm1_par M t
  have cc : ∀ f : Nat, f ≠ 29 → f ≠ 36 → f ≠ 6 → N1 f = cmN N t f := fun f a b c => funext fun i => c1 f i a b c
  have kb : ∀ q, q < M 12 0 → cm1 M t 14 q = M 14 q ∧ cm1 M t 15 q = M 15 q := fun q z => ⟨cm1_l (by decide) (by decide) (by omega), cm1_l (by decide) (by decide) (by omega)⟩
  have nu : ∀ q, 0 ≤ q → q < M 12 0 → ¬ InS M t (M 15 q) → N1 29 q = N 29 q := fun q a z y => by
    rw [c2 q a (by omega) (by rw [(kb q z).2, InS_c eP]; exact y)]
    exact cmN_o (by decide) (by decide) (by omega) (by simp) (by decide)
  have hm : cm1 M t 22 0 = M 22 0 := cm1_o rfl (by decide)
  refine ⟨?_, ?_, ⟨fun r a b c d => ?_, fun t' a b c => ?_⟩, ?_, ?_, ?_, ?_⟩
  · have p1 : SimP N1 (cm1 M t) := s1.c (c1 _ _ (by decide) (by decide) (by decide)) (c1 _ _ (by decide) (by decide) (by decide)) (c1 _ _ (by decide) (by decide) (by decide)) (cc _ (by decide) (by decide) (by decide)) (cc _ (by decide) (by decide) (by decide)) (cc _ (by decide) (by decide) (by decide)) (cc _ (by decide) (by decide) (by decide)) (cc _ (by decide) (by decide) (by decide)) (cc _ (by decide) (by decide) (by decide)) (cc _ (by decide) (by decide) (by decide)) (cc _ (by decide) (by decide) (by decide)) rfl rfl rfl rfl rfl rfl rfl rfl rfl rfl rfl rfl
    obtain ⟨⟨a, b, c⟩, d⟩ := p1
    exact ⟨⟨a, b, rfl⟩, d⟩
  · exact s2.c (c1 _ _ (by decide) (by decide) (by decide)) (c1 _ _ (by decide) (by decide) (by decide)) (c1 _ _ (by decide) (by decide) (by decide)) (cc _ (by decide) (by decide) (by decide)) (cc _ (by decide) (by decide) (by decide)) (cc _ (by decide) (by decide) (by decide)) (cc _ (by decide) (by decide) (by decide)) (cc _ (by decide) (by decide) (by decide)) (cc _ (by decide) (by decide) (by decide)) (cc _ (by decide) (by decide) (by decide)) (cc _ (by decide) (by decide) (by decide)) (cc _ (by decide) (by decide) (by decide)) rfl rfl rfl rfl rfl rfl rfl rfl rfl rfl
  · have b : r < cm1 M t 12 0 := b
    have c : cm1 M t 14 r = 2 := c
    have d : LvT (cm1 M t) (cm1 M t 15 r) := d
    rw [m1] at b
    by_cases e : r = M 12 0
    · rw [e, m2] at c; exact absurd c (by decide)
    · have b' : r < M 12 0 := by omega
      rw [(kb r b').1] at c
      rw [(kb r b').2] at d
      have hb := hw.bys r a b'
      have hx := cm_out hw.par hd hpt hb d
      have hh := h.u.1 r a b' c hx.1
      show N1 29 r = b01 (Und (up (cm1 M t) 13 0 L) r) ∧ Lnk (up N1 5 0 L) (up (cm1 M t) 13 0 L) (N1 30 r) (cm1 M t 15 r) r
      rw [nu r a b' hx.2, (kb r b').2, c1 30 r (by decide) (by decide) (by decide), cmN_o (f := 30) (by decide) (by decide) (by omega) (by simp) (by decide)]
      refine ⟨hh.1.trans (b01_c ?_), Lnk.c hh.2 (fun q x y => ⟨(kb q (by omega)).1, (kb q (by omega)).2, fun _ k2 z => ?_⟩)⟩
      · have w : Und (cm1 M t) r ↔ Und M r := by rw [Und_add ha b', m2]; simp
        exact w.symm
      · have z : N1 29 q = 0 := z
        rw [nu q x (by omega) (by rw [k2]; exact hx.2)] at z
        exact z
  · have b : t' < cm1 M t 22 0 := b
    have c : LvT (cm1 M t) t' := c
    rw [hm] at b
    have hx := cm_out hw.par hd hpt ⟨a, b⟩ c
    have w := h.u.2 t' a b hx.1
    show Lnk (up N1 5 0 L) (up (cm1 M t) 13 0 L) (N1 36 t') t' (cm1 M t 12 0)
    rw [m1, c3 t' ⟨a, by rw [hm]; exact b⟩ (by rw [InS_c eP]; exact hx.2), cmN_o (f := 36) (by decide) (by decide) (by omega) (by simp) (by decide)]
    have hl2 := Lnk.c (N' := up N1 5 0 L) (M' := up (cm1 M t) 13 0 L) w (fun q x y => ⟨(kb q y).1, (kb q y).2, fun _ k2 z => by
      have z : N1 29 q = 0 := z
      rw [nu q x y (by rw [k2]; exact hx.2)] at z
      exact z⟩)
    refine hl2.mono (by omega) (fun q x y z _ _ => ?_)
    have z : cm1 M t 14 q = 2 := z
    rw [show q = M 12 0 from by omega, m2] at z
    exact absurd z (by decide)
  · exact s3.c (c1 _ _ (by decide) (by decide) (by decide)) (c1 _ _ (by decide) (by decide) (by decide)) (cc _ (by decide) (by decide) (by decide)) (cc _ (by decide) (by decide) (by decide)) (cc _ (by decide) (by decide) (by decide)) (cc _ (by decide) (by decide) (by decide)) (cc _ (by decide) (by decide) (by decide)) (cc _ (by decide) (by decide) (by decide)) (cc _ (by decide) (by decide) (by decide)) (cc _ (by decide) (by decide) (by decide)) (cc _ (by decide) (by decide) (by decide)) (cc _ (by decide) (by decide) (by decide)) (cc _ (by decide) (by decide) (by decide)) rfl rfl rfl rfl rfl rfl rfl rfl
  · exact ho
  · show N1 7 0 = lives (cm1 M t)
    rw [c1 _ _ (by decide) (by decide) (by decide)]
    exact s4
  · show N1 9 0 = cm1 M t 38 0
    rw [c1 _ _ (by decide) (by decide) (by decide)]
    exact s5
theorem CmI.put {Nc M N1 : MSt} {t z : Int} (h : CmI Nc M t N1) (hz : InS M t (M 15 z)) (x : Int) : CmI Nc M t (up (up N1 29 z 1) 6 0 x) := by
  obtain ⟨c1, c2, c3, c4⟩ := h
  refine ⟨fun f i a b c => ?_, fun r a b c => ?_, fun u a b => ?_, fun u a b => ?_⟩
  · rw [up_ne (fun q => c q.1), up_ne (fun q => a q.1)]; exact c1 f i a b c
  · rw [up_ne (by simp), up_ne (fun q => c (by rw [q.2]; exact hz))]; exact c2 r a b c
  · rw [up_ne (by simp), up_ne (by simp)]; exact c3 u a b
  · have k : ∀ q, up (up N1 29 z 1) 6 0 x 29 q = 0 → N1 29 q = 0 := fun q y => by
      rw [up_ne (by simp)] at y
      by_cases e : q = z
      · rw [e, up_same] at y; exact absurd y (by decide)
      · rw [up_ne (fun w => e w.2)] at y; exact y
    have w := c4 u a b
    refine ⟨?_, fun r p q s y => ?_⟩
    · rw [up_ne (by simp), up_ne (by simp)]
      exact Lnk.c w.1 (fun q _ _ => ⟨rfl, rfl, fun _ _ y => k q y⟩)
    · rw [up_ne (by simp), up_ne (by simp)]
      exact Lnk.c (w.2 r p q s y) (fun q _ _ => ⟨rfl, rfl, fun _ _ y => k q y⟩)
theorem CmI.lt {Nc M N1 N2 : MSt} {t : Int} (h : CmI Nc M t N1) (e : EqL N1 N2) (hc : CH N2 M (InS M t)) (ho : ∀ u, inM M u → ¬ InS M t u → N2 36 u = N1 36 u) : CmI Nc M t N2 :=
  ⟨fun f i a b c => (e f i b).trans (h.1 f i a b c), fun r a b c => (e _ _ (by decide)).trans (h.2.1 r a b c), fun u a b => (ho u a b).trans (h.2.2.1 u a b), hc⟩

