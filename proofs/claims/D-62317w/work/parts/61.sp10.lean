/-! commit: the record and the state -/
def cmN (N : MSt) (t : Int) : MSt := up (up (ntN N 4 t 0) 35 t 3) 7 0 (N 7 0 - 1)
theorem cmN_o {N : MSt} {t i : Int} {f : Nat} (h1 : f ≠ 3) (h2 : f ≠ 50) (h3 : ¬ (20 ≤ f ∧ f ≤ 30 ∧ i = N 3 0)) (h4 : ¬ (f = 35 ∧ i = t)) (h6 : f ≠ 7) : cmN N t f i = N f i := by
  unfold cmN
  rw [up_ne (fun z => h6 z.1), up_ne h4, ntN_o h1 h2 h3]
theorem cm1_o {M : MSt} {t i : Int} {f : Nat} (h : lgF f = false) (h2 : f ≠ 23) : cm1 M t f i = M f i := by
  unfold cm1
  rw [up_ne (fun z => h2 z.1), app_o h]
theorem cm1_l {M : MSt} {t i : Int} {f : Nat} (h : f ≠ 12) (h2 : f ≠ 23) (hi : i ≠ M 12 0) : cm1 M t f i = M f i := by
  unfold cm1
  rw [up_ne (fun z => h2 z.1), app_l h hi]
theorem cm1_s (M : MSt) (t i : Int) : cm1 M t 23 i = if i = t then 3 else M 23 i := by
  unfold cm1
  by_cases e : i = t
  · rw [e, up_same, if_pos rfl]
  · rw [up_ne (fun z => e z.2), if_neg e, app_o rfl]
theorem cm1_n (M : MSt) (t : Int) : cm1 M t 12 0 = M 12 0 + 1 ∧ cm1 M t 14 (M 12 0) = 4 ∧ cm1 M t 15 (M 12 0) = t ∧ cm1 M t 16 (M 12 0) = 0 ∧ cm1 M t 18 (M 12 0) = 0 ∧ cm1 M t 19 (M 12 0) = 0 ∧ cm1 M t 20 (M 12 0) = 0 ∧ cm1 M t 21 (M 12 0) = 0 := by
  unfold cm1
  refine ⟨?_, ?_, ?_, ?_, ?_, ?_, ?_, ?_⟩ <;> rw [up_ne (by simp)] <;> simp [app, up]
theorem cm1_add (M : MSt) (t : Int) : Add M (cm1 M t) := ⟨cm1_o rfl (by decide), (cm1_n M t).1, fun f i a b c => cm1_l b (fun e => by rw [e] at a; cases a) c⟩
theorem cm1_par (M : MSt) (t : Int) : cm1 M t 24 = M 24 := funext fun _ => cm1_o rfl (by decide)
theorem lives_drop {M M' : MSt} {u : Int} (hu : inM M u) (hl : Liv M u) (hm : M' 22 0 = M 22 0) (h : ∀ i, Liv M' i ↔ Liv M i ∧ i ≠ u) : lives M' = lives M - 1 := by
  have := cntN_drop (P := Liv M) (P' := Liv M') (u := u) h hl hu.1 (M 22 0).toNat
  rw [if_pos (by have := hu.2; omega)] at this
  unfold lives
  rw [hm]
  exact this
theorem Sim_cm {N M : MSt} {t : Int} (h : Sim N M) (ht : inM M t) (hl : Liv M t) : SimP (cmN N t) (cm1 M t) ∧ SimL (cmN N t) (cm1 M t) ∧ SimT (cmN N t) (cm1 M t) ∧ cmN N t 7 0 = lives (cm1 M t) ∧ cmN N t 9 0 = cm1 M t 38 0 := by
  have hr : N 3 0 = M 12 0 := h.l.1.2.1
  have hg : N 4 0 = M 11 0 := h.l.1.1
  have hR0 := h.l.1.2.2.1
  have ha := cm1_add M t
  obtain ⟨m1, m2, m3, z1, z2, z3, z4, z5⟩ := cm1_n M t
  have q := ntN_n N 4 t 0
  have eP := cm1_par M t
  have gl : ∀ (f : Nat), 20 ≤ f → f ≤ 30 → ∀ i, cmN N t f i = ntN N 4 t 0 f i := fun f a b i => by
    unfold cmN
    rw [up_ne (by omega), up_ne (by omega)]
  have gS : ∀ i, cmN N t 35 i = if i = t then 3 else N 35 i := fun i => by
    unfold cmN
    rw [up_ne (by simp)]
    by_cases e : i = t
    · rw [e, up_same, if_pos rfl]
    · rw [up_ne (fun z => e z.2), if_neg e, ntN_o (by decide) (by decide) (by omega)]
  have no : ∀ f : Nat, f ≠ 3 → f ≠ 50 → ¬ (20 ≤ f ∧ f ≤ 30) → f ≠ 35 → f ≠ 7 → cmN N t f = N f := fun f a b c d g => funext fun i => cmN_o a b (by omega) (fun z => d z.1) g
  have mo : ∀ f : Nat, lgF f = false → f ≠ 23 → cm1 M t f = M f := fun f a b => funext fun i => cm1_o a b
  refine ⟨?_, ?_, ⟨⟨?_, ?_⟩, fun t' a b => ?_⟩, ?_, ?_⟩
  · exact h.p.c (congrFun (no _ (by decide) (by decide) (by decide) (by decide) (by decide)) 0) (congrFun (no _ (by decide) (by decide) (by decide) (by decide) (by decide)) 0) (congrFun (no _ (by decide) (by decide) (by decide) (by decide) (by decide)) 0) (no _ (by decide) (by decide) (by decide) (by decide) (by decide)) (no _ (by decide) (by decide) (by decide) (by decide) (by decide)) (no _ (by decide) (by decide) (by decide) (by decide) (by decide)) (no _ (by decide) (by decide) (by decide) (by decide) (by decide)) (no _ (by decide) (by decide) (by decide) (by decide) (by decide)) (no _ (by decide) (by decide) (by decide) (by decide) (by decide)) (no _ (by decide) (by decide) (by decide) (by decide) (by decide)) (no _ (by decide) (by decide) (by decide) (by decide) (by decide))
      (congrFun (mo _ rfl (by decide)) 0) (congrFun (mo _ rfl (by decide)) 0) (mo _ rfl (by decide)) (mo _ rfl (by decide)) (congrFun (mo _ rfl (by decide)) 0) (mo _ rfl (by decide)) (mo _ rfl (by decide)) (mo _ rfl (by decide)) (mo _ rfl (by decide)) (mo _ rfl (by decide)) (mo _ rfl (by decide)) (mo _ rfl (by decide))
  · refine h.l.add ha (cmN_o (by decide) (by decide) (by omega) (by simp) (by decide)) ?_ ?_ (fun f i a b c => cmN_o (by omega) (by omega) (by omega) (by omega) (by omega)) ?_
    · unfold cmN; rw [up_ne (by simp), up_ne (by simp)]; exact q.1
    · unfold cmN
      rw [up_ne (by simp), up_ne (by simp)]
      have := (ntN_e (N := N) (kd := 4) (t := t) (k := 0) (by rw [hr]; exact h.l.1.2.2.2)).2
      omega
    · obtain ⟨q1, q2, q3, q4, q5, q6, q7, q8, q9, q10, q11, q12⟩ := q
      rw [hr] at q2 q3 q4 q5 q6 q7 q8 q9 q10
      unfold EntS
      rw [gl 20 (by decide) (by decide), gl 21 (by decide) (by decide), gl 22 (by decide) (by decide), gl 23 (by decide) (by decide), gl 24 (by decide) (by decide), gl 25 (by decide) (by decide), gl 26 (by decide) (by decide), gl 27 (by decide) (by decide), gl 28 (by decide) (by decide), q2, q3, q4, q5, q6, q7, q8, q9, q10, m2, m3, z1, z2, z3, z4, z5, ha.1, hg]
      exact ⟨⟨by omega, rfl, rfl, rfl⟩, ⟨rfl, rfl, rfl⟩, by rw [if_neg (by decide)], fun _ => rfl, Or.inr ⟨by decide, rfl⟩, Or.inl rfl, Or.inl rfl, ⟨by decide, by decide⟩, fun _ => rfl⟩
  · rw [no _ (by decide) (by decide) (by decide) (by decide) (by decide), mo 22 rfl (by decide)]; exact h.t.1.1
  · rw [no _ (by decide) (by decide) (by decide) (by decide) (by decide), mo 22 rfl (by decide)]; exact h.t.1.2
  · rw [mo 22 rfl (by decide)] at b
    obtain ⟨⟨t1, t2, t3, t4, t5⟩, t6, t7, t8, t9⟩ := h.t.2 t' a b
    unfold TrS
    rw [no 31 (by decide) (by decide) (by decide) (by decide) (by decide), no 32 (by decide) (by decide) (by decide) (by decide) (by decide), no 33 (by decide) (by decide) (by decide) (by decide) (by decide), no 34 (by decide) (by decide) (by decide) (by decide) (by decide), no 39 (by decide) (by decide) (by decide) (by decide) (by decide), no 37 (by decide) (by decide) (by decide) (by decide) (by decide), no 38 (by decide) (by decide) (by decide) (by decide) (by decide), no 40 (by decide) (by decide) (by decide) (by decide) (by decide), no 41 (by decide) (by decide) (by decide) (by decide) (by decide), no 42 (by decide) (by decide) (by decide) (by decide) (by decide),
      gS, cm1_s, eP, top_c eP, dep_c eP, mo 25 rfl (by decide), mo 22 rfl (by decide), mo 26 rfl (by decide), mo 27 rfl (by decide), mo 28 rfl (by decide), mo 29 rfl (by decide)]
    refine ⟨⟨t1, t2, t3, t4, by rw [t5]⟩, t6, t7, t8, fun z => ?_⟩
    by_cases e : t' = t
    · rw [if_pos e] at z; exact absurd z (by decide)
    · rw [if_neg e] at z; exact t9 z
  · have e1 : cmN N t 7 0 = N 7 0 - 1 := up_same _ _ _ _
    rw [e1, h.cc.2.1, lives_drop (M' := cm1 M t) ht hl (cm1_o rfl (by decide)) (fun i => by
      unfold Liv
      rw [cm1_s]
      by_cases e : i = t
      · rw [if_pos e, e]; exact ⟨fun z => by rcases z with z | z <;> exact absurd z (by decide), fun z => absurd rfl z.2⟩
      · rw [if_neg e]; exact ⟨fun z => ⟨z, e⟩, fun z => z.1⟩)]
  · rw [no _ (by decide) (by decide) (by decide) (by decide) (by decide), mo 38 rfl (by decide)]; exact h.cc.2.2
theorem top_rt {M : MSt} : ∀ (n : Nat) (x : Int), 0 ≤ x → ndp M n x → M 24 (topN M n x) < 0 := by
  intro n
  induction n with
  | zero => intro x h0 h; have h : x < 0 := h; omega
  | succ n ih =>
    intro x h0 h
    show M 24 (if 0 ≤ M 24 x then topN M n (M 24 x) else x) < 0
    by_cases c : 0 ≤ M 24 x
    · rw [if_pos c]
      exact ih _ c (by rcases h with z | z; omega; exact z)
    · rw [if_neg c]; omega
theorem top_par {M : MSt} (hd : DepOk M) {x : Int} (hx : inM M x) : M 24 (top M x) < 0 := top_rt 4 x hx.1 (hd x hx.1 hx.2)
/-- the commit of one that has a parent leaves the chains and the open ones -/
theorem Sim_cmU {N M : MSt} {t : Int} (h : Sim N M) (hw : WF M) (hd : DepOk M) (hp : 0 ≤ M 24 t) : SimU (cmN N t) (cm1 M t) ∧ opens (cm1 M t) = opens M := by
  have hr : N 3 0 = M 12 0 := h.l.1.2.1
  have hR0 := h.l.1.2.2.1
  have ha := cm1_add M t
  obtain ⟨m1, m2, m3, -⟩ := cm1_n M t
  have eP := cm1_par M t
  have et : ∀ x, inM M x → cm1 M t 23 (top M x) = M 23 (top M x) := fun x hx => by
    rw [cm1_s, if_neg (fun e => by have := top_par hd hx; rw [e] at this; omega)]
  have eLv : ∀ x, inM M x → LvT (cm1 M t) x → LvT M x := fun x hx => by
    unfold LvT Liv
    rw [top_c eP, et x hx]
    exact id
  have kb : ∀ q, q < M 12 0 → cm1 M t 14 q = M 14 q ∧ cm1 M t 15 q = M 15 q := fun q z => ⟨cm1_l (by decide) (by decide) (by omega), cm1_l (by decide) (by decide) (by omega)⟩
  have nu : ∀ q, q < M 12 0 → cmN N t 29 q = N 29 q := fun q z => cmN_o (by decide) (by decide) (by omega) (by simp) (by decide)
  refine ⟨⟨fun r a b c d => ?_, fun t' a b c => ?_⟩, ?_⟩
  · rw [m1] at b
    by_cases e : r = M 12 0
    · rw [e, m2] at c; exact absurd c (by decide)
    · have b' : r < M 12 0 := by omega
      rw [(kb r b').1] at c
      rw [(kb r b').2] at d ⊢
      have hh := h.u.1 r a b' c (eLv _ (hw.bys r a b') d)
      rw [nu r b', cmN_o (f := 30) (by decide) (by decide) (by omega) (by simp) (by decide)]
      refine ⟨hh.1.trans (b01_c ?_), Lnk.c hh.2 (fun q x y => ⟨(kb q (by omega)).1, (kb q (by omega)).2, fun _ _ z => by rw [nu q (by omega)] at z; exact z⟩)⟩
      rw [Und_add ha b', m2]
      simp
  · rw [show cm1 M t 22 0 = M 22 0 from cm1_o rfl (by decide)] at b
    rw [m1, cmN_o (f := 36) (by decide) (by decide) (by omega) (by simp) (by decide)]
    have hl2 := Lnk.c (N' := cmN N t) (M' := cm1 M t) (h.u.2 t' a b (eLv _ ⟨a, b⟩ c)) (fun q x y => ⟨(kb q y).1, (kb q y).2, fun _ _ z => by rw [nu q y] at z; exact z⟩)
    refine hl2.mono (by omega) (fun q x y z _ _ => ?_)
    rw [show q = M 12 0 from by omega, m2] at z
    exact absurd z (by decide)
  · unfold opens
    rw [m1, cnt_s hR0, b01_f (show ¬ Opn (cm1 M t) (M 12 0) from fun z => by have := z.1; rw [m2] at this; exact absurd this (by decide))]
    rw [cnt_ext (P := Opn (cm1 M t)) (P' := Opn M) (fun i a b => by
      unfold Opn
      rw [Und_add ha b, (kb i b).1, (kb i b).2, top_c eP, et _ (hw.bys i a b), m2]
      simp)]
    omega

