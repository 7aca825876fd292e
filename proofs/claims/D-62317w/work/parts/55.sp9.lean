theorem InS_self {M : MSt} (x : Int) : InS M x x := Or.inl rfl
theorem abv_trans {M : MSt} {a b : Int} (n : Nat) : ∀ (m : Nat) (x : Int), abvN M a n b → abvN M b m x → abvN M a (m + n) x := by
  intro m
  induction m with
  | zero => intro x _ h; exact h.elim
  | succ m ih =>
    intro x h1 h2
    rw [show m + 1 + n = (m + n) + 1 from by omega]
    refine ⟨h2.1, ?_⟩
    rcases h2.2 with e | e
    · rw [← e] at h1
      have up1 : ∀ (j k : Nat) (y : Int), abvN M a j y → abvN M a (j + k) y := fun j k y q => by
        induction k with
        | zero => exact q
        | succ k ih2 => exact abv_up _ _ ih2
      cases n with
      | zero => exact h1.elim
      | succ n =>
        rcases h1.2 with z | z
        · exact Or.inl z
        · exact Or.inr (by have := up1 n (m + 1) _ z; rw [show m + (n + 1) = n + (m + 1) from by omega]; exact this)
    · exact Or.inr (ih _ h1 e)
theorem abv_cut {M : MSt} {a : Int} : ∀ (n k : Nat) (x : Int), ndp M n x → abvN M a (n + k) x → abvN M a n x := by
  intro n k
  induction k with
  | zero => intro x _ h; exact h
  | succ k ih =>
    intro x hn h
    have hk : ∀ j, ndp M (n + j) x := fun j => by
      induction j with
      | zero => exact hn
      | succ j ihj => exact ndp_s _ _ ihj
    exact ih x hn ((abvN_s (n + k) x (hk k)).mp h)
theorem InS_trans {M : MSt} (hd : DepOk M) {a b c : Int} (hb : inM M b) (hc : inM M c) (h1 : InS M a b) (h2 : InS M b c) : InS M a c := by
  rw [InS_abv hc.1 (hd c hc.1 hc.2)] at h2 ⊢
  rw [InS_abv hb.1 (hd b hb.1 hb.2)] at h1
  exact abv_cut 4 4 c (hd c hc.1 hc.2) (abv_trans 4 4 c h1 h2)
theorem top_abv {M : MSt} (hp : ParOk M) : ∀ (n : Nat) (x : Int), inM M x → ndp M n x → inM M (topN M n x) ∧ abvN M (topN M n x) n x := by
  intro n
  induction n with
  | zero => intro x hx h; have h : x < 0 := h; have := hx.1; omega
  | succ n ih =>
    intro x hx h
    have hpx := hp.2.2 x hx.1 hx.2
    show inM M (if 0 ≤ M 24 x then topN M n (M 24 x) else x) ∧ abvN M (if 0 ≤ M 24 x then topN M n (M 24 x) else x) (n + 1) x
    by_cases c : 0 ≤ M 24 x
    · rw [if_pos c]
      have q := ih (M 24 x) ⟨c, by have := hx.2; omega⟩ (by rcases h with z | z; have := hx.1; omega; exact z)
      exact ⟨q.1, hx.1, Or.inr q.2⟩
    · rw [if_neg c]
      exact ⟨hx, hx.1, Or.inl rfl⟩
theorem InS_tops {M : MSt} (hp : ParOk M) (hd : DepOk M) {x : Int} (hx : inM M x) : inM M (top M x) ∧ InS M (top M x) x := by
  have q := top_abv hp 4 x hx (hd x hx.1 hx.2)
  exact ⟨q.1, (InS_abv hx.1 (hd x hx.1 hx.2)).mpr q.2⟩
theorem abv_le {M : MSt} (hp : ParOk M) {a : Int} : ∀ (n : Nat) (x : Int), (x = -1 ∨ inM M x) → abvN M a n x → a ≤ x := by
  intro n
  induction n with
  | zero => intro x _ h; exact h.elim
  | succ n ih =>
    intro x hx h
    have hx : inM M x := by rcases hx with z | z; have := h.1; omega; exact z
    have hpx := hp.2.2 x hx.1 hx.2
    rcases h.2 with e | e
    · omega
    · have := ih (M 24 x) (by unfold inM; have := hx.2; omega) e; omega
theorem InS_le {M : MSt} (hp : ParOk M) (hd : DepOk M) {a x : Int} (hx : inM M x) (h : InS M a x) : a ≤ x := abv_le hp 4 x (Or.inr hx) ((InS_abv hx.1 (hd x hx.1 hx.2)).mp h)
/-! one falls -/
def goN (N : MSt) (u : Int) : MSt := up (ulN (up (ntN N 5 u 0) 35 u 4) u 33) 7 0 (N 7 0 - 1)
theorem goN_o {N : MSt} {u i : Int} {f : Nat} (h1 : f ≠ 3) (h2 : f ≠ 50) (h3 : ¬ (20 ≤ f ∧ f ≤ 30 ∧ i = N 3 0)) (h4 : ¬ (f = 35 ∧ i = u)) (h5 : f ≠ 39) (h6 : f ≠ 7) : goN N u f i = N f i := by
  unfold goN
  rw [up_ne (fun z => h6 z.1), ulN_o h5, up_ne h4, ntN_o h1 h2 h3]
theorem gon_z (M : MSt) (u : Int) : gon M u 16 (M 12 0) = 0 ∧ gon M u 18 (M 12 0) = 0 ∧ gon M u 19 (M 12 0) = 0 ∧ gon M u 20 (M 12 0) = 0 ∧ gon M u 21 (M 12 0) = 0 := by
  unfold gon
  refine ⟨?_, ?_, ?_, ?_, ?_⟩ <;> rw [ulk_o (by decide), up_ne (by simp)] <;> simp [app, up]
theorem gon_add (M : MSt) (u : Int) : Add M (gon M u) := ⟨gon_o rfl (by decide) (by decide), gon_n.1, fun f i a b c => gon_l b (fun e => by rw [e] at a; cases a) (fun e => by rw [e] at a; cases a) c⟩
theorem gon_locks (M : MSt) (u i : Int) : gon M u 26 i = if 33 * u ≤ i ∧ i < 33 * u + 33 then 0 else M 26 i := by
  unfold gon ulk ulkN
  by_cases h : 33 * u ≤ i ∧ i < 33 * u + 33
  · rw [if_pos ⟨rfl, h⟩, if_pos h]
  · rw [if_neg (fun z => h z.2), if_neg h, up_ne (by simp), app_o rfl]
theorem Sim_gon {N M : MSt} {u : Int} (h : Sim N M) (hu : inM M u) (hl : Liv M u) (hno : ∀ r, 0 ≤ r → r < M 12 0 → Opn M r → top M (M 15 r) ≠ u) : Sim (goN N u) (gon M u) := by
  have hr : N 3 0 = M 12 0 := h.l.1.2.1
  have hg : N 4 0 = M 11 0 := h.l.1.1
  have hR0 := h.l.1.2.2.1
  have ha := gon_add M u
  obtain ⟨m1, m2, m3⟩ := gon_n (M := M) (u := u)
  obtain ⟨z1, z2, z3, z4, z5⟩ := gon_z M u
  have q := ntN_n N 5 u 0
  have gl : ∀ (f : Nat), 20 ≤ f → f ≤ 30 → ∀ i, goN N u f i = ntN N 5 u 0 f i := fun f a b i => by
    unfold goN
    rw [up_ne (by omega), ulN_o (by omega), up_ne (by omega)]
  have gS : ∀ i, goN N u 35 i = if i = u then 4 else N 35 i := fun i => by
    unfold goN
    rw [up_ne (by simp), ulN_o (by decide)]
    by_cases e : i = u
    · rw [e, up_same, if_pos rfl]
    · rw [up_ne (fun z => e z.2), if_neg e, ntN_o (by decide) (by decide) (by omega)]
  have gL : ∀ i, goN N u 39 i = if 33 * u ≤ i ∧ i < 33 * u + 33 then 0 else N 39 i := fun i => by
    unfold goN
    rw [up_ne (by simp)]
    unfold ulN
    by_cases e : 33 * u ≤ i ∧ i < 33 * u + 33
    · rw [if_pos ⟨rfl, e⟩, if_pos e]
    · rw [if_neg (fun z => e z.2), if_neg e, up_ne (by simp), ntN_o (by decide) (by decide) (by omega)]
  have eP := gon_par M u
  have eLv : ∀ x, LvT (gon M u) x → LvT M x := fun x => by
    unfold LvT Liv
    rw [top_c eP, gon_state]
    split
    · rintro (z | z) <;> exact absurd z (by decide)
    · exact id
  have kb : ∀ q, q < M 12 0 → gon M u 14 q = M 14 q ∧ gon M u 15 q = M 15 q := fun q z => ⟨gon_l (by decide) (by decide) (by decide) (by omega), gon_l (by decide) (by decide) (by decide) (by omega)⟩
  have no : ∀ f : Nat, f ≠ 3 → f ≠ 50 → ¬ (20 ≤ f ∧ f ≤ 30) → f ≠ 35 → f ≠ 39 → f ≠ 7 → goN N u f = N f := fun f a b c d e g => funext fun i => goN_o a b (by omega) (fun z => d z.1) e g
  have mo : ∀ f : Nat, lgF f = false → f ≠ 23 → f ≠ 26 → gon M u f = M f := fun f a b c => funext fun i => gon_o a b c
  have nu : ∀ q, q < M 12 0 → goN N u 29 q = N 29 q := fun q z => goN_o (by decide) (by decide) (by omega) (by simp) (by decide) (by decide)
  refine ⟨?_, ?_, ⟨fun r a b c d => ?_, fun t' a b c => ?_⟩, ⟨⟨?_, ?_⟩, fun t' a b => ?_⟩, ?_, ?_, ?_⟩
  · exact h.p.c (congrFun (no _ (by decide) (by decide) (by decide) (by decide) (by decide) (by decide)) 0) (congrFun (no _ (by decide) (by decide) (by decide) (by decide) (by decide) (by decide)) 0) (congrFun (no _ (by decide) (by decide) (by decide) (by decide) (by decide) (by decide)) 0) (no _ (by decide) (by decide) (by decide) (by decide) (by decide) (by decide)) (no _ (by decide) (by decide) (by decide) (by decide) (by decide) (by decide)) (no _ (by decide) (by decide) (by decide) (by decide) (by decide) (by decide)) (no _ (by decide) (by decide) (by decide) (by decide) (by decide) (by decide)) (no _ (by decide) (by decide) (by decide) (by decide) (by decide) (by decide)) (no _ (by decide) (by decide) (by decide) (by decide) (by decide) (by decide)) (no _ (by decide) (by decide) (by decide) (by decide) (by decide) (by decide)) (no _ (by decide) (by decide) (by decide) (by decide) (by decide) (by decide))
      (congrFun (mo _ rfl (by decide) (by decide)) 0) (congrFun (mo _ rfl (by decide) (by decide)) 0) (mo _ rfl (by decide) (by decide)) (mo _ rfl (by decide) (by decide)) (congrFun (mo _ rfl (by decide) (by decide)) 0) (mo _ rfl (by decide) (by decide)) (mo _ rfl (by decide) (by decide)) (mo _ rfl (by decide) (by decide)) (mo _ rfl (by decide) (by decide)) (mo _ rfl (by decide) (by decide)) (mo _ rfl (by decide) (by decide)) (mo _ rfl (by decide) (by decide))
  · refine h.l.add ha (goN_o (by decide) (by decide) (by omega) (by simp) (by decide) (by decide)) ?_ ?_ (fun f i a b c => goN_o (by omega) (by omega) (by omega) (by omega) (by omega) (by omega)) ?_
    · unfold goN; rw [up_ne (by simp), ulN_o (by decide), up_ne (by simp)]; exact q.1
    · unfold goN
      rw [up_ne (by simp), ulN_o (by decide), up_ne (by simp)]
      have := (ntN_e (N := N) (kd := 5) (t := u) (k := 0) (by rw [hr]; exact h.l.1.2.2.2)).2
      omega
    · obtain ⟨q1, q2, q3, q4, q5, q6, q7, q8, q9, q10, q11, q12⟩ := q
      rw [hr] at q2 q3 q4 q5 q6 q7 q8 q9 q10
      unfold EntS
      rw [gl 20 (by decide) (by decide), gl 21 (by decide) (by decide), gl 22 (by decide) (by decide), gl 23 (by decide) (by decide), gl 24 (by decide) (by decide), gl 25 (by decide) (by decide), gl 26 (by decide) (by decide), gl 27 (by decide) (by decide), gl 28 (by decide) (by decide), q2, q3, q4, q5, q6, q7, q8, q9, q10, m2, m3, z1, z2, z3, z4, z5, ha.1, hg]
      exact ⟨⟨by omega, rfl, rfl, rfl⟩, ⟨rfl, rfl, rfl⟩, by rw [if_neg (by decide)], fun _ => rfl, Or.inr ⟨by decide, rfl⟩, Or.inl rfl, Or.inl rfl, ⟨by decide, by decide⟩, fun _ => rfl⟩
  · rw [m1] at b
    by_cases e : r = M 12 0
    · rw [e, m2] at c; exact absurd c (by decide)
    · have b' : r < M 12 0 := by omega
      rw [(kb r b').1] at c
      rw [(kb r b').2] at d ⊢
      have hh := h.u.1 r a b' c (eLv _ d)
      rw [nu r b', goN_o (f := 30) (by decide) (by decide) (by omega) (by simp) (by decide) (by decide)]
      refine ⟨hh.1.trans (b01_c (Und_gon b').symm), Lnk.c hh.2 (fun q x y => ⟨(kb q (by omega)).1, (kb q (by omega)).2, fun _ _ z => by rw [nu q (by omega)] at z; exact z⟩)⟩
  · rw [mo 22 rfl (by decide) (by decide)] at b
    rw [m1, goN_o (f := 36) (by decide) (by decide) (by omega) (by simp) (by decide) (by decide)]
    have hl2 := Lnk.c (N' := goN N u) (M' := gon M u) (h.u.2 t' a b (eLv _ c)) (fun q x y => ⟨(kb q y).1, (kb q y).2, fun _ _ z => by rw [nu q y] at z; exact z⟩)
    refine hl2.mono (by omega) (fun q x y z _ _ => ?_)
    rw [show q = M 12 0 from by omega, m2] at z
    exact absurd z (by decide)
  · rw [no _ (by decide) (by decide) (by decide) (by decide) (by decide) (by decide), mo 22 rfl (by decide) (by decide)]; exact h.t.1.1
  · rw [no _ (by decide) (by decide) (by decide) (by decide) (by decide) (by decide), mo 22 rfl (by decide) (by decide)]; exact h.t.1.2
  · rw [mo 22 rfl (by decide) (by decide)] at b
    obtain ⟨⟨t1, t2, t3, t4, t5⟩, t6, t7, t8, t9⟩ := h.t.2 t' a b
    unfold TrS
    rw [no 31 (by decide) (by decide) (by decide) (by decide) (by decide) (by decide), no 32 (by decide) (by decide) (by decide) (by decide) (by decide) (by decide), no 33 (by decide) (by decide) (by decide) (by decide) (by decide) (by decide), no 34 (by decide) (by decide) (by decide) (by decide) (by decide) (by decide), no 37 (by decide) (by decide) (by decide) (by decide) (by decide) (by decide), no 38 (by decide) (by decide) (by decide) (by decide) (by decide) (by decide), no 40 (by decide) (by decide) (by decide) (by decide) (by decide) (by decide), no 41 (by decide) (by decide) (by decide) (by decide) (by decide) (by decide), no 42 (by decide) (by decide) (by decide) (by decide) (by decide) (by decide),
      gS, gon_state, eP, top_c eP, dep_c eP, mo 25 rfl (by decide) (by decide), mo 22 rfl (by decide) (by decide), mo 27 rfl (by decide) (by decide), mo 28 rfl (by decide) (by decide), mo 29 rfl (by decide) (by decide)]
    refine ⟨⟨t1, t2, t3, t4, by rw [t5]⟩, fun i x y => ?_, t7, t8, fun z => ?_⟩
    · rw [gL, gon_locks, t6 i x y]
    · by_cases e : t' = u
      · rw [if_pos e] at z; exact absurd z (by decide)
      · rw [if_neg e] at z; exact t9 z
  · rw [no _ (by decide) (by decide) (by decide) (by decide) (by decide) (by decide), h.cc.1]
    unfold opens
    rw [m1, cnt_s hR0, b01_f (show ¬ Opn (gon M u) (M 12 0) from fun z => by have := z.1; rw [m2] at this; exact absurd this (by decide))]
    rw [cnt_ext (P := Opn (gon M u)) (P' := Opn M) (fun i a b => by
      rw [Opn_gon b]
      exact ⟨fun z => z.1, fun z => ⟨z, hno i a b z⟩⟩)]
    omega
  · unfold goN
    rw [up_same, h.cc.2.1, lives_gon hu hl]
  · rw [no _ (by decide) (by decide) (by decide) (by decide) (by decide) (by decide), mo 38 rfl (by decide) (by decide)]; exact h.cc.2.2

