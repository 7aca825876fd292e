/-! well-formed states, and what the log's steps do to them -/
theorem topN_c {M M' : MSt} (h : M 24 = M' 24) : ∀ (n : Nat) (x : Int), topN M n x = topN M' n x := by
  intro n
  induction n with
  | zero => intro x; rfl
  | succ n ih => intro x; unfold topN; rw [h, ih]
theorem top_c {M M' : MSt} (h : M 24 = M' 24) (x : Int) : top M x = top M' x := topN_c h 4 x
theorem abvN_c {M M' : MSt} (h : M 24 = M' 24) (a : Int) : ∀ (n : Nat) (x : Int), abvN M a n x ↔ abvN M' a n x := by
  intro n
  induction n with
  | zero => intro x; exact Iff.rfl
  | succ n ih => intro x; unfold abvN; rw [h, ih]
theorem Abv_c {M M' : MSt} (h : M 24 = M' 24) (a x : Int) : Abv M a x ↔ Abv M' a x := by
  unfold Abv
  rw [h]
  exact abvN_c h a 4 _
theorem depN_c {M M' : MSt} (h : M 24 = M' 24) : ∀ (n : Nat) (x : Int), depN M n x = depN M' n x := by
  intro n
  induction n with
  | zero => intro x; rfl
  | succ n ih => intro x; unfold depN; rw [h, ih]
theorem dep_c {M M' : MSt} (h : M 24 = M' 24) (x : Int) : dep M x = dep M' x := by
  unfold dep
  rw [h, depN_c h]
/-- fields of the log -/
def lgF (f : Nat) : Bool := f == 12 || f == 14 || f == 15 || f == 16 || f == 17 || f == 18 || f == 19 || f == 20 || f == 21
theorem bcm_o {M : MSt} {k now v num i : Int} {f : Nat} (h : pgF f = false) : bcm M k now v num f i = M f i := by
  simp only [pgF, Bool.or_eq_false_iff, beq_eq_false_iff_ne, ne_eq] at h
  simp only [bcm, up]
  rw [if_neg (by omega), if_neg (by omega), if_neg (by omega), if_neg (by omega)]
theorem app_o {M : MSt} {w t a i : Int} {f : Nat} (h : lgF f = false) : app M w t a f i = M f i := by
  simp only [lgF, Bool.or_eq_false_iff, beq_eq_false_iff_ne, ne_eq] at h
  simp only [app, up]
  rw [if_neg (by omega), if_neg (by omega), if_neg (by omega), if_neg (by omega), if_neg (by omega), if_neg (by omega), if_neg (by omega), if_neg (by omega), if_neg (by omega)]
theorem app_l {M : MSt} {w t a i : Int} {f : Nat} (h : f ≠ 12) (hi : i ≠ M 12 0) : app M w t a f i = M f i := by
  simp only [app, up]
  rw [if_neg (by omega), if_neg (by omega), if_neg (by omega), if_neg (by omega), if_neg (by omega), if_neg (by omega), if_neg (by omega), if_neg (by omega), if_neg (by omega)]
theorem app_rec (M : MSt) (w t a : Int) : app M w t a 12 0 = M 12 0 + 1 := rfl
theorem app_kind (M : MSt) (w t a : Int) : app M w t a 14 (M 12 0) = w := by simp [app, up]
theorem app_by (M : MSt) (w t a : Int) : app M w t a 15 (M 12 0) = t := by simp [app, up]
theorem app_about (M : MSt) (w t a : Int) : app M w t a 16 (M 12 0) = a := by simp [app, up]
theorem app_of (M : MSt) (w t a : Int) : app M w t a 17 (M 12 0) = 0 := by simp [app, up]
theorem und_o {M : MSt} {t u i : Int} {f : Nat} (h : pgF f = false) (h2 : lgF f = false) : s_und M t u f i = M f i := by
  have h3 := app_o (M := M) (w := 3) (t := t) (a := M 16 u) (i := i) h2
  simp only [s_und]
  rw [bcm_o h, tch_o h]
  simp only [lgF, Bool.or_eq_false_iff, beq_eq_false_iff_ne, ne_eq] at h2
  simp only [up]
  rw [if_neg (by omega), if_neg (by omega), if_neg (by omega), h3]
theorem und_l {M : MSt} {t u i : Int} {f : Nat} (h : pgF f = false) (hr : f ≠ 12) (hi : i ≠ M 12 0) : s_und M t u f i = M f i := by
  have h3 := app_l (M := M) (w := 3) (t := t) (a := M 16 u) hr hi
  simp only [s_und]
  rw [bcm_o h, tch_o h]
  simp only [up]
  rw [if_neg (by omega), if_neg (by omega), if_neg (by omega), h3]
theorem und_n {M : MSt} {t u : Int} : s_und M t u 12 0 = M 12 0 + 1 ∧ s_und M t u 14 (M 12 0) = 3 ∧ s_und M t u 15 (M 12 0) = t ∧ s_und M t u 16 (M 12 0) = M 16 u ∧ s_und M t u 17 (M 12 0) = M 11 0 + u + 1 := by
  simp only [s_und]
  refine ⟨?_, ?_, ?_, ?_, ?_⟩ <;> rw [bcm_o rfl, tch_o rfl]
  · rfl
  · simp only [up, Nat.reduceEqDiff, false_and, if_false]; exact app_kind _ _ _ _
  · simp only [up, Nat.reduceEqDiff, false_and, if_false]; exact app_by _ _ _ _
  · simp only [up, Nat.reduceEqDiff, false_and, if_false]; exact app_about _ _ _ _
  · simp only [up, Nat.reduceEqDiff, false_and, if_false, and_self, if_true]
theorem tch_clock (M : MSt) (p : Int) (hp : M 10 0 = M 10 0) : tch M p 10 0 = M 10 0 + 1 := by
  have e1 : ∀ (K : MSt) (q : Int), wrt K q 10 0 = K 10 0 := fun K q => by simp [wrt, up, cpd]
  have e2 : ∀ (K : MSt) (q : Int), evc K q 10 0 = K 10 0 := fun K q => by
    unfold evc
    simp only [up, Nat.reduceEqDiff, false_and, if_false]
    split
    · exact e1 K q
    · rfl
  have e3 : ∀ (K : MSt) (q : Int), ldp K q 10 0 = K 10 0 := fun K q => by simp [ldp, up, cpu]
  unfold tch tch0
  simp only [up, Nat.reduceEqDiff, false_and, if_false]
  split
  · rfl
  · rw [e3]
    split
    · rw [e2]; rfl
    · rfl
theorem und_clock {M : MSt} {t u : Int} : s_und M t u 10 0 = M 10 0 + 1 := by
  simp only [s_und]
  rw [show ∀ (K : MSt) (a b c d : Int), bcm K a b c d 10 0 = K 10 0 from fun K a b c d => by simp [bcm, up], tch_clock _ _ rfl]
  rfl
def ReqOk (w a b : Int) : Prop := ((w = 1 ∨ w = 2 ∨ w = 3) ∧ 0 ≤ a ∧ a ≤ 31) ∨ (w = 4 ∧ 0 ≤ a ∧ a ≤ b ∧ b ≤ 31)
def WF (M : MSt) : Prop := ParOk M ∧ (0 ≤ M 12 0 ∧ M 12 0 + opens M + lives M ≤ 300) ∧ (0 ≤ M 11 0 ∧ M 11 0 ≤ 1000000) ∧
  (∀ r, 0 ≤ r → r < M 12 0 → (0 ≤ M 15 r ∧ M 15 r < M 22 0) ∧ (M 14 r = 2 ∨ M 14 r = 3 → 0 ≤ M 16 r ∧ M 16 r ≤ 31)) ∧
  (0 ≤ M 10 0 ∧ M 10 0 ≤ M 12 0 + 900000) ∧ (1 ≤ M 0 0 ∧ M 0 0 ≤ 8) ∧ ∀ t, 0 ≤ t → t < M 22 0 → M 23 t = 2 → ReqOk (M 27 t) (M 28 t) (M 29 t)
theorem WF.par {M : MSt} (h : WF M) : ParOk M := h.1
theorem WF.many {M : MSt} (h : WF M) : 0 ≤ M 22 0 ∧ M 22 0 ≤ 60 := ⟨h.1.1, h.1.2.1⟩
theorem WF.sum {M : MSt} (h : WF M) : M 12 0 + opens M + lives M ≤ 300 := h.2.1.2
theorem WF.ob {M : MSt} (h : WF M) : 0 ≤ opens M ∧ 0 ≤ lives M := ⟨(opens_bd h.2.1.1).1, (lives_bd h.1.1).1⟩
theorem WF.recs {M : MSt} (h : WF M) : 0 ≤ M 12 0 ∧ M 12 0 ≤ 300 := ⟨h.2.1.1, by have := h.ob; have := h.sum; omega⟩
theorem WF.base {M : MSt} (h : WF M) : 0 ≤ M 11 0 ∧ M 11 0 ≤ 1000000 := h.2.2.1
theorem WF.bys {M : MSt} (h : WF M) : ∀ r, 0 ≤ r → r < M 12 0 → 0 ≤ M 15 r ∧ M 15 r < M 22 0 := fun r a b => (h.2.2.2.1 r a b).1
theorem WF.abt {M : MSt} (h : WF M) : ∀ r, 0 ≤ r → r < M 12 0 → M 14 r = 2 ∨ M 14 r = 3 → 0 ≤ M 16 r ∧ M 16 r ≤ 31 := fun r a b => (h.2.2.2.1 r a b).2
theorem WF.clk {M : MSt} (h : WF M) : 0 ≤ M 10 0 ∧ M 10 0 ≤ M 12 0 + 900000 := h.2.2.2.2.1
theorem WF.frm {M : MSt} (h : WF M) : 1 ≤ M 0 0 ∧ M 0 0 ≤ 8 := h.2.2.2.2.2.1
theorem WF.req {M : MSt} (h : WF M) : ∀ t, 0 ≤ t → t < M 22 0 → M 23 t = 2 → ReqOk (M 27 t) (M 28 t) (M 29 t) := h.2.2.2.2.2.2
theorem WF.pg {M : MSt} (h : WF M) : PgOk M := ⟨by have := h.clk; have := h.recs; omega, h.frm⟩
theorem Und_und {M : MSt} {t u r : Int} (hu : u < M 12 0) (hr : r < M 12 0) : Und (s_und M t u) r ↔ Und M r ∨ r = u := by
  have e1 : s_und M t u 12 0 = M 12 0 + 1 := und_n.1
  have e2 : s_und M t u 11 0 = M 11 0 := und_o rfl rfl
  unfold Und
  rw [e1, e2, exB_step (by omega)]
  have e3 : (exB (fun r' => s_und M t u 14 r' = 3 ∧ s_und M t u 17 r' = M 11 0 + r + 1) (r + 1) (M 12 0)) ↔ (exB (fun r' => M 14 r' = 3 ∧ M 17 r' = M 11 0 + r + 1) (r + 1) (M 12 0)) := by
    constructor
    · rintro ⟨q, h1, h2, h3⟩
      rw [und_l rfl (by decide) (by omega), und_l rfl (by decide) (by omega)] at h3
      exact ⟨q, h1, h2, h3⟩
    · rintro ⟨q, h1, h2, h3⟩
      refine ⟨q, h1, h2, ?_⟩
      show s_und M t u 14 q = 3 ∧ s_und M t u 17 q = M 11 0 + r + 1
      rw [und_l rfl (by decide) (by omega), und_l rfl (by decide) (by omega)]
      exact h3
  rw [e3, und_n.2.1, und_n.2.2.2.2]
  constructor
  · rintro (h | ⟨-, h⟩)
    · exact Or.inl h
    · exact Or.inr (by omega)
  · rintro (h | h)
    · exact Or.inl h
    · exact Or.inr ⟨rfl, by omega⟩
theorem und_par (M : MSt) (t u : Int) : s_und M t u 24 = M 24 := funext fun _ => und_o rfl rfl
theorem und_state (M : MSt) (t u : Int) : s_und M t u 23 = M 23 := funext fun _ => und_o rfl rfl
theorem Opn_und {M : MSt} {t u r : Int} (hu : u < M 12 0) (hr : r < M 12 0) : Opn (s_und M t u) r ↔ Opn M r ∧ r ≠ u := by
  have k1 : s_und M t u 14 r = M 14 r := und_l rfl (by decide) (by omega)
  have k2 : s_und M t u 15 r = M 15 r := und_l rfl (by decide) (by omega)
  unfold Opn
  rw [k1, k2, und_state, top_c (und_par M t u), Und_und hu hr]
  constructor
  · rintro ⟨h1, h2, h3, h4⟩
    exact ⟨⟨h1, h2, h3, fun q => h4 (Or.inl q)⟩, fun q => h4 (Or.inr q)⟩
  · rintro ⟨⟨h1, h2, h3, h4⟩, h5⟩
    exact ⟨h1, h2, h3, fun q => by rcases q with q | q; exact h4 q; exact h5 q⟩
theorem cntN_drop {P P' : Int → Prop} {u : Int} (h : ∀ r, P' r ↔ P r ∧ r ≠ u) (hu : P u) (h0 : 0 ≤ u) : ∀ n : Nat, cntN P' n = cntN P n - (if u < (n : Int) then 1 else 0) := by
  intro n
  induction n with
  | zero => rw [if_neg (by omega)]; rfl
  | succ n ih =>
    unfold cntN
    rw [ih]
    by_cases e : u = (n : Int)
    · subst e
      rw [b01_f (P := P' n) (fun q => ((h n).mp q).2 rfl), b01_t hu, if_neg (by omega), if_pos (by omega)]
      omega
    · rw [b01_c ((h n).trans ⟨fun q => q.1, fun q => ⟨q, fun z => e z.symm⟩⟩)]
      by_cases e2 : u < (n : Int)
      · rw [if_pos e2, if_pos (by omega)]; omega
      · rw [if_neg e2, if_neg (by omega)]; omega
theorem opens_und {M : MSt} {t u : Int} (h0 : 0 ≤ u) (hu : u < M 12 0) (ho : Opn M u) : opens (s_und M t u) = opens M - 1 := by
  unfold opens
  rw [und_n.1, cnt_s (by omega)]
  rw [b01_f (fun q => by have := q.1; rw [und_n.2.1] at this; omega)]
  have e : cnt (Opn (s_und M t u)) (M 12 0) = cnt (fun r => Opn M r ∧ r ≠ u) (M 12 0) := cnt_ext fun i h1 h2 => Opn_und hu h2
  rw [e]
  have := cntN_drop (P := Opn M) (P' := fun r => Opn M r ∧ r ≠ u) (fun r => Iff.rfl) ho h0 (M 12 0).toNat
  unfold cnt
  rw [this, if_pos (by omega)]
  omega
theorem Liv_c {M M' : MSt} (h : M 23 = M' 23) (t : Int) : Liv M t ↔ Liv M' t := by unfold Liv; rw [h]
theorem lives_c {M M' : MSt} (h : M 23 = M' 23) (h2 : M 22 0 = M' 22 0) : lives M = lives M' := by
  unfold lives
  rw [h2]
  exact cnt_ext fun i _ _ => Liv_c h i
theorem WF.und {M : MSt} {t u : Int} (h : WF M) (h0 : 0 ≤ u) (hu : u < M 12 0) (ho : Opn M u) (ht : 0 ≤ t ∧ t < M 22 0) : WF (s_und M t u) := by
  have e1 : s_und M t u 12 0 = M 12 0 + 1 := und_n.1
  have e2 : s_und M t u 11 0 = M 11 0 := und_o rfl rfl
  have e3 : s_und M t u 22 0 = M 22 0 := und_o rfl rfl
  have e4 : s_und M t u 10 0 = M 10 0 + 1 := und_clock
  have e5 : s_und M t u 0 0 = M 0 0 := und_o rfl rfl
  have e6 := opens_und (t := t) h0 hu ho
  have e7 : lives (s_und M t u) = lives M := lives_c (und_state M t u) e3
  have hs := h.sum
  have hr := h.recs
  have hc := h.clk
  have hob := h.ob
  refine ⟨⟨by rw [e3]; exact h.1.1, by rw [e3]; exact h.1.2.1, fun q a b => by rw [und_par]; exact h.1.2.2 q a (by rw [e3] at b; exact b)⟩, ⟨by omega, by omega⟩, by rw [e2]; exact h.base, fun r a b => ?_, ⟨by omega, by omega⟩, by rw [e5]; exact h.frm, fun q a b c => ?_⟩
  · rw [e1] at b
    rw [e3]
    by_cases hr2 : r = M 12 0
    · subst hr2
      rw [und_n.2.2.1, und_n.2.2.2.1]
      exact ⟨ht, fun _ => h.abt u h0 hu (Or.inl ho.1)⟩
    · rw [und_l rfl (by decide) hr2, und_l rfl (by decide) hr2, und_l rfl (by decide) hr2]
      exact h.2.2.2.1 r a (by omega)
  · rw [und_o rfl rfl] at c
    rw [und_o rfl rfl, und_o rfl rfl, und_o rfl rfl]
    exact h.req q a (by rw [e3] at b; exact b) c

