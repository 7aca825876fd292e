theorem cntN_mono {P P' : Int → Prop} : ∀ n : Nat, (∀ r, 0 ≤ r → r < (n : Int) → P' r → P r) → cntN P' n ≤ cntN P n := by
  intro n
  induction n with
  | zero => intro _; exact Int.le_refl _
  | succ n ih =>
    intro h
    unfold cntN
    have h1 := ih (fun r a b => h r a (by omega))
    by_cases hp : P' (n : Int)
    · rw [b01_t hp, b01_t (h n (by omega) (by omega) hp)]; omega
    · rw [b01_f hp]; have := b01_or (P (n : Int)); omega
theorem cnt_mono {P P' : Int → Prop} {b : Int} (h : ∀ r, 0 ≤ r → r < b → P' r → P r) : cnt P' b ≤ cnt P b := cntN_mono _ fun r a c => h r a (by omega)
theorem Und_c {M M' : MSt} (h1 : M 14 = M' 14) (h2 : M 17 = M' 17) (h3 : M 11 0 = M' 11 0) (h4 : M 12 0 = M' 12 0) (r : Int) : Und M r ↔ Und M' r := by
  unfold Und
  rw [h1, h2, h3, h4]
theorem Opn_c {M M' : MSt} (h1 : M 14 = M' 14) (h2 : M 17 = M' 17) (h3 : M 11 0 = M' 11 0) (h4 : M 12 0 = M' 12 0) (h5 : M 23 = M' 23) (h6 : M 15 = M' 15) (h7 : M 24 = M' 24) (r : Int) : Opn M r ↔ Opn M' r := by
  unfold Opn
  rw [Und_c h1 h2 h3 h4, h1, h5, h6, top_c h7]
theorem opens_c {M M' : MSt} (h1 : M 14 = M' 14) (h2 : M 17 = M' 17) (h3 : M 11 0 = M' 11 0) (h4 : M 12 0 = M' 12 0) (h5 : M 23 = M' 23) (h6 : M 15 = M' 15) (h7 : M 24 = M' 24) : opens M = opens M' := by
  unfold opens
  rw [h4]
  exact cnt_ext fun i _ _ => Opn_c h1 h2 h3 h4 h5 h6 h7 i
/-- WF reads these fields alone -/
theorem WF.c {M M' : MSt} (h1 : M 14 = M' 14) (h2 : M 17 = M' 17) (h3 : M 11 0 = M' 11 0) (h4 : M 12 0 = M' 12 0) (h5 : M 23 = M' 23) (h6 : M 15 = M' 15) (h7 : M 24 = M' 24) (h8 : M 22 0 = M' 22 0) (h9 : M 16 = M' 16) (h10 : M 27 = M' 27) (h11 : M 28 = M' 28) (h12 : M 29 = M' 29) (h13 : M 10 0 = M' 10 0) (h14 : M 0 0 = M' 0 0) (h : WF M) : WF M' := by
  unfold WF ParOk at h ⊢
  rw [← opens_c h1 h2 h3 h4 h5 h6 h7, ← lives_c h5 h8, ← h1, ← h3, ← h4, ← h5, ← h6, ← h7, ← h8, ← h9, ← h10, ← h11, ← h12, ← h13, ← h14]
  exact h
theorem WF.sst {M Z : MSt} (h : WF M) : WF (sset M Z) := by
  refine WF.c ?_ ?_ ?_ ?_ ?_ ?_ ?_ ?_ ?_ ?_ ?_ ?_ ?_ ?_ h <;> rfl
theorem WF.unsst {M Z : MSt} (h : WF (sset M Z)) : WF M := by
  refine WF.c ?_ ?_ ?_ ?_ ?_ ?_ ?_ ?_ ?_ ?_ ?_ ?_ ?_ ?_ h <;> rfl
theorem gon_o {M : MSt} {u i : Int} {f : Nat} (h : lgF f = false) (h2 : f ≠ 23) (h3 : f ≠ 26) : gon M u f i = M f i := by
  unfold gon
  rw [ulk_o h3]
  unfold up
  rw [if_neg (fun q => h2 q.1), app_o h]
theorem gon_l {M : MSt} {u i : Int} {f : Nat} (h : f ≠ 12) (h2 : f ≠ 23) (h3 : f ≠ 26) (hi : i ≠ M 12 0) : gon M u f i = M f i := by
  unfold gon
  rw [ulk_o h3]
  unfold up
  rw [if_neg (fun q => h2 q.1), app_l h hi]
theorem gon_n {M : MSt} {u : Int} : gon M u 12 0 = M 12 0 + 1 ∧ gon M u 14 (M 12 0) = 5 ∧ gon M u 15 (M 12 0) = u := by
  unfold gon
  refine ⟨?_, ?_, ?_⟩ <;> rw [ulk_o (by decide)]
  · rfl
  · simp only [up, Nat.reduceEqDiff, false_and, if_false]; exact app_kind _ _ _ _
  · simp only [up, Nat.reduceEqDiff, false_and, if_false]; exact app_by _ _ _ _
theorem gon_state {M : MSt} {u i : Int} : gon M u 23 i = if i = u then 4 else M 23 i := by
  unfold gon
  rw [ulk_o (by decide)]
  unfold up
  by_cases h : i = u
  · rw [if_pos ⟨rfl, h⟩, if_pos h]
  · rw [if_neg (fun q => h q.2), if_neg h, app_o rfl]
theorem gon_par (M : MSt) (u : Int) : gon M u 24 = M 24 := funext fun _ => gon_o rfl (by decide) (by decide)
theorem Und_gon {M : MSt} {u r : Int} (hr : r < M 12 0) : Und (gon M u) r ↔ Und M r := by
  have e2 : gon M u 11 0 = M 11 0 := gon_o rfl (by decide) (by decide)
  unfold Und
  rw [gon_n.1, e2, exB_step (by omega)]
  constructor
  · rintro (⟨q, h1, h2, h3⟩ | ⟨h, -⟩)
    · rw [gon_l (by decide) (by decide) (by decide) (by omega), gon_l (by decide) (by decide) (by decide) (by omega)] at h3
      exact ⟨q, h1, h2, h3⟩
    · rw [gon_n.2.1] at h; omega
  · rintro ⟨q, h1, h2, h3⟩
    refine Or.inl ⟨q, h1, h2, ?_⟩
    show gon M u 14 q = 3 ∧ gon M u 17 q = M 11 0 + r + 1
    rw [gon_l (by decide) (by decide) (by decide) (by omega), gon_l (by decide) (by decide) (by decide) (by omega)]
    exact h3
theorem Opn_gon {M : MSt} {u r : Int} (hr : r < M 12 0) : Opn (gon M u) r ↔ Opn M r ∧ top M (M 15 r) ≠ u := by
  have k1 : gon M u 14 r = M 14 r := gon_l (by decide) (by decide) (by decide) (by omega)
  have k2 : gon M u 15 r = M 15 r := gon_l (by decide) (by decide) (by decide) (by omega)
  unfold Opn
  rw [k1, k2, top_c (gon_par M u), Und_gon hr, gon_state]
  by_cases h : top M (M 15 r) = u
  · rw [if_pos h]
    exact ⟨fun q => absurd rfl q.2.2.1, fun q => absurd h q.2⟩
  · rw [if_neg h]
    exact ⟨fun q => ⟨q, h⟩, fun q => q.1⟩
theorem opens_gon {M : MSt} {u : Int} (h0 : 0 ≤ M 12 0) : opens (gon M u) ≤ opens M := by
  unfold opens
  rw [gon_n.1, cnt_s h0, b01_f (fun q => by have := q.1; rw [gon_n.2.1] at this; omega)]
  have := cnt_mono (P := Opn M) (P' := Opn (gon M u)) (b := M 12 0) fun r a b q => ((Opn_gon b).mp q).1
  omega
theorem lives_gon {M : MSt} {u : Int} (hu : 0 ≤ u ∧ u < M 22 0) (hl : Liv M u) : lives (gon M u) = lives M - 1 := by
  have e3 : gon M u 22 0 = M 22 0 := gon_o rfl (by decide) (by decide)
  unfold lives
  rw [e3]
  have := cntN_drop (P := Liv M) (P' := Liv (gon M u)) (u := u) (fun r => by
    unfold Liv
    rw [gon_state]
    by_cases h : r = u
    · rw [if_pos h]; exact ⟨fun q => by omega, fun q => absurd h q.2⟩
    · rw [if_neg h]; exact ⟨fun q => ⟨q, h⟩, fun q => q.1⟩) hl hu.1 (M 22 0).toNat
  unfold cnt
  rw [this, if_pos (by omega)]
theorem WF.gone {M : MSt} {u : Int} (h : WF M) (hu : 0 ≤ u ∧ u < M 22 0) (hl : Liv M u) : WF (gon M u) := by
  have e1 : gon M u 12 0 = M 12 0 + 1 := gon_n.1
  have e2 : gon M u 11 0 = M 11 0 := gon_o rfl (by decide) (by decide)
  have e3 : gon M u 22 0 = M 22 0 := gon_o rfl (by decide) (by decide)
  have e4 : gon M u 10 0 = M 10 0 := gon_o rfl (by decide) (by decide)
  have e5 : gon M u 0 0 = M 0 0 := gon_o rfl (by decide) (by decide)
  have hs := h.sum
  have hr := h.recs
  have hc := h.clk
  have e6 := opens_gon (u := u) hr.1
  have e7 := lives_gon hu hl
  refine ⟨⟨by rw [e3]; exact h.1.1, by rw [e3]; exact h.1.2.1, fun q a b => by rw [gon_par]; exact h.1.2.2 q a (by rw [e3] at b; exact b)⟩, ⟨by omega, by omega⟩, by rw [e2]; exact h.base, fun r a b => ?_, ⟨by omega, by omega⟩, by rw [e5]; exact h.frm, fun q a b c => ?_⟩
  · rw [e1] at b
    rw [e3]
    by_cases hr2 : r = M 12 0
    · subst hr2
      rw [gon_n.2.2, gon_n.2.1]
      exact ⟨hu, fun q => by omega⟩
    · rw [gon_l (by decide) (by decide) (by decide) hr2, gon_l (by decide) (by decide) (by decide) hr2, gon_l (by decide) (by decide) (by decide) hr2]
      exact h.2.2.2.1 r a (by omega)
  · rw [gon_state] at c
    by_cases hq : q = u
    · rw [if_pos hq] at c; omega
    · rw [if_neg hq] at c
      rw [gon_o rfl (by decide) (by decide), gon_o rfl (by decide) (by decide), gon_o rfl (by decide) (by decide)]
      exact h.req q a (by rw [e3] at b; exact b) c
theorem abtN_wf {F : Int → Prop} : ∀ (n : Nat) (M : MSt), WF M → (n : Int) ≤ M 22 0 → (∀ u, 0 ≤ u → u < (n : Int) → F u → Liv M u) → WF (abtN F n M) := by
  intro n
  induction n with
  | zero => intro M h _ _; exact h
  | succ n ih =>
    intro M h hn hF
    have e3 : gon M n 22 0 = M 22 0 := gon_o rfl (by decide) (by decide)
    by_cases hc : F (n : Int)
    · rw [abtN_t hc]
      refine ih _ (h.gone ⟨by omega, by omega⟩ (hF n (by omega) (by omega) hc)) (by rw [e3]; omega) (fun u a b q => ?_)
      unfold Liv
      rw [gon_state, if_neg (by omega)]
      exact hF u a (by omega) q
    · rw [abtN_f hc]
      exact ih _ h (by omega) (fun u a b q => hF u a (by omega) q)
theorem undoes_wf {M : MSt} {t pt : Int} (h : WF M) (ht : 0 ≤ t ∧ t < M 22 0) : WF (undoes M t pt).2 ∧ 0 ≤ (undoes M t pt).1 ∧ (undoes M t pt).1 ≤ M 12 0 := by
  have hr := h.recs
  have := undN_wf t pt (M 12 0).toNat M h (by omega) ht
  unfold undoes
  exact ⟨this.1, this.2.1, by omega⟩
theorem undoes_o {M : MSt} {t pt : Int} {f : Nat} (h : pgF f = false) (h2 : lgF f = false) : (undoes M t pt).2 f = M f := undN_o h h2 t pt _ M
theorem abt_wf {M : MSt} {t : Int} (h : WF M) (ht : 0 ≤ t ∧ t < M 22 0) : WF (abt M t).2 := by
  have hm := h.many
  have e : (undoes M t 0).2 22 = M 22 := undoes_o rfl rfl
  refine abtN_wf _ _ (undoes_wf h ht).1 (by rw [e]; omega) (fun u a b q => ?_)
  have e2 : (undoes M t 0).2 23 = M 23 := undoes_o rfl rfl
  exact (Liv_c e2 u).mpr q.1
theorem abtN_o {F : Int → Prop} {f : Nat} (h : lgF f = false) (h2 : f ≠ 23) (h3 : f ≠ 26) : ∀ (n : Nat) (M : MSt), abtN F n M f = M f := by
  intro n
  induction n with
  | zero => intro M; rfl
  | succ n ih =>
    intro M
    by_cases hc : F (n : Int)
    · rw [abtN_t hc, ih]; exact funext fun _ => gon_o h h2 h3
    · rw [abtN_f hc, ih]
theorem abt_o {M : MSt} {t : Int} {f : Nat} (h : pgF f = false) (h1 : lgF f = false) (h2 : f ≠ 23) (h3 : f ≠ 26) : (abt M t).2 f = M f := by
  show abtN _ _ (undoes M t 0).2 f = M f
  rw [abtN_o h1 h2 h3, undoes_o h h1]

