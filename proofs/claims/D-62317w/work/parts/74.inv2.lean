/-! the invariant, operation by operation -/
theorem Inv.gone {b c : Int} {M : MSt} {u : Int} (h : Inv b c M) (hu : inM M u) (hl : Liv M u) (hno : ∀ x, inM M x → Liv M x → M 24 x ≠ u) : Inv b c (gon M u) := by
  obtain ⟨⟨a1, a2, a3, a4, a5⟩, ⟨b1, b2, b3⟩, ⟨⟨h3, h4⟩, h5, h6, h7, h8⟩, h9, h10⟩ := h
  have o : ∀ f : Nat, lgF f = false → f ≠ 23 → f ≠ 26 → gon M u f = M f := fun f a b c => funext fun i => gon_o a b c
  have em : gon M u 22 0 = M 22 0 := gon_o rfl (by decide) (by decide)
  have ep := gon_par M u
  have ha := gon_add M u
  obtain ⟨m1, m2, m3⟩ := gon_n (M := M) (u := u)
  have s : ∀ x, x ≠ u → gon M u 23 x = M 23 x := fun x e => by rw [gon_state, if_neg e]
  have su : gon M u 23 u = 4 := by rw [gon_state, if_pos rfl]
  have lv : ∀ x, Liv (gon M u) x → x ≠ u ∧ Liv M x := fun x z => by
    by_cases e : x = u
    · unfold Liv at z; rw [e, su] at z; omega
    · unfold Liv at z; rw [s x e] at z; exact ⟨e, z⟩
  refine ⟨⟨a1.c ep em, a2.c ep em, fun t x y => ?_, fun t ht hlt hpt => ?_, fun t x y z => ?_⟩, ⟨fun t i x y z w => ?_, fun i hi => ?_, fun t i x y z w => ?_⟩, ⟨⟨by omega, ?_⟩, by rw [ha.1]; exact h5, ?_, ?_, ?_⟩, ?_, ?_⟩
  · rw [em] at y
    by_cases e : t = u
    · rw [e, su]; omega
    · rw [s t e]; exact a3 t x y
  · rw [ep] at hpt ⊢
    obtain ⟨e, hl2⟩ := lv t hlt
    have ht2 : inM M t := ⟨ht.1, by have := ht.2; omega⟩
    have := a4 t ht2 hl2 hpt
    unfold Liv
    rw [s _ (hno t ht2 hl2)]
    exact this
  · rw [em] at y
    have e : t ≠ u := fun e => by rw [e, su] at z; omega
    rw [s t e] at z
    rw [o 27 rfl (by decide) (by decide), o 28 rfl (by decide) (by decide), o 29 rfl (by decide) (by decide)]
    exact a5 t x y z
  · rw [em] at y
    rw [gon_locks]
    split
    · omega
    · exact b1 t i x y z w
  · rw [em] at hi
    rw [gon_locks]
    split
    · rfl
    · exact b2 i hi
  · rw [gon_locks] at w
    have hne : t ≠ u := fun e => by rw [e, if_pos (by omega)] at w; exact w rfl
    rw [if_neg (by omega)] at w
    have q := b3 t i ⟨x.1, by have := x.2; omega⟩ y z w
    unfold Liv
    rw [s t hne]
    exact q
  · unfold Psi at h4 ⊢
    rw [cUU_add ha h3 (by rw [m2]; decide), m1, lives_gon hu hl, b01_f (show ¬ gon M u 14 (M 12 0) = 2 from fun z => by rw [m2] at z; exact absurd z (by decide))]
    omega
  · exact h6.add ha em (by rw [m3]; exact hu) (fun z => by rw [m2] at z; rcases z with z | z <;> exact absurd z (by decide))
  · refine h7.add ha ep (fun x z => ?_) (fun z => by rw [m2] at z; exact absurd z (by decide))
    rw [s x (fun e => by rw [e] at z; unfold Liv at hl; omega)]; exact z
  · refine h8.add ha ep (Int.le_of_eq (gon_o rfl (by decide) (by decide)).symm) (fun x z => ?_) (fun z => by rw [m2] at z; exact absurd z (by decide))
    have e : x ≠ u := fun e => by rw [e, su] at z; omega
    rw [s x e] at z; exact z
  · exact h9.c (gon_o rfl (by decide) (by decide)) ha.1 (gon_o rfl (by decide) (by decide)) (by omega) (o _ rfl (by decide) (by decide)) (o _ rfl (by decide) (by decide)) (o _ rfl (by decide) (by decide))
  · unfold Clk at h10 ⊢
    rw [gon_o rfl (by decide) (by decide), m1]
    omega
theorem Inv.abtN {b c : Int} {F : Int → Prop} : ∀ (n : Nat) (M : MSt), Inv b c M → (n : Int) ≤ M 22 0 → (∀ u, 0 ≤ u → u < (n : Int) → F u → Liv M u) → (∀ u, 0 ≤ u → u < (n : Int) → F u → ∀ x, inM M x → Liv M x → M 24 x = u → F x ∧ x < (n : Int)) → Inv b c (abtN F n M) := by
  intro n
  induction n with
  | zero => intro M h _ _ _; exact h
  | succ n ih =>
    intro M h hn hL hF
    by_cases hf : F (n : Int)
    · rw [abtN_t hf]
      have hin : inM M n := ⟨by omega, by omega⟩
      have hl := hL n (by omega) (by omega) hf
      have em : gon M n 22 0 = M 22 0 := gon_o rfl (by decide) (by decide)
      have ep := gon_par M n
      refine ih (gon M n) (h.gone hin hl (fun x hx hlx e => ?_)) (by omega) (fun u x y z => ?_) (fun u x y z v hv hlv e => ?_)
      · have q := hF n (by omega) (by omega) hf x hx hlx e
        have := h.1.1.2.2 x hx.1 hx.2
        omega
      · have := hL u x (by omega) z
        unfold Liv
        rw [gon_state, if_neg (by omega)]
        exact this
      · rw [ep] at e
        have hne : v ≠ n := fun q => by unfold Liv at hlv; rw [gon_state, if_pos q] at hlv; omega
        have hlv2 : Liv M v := by unfold Liv at hlv; rw [gon_state, if_neg hne] at hlv; exact hlv
        have q := hF u x (by omega) z v ⟨hv.1, by have := hv.2; omega⟩ hlv2 e
        exact ⟨q.1, by omega⟩
    · rw [abtN_f hf]
      refine ih M h (by omega) (fun u x y => hL u x (by omega)) (fun u x y z v hv hlv e => ?_)
      have q := hF u x (by omega) z v hv hlv e
      exact ⟨q.1, by have : v ≠ n := fun e2 => hf (e2 ▸ q.1); omega⟩
theorem Inv.undN {b c : Int} {t : Int} (pt : Int) : ∀ (n : Nat) (M : MSt), Inv b c M → (n : Int) ≤ M 12 0 → inM M t → Inv b c (undN t pt n M).2 := by
  intro n
  induction n with
  | zero => intro M h _ _; exact h
  | succ n ih =>
    intro M h hn ht
    by_cases hc : pt < M 11 0 + (n : Int) + 1 ∧ Opn M (n : Int) ∧ InS M t (M 15 (n : Int))
    · rw [undN_t hc]
      have e1 : s_und M t n 12 0 = M 12 0 + 1 := und_n.1
      exact ih _ (h.und (by omega) (by omega) ⟨hc.2.1.1, hc.2.1.2.2.2⟩ ht) (by omega) ⟨ht.1, by rw [und_o rfl rfl]; exact ht.2⟩
    · rw [undN_f hc]
      exact ih M h (by omega) ht
theorem Inv.undoes {b c : Int} {M : MSt} {t : Int} (h : Inv b c M) (ht : inM M t) (pt : Int) : Inv b c (undoes M t pt).2 := Inv.undN pt _ M h (by have := h.recs; omega) ht
theorem InS_kid {M : MSt} (hd : DepOk M) {t u x : Int} (hu : inM M u) (hx : inM M x) (h : InS M t u) (e : M 24 x = u) : InS M t x := InS_trans hd hu hx h (Or.inr (by
  show abvN M u 4 (M 24 x)
  rw [e]
  exact ⟨hu.1, Or.inl rfl⟩))
theorem Inv.abt {b c : Int} {M : MSt} {t : Int} (h : Inv b c M) (ht : inM M t) : Inv b c (abt M t).2 := by
  have hu := h.undoes ht 0
  have o : ∀ f : Nat, pgF f = false → lgF f = false → (CNestedStoreLaw_law_r7484_ab0530.undoes M t 0).2 f = M f := fun f a e => undN_o a e t 0 _ M
  have em := congrFun (o 22 rfl rfl) 0
  have es := o 23 rfl rfl
  have ep := o 24 rfl rfl
  refine Inv.abtN _ _ hu (by rw [em]; have := h.1.1.1; omega) (fun u _ _ hf => (Liv_c es u).mpr hf.1) (fun u x y hf v hv hlv e => ?_)
  rw [ep] at e
  have hv' : inM M v := ⟨hv.1, by have := hv.2; rw [em] at this; exact this⟩
  have hlv' := (Liv_c es v).mp hlv
  have hu' : inM M u := ⟨x, by omega⟩
  exact ⟨⟨hlv', InS_kid h.1.2.1 hu' hv' hf.2 e⟩, by have := hv'.2; omega⟩
theorem Inv.bgn {b c : Int} {M : MSt} {p : Int} (h : Inv b c M) (hb : BgOk M p) (hm : M 22 0 < 60) : Inv (b + 2) c (bgn M p) := by
  obtain ⟨⟨a1, a2, a3, a4, a5⟩, ⟨b1, b2, b3⟩, ⟨⟨h3, h4⟩, h5, h6, h7, h8⟩, h9, h10⟩ := h
  have o : ∀ f : Nat, lgF f = false → f ≠ 23 → f ≠ 24 → f ≠ 25 → f ≠ 22 → CNestedStoreLaw_law_r7484_ab0530.bgn M p f = M f := fun f a b c d e => funext fun i => bgn_o a (fun z => b z.1) (fun z => c z.1) (fun z => d z.1) e
  have em := bgn_many M p
  have ha := bgn_add M p
  obtain ⟨m1, m2, m3, m4, -⟩ := bgn_n M p
  have hm0 := a1.1
  have s : ∀ x, x ≠ M 22 0 → CNestedStoreLaw_law_r7484_ab0530.bgn M p 23 x = M 23 x := fun x e => by rw [bgn_state, if_neg e]
  have pr : ∀ x, x ≠ M 22 0 → CNestedStoreLaw_law_r7484_ab0530.bgn M p 24 x = M 24 x := fun x e => by rw [bgn_parent, if_neg e]
  have sn : CNestedStoreLaw_law_r7484_ab0530.bgn M p 23 (M 22 0) = 1 := by rw [bgn_state, if_pos rfl]
  have pn : CNestedStoreLaw_law_r7484_ab0530.bgn M p 24 (M 22 0) = p := by rw [bgn_parent, if_pos rfl]
  have hplt : p < M 22 0 := by rcases hb with rfl | z; omega; exact z.1.2
  have hpge : -1 ≤ p := by rcases hb with rfl | z; decide; have := z.1.1; omega
  refine ⟨⟨⟨by omega, by omega, fun t x y => ?_⟩, fun t x y => ?_, fun t x y => ?_, fun t ht hlt hpt => ?_, fun t x y z => ?_⟩, ⟨fun t i x y z w => ?_, fun i hi => ?_, fun t i x y z w => ?_⟩, ⟨⟨by omega, ?_⟩, by rw [ha.1]; exact h5, fun r x y => ?_, fun q x y z w => ?_, fun r x y z w => ?_⟩, ?_, ?_⟩
  · rw [em] at y
    by_cases e : t = M 22 0
    · rw [e, pn]; omega
    · rw [pr t e]; exact a1.2.2 t x (by omega)
  · rw [em] at y
    by_cases e : t = M 22 0
    · rw [e]; exact bgn_ndp a1 hb
    · exact (ndp_lt a1 (bgn_plt p) 4 t (by omega)).mpr (a2 t x (by omega))
  · rw [em] at y
    by_cases e : t = M 22 0
    · rw [e, sn]; omega
    · rw [s t e]; exact a3 t x (by omega)
  · have ht1 := ht.1
    have ht2 := ht.2
    rw [em] at ht2
    by_cases e : t = M 22 0
    · rw [e, pn] at hpt ⊢
      rcases hb with rfl | z
      · exact absurd hpt (by decide)
      · unfold Liv
        rw [s p (by omega)]
        exact Or.inl z.2.1
    · rw [pr t e] at hpt ⊢
      have hin : inM M t := ⟨ht1, by omega⟩
      have hp2 := a1.2.2 t ht1 hin.2
      have q := a4 t hin (by unfold Liv at hlt ⊢; rw [s t e] at hlt; exact hlt) hpt
      unfold Liv
      rw [s _ (by omega)]
      exact q
  · rw [em] at y
    have e : t ≠ M 22 0 := fun e => by rw [e, sn] at z; exact absurd z (by decide)
    rw [s t e] at z
    rw [o 27 rfl (by decide) (by decide) (by decide) (by decide), o 28 rfl (by decide) (by decide) (by decide) (by decide), o 29 rfl (by decide) (by decide) (by decide) (by decide)]
    exact a5 t x (by omega) z
  · rw [em] at y
    rw [o 26 rfl (by decide) (by decide) (by decide) (by decide)]
    by_cases e : t = M 22 0
    · rw [b2 _ (by omega)]; omega
    · exact b1 t i x (by omega) z w
  · rw [em] at hi
    rw [o 26 rfl (by decide) (by decide) (by decide) (by decide)]
    exact b2 i (by omega)
  · rw [o 26 rfl (by decide) (by decide) (by decide) (by decide)] at w
    by_cases e : t = M 22 0
    · rw [e]; exact Or.inl sn
    · have q := b3 t i ⟨x.1, by have := x.2; omega⟩ y z w
      unfold Liv
      rw [s t e]
      exact q
  · unfold Psi at h4 ⊢
    rw [cUU_add ha h3 (by rw [m2]; decide), m1, bgn_lives hm0, b01_f (show ¬ CNestedStoreLaw_law_r7484_ab0530.bgn M p 14 (M 12 0) = 2 from fun z => by rw [m2] at z; exact absurd z (by decide))]
    omega
  · rw [em]
    rw [m1] at y
    by_cases e : r = M 12 0
    · rw [e, m3, m2]
      exact ⟨⟨hm0, by omega⟩, fun z => by rcases z with z | z <;> exact absurd z (by decide)⟩
    · rw [ha.2.2 14 r rfl (by decide) e, ha.2.2 15 r rfl (by decide) e, ha.2.2 16 r rfl (by decide) e]
      have q := h6 r x (by omega)
      exact ⟨⟨q.1.1, by omega⟩, q.2⟩
  · rw [m1] at y
    by_cases e : q = M 12 0
    · rw [e, m2] at z; exact absurd z (by decide)
    · rw [ha.2.2 14 q rfl (by decide) e] at z
      rw [ha.2.2 15 q rfl (by decide) e] at w ⊢
      have := (h6 q x (by omega)).1
      rw [pr _ (by omega)] at w
      rw [s _ (by omega)]
      exact h7 q x (by omega) z w
  · rw [m1] at y
    by_cases e : r = M 12 0
    · rw [e, m2] at z; exact absurd z (by decide)
    · rw [ha.2.2 14 r rfl (by decide) e] at z
      rw [ha.2.2 15 r rfl (by decide) e] at w ⊢
      have hin := (h6 r x (by omega)).1
      have ht := top_bd a1 hin.1 hin.2
      rw [bgn_top a1 p hin] at w ⊢
      rw [s _ (by omega)] at w
      obtain ⟨q, q1, q2, q3, q4, q5⟩ := h8 r x (by omega) z w
      exact ⟨q, q1, by omega, by rw [ha.1, o 13 rfl (by decide) (by decide) (by decide) (by decide)]; exact q3, by rw [ha.2.2 14 q rfl (by decide) (by omega)]; exact q4, by rw [ha.2.2 15 q rfl (by decide) (by omega)]; exact q5⟩
  · exact h9.c (congrFun (o _ rfl (by decide) (by decide) (by decide) (by decide)) 0) ha.1 (congrFun (o _ rfl (by decide) (by decide) (by decide) (by decide)) 0) (by omega) (o _ rfl (by decide) (by decide) (by decide) (by decide)) (o _ rfl (by decide) (by decide) (by decide) (by decide)) (o _ rfl (by decide) (by decide) (by decide) (by decide))
  · unfold Clk at h10 ⊢
    rw [congrFun (o 10 rfl (by decide) (by decide) (by decide) (by decide)) 0, m1]
    omega
/-! commit -/
theorem cmt_o {M : MSt} {t i : Int} {f : Nat} (h : f ≠ 26) (h2 : f ≠ 13) : cmt M t f i = cm1 M t f i := by
  unfold cmt
  rw [ulk_o h, up_ne (fun z => h2 z.1)]
  unfold cm2
  split
  · exact inhN_o h
  · rfl
theorem cmt_flushed (M : MSt) (t : Int) : cmt M t 13 0 = if M 24 t < 0 then M 11 0 + M 12 0 + 1 else M 13 0 := by
  unfold cmt
  rw [ulk_o (by decide), up_same]
theorem cmt_locks {M : MSt} {t i : Int} : cmt M t 26 i = if 33 * t ≤ i ∧ i < 33 * t + 33 then 0 else if 0 ≤ M 24 t ∧ 33 * M 24 t ≤ i ∧ i < 33 * M 24 t + 33 then (if M 26 i < M 26 (33 * t + (i - 33 * M 24 t)) then M 26 (33 * t + (i - 33 * M 24 t)) else M 26 i) else M 26 i := by
  have l1 : ∀ j, cm1 M t 26 j = M 26 j := fun j => cm1_o rfl (by decide)
  unfold cmt ulk ulkN
  by_cases e : 33 * t ≤ i ∧ i < 33 * t + 33
  · rw [if_pos ⟨rfl, e⟩, if_pos e]
  · rw [if_neg (fun z => e z.2), if_neg e, up_ne (by simp)]
    unfold cm2
    by_cases p : 0 ≤ M 24 t
    · rw [if_pos p]
      unfold inhN
      by_cases q : 33 * M 24 t ≤ i ∧ i < 33 * M 24 t + 33
      · rw [if_pos ⟨rfl, q⟩, if_pos (show 0 ≤ M 24 t ∧ 33 * M 24 t ≤ i ∧ i < 33 * M 24 t + 33 from ⟨p, q⟩), l1, l1]
      · rw [if_neg (fun z => q z.2), if_neg (fun z => q z.2), l1]
    · rw [if_neg p, if_neg (fun z => p z.1), l1]
theorem Inv.cmt {b c : Int} {M : MSt} {t : Int} (h : Inv b c M) (ha : Act M t) (hb : ¬ Bsy M t) : Inv b c (cmt M t) := by
  obtain ⟨⟨a1, a2, a3, a4, a5⟩, ⟨b1, b2, b3⟩, ⟨⟨h3, h4⟩, h5, h6, h7, h8⟩, h9, h10⟩ := h
  have ht : inM M t := ha.1
  have hst := ha.2
  have hm0 := a1.1
  have o : ∀ f : Nat, lgF f = false → f ≠ 23 → f ≠ 26 → f ≠ 13 → CNestedStoreLaw_law_r7484_ab0530.cmt M t f = M f := fun f a b c d => funext fun i => (cmt_o c d).trans (cm1_o a b)
  have em : CNestedStoreLaw_law_r7484_ab0530.cmt M t 22 0 = M 22 0 := congrFun (o _ rfl (by decide) (by decide) (by decide)) 0
  have ep : CNestedStoreLaw_law_r7484_ab0530.cmt M t 24 = M 24 := o _ rfl (by decide) (by decide) (by decide)
  obtain ⟨m1', m2', m3', -⟩ := cm1_n M t
  have m1 : CNestedStoreLaw_law_r7484_ab0530.cmt M t 12 0 = M 12 0 + 1 := (cmt_o (by decide) (by decide)).trans m1'
  have m2 : CNestedStoreLaw_law_r7484_ab0530.cmt M t 14 (M 12 0) = 4 := (cmt_o (by decide) (by decide)).trans m2'
  have m3 : CNestedStoreLaw_law_r7484_ab0530.cmt M t 15 (M 12 0) = t := (cmt_o (by decide) (by decide)).trans m3'
  have hA : Add M (CNestedStoreLaw_law_r7484_ab0530.cmt M t) := ⟨(cmt_o (by decide) (by decide)).trans (cm1_add M t).1, m1, fun f i a b c => (cmt_o (fun e => by rw [e] at a; cases a) (fun e => by rw [e] at a; cases a)).trans ((cm1_add M t).2.2 f i a b c)⟩
  have st : ∀ x, CNestedStoreLaw_law_r7484_ab0530.cmt M t 23 x = if x = t then 3 else M 23 x := fun x => (cmt_o (by decide) (by decide)).trans (cm1_s M t x)
  have s : ∀ x, x ≠ t → CNestedStoreLaw_law_r7484_ab0530.cmt M t 23 x = M 23 x := fun x e => by rw [st, if_neg e]
  have su : CNestedStoreLaw_law_r7484_ab0530.cmt M t 23 t = 3 := by rw [st, if_pos rfl]
  have lv : ∀ x, Liv (CNestedStoreLaw_law_r7484_ab0530.cmt M t) x ↔ Liv M x ∧ x ≠ t := fun x => by
    by_cases e : x = t
    · unfold Liv
      rw [e, su]
      exact ⟨fun z => by omega, fun z => absurd rfl z.2⟩
    · unfold Liv
      rw [s x e]
      exact ⟨fun z => ⟨z, e⟩, fun z => z.1⟩
  have hl : Liv M t := Or.inl hst
  have ef := cmt_flushed M t
  have x2 := h9.2.1
  have fge : M 13 0 ≤ CNestedStoreLaw_law_r7484_ab0530.cmt M t 13 0 := by
    unfold lst at x2
    rw [ef]; split <;> omega
  refine ⟨⟨a1.c ep em, a2.c ep em, fun u x y => ?_, fun u hu hlu hpt => ?_, fun u x y z => ?_⟩, ⟨fun u i x y z w => ?_, fun i hi => ?_, fun u i x y z w => ?_⟩, ⟨⟨by omega, ?_⟩, by rw [hA.1]; exact h5, ?_, ?_, fun r x y z w => ?_⟩, ?_, ?_⟩
  · rw [em] at y
    by_cases e : u = t
    · rw [e, su]; omega
    · rw [s u e]; exact a3 u x y
  · rw [ep] at hpt ⊢
    obtain ⟨hl2, e⟩ := (lv u).mp hlu
    have hu2 : inM M u := ⟨hu.1, by have := hu.2; omega⟩
    exact (lv _).mpr ⟨a4 u hu2 hl2 hpt, fun q => hb ⟨u, hu2.1, hu2.2, hl2, q⟩⟩
  · rw [em] at y
    have e : u ≠ t := fun e => by rw [e, su] at z; exact absurd z (by decide)
    rw [s u e] at z
    rw [o 27 rfl (by decide) (by decide) (by decide), o 28 rfl (by decide) (by decide) (by decide), o 29 rfl (by decide) (by decide) (by decide)]
    exact a5 u x y z
  · rw [em] at y
    rw [cmt_locks]
    have q1 := b1 u i x y z w
    split
    · omega
    · split
      · next q =>
        have q2 := b1 t (33 * u + i - 33 * M 24 t) ht.1 ht.2 (by omega) (by omega)
        split
        · exact q2
        · exact q1
      · exact q1
  · rw [em] at hi
    have h1 := ht.2
    have h2 := a1.2.2 t ht.1 ht.2
    rw [cmt_locks, if_neg (by omega), if_neg (by omega)]
    exact b2 i hi
  · have hu : inM M u := ⟨x.1, by have := x.2; omega⟩
    rw [cmt_locks] at w
    by_cases e : u = t
    · rw [if_pos (by omega)] at w; exact absurd rfl w
    · rw [if_neg (by omega)] at w
      refine (lv u).mpr ⟨?_, e⟩
      by_cases c : 0 ≤ M 24 t ∧ 33 * M 24 t ≤ 33 * u + i ∧ 33 * u + i < 33 * M 24 t + 33
      · have eu : u = M 24 t := by omega
        rw [eu]
        exact a4 t ht hl c.1
      · rw [if_neg c] at w
        exact b3 u i hu y z w
  · unfold Psi at h4 ⊢
    rw [cUU_add hA h3 (by rw [m2]; decide), m1, lives_drop ht hl em lv, b01_f (show ¬ CNestedStoreLaw_law_r7484_ab0530.cmt M t 14 (M 12 0) = 2 from fun z => by rw [m2] at z; exact absurd z (by decide))]
    omega
  · exact h6.add hA em (by rw [m3]; exact ht) (fun z => by rw [m2] at z; rcases z with z | z <;> exact absurd z (by decide))
  · refine h7.add hA ep (fun x z => ?_) (fun _ _ => by rw [m3]; exact su)
    rw [s x (fun e => by rw [e] at z; omega)]; exact z
  · rw [top_c ep] at w ⊢
    rw [m1] at y
    have e : r ≠ M 12 0 := fun e => by rw [e, m2] at z; exact absurd z (by decide)
    rw [hA.2.2 14 r rfl (by decide) e] at z
    rw [hA.2.2 15 r rfl (by decide) e] at w ⊢
    have hin := (h6 r x (by omega)).1
    by_cases et : top M (M 15 r) = t
    · have hp := top_par a2 hin
      rw [et] at hp
      refine ⟨M 12 0, h3, by omega, ?_, m2, m3.trans et.symm⟩
      rw [ef, if_pos hp, hA.1]
      omega
    · rw [s _ et] at w
      obtain ⟨q, q1, q2, q3, q4, q5⟩ := h8 r x (by omega) z w
      exact ⟨q, q1, by omega, by rw [hA.1]; omega, by rw [hA.2.2 14 q rfl (by decide) (by omega)]; exact q4, by rw [hA.2.2 15 q rfl (by decide) (by omega)]; exact q5⟩
  · obtain ⟨x1, -, x3⟩ := h9
    refine ⟨by rw [o 0 rfl (by decide) (by decide) (by decide)]; exact x1, ?_, fun p a b => ?_⟩
    · unfold lst at x2 ⊢
      rw [hA.1, m1, ef]
      split <;> omega
    · have q := x3 p a b
      unfold lst at q ⊢
      rw [o 7 rfl (by decide) (by decide) (by decide), o 6 rfl (by decide) (by decide) (by decide), o 3 rfl (by decide) (by decide) (by decide), hA.1, m1]
      exact ⟨fun z => by have := q.1 z; omega, by omega⟩
  · unfold Clk at h10 ⊢
    rw [congrFun (o 10 rfl (by decide) (by decide) (by decide)) 0, m1]
    omega

