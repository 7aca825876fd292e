/-! the invariant: locks, states, requests -/
theorem Inv.lk {b c : Int} {M : MSt} {t i m : Int} (h : Inv b c M) (ht : inM M t) (hl : Liv M t) (hi : 0 ≤ i ∧ i ≤ 32) (hm : m = 1 ∨ m = 2) : Inv b c (up M 26 (33 * t + i) m) := by
  have o : ∀ f : Nat, f ≠ 26 → up M 26 (33 * t + i) m f = M f := fun f a => funext fun _ => up_ne (fun z => a z.1)
  have oo : ∀ (f : Nat) (j : Int), f ≠ 26 → up M 26 (33 * t + i) m f j = M f j := fun f j a => up_ne (fun z => a z.1)
  obtain ⟨h1, ⟨b1, b2, b3⟩, h3, h4, h5⟩ := h
  refine ⟨h1.c (oo _ _ (by decide)) (o _ (by decide)) (o _ (by decide)) (o _ (by decide)) (o _ (by decide)) (o _ (by decide)), ⟨fun u j x y z w => ?_, fun j hj => ?_, fun u j x y z w => ?_⟩, h3.c (oo _ _ (by decide)) (o _ (by decide)) (o _ (by decide)) (oo _ _ (by decide)) (oo _ _ (by decide)) (o _ (by decide)) (o _ (by decide)) (o _ (by decide)) (o _ (by decide)) (Int.le_refl _), h4.c (oo _ _ (by decide)) (oo _ _ (by decide)) (oo _ _ (by decide)) (Int.le_refl _) (o _ (by decide)) (o _ (by decide)) (o _ (by decide)), ?_⟩
  · have q := b1 u j x y z w
    unfold up
    split <;> omega
  · have := ht.2
    rw [oo _ _ (by decide)] at hj
    rw [up_ne (fun z => by omega)]
    exact b2 j hj
  · by_cases e : 33 * u + j = 33 * t + i
    · rw [show u = t from by omega]; exact hl
    · rw [up_ne (fun q => e q.2)] at w
      exact b3 u j x y z w
  · exact h5
theorem Inv.acq {b c : Int} {t m : Int} (hm : m = 1 ∨ m = 2) : ∀ (l : List Int) (M : MSt), Inv b c M → inM M t → Liv M t → (∀ x ∈ l, 0 ≤ x ∧ x ≤ 32) → Inv b c (acqL t m l M).2 := by
  intro l
  induction l with
  | nil => intro M h _ _ _; exact h
  | cons x xs ih =>
    intro M h ht hl hx
    have hx1 := hx x (List.mem_cons_self ..)
    have hx2 : ∀ y ∈ xs, 0 ≤ y ∧ y ≤ 32 := fun y hy => hx y (List.mem_cons_of_mem _ hy)
    unfold acqL
    by_cases h1 : m ≤ M 26 (33 * t + x)
    · rw [pick_t h1]; exact ih M h ht hl hx2
    · rw [pick_f h1]
      by_cases h2 : May M t x m
      · rw [pick_t h2]; exact ih _ (h.lk ht hl hx1 hm) ht hl hx2
      · rw [pick_f h2]; exact h
theorem acqL_o {t m : Int} {f : Nat} (hf : f ≠ 26) : ∀ (l : List Int) (M : MSt) (j : Int), (acqL t m l M).2 f j = M f j := fun l M j => by
  rw [← (akL_acq l M).1]
  exact akL_o hf l M j
theorem Inv.stt {b c : Int} {M M' : MSt} {t z : Int} (h : Inv b c M) (hl : Liv M t) (hz : z = 1 ∨ z = 2) (hm : ∀ f i, ¬ (f = 23 ∧ i = t) → f ≠ 27 → f ≠ 28 → f ≠ 29 → M' f i = M f i) (hms : M' 23 t = z) (hq : ReqA M') : Inv b c M' := by
  have m : ∀ f : Nat, f ≠ 23 → f ≠ 27 → f ≠ 28 → f ≠ 29 → M' f = M f := fun f a b c d => funext fun i => hm f i (fun z => a z.1) b c d
  have mm : ∀ (f : Nat) (i : Int), f ≠ 23 → f ≠ 27 → f ≠ 28 → f ≠ 29 → M' f i = M f i := fun f i a b c d => congrFun (m f a b c d) i
  have ms : ∀ u, u ≠ t → M' 23 u = M 23 u := fun u e => hm _ _ (fun z => e z.2) (by decide) (by decide) (by decide)
  have lv : ∀ x, Liv M' x ↔ Liv M x := fun x => by
    by_cases e : x = t
    · rw [e]
      exact ⟨fun _ => hl, fun _ => by unfold Liv; rw [hms]; exact hz⟩
    · unfold Liv
      rw [ms x e]
  have s3 : ∀ x, M' 23 x = 3 ↔ M 23 x = 3 := fun x => by
    by_cases e : x = t
    · rw [e, hms]
      unfold Liv at hl
      omega
    · rw [ms x e]
  have eP : M' 24 = M 24 := m _ (by decide) (by decide) (by decide) (by decide)
  have em : M' 22 0 = M 22 0 := mm _ _ (by decide) (by decide) (by decide) (by decide)
  obtain ⟨⟨a1, a2, a3, a4, a5⟩, h2, ⟨⟨h3, h4⟩, h5, h6, h7, h8⟩, h9, h10⟩ := h
  refine ⟨⟨a1.c eP em, a2.c eP em, fun u x y => ?_, fun u hu hlu hpu => ?_, hq⟩, h2.c em (m _ (by decide) (by decide) (by decide) (by decide)) lv, ⟨⟨by rw [mm _ _ (by decide) (by decide) (by decide) (by decide)]; exact h3, ?_⟩, by rw [mm _ _ (by decide) (by decide) (by decide) (by decide)]; exact h5, ?_, fun q x y z w => ?_, fun r x y z w => ?_⟩, ?_, ?_⟩
  · rw [em] at y
    by_cases e : u = t
    · rw [e, hms]; omega
    · rw [ms u e]; exact a3 u x y
  · rw [eP] at hpu ⊢
    exact (lv _).mpr (a4 u ⟨hu.1, by have := hu.2; omega⟩ ((lv u).mp hlu) hpu)
  · unfold Psi at h4 ⊢
    have eu : cnt (UU M') (M' 12 0) = cnt (UU M) (M 12 0) := by
      rw [mm 12 0 (by decide) (by decide) (by decide) (by decide)]
      exact cnt_ext fun i _ _ => UU_c (m _ (by decide) (by decide) (by decide) (by decide)) (m _ (by decide) (by decide) (by decide) (by decide)) (mm _ _ (by decide) (by decide) (by decide) (by decide)) (mm _ _ (by decide) (by decide) (by decide) (by decide)) i
    have el : lives M' = lives M := by
      unfold lives
      rw [em]
      exact cnt_ext fun i _ _ => lv i
    rw [eu, el, mm 12 0 (by decide) (by decide) (by decide) (by decide)]
    exact h4
  · unfold RcB
    rw [em, m 12 (by decide) (by decide) (by decide) (by decide), m 14 (by decide) (by decide) (by decide) (by decide), m 15 (by decide) (by decide) (by decide) (by decide), m 16 (by decide) (by decide) (by decide) (by decide)]
    exact h6
  · rw [m 12 (by decide) (by decide) (by decide) (by decide)] at y
    rw [m 14 (by decide) (by decide) (by decide) (by decide)] at z
    rw [m 15 (by decide) (by decide) (by decide) (by decide)] at w ⊢
    rw [eP] at w
    exact (s3 _).mpr (h7 q x y z w)
  · rw [m 12 (by decide) (by decide) (by decide) (by decide)] at y ⊢
    rw [m 14 (by decide) (by decide) (by decide) (by decide)] at z ⊢
    rw [m 15 (by decide) (by decide) (by decide) (by decide), top_c eP] at w ⊢
    rw [m 11 (by decide) (by decide) (by decide) (by decide), m 13 (by decide) (by decide) (by decide) (by decide)]
    exact h8 r x y z ((s3 _).mp w)
  · exact h9.c (mm _ _ (by decide) (by decide) (by decide) (by decide)) (mm _ _ (by decide) (by decide) (by decide) (by decide)) (mm _ _ (by decide) (by decide) (by decide) (by decide)) (Int.le_of_eq (mm _ _ (by decide) (by decide) (by decide) (by decide)).symm) (m _ (by decide) (by decide) (by decide) (by decide)) (m _ (by decide) (by decide) (by decide) (by decide)) (m _ (by decide) (by decide) (by decide) (by decide))
  · unfold Clk
    rw [mm 10 _ (by decide) (by decide) (by decide) (by decide), mm 12 _ (by decide) (by decide) (by decide) (by decide)]
    exact h10
theorem Inv.st1 {b c : Int} {M : MSt} {t : Int} (h : Inv b c M) (hl : Liv M t) : Inv b c (up M 23 t 1) := by
  refine h.stt hl (Or.inl rfl) (fun f i x _ _ _ => up_ne x) (up_same _ _ _ _) (fun u x y z => ?_)
  have e : u ≠ t := fun e => by rw [e, up_same] at z; exact absurd z (by decide)
  rw [up_ne (fun q => e q.2)] at z
  exact h.1.2.2.2.2 u x y z
theorem Inv.sty0 {b c : Int} {M : MSt} {t w x y : Int} (h : Inv b c M) (hl : Liv M t) (hq : ReqOk w x y) : Inv b c (sty0 M t w x y) := by
  have o : ∀ f i, ¬ (f = 23 ∧ i = t) → f ≠ 27 → f ≠ 28 → f ≠ 29 → CNestedStoreLaw_law_r7484_ab0530.sty0 M t w x y f i = M f i := fun f i x y z v => by
    unfold CNestedStoreLaw_law_r7484_ab0530.sty0
    rw [up_ne (fun q => v q.1), up_ne (fun q => z q.1), up_ne (fun q => y q.1), up_ne x]
  have ou : ∀ f u, u ≠ t → CNestedStoreLaw_law_r7484_ab0530.sty0 M t w x y f u = M f u := fun f u x => by
    unfold CNestedStoreLaw_law_r7484_ab0530.sty0
    rw [up_ne (fun q => x q.2), up_ne (fun q => x q.2), up_ne (fun q => x q.2), up_ne (fun q => x q.2)]
  refine h.stt hl (Or.inr rfl) o ?_ (fun u a1 a2 z => ?_)
  · unfold CNestedStoreLaw_law_r7484_ab0530.sty0
    rw [up_ne (by simp), up_ne (by simp), up_ne (by simp), up_same]
  · by_cases hne : u = t
    · subst hne
      have a1 : CNestedStoreLaw_law_r7484_ab0530.sty0 M u w x y 27 u = w := by unfold CNestedStoreLaw_law_r7484_ab0530.sty0; rw [up_ne (by simp), up_ne (by simp), up_same]
      have a2 : CNestedStoreLaw_law_r7484_ab0530.sty0 M u w x y 28 u = x := by unfold CNestedStoreLaw_law_r7484_ab0530.sty0; rw [up_ne (by simp), up_same]
      have a3 : CNestedStoreLaw_law_r7484_ab0530.sty0 M u w x y 29 u = y := by unfold CNestedStoreLaw_law_r7484_ab0530.sty0; rw [up_same]
      rw [a1, a2, a3]
      exact hq
    · rw [ou _ u hne] at z
      rw [ou _ u hne, ou _ u hne, ou _ u hne]
      exact h.1.2.2.2.2 u a1 (by rw [o 22 0 (by simp) (by decide) (by decide) (by decide)] at a2; exact a2) z
theorem Inv.val {b c : Int} {M : MSt} (h : Inv b c M) (z : Int) : Inv b c (up M 38 0 z) := by
  have o : ∀ f : Nat, f ≠ 38 → up M 38 0 z f = M f := fun f a => funext fun _ => up_ne (fun z => a z.1)
  have oo : ∀ (f : Nat) (j : Int), f ≠ 38 → up M 38 0 z f j = M f j := fun f j a => up_ne (fun z => a z.1)
  obtain ⟨h1, h2, h3, h4, h5⟩ := h
  exact ⟨h1.c (oo _ _ (by decide)) (o _ (by decide)) (o _ (by decide)) (o _ (by decide)) (o _ (by decide)) (o _ (by decide)), h2.c (oo _ _ (by decide)) (o _ (by decide)) (Liv_c (o _ (by decide))), h3.c (oo _ _ (by decide)) (o _ (by decide)) (o _ (by decide)) (oo _ _ (by decide)) (oo _ _ (by decide)) (o _ (by decide)) (o _ (by decide)) (o _ (by decide)) (o _ (by decide)) (Int.le_refl _), h4.c (oo _ _ (by decide)) (oo _ _ (by decide)) (oo _ _ (by decide)) (Int.le_refl _) (o _ (by decide)) (o _ (by decide)) (o _ (by decide)), h5⟩
theorem Inv.tcs {b : Int} : ∀ (n : Nat) (c p : Int) (M : MSt), Inv b c M → Inv b (c + n) (tcs n p M) := by
  intro n
  induction n with
  | zero => intro c p M h; exact h.mono (Int.le_refl _) (by omega)
  | succ n ih =>
    intro c p M h
    have q := ih (c + 1) (p + 1) _ (h.xtch p)
    rw [show (c + 1 + (n : Int)) = c + ((n + 1 : Nat) : Int) from by omega] at q
    exact q
theorem Inv.act {b c : Int} {M : MSt} {t w x y : Int} (h : Inv b c M) (ht : inM M t) (hl : Liv M t) (hq : ReqOk w x y) : Inv (b + 2) (c + 10) (act M t w x y).2 := by
  unfold CNestedStoreLaw_law_r7484_ab0530.act
  by_cases h1 : w = 1
  · rw [if_pos h1]
    exact ((h.xtch _).val _).mono (by omega) (by omega)
  · rw [if_neg h1]
    by_cases h4 : w = 4
    · rw [if_pos h4]
      have hb : 0 ≤ x ∧ x ≤ y ∧ y ≤ 31 := by
        rcases hq with q | q
        · omega
        · exact q.2
      have e : (scn M x y).2 = up (scn1 M x y) 38 0 (wr (sumA (vlw (scn1 M x y)) x (y - x + 1).toNat)) := rfl
      rw [e]
      exact ((Inv.tcs _ c _ M h).val _).mono (by omega) (by omega)
    · rw [if_neg h4]
      by_cases h3 : w = 3 ∧ thr M x = 0
      · rw [if_pos h3]
        exact h.mono (by omega) (by omega)
      · rw [if_neg h3]
        by_cases hf : Ful M
        · rw [pick_t hf]
          exact h.mono (by omega) (by omega)
        · rw [pick_f hf]
          exact (h.upd ht hl (by rcases hq with q | q; exact q.2; exact absurd q.1 h4)).mono (by omega) (by omega)
theorem Inv.styN {b c t : Int} : ∀ (n : Nat) (M : MSt), Inv b c M → Inv b c (styN t n M).2 := by
  intro n
  induction n with
  | zero => intro M h; exact h
  | succ n ih =>
    intro M h
    unfold CNestedStoreLaw_law_r7484_ab0530.styN
    by_cases h1 : Liv M t
    · rw [pick_t h1]
      by_cases h2 : vic M t < 0
      · rw [pick_t h2]; exact h
      · rw [pick_f h2]
        exact ih _ (h.abt ⟨by omega, (vic_bd h.1.1.1).2⟩)
    · rw [pick_f h1]; exact h
theorem Inv.req {b c : Int} {M : MSt} {t w x y : Int} (h : Inv b c M) (ht : inM M t) (hl : Liv M t) (hq : ReqOk w x y) : Inv (b + 2) (c + 10) (req M t w x y).2 := by
  have h1 := h.st1 hl
  have h2 : Inv b c (acqL t (mdo M w x) (nds M w x y) (up M 23 t 1)).2 := Inv.acq (mdo_12 M w x) _ _ h1 ht (Or.inl (up_same _ _ _ _)) (nds_bd hq).2
  have hs : (acqL t (mdo M w x) (nds M w x y) (up M 23 t 1)).2 23 t = 1 := by
    rw [acqL_o (by decide), up_same]
  have hm : (acqL t (mdo M w x) (nds M w x y) (up M 23 t 1)).2 22 0 = M 22 0 := by
    rw [acqL_o (by decide), up_ne (by simp)]
  unfold CNestedStoreLaw_law_r7484_ab0530.req
  split
  · exact (Inv.styN 60 _ (h2.sty0 (Or.inl hs) hq)).mono (by omega) (by omega)
  · exact h2.act ⟨ht.1, by rw [hm]; exact ht.2⟩ (Or.inl hs) hq

