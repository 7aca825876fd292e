/-- only locks have changed, alike -/
theorem SimT.lk {N N' M M' : MSt} (h : SimT N M) (hn : ∀ f i, f ≠ 39 → N' f i = N f i) (hm : ∀ f i, f ≠ 26 → M' f i = M f i) (hl : ∀ t i, inM M t → 0 ≤ i → i < 33 → N' 39 (33 * t + i) = M' 26 (33 * t + i)) : SimT N' M' := by
  have n : ∀ f : Nat, f ≠ 39 → N' f = N f := fun f e => funext fun i => hn f i e
  have m : ∀ f : Nat, f ≠ 26 → M' f = M f := fun f e => funext fun i => hm f i e
  have eP := m 24 (by decide)
  refine ⟨by rw [hn _ _ (by decide), hn _ _ (by decide), hm _ _ (by decide)]; exact h.1, fun t a b => ?_⟩
  rw [hm _ _ (by decide)] at b
  obtain ⟨t1, t2, t3, t4⟩ := h.2 t a b
  refine ⟨?_, fun i x y => hl t i ⟨a, b⟩ x y, ?_⟩
  · rw [n 31 (by decide), n 32 (by decide), n 33 (by decide), n 34 (by decide), n 35 (by decide), eP, top_c eP, dep_c eP, m 25 (by decide), m 23 (by decide)]
    exact t1
  · rw [n 37 (by decide), n 38 (by decide), n 40 (by decide), n 41 (by decide), n 42 (by decide), eP, hm 22 0 (by decide), m 23 (by decide), m 27 (by decide), m 28 (by decide), m 29 (by decide)]
    exact ⟨t3, t4⟩
theorem Sim.lk {N N' M M' : MSt} (h : Sim N M) (hn : ∀ f i, f ≠ 39 → N' f i = N f i) (hm : ∀ f i, f ≠ 26 → M' f i = M f i) (hl : ∀ t i, inM M t → 0 ≤ i → i < 33 → N' 39 (33 * t + i) = M' 26 (33 * t + i)) : Sim N' M' := by
  have n : ∀ f : Nat, f ≠ 39 → N' f = N f := fun f e => funext fun i => hn f i e
  have m : ∀ f : Nat, f ≠ 26 → M' f = M f := fun f e => funext fun i => hm f i e
  refine ⟨?_, ?_, ?_, h.t.lk hn hm hl, ?_⟩
  · exact h.p.c (hn _ _ (by decide)) (hn _ _ (by decide)) (hn _ _ (by decide)) (n _ (by decide)) (n _ (by decide)) (n _ (by decide)) (n _ (by decide)) (n _ (by decide)) (n _ (by decide)) (n _ (by decide)) (n _ (by decide)) (hm _ _ (by decide)) (hm _ _ (by decide)) (m _ (by decide)) (m _ (by decide)) (hm _ _ (by decide)) (m _ (by decide)) (m _ (by decide)) (m _ (by decide)) (m _ (by decide)) (m _ (by decide)) (m _ (by decide)) (m _ (by decide))
  · exact h.l.c (hn _ _ (by decide)) (hn _ _ (by decide)) (hn _ _ (by decide)) (n _ (by decide)) (n _ (by decide)) (n _ (by decide)) (n _ (by decide)) (n _ (by decide)) (n _ (by decide)) (n _ (by decide)) (n _ (by decide)) (n _ (by decide)) (hm _ _ (by decide)) (hm _ _ (by decide)) (m _ (by decide)) (m _ (by decide)) (m _ (by decide)) (m _ (by decide)) (m _ (by decide)) (m _ (by decide)) (m _ (by decide)) (m _ (by decide))
  · exact h.u.c (n _ (by decide)) (n _ (by decide)) (n _ (by decide)) (hm _ _ (by decide)) (hm _ _ (by decide)) (m _ (by decide)) (m _ (by decide)) (m _ (by decide)) (hm _ _ (by decide)) (m _ (by decide)) (m _ (by decide))
  · exact h.cc.c (hn _ _ (by decide)) (hn _ _ (by decide)) (hn _ _ (by decide)) (hm _ _ (by decide)) (hm _ _ (by decide)) (m _ (by decide)) (m _ (by decide)) (m _ (by decide)) (hm _ _ (by decide)) (m _ (by decide)) (m _ (by decide)) (hm _ _ (by decide))
theorem Sim_ulk {N M : MSt} {t : Int} (h : Sim N M) : Sim (ulN N t 33) (ulk M t) := by
  refine h.lk (fun f i e => ulN_o e) (fun f i e => ulk_o e) (fun t' i a b c => ?_)
  have q := (h.t.2 t' a.1 a.2).2.1 i b c
  unfold ulN ulk ulkN
  by_cases e : 33 * t ≤ 33 * t' + i ∧ 33 * t' + i < 33 * t + 33
  · rw [if_pos ⟨rfl, e⟩, if_pos ⟨rfl, e⟩]
  · rw [if_neg (fun z => e z.2), if_neg (fun z => e z.2)]; exact q
theorem inhN_o {M : MSt} {t p k i : Int} {f : Nat} (h : f ≠ 26) : inhN M t p k f i = M f i := if_neg (fun z => h z.1)
theorem Sim_inh {N M : MSt} {t p : Int} (h : Sim N M) (ht : inM M t) (hp : inM M p) : Sim (ihN N t p 33) (inhN M t p 33) := by
  refine h.lk (fun f i e => ihN_o e) (fun f i e => inhN_o e) (fun t' i a b c => ?_)
  have q := (h.t.2 t' a.1 a.2).2.1 i b c
  unfold ihN inhN
  by_cases e : 33 * p ≤ 33 * t' + i ∧ 33 * t' + i < 33 * p + 33
  · have e2 : t' = p := by omega
    subst e2
    have q2 := (h.t.2 t ht.1 ht.2).2.1 i b c
    rw [if_pos (show (39 : Nat) = 39 ∧ _ from ⟨rfl, e⟩), if_pos (show (26 : Nat) = 26 ∧ _ from ⟨rfl, e⟩), show 33 * t + (33 * t' + i - 33 * t') = 33 * t + i from by omega, q, q2]
  · rw [if_neg (fun z => e z.2), if_neg (fun z => e z.2)]; exact q

