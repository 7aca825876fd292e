/-- M' is M with one more record -/
def Add (M M' : MSt) : Prop := M' 11 0 = M 11 0 ∧ M' 12 0 = M 12 0 + 1 ∧ ∀ f i, lgF f = true → f ≠ 12 → i ≠ M 12 0 → M' f i = M f i
theorem SimL.add {N N' M M' : MSt} (h : SimL N M) (ha : Add M M') (n1 : N' 4 0 = N 4 0) (n2 : N' 3 0 = N 3 0 + 1) (hne : M 12 0 + 1 ≤ N' 50 0) (nl : ∀ (f : Nat) (i : Int), 20 ≤ f → f ≤ 28 → i ≠ M 12 0 → N' f i = N f i) (he : EntS N' M' (M 12 0)) : SimL N' M' := by
  obtain ⟨hb, hr, ml⟩ := ha
  refine ⟨⟨by rw [n1, hb]; exact h.1.1, by rw [n2, hr, h.1.2.1], by have := h.1.2.2.1; omega, by omega⟩, fun r a b => ?_⟩
  by_cases e : r = M 12 0
  · rw [e]; exact he
  · have q := h.2 r a (by omega)
    unfold EntS at q ⊢
    rw [hb, nl 20 r (by decide) (by decide) e, nl 21 r (by decide) (by decide) e, nl 22 r (by decide) (by decide) e, nl 23 r (by decide) (by decide) e, nl 24 r (by decide) (by decide) e, nl 25 r (by decide) (by decide) e, nl 26 r (by decide) (by decide) e, nl 27 r (by decide) (by decide) e, nl 28 r (by decide) (by decide) e,
      ml 14 r rfl (by decide) e, ml 15 r rfl (by decide) e, ml 16 r rfl (by decide) e, ml 17 r rfl (by decide) e, ml 18 r rfl (by decide) e, ml 19 r rfl (by decide) e, ml 20 r rfl (by decide) e, ml 21 r rfl (by decide) e]
    exact q
theorem Und_add {M M' : MSt} (ha : Add M M') {r : Int} (h : r < M 12 0) : Und M' r ↔ Und M r ∨ (M' 14 (M 12 0) = 3 ∧ M' 17 (M 12 0) = M 11 0 + r + 1) := by
  obtain ⟨hb, hr, ml⟩ := ha
  unfold Und exB
  rw [hb, hr]
  constructor
  · rintro ⟨q, q1, q2, q3, q4⟩
    by_cases e : q = M 12 0
    · rw [e] at q3 q4; exact Or.inr ⟨q3, q4⟩
    · rw [ml 14 q rfl (by decide) e] at q3
      rw [ml 17 q rfl (by decide) e] at q4
      exact Or.inl ⟨q, q1, by omega, q3, q4⟩
  · rintro (⟨q, q1, q2, q3, q4⟩ | ⟨q3, q4⟩)
    · exact ⟨q, q1, by omega, by rw [ml 14 q rfl (by decide) (by omega)]; exact q3, by rw [ml 17 q rfl (by decide) (by omega)]; exact q4⟩
    · exact ⟨M 12 0, by omega, by omega, q3, q4⟩
theorem Und_last {M M' : MSt} (ha : Add M M') : ¬ Und M' (M 12 0) := by
  unfold Und
  rw [ha.2.1]
  exact exB_nil (by omega)
theorem Lnk.c {N N' M M' : MSt} {l t b : Int} (h : Lnk N M l t b) (hk : ∀ q, 0 ≤ q → q < b → M' 14 q = M 14 q ∧ M' 15 q = M 15 q ∧ (M 14 q = 2 → M 15 q = t → N' 29 q = 0 → N 29 q = 0)) : Lnk N' M' l t b := by
  refine ⟨?_, fun q a c d e f => ?_⟩
  · rcases h.1 with e | ⟨e1, e2, e3, e4⟩
    · exact Or.inl e
    · exact Or.inr ⟨e1, e2, by rw [(hk l e1 e2).1]; exact e3, by rw [(hk l e1 e2).2.1]; exact e4⟩
  · obtain ⟨k1, k2, k3⟩ := hk q a c
    rw [k1] at d
    rw [k2] at e
    exact h.2 q a c d e (k3 d e f)
theorem Lnk.mono {N M : MSt} {l t b b' : Int} (h : Lnk N M l t b) (hb : b ≤ b') (hx : ∀ q, b ≤ q → q < b' → M 14 q = 2 → M 15 q = t → N 29 q = 0 → q ≤ l) : Lnk N M l t b' := by
  refine ⟨?_, fun q a c d e f => ?_⟩
  · rcases h.1 with e | ⟨e1, e2, e3⟩
    · exact Or.inl e
    · exact Or.inr ⟨e1, by omega, e3⟩
  · by_cases z : q < b
    · exact h.2 q a z d e f
    · exact hx q (by omega) c d e f
noncomputable def updN (N : MSt) (t k now v : Int) : MSt := up (pst (up (up (up (up (up (up (ntN (tN N (k / 4)) 2 t k) 24 (N 3 0) (b01 (bt (tN N (k / 4) 15 (k / 4)) k))) 25 (N 3 0) (pick (bt (tN N (k / 4) 15 (k / 4)) k) (tN N (k / 4) 18 (4 * (k / 4) + k % 4)) 0)) 26 (N 3 0) now) 27 (N 3 0) v) 30 (N 3 0) (N 36 t)) 36 t (N 3 0)) (k / 4) k now v (N 4 0 + (N 3 0 + 1))) 6 0 (N 6 0 + 1)
theorem updN_pg {N : MSt} {t k now v i : Int} {f : Nat} (h : npF f = true ∨ f = 2) : updN N t k now v f i = pst (tN N (k / 4)) (k / 4) k now v (N 4 0 + (N 3 0 + 1)) f i := by
  have hf : f < 20 ∧ f ≠ 6 ∧ f ≠ 3 := by
    rcases h with h | h
    · simp only [npF, Bool.or_eq_true, beq_iff_eq] at h
      omega
    · omega
  have e0 : ∀ (f' : Nat) (i' : Int), f' < 20 → f' ≠ 6 → f' ≠ 3 → up (up (up (up (up (up (ntN (tN N (k / 4)) 2 t k) 24 (N 3 0) (b01 (bt (tN N (k / 4) 15 (k / 4)) k))) 25 (N 3 0) (pick (bt (tN N (k / 4) 15 (k / 4)) k) (tN N (k / 4) 18 (4 * (k / 4) + k % 4)) 0)) 26 (N 3 0) now) 27 (N 3 0) v) 30 (N 3 0) (N 36 t)) 36 t (N 3 0) f' i' = tN N (k / 4) f' i' := fun f' i' a b c => by
    rw [up_ne (by omega), up_ne (by omega), up_ne (by omega), up_ne (by omega), up_ne (by omega), up_ne (by omega), ntN_o c (by omega) (by omega)]
  unfold updN
  rw [up_ne (fun z => hf.2.1 z.1)]
  unfold pst
  rw [e0 15 (k / 4) (by decide) (by decide) (by decide)]
  unfold up at e0 ⊢
  simp only [e0 f i hf.1 hf.2.1 hf.2.2]
theorem updN_o {N : MSt} {t k now v i : Int} {f : Nat} (h : npF f = false) (h1 : f ≠ 3) (h2 : f ≠ 50) (h3 : f ≠ 6) (h4 : ¬ (20 ≤ f ∧ f ≤ 30 ∧ i = N 3 0)) (h5 : ¬ (f = 36 ∧ i = t)) : updN N t k now v f i = N f i := by
  unfold updN
  rw [up_ne (fun z => h3 z.1), pst_o h, up_ne h5, up_ne (by omega), up_ne (by omega), up_ne (by omega), up_ne (by omega), up_ne (by omega), ntN_o h1 h2 (by rw [tN_o rfl]; exact h4), tN_o h]
theorem updN_n (N : MSt) (t k now v : Int) : (updN N t k now v 20 (N 3 0) = N 4 0 + (N 3 0 + 1) ∧ updN N t k now v 21 (N 3 0) = 2 ∧ updN N t k now v 22 (N 3 0) = t ∧ updN N t k now v 23 (N 3 0) = k) ∧
    updN N t k now v 24 (N 3 0) = b01 (bt (tN N (k / 4) 15 (k / 4)) k) ∧ updN N t k now v 25 (N 3 0) = pick (bt (tN N (k / 4) 15 (k / 4)) k) (tN N (k / 4) 18 (4 * (k / 4) + k % 4)) 0 ∧ updN N t k now v 26 (N 3 0) = now ∧ updN N t k now v 27 (N 3 0) = v ∧ updN N t k now v 28 (N 3 0) = -1 ∧ updN N t k now v 29 (N 3 0) = 0 ∧ updN N t k now v 30 (N 3 0) = N 36 t ∧ updN N t k now v 36 t = N 3 0 ∧ updN N t k now v 6 0 = N 6 0 + 1 ∧ updN N t k now v 3 0 = N 3 0 + 1 ∧ updN N t k now v 50 0 = ntN (tN N (k / 4)) 2 t k 50 0 := by
  have er : tN N (k / 4) 3 0 = N 3 0 := tN_o rfl
  have eg : tN N (k / 4) 4 0 = N 4 0 := tN_o rfl
  have q := ntN_n (tN N (k / 4)) 2 t k
  rw [er, eg] at q
  obtain ⟨q1, q2, q3, q4, q5, q6, q7, q8, q9, q10, q11, q12⟩ := q
  have g : ∀ (f : Nat) (i : Int), npF f = false → f ≠ 6 → updN N t k now v f i = up (up (up (up (up (up (ntN (tN N (k / 4)) 2 t k) 24 (N 3 0) (b01 (bt (tN N (k / 4) 15 (k / 4)) k))) 25 (N 3 0) (pick (bt (tN N (k / 4) 15 (k / 4)) k) (tN N (k / 4) 18 (4 * (k / 4) + k % 4)) 0)) 26 (N 3 0) now) 27 (N 3 0) v) 30 (N 3 0) (N 36 t)) 36 t (N 3 0) f i := fun f i a b => by
    unfold updN
    rw [up_ne (fun z => b z.1), pst_o a]
  rw [g 20 _ rfl (by decide), g 21 _ rfl (by decide), g 22 _ rfl (by decide), g 23 _ rfl (by decide), g 24 _ rfl (by decide), g 25 _ rfl (by decide), g 26 _ rfl (by decide), g 27 _ rfl (by decide), g 28 _ rfl (by decide), g 29 _ rfl (by decide), g 30 _ rfl (by decide), g 36 _ rfl (by decide), g 3 _ rfl (by decide), g 50 _ rfl (by decide)]
  simp only [up, Nat.reduceEqDiff, false_and, if_false, and_self, if_true, q1, q2, q3, q4, q5, q10, q11, true_and, and_true]
  exact up_same _ _ _ _
theorem Sim_upd {N M : MSt} {t k now v : Int} (h : Sim N M) (hf1 : 1 ≤ M 0 0) (hk : 0 ≤ k ∧ k ≤ 31) (hn : now = 0 ∨ now = 1) (ht : 0 ≤ t ∧ t < M 22 0) (hlv : LvT M t) : Sim (updN N t k now v) (s_upd M t k now v) := by
  have hr : N 3 0 = M 12 0 := h.l.1.2.1
  have hg : N 4 0 = M 11 0 := h.l.1.1
  have hR0 := h.l.1.2.2.1
  have ha : Add M (s_upd M t k now v) := ⟨upd_o rfl rfl, (upd_n M t k now v).1, fun f i a b c => upd_l (by
    cases e : pgF f
    · rfl
    · exfalso
      simp only [pgF, Bool.or_eq_true, beq_iff_eq] at e
      rcases e with (((((((((e | e) | e) | e) | e) | e) | e) | e) | e) | e) | e <;> subst e <;> revert a <;> decide) b c⟩
  obtain ⟨m1, m2, m3, m4, m5, m6, m7, m8⟩ := upd_n M t k now v
  obtain ⟨⟨n1, n2, n3, n4⟩, n5, n6, n7, n8, n9, n10, n11, n12, n13, n14, n15⟩ := updN_n N t k now v
  have hp : 0 ≤ k / 4 ∧ k / 4 < 8 := by omega
  have hP := SimP_tch h.p hp hf1
  have hin := tch_self (M := M) (p := k / 4) ((h.p.2.2.2.1 (k / 4) hp.1 hp.2).1)
  have hpv := (hP.2.2.2.2.2 (k / 4) hp.1 hp.2 hin).1.2.2 k (by omega) (by omega)
  have mo : ∀ f : Nat, pgF f = false → lgF f = false → s_upd M t k now v f = M f := fun f a b => funext fun i => upd_o a b
  have eS : s_upd M t k now v 23 = M 23 := mo _ rfl rfl
  have eP : s_upd M t k now v 24 = M 24 := mo _ rfl rfl
  have eLv : ∀ x, LvT (s_upd M t k now v) x ↔ LvT M x := fun x => by unfold LvT; rw [top_c eP, Liv_c eS]
  have kb : ∀ q, q < M 12 0 → s_upd M t k now v 14 q = M 14 q ∧ s_upd M t k now v 15 q = M 15 q := fun q z => ⟨upd_l rfl (by decide) (by omega), upd_l rfl (by decide) (by omega)⟩
  have nu : ∀ q, q < M 12 0 → updN N t k now v 29 q = N 29 q := fun q z => updN_o rfl (by decide) (by decide) (by decide) (by omega) (by simp)
  refine ⟨?_, ?_, ?_, ?_, ?_⟩
  · have z := SimP_set (k := k) (now := now) (v := v) (v' := v) (l := M 11 0 + M 12 0 + 1) hP hk hin hn (fun _ => rfl)
    have np : ∀ f : Nat, npF f = true ∨ f = 2 → updN N t k now v f = pst (tN N (k / 4)) (k / 4) k now v (M 11 0 + M 12 0 + 1) f := fun f e => funext fun i => by rw [updN_pg e, hr, hg, show M 11 0 + (M 12 0 + 1) = M 11 0 + M 12 0 + 1 from by omega]
    have mp : ∀ f : Nat, npg f = false → s_upd M t k now v f = bcm (tch M (k / 4)) k now v (M 11 0 + M 12 0 + 1) f := fun f e => funext fun i => upd_pg e
    exact z.c (congrFun (np _ (Or.inl rfl)) 0) (congrFun (np _ (Or.inr rfl)) 0) (congrFun (np _ (Or.inl rfl)) 0) (np _ (Or.inl rfl)) (np _ (Or.inl rfl)) (np _ (Or.inl rfl)) (np _ (Or.inl rfl)) (np _ (Or.inl rfl)) (np _ (Or.inl rfl)) (np _ (Or.inl rfl)) (np _ (Or.inl rfl)) (congrFun (mp _ rfl) 0) (congrFun (mp _ rfl) 0) (mp _ rfl) (mp _ rfl) (congrFun (mp _ rfl) 0) (mp _ rfl) (mp _ rfl) (mp _ rfl) (mp _ rfl) (mp _ rfl) (mp _ rfl) (mp _ rfl)
  · refine h.l.add ha (updN_o rfl (by decide) (by decide) (by decide) (by omega) (by simp)) n14 ?_ (fun f i a b c => updN_o (by
      rcases (show f = 20 ∨ f = 21 ∨ f = 22 ∨ f = 23 ∨ f = 24 ∨ f = 25 ∨ f = 26 ∨ f = 27 ∨ f = 28 from by omega) with rfl | rfl | rfl | rfl | rfl | rfl | rfl | rfl | rfl <;> rfl) (by omega) (by omega) (by omega) (by omega) (by omega)) ?_
    · rw [n15, ← hr]
      have := (ntN_e (N := tN N (k / 4)) (kd := 2) (t := t) (k := k) (by rw [tN_o rfl, tN_o rfl, hr]; exact h.l.1.2.2.2)).2
      rw [tN_o rfl] at this
      exact this
    · rw [hr] at n1 n2 n3 n4 n5 n6 n7 n8 n9
      unfold EntS
      rw [n1, n2, n3, n4, n5, n6, n7, n8, n9, m2, m3, m4, m5, m6, m7, m8, ha.1, hg]
      refine ⟨⟨by omega, rfl, rfl, rfl⟩, ⟨hpv.1.symm, ?_, rfl⟩, ?_, fun z => ?_, Or.inr ⟨by decide, rfl⟩, by rw [hpv.1]; exact b01_or _, hn, ⟨by decide, by decide⟩, fun z => by rcases z with z | z <;> exact absurd z (by decide)⟩
      · rw [hpv.2, hpv.1, show 4 * (k / 4) + k % 4 = k from by omega]
        by_cases c : bt (tN N (k / 4) 15 (k / 4)) k
        · rw [pick_t c, b01_t c, if_pos rfl]
        · rw [pick_f c, b01_f c, if_neg (by decide)]
      · rcases hn with rfl | rfl <;> simp
      · rw [hpv.2, z, if_neg (by decide)]
  · refine ⟨fun r a b c d => ?_, fun t' a b c => ?_⟩
    · rw [m1] at b
      rw [eLv] at d
      by_cases e : r = M 12 0
      · subst e
        rw [← hr, n10, n11, hr, m3]
        refine ⟨(b01_f (Und_last ha)).symm, ?_⟩
        exact Lnk.c (h.u.2 t ht.1 ht.2 hlv) (fun q x y => ⟨(kb q y).1, (kb q y).2, fun _ _ z => by rw [nu q y] at z; exact z⟩)
      · have b' : r < M 12 0 := by omega
        rw [(kb r b').1] at c
        rw [(kb r b').2] at d ⊢
        have hh := h.u.1 r a b' c d
        rw [nu r b', updN_o (f := 30) rfl (by decide) (by decide) (by decide) (by omega) (by simp)]
        refine ⟨hh.1.trans (b01_c ?_), Lnk.c hh.2 (fun q x y => ⟨(kb q (by omega)).1, (kb q (by omega)).2, fun _ _ z => by rw [nu q (by omega)] at z; exact z⟩)⟩
        rw [Und_add ha b', m2]
        simp
    · rw [eLv] at c
      have b : t' < M 22 0 := by rw [show s_upd M t k now v 22 0 = M 22 0 from upd_o rfl rfl] at b; exact b
      rw [m1]
      by_cases e : t' = t
      · subst e
        rw [n12, hr]
        refine ⟨Or.inr ⟨hR0, by omega, m2, m3⟩, fun q x y _ _ _ => by omega⟩
      · rw [updN_o (f := 36) rfl (by decide) (by decide) (by decide) (by omega) (fun z => e z.2)]
        have hl := Lnk.c (N' := updN N t k now v) (M' := s_upd M t k now v) (h.u.2 t' a b c) (fun q x y => ⟨(kb q y).1, (kb q y).2, fun _ _ z => by rw [nu q y] at z; exact z⟩)
        refine hl.mono (by omega) (fun q x y _ z _ => ?_)
        rw [show q = M 12 0 from by omega, m3] at z
        exact absurd z.symm e
  · have no : ∀ f : Nat, npF f = false → f ≠ 3 → f ≠ 50 → f ≠ 6 → ¬ (20 ≤ f ∧ f ≤ 30) → f ≠ 36 → updN N t k now v f = N f := fun f a b c d e g => funext fun i => updN_o a b c d (by omega) (fun z => g z.1)
    exact h.t.c (congrFun (no _ rfl (by decide) (by decide) (by decide) (by decide) (by decide)) 0) (congrFun (no _ rfl (by decide) (by decide) (by decide) (by decide) (by decide)) 0) (no _ rfl (by decide) (by decide) (by decide) (by decide) (by decide)) (no _ rfl (by decide) (by decide) (by decide) (by decide) (by decide)) (no _ rfl (by decide) (by decide) (by decide) (by decide) (by decide)) (no _ rfl (by decide) (by decide) (by decide) (by decide) (by decide)) (no _ rfl (by decide) (by decide) (by decide) (by decide) (by decide)) (no _ rfl (by decide) (by decide) (by decide) (by decide) (by decide)) (no _ rfl (by decide) (by decide) (by decide) (by decide) (by decide)) (no _ rfl (by decide) (by decide) (by decide) (by decide) (by decide)) (no _ rfl (by decide) (by decide) (by decide) (by decide) (by decide)) (no _ rfl (by decide) (by decide) (by decide) (by decide) (by decide)) (no _ rfl (by decide) (by decide) (by decide) (by decide) (by decide)) (upd_o rfl rfl) eP (mo _ rfl rfl) eS (mo _ rfl rfl) (mo _ rfl rfl) (mo _ rfl rfl) (mo _ rfl rfl)
  · refine ⟨?_, ?_, ?_⟩
    · rw [n13, h.cc.1]
      unfold opens
      rw [m1, cnt_s hR0]
      have ho : Opn (s_upd M t k now v) (M 12 0) := by
        unfold Opn
        rw [m2, m3, top_c eP, eS]
        refine ⟨rfl, ?_, ?_, Und_last ha⟩
        · rcases hlv with z | z <;> omega
        · rcases hlv with z | z <;> omega
      rw [b01_t ho, cnt_ext (P := Opn (s_upd M t k now v)) (P' := Opn M) (fun i a b => by
        unfold Opn
        rw [Und_add ha b, (kb i b).1, (kb i b).2, top_c eP, eS, m2]
        simp)]
    · rw [updN_o rfl (by decide) (by decide) (by decide) (by omega) (by simp), h.cc.2.1]
      exact (lives_c eS (upd_o rfl rfl)).symm
    · rw [updN_o rfl (by decide) (by decide) (by decide) (by omega) (by simp), h.cc.2.2]
      exact (upd_o rfl rfl).symm

