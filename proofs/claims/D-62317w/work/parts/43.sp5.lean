theorem SimP.c {N N' M M' : MSt} (h : SimP N M) (n1 : N' 1 0 = N 1 0) (n2 : N' 2 0 = N 2 0) (n3 : N' 5 0 = N 5 0) (n4 : N' 10 = N 10) (n5 : N' 11 = N 11) (n6 : N' 14 = N 14) (n7 : N' 12 = N 12) (n8 : N' 15 = N 15) (n9 : N' 18 = N 18) (n10 : N' 16 = N 16) (n11 : N' 17 = N 17)
    (m1 : M' 0 0 = M 0 0) (m2 : M' 13 0 = M 13 0) (m3 : M' 7 = M 7) (m4 : M' 9 = M 9) (m5 : M' 10 0 = M 10 0) (m6 : M' 1 = M 1) (m7 : M' 2 = M 2) (m8 : M' 3 = M 3) (m9 : M' 4 = M 4) (m10 : M' 5 = M 5) (m11 : M' 6 = M 6) (m12 : M' 8 = M 8) : SimP N' M' := by
  unfold SimP
  rw [n1, n2, n3, n4, n5, n6, n7, n8, n9, n10, n11, m1, m2, m3, m4, m5, m6, m7, m8, m9, m10, m11, m12, usd_c m3]
  exact h
def pst (N : MSt) (p k now v l : Int) : MSt := up (up (up (up N 15 p (sb (N 15 p) k now)) 18 (4 * p + k % 4) v) 16 p l) 17 p 1
theorem pst_o {N : MSt} {p k now v l i : Int} {f : Nat} (h : npF f = false) : pst N p k now v l f i = N f i := by
  simp only [npF, Bool.or_eq_false_iff, beq_eq_false_iff_ne, ne_eq] at h
  obtain ⟨⟨⟨⟨⟨⟨⟨⟨⟨⟨h1, h2⟩, h3⟩, h4⟩, h5⟩, h6⟩, h7⟩, h8⟩, h9⟩, h10⟩, h11⟩ := h
  unfold pst
  rw [up_ne (fun z => h10 z.1), up_ne (fun z => h9 z.1), up_ne (fun z => h11 z.1), up_ne (fun z => h8 z.1)]
theorem SimP_set {N M : MSt} {k now v v' l : Int} (h : SimP N M) (hk : 0 ≤ k ∧ k ≤ 31) (hi : M 7 (k / 4) = 1) (hn : now = 0 ∨ now = 1) (hv : now = 1 → v' = v) : SimP (pst N (k / 4) k now v l) (bcm M k now v' l) := by
  have hord := h.ord
  refine SimP.mk ?_ ⟨h.1.2.2, ?_, fun p a b c => ?_⟩
  · exact hord
  · exact h.2.2.2.2.1
  · have c : M 7 p = 1 := c
    obtain ⟨x1, x2⟩ := h.2.2.2.2.2 p a b c
    have eT : ∀ i, pst N (k / 4) k now v l 15 i = if i = k / 4 then sb (N 15 (k / 4)) k now else N 15 i := fun i => by simp [pst, up]
    have eL : ∀ i, pst N (k / 4) k now v l 16 i = if i = k / 4 then l else N 16 i := fun i => by simp [pst, up]
    have eV : ∀ i, pst N (k / 4) k now v l 18 i = if i = k then v else N 18 i := fun i => by
      have : 4 * (k / 4) + k % 4 = k := by omega
      simp [pst, up, this]
    have eD : ∀ i, pst N (k / 4) k now v l 17 i = if i = k / 4 then 1 else N 17 i := fun i => by simp [pst, up]
    have mT : ∀ i, bcm M k now v' l 4 i = if i = k then now else M 4 i := fun i => by simp [bcm, up]
    have mV : ∀ i, bcm M k now v' l 5 i = if i = k then (if now = 0 then 0 else v') else M 5 i := fun i => by simp [bcm, up]
    have mL : ∀ i, bcm M k now v' l 6 i = if i = k / 4 then l else M 6 i := fun i => by simp [bcm, up]
    have mD : ∀ i, bcm M k now v' l 8 i = if i = k / 4 then 1 else M 8 i := fun i => by simp [bcm, up]
    by_cases e : p = k / 4
    · subst e
      have hb := sb_bd (now := now) x1.1 hk.1
      refine ⟨⟨by rw [eT, if_pos rfl]; exact hb, by rw [eL, mL, if_pos rfl, if_pos rfl], fun j y z => ?_⟩, by rw [eD, mD, if_pos rfl, if_pos rfl]⟩
      have xj := x1.2.2 j y z
      have hs := sb_bt (th := N 15 (k / 4)) (k := k) (now := now) (j := j) x1.1 hk.1 (by omega) hn
      rw [eT, if_pos rfl, mT, mV, eV]
      by_cases w : j = k
      · subst w
        rw [if_pos rfl, if_pos rfl, if_pos rfl]
        rw [if_pos rfl] at hs
        rcases hn with rfl | rfl
        · exact ⟨(b01_f (fun q => by have := hs.mp q; omega)).symm, by rw [if_pos rfl, if_neg (by decide)]⟩
        · exact ⟨(b01_t (hs.mpr rfl)).symm, by rw [if_neg (by decide), if_pos rfl]; exact hv rfl⟩
      · rw [if_neg w, if_neg w, if_neg w]
        rw [if_neg (by omega)] at hs
        exact ⟨xj.1.trans (b01_c hs.symm), xj.2⟩
    · refine ⟨PgV.c x1 (by rw [eT, if_neg e]) (by rw [eL, if_neg e]) (by rw [mL, if_neg e]) (fun j y z => ?_), by rw [eD, mD, if_neg e, if_neg e]; exact x2⟩
      rw [eV, mT, mV, if_neg (by omega), if_neg (by omega), if_neg (by omega)]
      exact ⟨rfl, rfl, rfl⟩
theorem tch_self {M : MSt} {p : Int} (hp : M 7 p = 0 ∨ M 7 p = 1) : tch M p 7 p = 1 := by
  by_cases h : M 7 p = 1
  · rw [tch_in h, up_ne (by simp)]; exact h
  · by_cases hu : usd M = M 0 0
    · rw [tch_ev h hu, up_ne (by simp), ldp_if, if_pos rfl]
    · rw [tch_nw h hu, up_ne (by simp), ldp_if, if_pos rfl]
theorem ntN_o {N : MSt} {kd t k i : Int} {f : Nat} (h : f ≠ 3) (h2 : f ≠ 50) (h3 : ¬ (20 ≤ f ∧ f ≤ 30 ∧ i = N 3 0)) : ntN N kd t k f i = N f i := by
  unfold ntN
  rw [up_ne (fun z => h2 z.1), eS_o h3, up_ne (fun z => h z.1)]
theorem ntN_n (N : MSt) (kd t k : Int) : ntN N kd t k 3 0 = N 3 0 + 1 ∧ ntN N kd t k 20 (N 3 0) = N 4 0 + (N 3 0 + 1) ∧ ntN N kd t k 21 (N 3 0) = kd ∧ ntN N kd t k 22 (N 3 0) = t ∧ ntN N kd t k 23 (N 3 0) = k ∧ ntN N kd t k 24 (N 3 0) = 0 ∧ ntN N kd t k 25 (N 3 0) = 0 ∧ ntN N kd t k 26 (N 3 0) = 0 ∧ ntN N kd t k 27 (N 3 0) = 0 ∧ ntN N kd t k 28 (N 3 0) = -1 ∧ ntN N kd t k 29 (N 3 0) = 0 ∧ ntN N kd t k 30 (N 3 0) = -1 := by
  simp [ntN, eS, up]
theorem ntN_e {N : MSt} {kd t k : Int} (h : N 3 0 ≤ N 50 0) : N 50 0 ≤ ntN N kd t k 50 0 ∧ N 3 0 + 1 ≤ ntN N kd t k 50 0 := by
  have : ntN N kd t k 50 0 = if N 3 0 < N 50 0 then N 50 0 else N 3 0 + 1 := up_same _ _ _ _
  rw [this]
  split <;> omega
/-! s_upd, field by field -/
theorem upd_o {M : MSt} {t k now v i : Int} {f : Nat} (h : pgF f = false) (h2 : lgF f = false) : s_upd M t k now v f i = M f i := by
  unfold s_upd
  rw [bcm_o h, up_ne (fun q => by rw [q.1] at h2; cases h2), up_ne (fun q => by rw [q.1] at h2; cases h2), up_ne (fun q => by rw [q.1] at h2; cases h2), up_ne (fun q => by rw [q.1] at h2; cases h2), tch_o h, app_o h2]
theorem upd_l {M : MSt} {t k now v i : Int} {f : Nat} (h : pgF f = false) (hr : f ≠ 12) (hi : i ≠ M 12 0) : s_upd M t k now v f i = M f i := by
  unfold s_upd
  rw [bcm_o h, up_ne (fun q => hi q.2), up_ne (fun q => hi q.2), up_ne (fun q => hi q.2), up_ne (fun q => hi q.2), tch_o h, app_l hr hi]
theorem npg_lg {f : Nat} (h : npg f = false) : lgF f = false := by
  cases e : lgF f
  · rfl
  · exfalso
    simp only [lgF, Bool.or_eq_true, beq_iff_eq] at e
    rcases e with (((((((e | e) | e) | e) | e) | e) | e) | e) | e <;> subst e <;> revert h <;> decide
theorem app_np {M : MSt} {w t a i : Int} {f : Nat} (h : npg f = false) : app M w t a f i = M f i := app_o (npg_lg h)
theorem upd_n (M : MSt) (t k now v : Int) : s_upd M t k now v 12 0 = M 12 0 + 1 ∧ s_upd M t k now v 14 (M 12 0) = 2 ∧ s_upd M t k now v 15 (M 12 0) = t ∧ s_upd M t k now v 16 (M 12 0) = k ∧ s_upd M t k now v 18 (M 12 0) = tch M (k / 4) 4 k ∧ s_upd M t k now v 19 (M 12 0) = tch M (k / 4) 5 k ∧ s_upd M t k now v 20 (M 12 0) = now ∧ s_upd M t k now v 21 (M 12 0) = if now = 0 then 0 else v := by
  have e1 : tch (app M 2 t k) (k / 4) 4 = tch M (k / 4) 4 := tch_pg (fun f i h => app_np h) rfl
  have e2 : tch (app M 2 t k) (k / 4) 5 = tch M (k / 4) 5 := tch_pg (fun f i h => app_np h) rfl
  unfold s_upd
  rw [bcm_o rfl, bcm_o rfl, bcm_o rfl, bcm_o rfl, bcm_o rfl, bcm_o rfl, bcm_o rfl, bcm_o rfl, e1, e2]
  refine ⟨?_, ?_, ?_, ?_, ?_, ?_, ?_, ?_⟩
  · rw [up_ne (by simp), up_ne (by simp), up_ne (by simp), up_ne (by simp), tch_records]; rfl
  · rw [up_ne (by simp), up_ne (by simp), up_ne (by simp), up_ne (by simp), tch_kind]; exact app_kind M 2 t k
  · rw [up_ne (by simp), up_ne (by simp), up_ne (by simp), up_ne (by simp), tch_by]; exact app_by M 2 t k
  · rw [up_ne (by simp), up_ne (by simp), up_ne (by simp), up_ne (by simp), tch_about]; exact app_about M 2 t k
  · rw [up_ne (by simp), up_ne (by simp), up_ne (by simp), up_same]
  · rw [up_ne (by simp), up_ne (by simp), up_same]
  · rw [up_ne (by simp), up_same]
  · rw [up_same]
theorem bcm_c {K K' : MSt} {k now v l i : Int} {f : Nat} (h : K f i = K' f i) : bcm K k now v l f i = bcm K' k now v l f i := by
  simp only [bcm, up, h]
theorem upd_pg {M : MSt} {t k now v i : Int} {f : Nat} (h : npg f = false) : s_upd M t k now v f i = bcm (tch M (k / 4)) k now v (M 11 0 + M 12 0 + 1) f i := by
  unfold s_upd
  have hl := npg_lg h
  refine bcm_c ?_
  rw [up_ne (fun q => by rw [q.1] at hl; cases hl), up_ne (fun q => by rw [q.1] at hl; cases hl), up_ne (fun q => by rw [q.1] at hl; cases hl), up_ne (fun q => by rw [q.1] at hl; cases hl), tch_pg (fun f i h => app_np h) h]

