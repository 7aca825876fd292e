/-! copies of pages -/
def cD (N : MSt) (p : Int) : MSt := (up (up (up (up (up (up N 11 p (N 15 p)) 12 p (N 16 p)) 14 (4 * p + 0) (N 18 (4 * p + 0))) 14 (4 * p + 1) (N 18 (4 * p + 1))) 14 (4 * p + 2) (N 18 (4 * p + 2))) 14 (4 * p + 3) (N 18 (4 * p + 3)))
def cR (N : MSt) (p : Int) : MSt := (up (up (up (up (up (up N 15 p (N 11 p)) 16 p (N 12 p)) 18 (4 * p + 0) (N 14 (4 * p + 0))) 18 (4 * p + 1) (N 14 (4 * p + 1))) 18 (4 * p + 2) (N 14 (4 * p + 2))) 18 (4 * p + 3) (N 14 (4 * p + 3)))
def brg (N : MSt) (p : Int) : MSt := up (cD (up N 5 0 (if N 5 0 < N 16 p then N 16 p else N 5 0)) p) 17 p 0
def ldN (N : MSt) (p : Int) : MSt := up (cR N p) 17 p 0
theorem cD_o {N : MSt} {p i : Int} {f : Nat} (h1 : f ≠ 11) (h2 : f ≠ 12) (h3 : f ≠ 14) : cD N p f i = N f i := by
  unfold cD
  rw [up_ne (fun q => h3 q.1), up_ne (fun q => h3 q.1), up_ne (fun q => h3 q.1), up_ne (fun q => h3 q.1), up_ne (fun q => h2 q.1), up_ne (fun q => h1 q.1)]
theorem cD_t (N : MSt) (p i : Int) : cD N p 11 i = if i = p then N 15 p else N 11 i := by simp [cD, up]
theorem cD_l (N : MSt) (p i : Int) : cD N p 12 i = if i = p then N 16 p else N 12 i := by simp [cD, up]
theorem cD_v (N : MSt) (p i : Int) : cD N p 14 i = if 4 * p ≤ i ∧ i < 4 * p + 4 then N 18 i else N 14 i := by
  by_cases h : 4 * p ≤ i ∧ i < 4 * p + 4
  · rw [if_pos h]
    rcases (show i = 4 * p + 0 ∨ i = 4 * p + 1 ∨ i = 4 * p + 2 ∨ i = 4 * p + 3 from by omega) with rfl | rfl | rfl | rfl <;> first | (simp [cD, up]; done) | (simp [cD, up]; rw [if_neg (by omega), if_neg (by omega), if_neg (by omega)])
  · rw [if_neg h]
    unfold cD
    rw [up_ne (fun q => h (by omega)), up_ne (fun q => h (by omega)), up_ne (fun q => h (by omega)), up_ne (fun q => h (by omega)), up_ne (fun q => absurd q.1 (by decide)), up_ne (fun q => absurd q.1 (by decide))]
theorem cR_o {N : MSt} {p i : Int} {f : Nat} (h1 : f ≠ 15) (h2 : f ≠ 16) (h3 : f ≠ 18) : cR N p f i = N f i := by
  unfold cR
  rw [up_ne (fun q => h3 q.1), up_ne (fun q => h3 q.1), up_ne (fun q => h3 q.1), up_ne (fun q => h3 q.1), up_ne (fun q => h2 q.1), up_ne (fun q => h1 q.1)]
theorem cR_t (N : MSt) (p i : Int) : cR N p 15 i = if i = p then N 11 p else N 15 i := by simp [cR, up]
theorem cR_l (N : MSt) (p i : Int) : cR N p 16 i = if i = p then N 12 p else N 16 i := by simp [cR, up]
theorem cR_v (N : MSt) (p i : Int) : cR N p 18 i = if 4 * p ≤ i ∧ i < 4 * p + 4 then N 14 i else N 18 i := by
  by_cases h : 4 * p ≤ i ∧ i < 4 * p + 4
  · rw [if_pos h]
    rcases (show i = 4 * p + 0 ∨ i = 4 * p + 1 ∨ i = 4 * p + 2 ∨ i = 4 * p + 3 from by omega) with rfl | rfl | rfl | rfl <;> first | (simp [cR, up]; done) | (simp [cR, up]; rw [if_neg (by omega), if_neg (by omega), if_neg (by omega)])
  · rw [if_neg h]
    unfold cR
    rw [up_ne (fun q => h (by omega)), up_ne (fun q => h (by omega)), up_ne (fun q => h (by omega)), up_ne (fun q => h (by omega)), up_ne (fun q => absurd q.1 (by decide)), up_ne (fun q => absurd q.1 (by decide))]
/-! the pages' part -/
def PgS (N M : MSt) : Prop := N 5 0 = M 13 0 ∧
  (∀ p, 0 ≤ p → p < 8 → PgV (N 11) (N 14) (N 12) (M 1) (M 2) (M 3) p) ∧
  (∀ p, 0 ≤ p → p < 8 → M 7 p = 1 → PgV (N 15) (N 18) (N 16) (M 4) (M 5) (M 6) p ∧ N 17 p = M 8 p)
def OrdS (N M : MSt) : Prop := (N 1 0 = usd M ∧ N 2 0 = M 0 0) ∧
  (∀ i, 0 ≤ i → i < N 1 0 → (0 ≤ N 10 i ∧ N 10 i < 8) ∧ M 7 (N 10 i) = 1) ∧
  (∀ i j, 0 ≤ i → i < j → j < N 1 0 → M 9 (N 10 i) < M 9 (N 10 j)) ∧
  (∀ p, 0 ≤ p → p < 8 → (M 7 p = 0 ∨ M 7 p = 1) ∧ (M 7 p = 1 → (∃ i, 0 ≤ i ∧ i < N 1 0 ∧ N 10 i = p) ∧ M 9 p ≤ M 10 0))
theorem SimP.pg {N M : MSt} (h : SimP N M) : PgS N M := ⟨h.1.2.2, h.2.2.2.2.1, h.2.2.2.2.2⟩
theorem SimP.ord {N M : MSt} (h : SimP N M) : OrdS N M := ⟨⟨h.1.1, h.1.2.1⟩, h.2.1, h.2.2.1, h.2.2.2.1⟩
theorem SimP.mk {N M : MSt} (h : OrdS N M) (q : PgS N M) : SimP N M := ⟨⟨h.1.1, h.1.2, q.1⟩, h.2.1, h.2.2.1, h.2.2.2, q.2.1, q.2.2⟩
theorem PgV.c {th vs ls mt mv ml th' vs' ls' mt' mv' ml' : Int → Int} {p : Int} (h : PgV th vs ls mt mv ml p) (h1 : th' p = th p) (h2 : ls' p = ls p) (h3 : ml' p = ml p) (h4 : ∀ k, 4 * p ≤ k → k < 4 * p + 4 → vs' k = vs k ∧ mt' k = mt k ∧ mv' k = mv k) : PgV th' vs' ls' mt' mv' ml' p := by
  refine ⟨by rw [h1]; exact h.1, by rw [h2, h3]; exact h.2.1, fun k a b => ?_⟩
  obtain ⟨e1, e2, e3⟩ := h4 k a b
  rw [h1, e1, e2, e3]
  exact h.2.2 k a b
theorem PgS.c {N M N' M' : MSt} (h : PgS N M) (h1 : N' 5 0 = N 5 0) (h2 : N' 11 = N 11) (h3 : N' 14 = N 14) (h4 : N' 12 = N 12) (h5 : N' 15 = N 15) (h6 : N' 18 = N 18) (h7 : N' 16 = N 16) (h8 : N' 17 = N 17)
    (m1 : M' 13 0 = M 13 0) (m2 : M' 1 = M 1) (m3 : M' 2 = M 2) (m4 : M' 3 = M 3) (m5 : M' 4 = M 4) (m6 : M' 5 = M 5) (m7 : M' 6 = M 6) (m8 : M' 8 = M 8) (m9 : ∀ p, 0 ≤ p → p < 8 → M' 7 p = 1 → M 7 p = 1) : PgS N' M' := by
  unfold PgS
  rw [h1, h2, h3, h4, h5, h6, h7, h8, m1, m2, m3, m4, m5, m6, m7, m8]
  exact ⟨h.1, h.2.1, fun p a b q => h.2.2 p a b (m9 p a b q)⟩
theorem wrt_g {M : MSt} {p i : Int} {f : Nat} (h1 : f ≠ 13) (h2 : f ≠ 1) (h3 : f ≠ 2) (h4 : f ≠ 3) (h5 : f ≠ 8) : wrt M p f i = M f i := by
  unfold wrt
  rw [up_ne (fun q => h5 q.1), up_ne (fun q => h4 q.1)]
  unfold cpd
  rw [if_neg (fun q => h2 q.1), if_neg (fun q => h3 q.1), up_ne (fun q => h1 q.1)]
theorem PgS_brg {N M : MSt} {q : Int} (h : PgS N M) (h0 : 0 ≤ q ∧ q < 8) (hi : M 7 q = 1) : PgS (brg N q) (wrt M q) := by
  obtain ⟨f1, d1, r1⟩ := h
  obtain ⟨rq, rd⟩ := r1 q h0.1 h0.2 hi
  have ef : ∀ N1 : MSt, up N1 5 0 (if N 5 0 < N 16 q then N 16 q else N 5 0) = up N1 5 0 (if M 13 0 < M 6 q then M 6 q else M 13 0) := fun N1 => by rw [f1, rq.2.1]
  have g1 : ∀ (f : Nat) (i : Int), f ≠ 5 → f ≠ 11 → f ≠ 12 → f ≠ 14 → f ≠ 17 → brg N q f i = N f i := fun f i a b c d e => by
    unfold brg
    rw [up_ne (fun z => e z.1), cD_o b c d, up_ne (fun z => a z.1)]
  refine ⟨?_, fun p a b => ?_, fun p a b c => ?_⟩
  · unfold brg
    rw [up_ne (by simp), cD_o (by decide) (by decide) (by decide), ef, up_same]
    simp [wrt, up, cpd]
  · have eT : ∀ i, brg N q 11 i = if i = q then N 15 q else N 11 i := fun i => by
      unfold brg
      rw [up_ne (by simp), cD_t]; simp [up]
    have eL : ∀ i, brg N q 12 i = if i = q then N 16 q else N 12 i := fun i => by
      unfold brg
      rw [up_ne (by simp), cD_l]; simp [up]
    have eV : ∀ i, brg N q 14 i = if 4 * q ≤ i ∧ i < 4 * q + 4 then N 18 i else N 14 i := fun i => by
      unfold brg
      rw [up_ne (by simp), cD_v]; simp [up]
    have mT : ∀ i, wrt M q 1 i = if 4 * q ≤ i ∧ i < 4 * q + 4 then M 4 i else M 1 i := fun i => by simp [wrt, up, cpd]
    have mV : ∀ i, wrt M q 2 i = if 4 * q ≤ i ∧ i < 4 * q + 4 then M 5 i else M 2 i := fun i => by simp [wrt, up, cpd]
    have mL : ∀ i, wrt M q 3 i = if i = q then M 6 q else M 3 i := fun i => by simp [wrt, up, cpd]
    by_cases e : p = q
    · subst e
      refine PgV.c rq (by rw [eT, if_pos rfl]) (by rw [eL, if_pos rfl]) (by rw [mL, if_pos rfl]) (fun k x y => ?_)
      rw [eV, mT, mV, if_pos ⟨x, y⟩, if_pos ⟨x, y⟩, if_pos ⟨x, y⟩]
      exact ⟨rfl, rfl, rfl⟩
    · refine PgV.c (d1 p a b) (by rw [eT, if_neg e]) (by rw [eL, if_neg e]) (by rw [mL, if_neg e]) (fun k x y => ?_)
      rw [eV, mT, mV, if_neg (by omega), if_neg (by omega), if_neg (by omega)]
      exact ⟨rfl, rfl, rfl⟩
  · rw [wrt_g (by decide) (by decide) (by decide) (by decide) (by decide)] at c
    obtain ⟨x1, x2⟩ := r1 p a b c
    refine ⟨PgV.c x1 (g1 _ _ (by decide) (by decide) (by decide) (by decide) (by decide)) (g1 _ _ (by decide) (by decide) (by decide) (by decide) (by decide)) (wrt_g (by decide) (by decide) (by decide) (by decide) (by decide)) (fun k _ _ => ⟨g1 _ _ (by decide) (by decide) (by decide) (by decide) (by decide), wrt_g (by decide) (by decide) (by decide) (by decide) (by decide), wrt_g (by decide) (by decide) (by decide) (by decide) (by decide)⟩), ?_⟩
    by_cases e : p = q
    · subst e
      rw [show brg N p 17 p = 0 from by simp [brg, up], show wrt M p 8 p = 0 from by simp [wrt, up]]
    · rw [show brg N q 17 p = N 17 p from by unfold brg; rw [up_ne (fun z => e z.2), cD_o (by decide) (by decide) (by decide)]; simp [up], show wrt M q 8 p = M 8 p from by unfold wrt; rw [up_ne (fun z => e z.2)]; simp [up, cpd]]
      exact x2
theorem PgS.ld {N M : MSt} {q : Int} (h : PgS N M) (h0 : 0 ≤ q ∧ q < 8) : PgS (ldN N q) (ldp M q) := by
  obtain ⟨f1, d1, r1⟩ := h
  have dq := d1 q h0.1 h0.2
  have g1 : ∀ (f : Nat) (i : Int), f ≠ 15 → f ≠ 16 → f ≠ 18 → f ≠ 17 → ldN N q f i = N f i := fun f i a b c d => by
    unfold ldN
    rw [up_ne (fun z => d z.1), cR_o a b c]
  have g2 : ∀ (f : Nat) (i : Int), f ≠ 4 → f ≠ 5 → f ≠ 6 → f ≠ 8 → f ≠ 7 → ldp M q f i = M f i := fun f i a b c d e => by
    unfold ldp
    rw [up_ne (fun z => e z.1), up_ne (fun z => d z.1), up_ne (fun z => c z.1)]
    unfold cpu
    rw [if_neg (fun z => a z.1), if_neg (fun z => b z.1)]
  refine ⟨?_, fun p a b => ?_, fun p a b c => ?_⟩
  · rw [g1 _ _ (by decide) (by decide) (by decide) (by decide), g2 _ _ (by decide) (by decide) (by decide) (by decide) (by decide)]
    exact f1
  · exact PgV.c (d1 p a b) (g1 _ _ (by decide) (by decide) (by decide) (by decide)) (g1 _ _ (by decide) (by decide) (by decide) (by decide)) (g2 _ _ (by decide) (by decide) (by decide) (by decide) (by decide)) (fun k _ _ => ⟨g1 _ _ (by decide) (by decide) (by decide) (by decide), g2 _ _ (by decide) (by decide) (by decide) (by decide) (by decide), g2 _ _ (by decide) (by decide) (by decide) (by decide) (by decide)⟩)
  · have eT : ∀ i, ldN N q 15 i = if i = q then N 11 q else N 15 i := fun i => by unfold ldN; rw [up_ne (by simp), cR_t]
    have eL : ∀ i, ldN N q 16 i = if i = q then N 12 q else N 16 i := fun i => by unfold ldN; rw [up_ne (by simp), cR_l]
    have eV : ∀ i, ldN N q 18 i = if 4 * q ≤ i ∧ i < 4 * q + 4 then N 14 i else N 18 i := fun i => by unfold ldN; rw [up_ne (by simp), cR_v]
    have eD : ∀ i, ldN N q 17 i = if i = q then 0 else N 17 i := fun i => by
      unfold ldN
      by_cases e : i = q
      · rw [e, up_same, if_pos rfl]
      · rw [up_ne (fun z => e z.2), if_neg e, cR_o (by decide) (by decide) (by decide)]
    have mT : ∀ i, ldp M q 4 i = if 4 * q ≤ i ∧ i < 4 * q + 4 then M 1 i else M 4 i := fun i => by simp [ldp, up, cpu]
    have mV : ∀ i, ldp M q 5 i = if 4 * q ≤ i ∧ i < 4 * q + 4 then M 2 i else M 5 i := fun i => by simp [ldp, up, cpu]
    have mL : ∀ i, ldp M q 6 i = if i = q then M 3 q else M 6 i := fun i => by simp [ldp, up, cpu]
    have mD : ∀ i, ldp M q 8 i = if i = q then 0 else M 8 i := fun i => by simp [ldp, up, cpu]
    have mI : ∀ i, ldp M q 7 i = if i = q then 1 else M 7 i := fun i => by simp [ldp, up, cpu]
    by_cases e : p = q
    · subst e
      refine ⟨PgV.c dq (by rw [eT, if_pos rfl]) (by rw [eL, if_pos rfl]) (by rw [mL, if_pos rfl]) (fun k x y => ?_), by rw [eD, mD, if_pos rfl, if_pos rfl]⟩
      rw [eV, mT, mV, if_pos ⟨x, y⟩, if_pos ⟨x, y⟩, if_pos ⟨x, y⟩]
      exact ⟨rfl, rfl, rfl⟩
    · rw [mI, if_neg e] at c
      obtain ⟨x1, x2⟩ := r1 p a b c
      refine ⟨PgV.c x1 (by rw [eT, if_neg e]) (by rw [eL, if_neg e]) (by rw [mL, if_neg e]) (fun k x y => ?_), by rw [eD, mD, if_neg e, if_neg e]; exact x2⟩
      rw [eV, mT, mV, if_neg (by omega), if_neg (by omega), if_neg (by omega)]
      exact ⟨rfl, rfl, rfl⟩

