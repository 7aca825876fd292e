/-! a new transaction: what begin does -/
theorem topN_lt {M M' : MSt} (hp : ParOk M) (h : ∀ t, inM M t → M' 24 t = M 24 t) : ∀ (n : Nat) (t : Int), inM M t → topN M' n t = topN M n t := by
  intro n
  induction n with
  | zero => intro t _; rfl
  | succ n ih =>
    intro t ht
    unfold topN
    rw [h t ht]
    split
    · next q => exact ih _ ⟨q, by have := hp.2.2 t ht.1 ht.2; have := ht.2; omega⟩
    · rfl
theorem depN_lt {M M' : MSt} (hp : ParOk M) (h : ∀ t, inM M t → M' 24 t = M 24 t) : ∀ (n : Nat) (t : Int), t < M 22 0 → depN M' n t = depN M n t := by
  intro n
  induction n with
  | zero => intro t _; rfl
  | succ n ih =>
    intro t ht
    unfold depN
    split
    · next q =>
      rw [h t ⟨q, ht⟩, ih _ (by have := hp.2.2 t q ht; omega)]
    · rfl
theorem ndp_lt {M M' : MSt} (hp : ParOk M) (h : ∀ t, inM M t → M' 24 t = M 24 t) : ∀ (n : Nat) (t : Int), t < M 22 0 → (ndp M' n t ↔ ndp M n t) := by
  intro n
  induction n with
  | zero => intro t _; exact Iff.rfl
  | succ n ih =>
    intro t ht
    unfold ndp
    by_cases q : t < 0
    · exact ⟨fun _ => Or.inl q, fun _ => Or.inl q⟩
    · rw [h t ⟨by omega, ht⟩, ih _ (by have := hp.2.2 t (by omega) ht; omega)]
theorem abvN_lt {M M' : MSt} (hp : ParOk M) (h : ∀ t, inM M t → M' 24 t = M 24 t) (a : Int) : ∀ (n : Nat) (t : Int), t < M 22 0 → (abvN M' a n t ↔ abvN M a n t) := by
  intro n
  induction n with
  | zero => intro t _; exact Iff.rfl
  | succ n ih =>
    intro t ht
    unfold abvN
    by_cases q : t < 0
    · exact ⟨fun z => absurd z.1 (by omega), fun z => absurd z.1 (by omega)⟩
    · rw [h t ⟨by omega, ht⟩, ih _ (by have := hp.2.2 t (by omega) ht; omega)]
theorem depN_ndp {M : MSt} : ∀ (n k : Nat) (x : Int), depN M n x ≤ k → k < n → ndp M k x := by
  intro n
  induction n with
  | zero => intro k x _ h; omega
  | succ n ih =>
    intro k x h hk
    unfold depN at h
    by_cases q : 0 ≤ x
    · rw [if_pos q] at h
      have := (depN_le (M := M) n (M 24 x)).1
      obtain ⟨k', rfl⟩ : ∃ k', k = k' + 1 := ⟨k - 1, by omega⟩
      exact Or.inr (ih k' _ (by omega) (by omega))
    · cases k with
      | zero => show x < 0; omega
      | succ k => exact Or.inl (by omega)
theorem bgn_o {M : MSt} {p i : Int} {f : Nat} (h : lgF f = false) (h1 : ¬ (f = 23 ∧ i = M 22 0)) (h2 : ¬ (f = 24 ∧ i = M 22 0)) (h3 : ¬ (f = 25 ∧ i = M 22 0)) (h4 : f ≠ 22) : bgn M p f i = M f i := by
  unfold bgn
  rw [up_ne (fun z => h4 z.1), up_ne h3, app_o h, up_ne h2, up_ne h1]
theorem bgn_l {M : MSt} {p i : Int} {f : Nat} (h : lgF f = true) (hr : f ≠ 12) (hi : i ≠ M 12 0) : bgn M p f i = M f i := by
  have nn : ∀ k : Nat, lgF k = false → f ≠ k := fun k a e => by rw [e, a] at h; cases h
  unfold bgn
  rw [up_ne (fun z => nn 22 rfl z.1), up_ne (fun z => nn 25 rfl z.1), app_l hr (by rw [up_ne (by simp), up_ne (by simp)]; exact hi), up_ne (fun z => nn 24 rfl z.1), up_ne (fun z => nn 23 rfl z.1)]
theorem bgn_n (M : MSt) (p : Int) : bgn M p 12 0 = M 12 0 + 1 ∧ bgn M p 14 (M 12 0) = 1 ∧ bgn M p 15 (M 12 0) = M 22 0 ∧ bgn M p 16 (M 12 0) = p ∧ bgn M p 18 (M 12 0) = 0 ∧ bgn M p 19 (M 12 0) = 0 ∧ bgn M p 20 (M 12 0) = 0 ∧ bgn M p 21 (M 12 0) = 0 := by
  unfold bgn
  refine ⟨?_, ?_, ?_, ?_, ?_, ?_, ?_, ?_⟩ <;> rw [up_ne (by simp), up_ne (by simp)] <;> simp [app, up]
theorem bgn_many (M : MSt) (p : Int) : bgn M p 22 0 = M 22 0 + 1 := up_same _ _ _ _
theorem bgn_state (M : MSt) (p i : Int) : bgn M p 23 i = if i = M 22 0 then 1 else M 23 i := by
  unfold bgn
  rw [up_ne (by simp), up_ne (by simp), app_o rfl, up_ne (by simp)]
  by_cases e : i = M 22 0
  · rw [e, up_same, if_pos rfl]
  · rw [up_ne (fun z => e z.2), if_neg e]
theorem bgn_parent (M : MSt) (p i : Int) : bgn M p 24 i = if i = M 22 0 then p else M 24 i := by
  unfold bgn
  rw [up_ne (by simp), up_ne (by simp), app_o rfl]
  by_cases e : i = M 22 0
  · rw [e, up_same, if_pos rfl]
  · rw [up_ne (fun z => e z.2), up_ne (by simp), if_neg e]
theorem bgn_began (M : MSt) (p i : Int) : bgn M p 25 i = if i = M 22 0 then M 11 0 + M 12 0 + 1 else M 25 i := by
  unfold bgn
  rw [up_ne (by simp)]
  by_cases e : i = M 22 0
  · rw [e, up_same, if_pos rfl]
  · rw [up_ne (fun z => e z.2), app_o rfl, up_ne (by simp), up_ne (by simp), if_neg e]
theorem bgn_add (M : MSt) (p : Int) : Add M (bgn M p) := ⟨bgn_o rfl (by simp) (by simp) (by simp) (by decide), (bgn_n M p).1, fun f i a b c => bgn_l a b c⟩
theorem bgn_plt {M : MSt} (p : Int) : ∀ t, inM M t → bgn M p 24 t = M 24 t := fun t h => by rw [bgn_parent, if_neg (by have := h.2; omega)]
theorem bgn_top {M : MSt} (hp : ParOk M) (p : Int) {t : Int} (h : inM M t) : top (bgn M p) t = top M t := topN_lt hp (bgn_plt p) 4 t h
theorem bgn_dep {M : MSt} (hp : ParOk M) (p : Int) {t : Int} (h : inM M t) : dep (bgn M p) t = dep M t := by
  have h1 := hp.2.2 t h.1 h.2
  have h2 := h.2
  unfold dep
  rw [bgn_plt p t h, depN_lt hp (bgn_plt p) 4 _ (by omega)]
/-- who may be a parent -/
def BgOk (M : MSt) (p : Int) : Prop := p = -1 ∨ (inM M p ∧ M 23 p = 1 ∧ dep M p < 4)
theorem bgn_topN {M : MSt} (hp : ParOk M) {p : Int} (h : BgOk M p) : top (bgn M p) (M 22 0) = if p < 0 then M 22 0 else top M p := by
  show topN _ 4 _ = _
  unfold topN
  rw [bgn_parent, if_pos rfl]
  rcases h with rfl | ⟨h1, h2, h3⟩
  · rw [if_neg (by decide), if_pos (by decide)]
  · have := h1.1
    rw [if_pos h1.1, if_neg (by omega), topN_lt hp (bgn_plt p) 3 p h1]
    refine (topN_s 3 p ?_ h1.1).symm
    unfold dep at h3
    exact Or.inr (depN_ndp 4 2 _ (by omega) (by decide))
theorem bgn_depN {M : MSt} (hp : ParOk M) {p : Int} (h : BgOk M p) : dep (bgn M p) (M 22 0) = if p < 0 then 1 else dep M p + 1 := by
  unfold dep
  rw [bgn_parent, if_pos rfl]
  rcases h with rfl | ⟨h1, h2, h3⟩
  · rw [if_pos (by decide), depN_lt hp (bgn_plt (-1)) 4 _ (by have := hp.1; omega)]
    unfold depN
    rw [if_neg (by decide)]
    rfl
  · have := h1.1
    unfold dep at h3
    have h4 : ndp M 3 p := Or.inr (depN_ndp 4 2 _ (by omega) (by decide))
    rw [if_neg (by omega), depN_lt hp (bgn_plt p) 4 _ h1.2, depN_s 3 p h4]
    have e : depN M 3 p = 1 + depN M 2 (M 24 p) := by
      show (if 0 ≤ p then 1 + depN M 2 (M 24 p) else 0) = _
      rw [if_pos h1.1]
    have h5 : ndp M 2 (M 24 p) := depN_ndp 4 2 _ (by omega) (by decide)
    have e1 : depN M 3 (M 24 p) = depN M 2 (M 24 p) := depN_s 2 _ h5
    have e2 : depN M 4 (M 24 p) = depN M 3 (M 24 p) := depN_s 3 _ (ndp_s 2 _ h5)
    omega
theorem bgn_ndp {M : MSt} (hp : ParOk M) {p : Int} (h : BgOk M p) : ndp (bgn M p) 4 (M 22 0) := by
  refine Or.inr ?_
  rw [bgn_parent, if_pos rfl]
  rcases h with rfl | ⟨h1, h2, h3⟩
  · exact Or.inl (by decide)
  · unfold dep at h3
    exact (ndp_lt hp (bgn_plt p) 3 p h1.2).mpr (Or.inr (depN_ndp 4 2 _ (by omega) (by decide)))
theorem bgn_lives {M : MSt} (h0 : 0 ≤ M 22 0) (p : Int) : lives (bgn M p) = lives M + 1 := by
  unfold lives
  rw [bgn_many, cnt_s h0, b01_t (show Liv (bgn M p) (M 22 0) from Or.inl (by rw [bgn_state, if_pos rfl]))]
  rw [cnt_ext (P := Liv (bgn M p)) (P' := Liv M) (fun i a b => by unfold Liv; rw [bgn_state, if_neg (by omega)])]
theorem bgn_Und {M : MSt} (p : Int) {r : Int} (h : r < M 12 0) : Und (bgn M p) r ↔ Und M r := by
  rw [Und_add (bgn_add M p) h]
  exact ⟨fun z => by rcases z with z | z; exact z; rw [(bgn_n M p).2.1] at z; exact absurd z.1 (by decide), Or.inl⟩
theorem bgn_kb {M : MSt} (p : Int) {q : Int} (z : q < M 12 0) : bgn M p 14 q = M 14 q ∧ bgn M p 15 q = M 15 q := ⟨bgn_l rfl (by decide) (by omega), bgn_l rfl (by decide) (by omega)⟩
theorem bgn_Opn {M : MSt} (hw : WF M) (p : Int) {r : Int} (h0 : 0 ≤ r) (h : r < M 12 0) : Opn (bgn M p) r ↔ Opn M r := by
  have hb := hw.bys r h0 h
  have ht := top_bd hw.par hb.1 hb.2
  unfold Opn
  rw [(bgn_kb p h).1, (bgn_kb p h).2, bgn_top hw.par p hb, bgn_state, if_neg (by omega), bgn_Und p h]
theorem bgn_opens {M : MSt} (hw : WF M) (p : Int) : opens (bgn M p) = opens M := by
  unfold opens
  rw [(bgn_n M p).1, cnt_s hw.recs.1, b01_f (show ¬ Opn (bgn M p) (M 12 0) from fun z => by have := z.1; rw [(bgn_n M p).2.1] at this; exact absurd this (by decide))]
  rw [cnt_ext (P := Opn (bgn M p)) (P' := Opn M) (fun i a b => bgn_Opn hw p a b)]
  omega
/-! the store's side -/
def nTv (N : MSt) (q b : Int) (f : Nat) : Int := match f with
  | 31 => q
  | 32 => if q < 0 then N 51 0 else N 32 q
  | 33 => if q < 0 then 1 else N 33 q + 1
  | 34 => b
  | 35 => 1
  | 38 => if q < 0 then -1 else N 37 q
  | _ => -1
/-- one more transaction, under q, born b -/
def nT (N : MSt) (q b : Int) (f : Nat) (i : Int) : Int := if f = 51 ∧ i = 0 then N 51 0 + 1 else if f = 37 ∧ i = q ∧ 0 ≤ q then N 51 0 else if fTg f = 11 ∧ i = N 51 0 then nTv N q b f else if f = 39 ∧ 33 * N 51 0 ≤ i ∧ i < 33 * N 51 0 + 33 then 0 else if f = 40 ∧ i = N 51 0 then 0 else N f i
theorem nT_o {N : MSt} {q b i : Int} {f : Nat} (h1 : f ≠ 51) (h2 : ¬ (f = 37 ∧ i = q)) (h3 : fTg f ≠ 11 ∨ i ≠ N 51 0) (h4 : f ≠ 39 ∨ i < 33 * N 51 0 ∨ 33 * N 51 0 + 33 ≤ i) (h5 : f ≠ 40 ∨ i ≠ N 51 0) : nT N q b f i = N f i := by
  unfold nT
  rw [if_neg (fun z => h1 z.1), if_neg (fun z => h2 ⟨z.1, z.2.1⟩), if_neg (fun z => by rcases h3 with h | h; exact h z.1; exact h z.2), if_neg (fun z => by omega), if_neg (fun z => by omega)]
theorem nT_v {N : MSt} {q b : Int} {f : Nat} (h : fTg f = 11) (hq : q < N 51 0) : nT N q b f (N 51 0) = nTv N q b f := by
  unfold nT
  rw [if_neg (fun z => by rw [z.1] at h; cases h), if_neg (fun z => by omega), if_pos ⟨h, rfl⟩]
def bgN (N : MSt) (p : Int) : MSt := up (up (up (ntN (nT N p (N 4 0 + N 3 0 + 1)) 1 (N 51 0) 0) 23 (N 3 0) p) 8 0 (N 8 0 + 1)) 7 0 (N 7 0 + 1)
def LkZ (M : MSt) : Prop := ∀ i, 33 * M 22 0 ≤ i → M 26 i = 0
theorem bgN_o {N : MSt} {p i : Int} {f : Nat} (h1 : f ≠ 3) (h2 : f ≠ 50) (h3 : ¬ (20 ≤ f ∧ f ≤ 30 ∧ i = N 3 0)) (h4 : f ≠ 8) (h5 : f ≠ 7) : bgN N p f i = nT N p (N 4 0 + N 3 0 + 1) f i := by
  have er : nT N p (N 4 0 + N 3 0 + 1) 3 0 = N 3 0 := nT_o (by decide) (by simp) (Or.inl (by decide)) (Or.inl (by decide)) (Or.inl (by decide))
  unfold bgN
  rw [up_ne (fun z => h5 z.1), up_ne (fun z => h4 z.1), up_ne (fun z => h3 ⟨by omega, by omega, z.2⟩), ntN_o h1 h2 (by rw [er]; exact h3)]
theorem Sim_bgn {N M : MSt} {p : Int} (h : Sim N M) (hw : WF M) (hz : LkZ M) (hb : BgOk M p) : Sim (bgN N p) (bgn M p) := by
  have hr : N 3 0 = M 12 0 := h.l.1.2.1
  have hg : N 4 0 = M 11 0 := h.l.1.1
  have hnt : N 51 0 = M 22 0 := h.t.1.2
  have hR0 := h.l.1.2.2.1
  have ha := bgn_add M p
  have hm0 := hw.par.1
  have hplt : p < M 22 0 := by rcases hb with rfl | z; omega; exact z.1.2
  obtain ⟨m1, m2, m3, z1, z2, z3, z4, z5⟩ := bgn_n M p
  have fr : ∀ f : Nat, f ≠ 51 → f ≠ 37 → fTg f ≠ 11 → f ≠ 39 → f ≠ 40 → ∀ (b : Int) i, nT N p b f i = N f i := fun f a1 a2 a3 a4 a5 b i => nT_o a1 (fun z => a2 z.1) (Or.inl a3) (Or.inl a4) (Or.inl a5)
  have er : ∀ b, nT N p b 3 0 = N 3 0 := fun b => fr _ (by decide) (by decide) (by decide) (by decide) (by decide) b 0
  have eg : ∀ b, nT N p b 4 0 = N 4 0 := fun b => fr _ (by decide) (by decide) (by decide) (by decide) (by decide) b 0
  have en : ∀ b, nT N p b 50 0 = N 50 0 := fun b => fr _ (by decide) (by decide) (by decide) (by decide) (by decide) b 0
  have q := ntN_n (nT N p (N 4 0 + N 3 0 + 1)) 1 (N 51 0) 0
  rw [er, eg] at q
  have gl : ∀ (f : Nat), 20 ≤ f → f ≤ 30 → f ≠ 23 → ∀ i, bgN N p f i = ntN (nT N p (N 4 0 + N 3 0 + 1)) 1 (N 51 0) 0 f i := fun f a b c i => by
    unfold bgN
    rw [up_ne (by omega), up_ne (by omega), up_ne (by omega)]
  have no : ∀ f : Nat, f ≠ 3 → f ≠ 50 → ¬ (20 ≤ f ∧ f ≤ 30) → f ≠ 8 → f ≠ 7 → f ≠ 51 → f ≠ 37 → fTg f ≠ 11 → f ≠ 39 → f ≠ 40 → bgN N p f = N f := fun f a b c d e g1 g2 g3 g4 g5 => funext fun i => (bgN_o a b (fun z => c ⟨z.1, z.2.1⟩) d e).trans (fr f g1 g2 g3 g4 g5 _ i)
  have lo : ∀ (f : Nat) (i : Int), fTg f = 11 → ¬ (f = 37 ∧ i = p) → i < M 22 0 → bgN N p f i = N f i := fun f i a b c => by
    have nf : ∀ k : Nat, fTg k ≠ 11 → f ≠ k := fun k x e => by rw [e] at a; exact x a
    have hk : ¬ (20 ≤ f ∧ f ≤ 30 ∧ i = N 3 0) := fun z => by
      have h1 : ∀ f, f < 31 → fTg f ≠ 11 := by decide +kernel
      exact h1 f (by omega) a
    rw [bgN_o (nf _ (by decide)) (nf _ (by decide)) hk (nf _ (by decide)) (nf _ (by decide))]
    exact nT_o (nf _ (by decide)) b (Or.inr (by omega)) (Or.inl (nf _ (by decide))) (Or.inl (nf _ (by decide)))
  have nw : ∀ (f : Nat), fTg f = 11 → bgN N p f (M 22 0) = nTv N p (N 4 0 + N 3 0 + 1) f := fun f a => by
    have nf : ∀ k : Nat, fTg k ≠ 11 → f ≠ k := fun k x e => by rw [e] at a; exact x a
    have hk : ¬ (20 ≤ f ∧ f ≤ 30 ∧ M 22 0 = N 3 0) := fun z => by
      have h1 : ∀ f, f < 31 → fTg f ≠ 11 := by decide +kernel
      exact h1 f (by omega) a
    rw [bgN_o (nf _ (by decide)) (nf _ (by decide)) hk (nf _ (by decide)) (nf _ (by decide)), ← hnt]
    exact nT_v a (by omega)
  have mo : ∀ f : Nat, lgF f = false → f ≠ 23 → f ≠ 24 → f ≠ 25 → f ≠ 22 → bgn M p f = M f := fun f a b c d e => funext fun i => bgn_o a (fun z => b z.1) (fun z => c z.1) (fun z => d z.1) e
  have eLv : ∀ x, inM M x → LvT (bgn M p) x → LvT M x := fun x hx => by
    have := top_bd hw.par hx.1 hx.2
    have := hx.2
    unfold LvT Liv
    rw [bgn_top hw.par p hx, bgn_state, if_neg (by omega)]
    exact id
  have nu : ∀ q, q < M 12 0 → bgN N p 29 q = N 29 q := fun q z => by
    rw [bgN_o (by decide) (by decide) (by omega) (by decide) (by decide)]
    exact fr _ (by decide) (by decide) (by decide) (by decide) (by decide) _ _
  have nfo : ∀ q, q < M 12 0 → bgN N p 30 q = N 30 q := fun q z => by
    rw [bgN_o (by decide) (by decide) (by omega) (by decide) (by decide)]
    exact fr _ (by decide) (by decide) (by decide) (by decide) (by decide) _ _
  refine ⟨?_, ?_, ⟨fun r a b c d => ?_, fun t' a b c => ?_⟩, ⟨⟨?_, ?_⟩, fun t' a b => ?_⟩, ?_, ?_, ?_⟩
  · exact h.p.c (congrFun (no _ (by decide) (by decide) (by decide) (by decide) (by decide) (by decide) (by decide) (by decide) (by decide) (by decide)) 0) (congrFun (no _ (by decide) (by decide) (by decide) (by decide) (by decide) (by decide) (by decide) (by decide) (by decide) (by decide)) 0) (congrFun (no _ (by decide) (by decide) (by decide) (by decide) (by decide) (by decide) (by decide) (by decide) (by decide) (by decide)) 0) (no _ (by decide) (by decide) (by decide) (by decide) (by decide) (by decide) (by decide) (by decide) (by decide) (by decide)) (no _ (by decide) (by decide) (by decide) (by decide) (by decide) (by decide) (by decide) (by decide) (by decide) (by decide)) (no _ (by decide) (by decide) (by decide) (by decide) (by decide) (by decide) (by decide) (by decide) (by decide) (by decide)) (no _ (by decide) (by decide) (by decide) (by decide) (by decide) (by decide) (by decide) (by decide) (by decide) (by decide)) (no _ (by decide) (by decide) (by decide) (by decide) (by decide) (by decide) (by decide) (by decide) (by decide) (by decide)) (no _ (by decide) (by decide) (by decide) (by decide) (by decide) (by decide) (by decide) (by decide) (by decide) (by decide)) (no _ (by decide) (by decide) (by decide) (by decide) (by decide) (by decide) (by decide) (by decide) (by decide) (by decide)) (no _ (by decide) (by decide) (by decide) (by decide) (by decide) (by decide) (by decide) (by decide) (by decide) (by decide))
      (congrFun (mo _ rfl (by decide) (by decide) (by decide) (by decide)) 0) (congrFun (mo _ rfl (by decide) (by decide) (by decide) (by decide)) 0) (mo _ rfl (by decide) (by decide) (by decide) (by decide)) (mo _ rfl (by decide) (by decide) (by decide) (by decide)) (congrFun (mo _ rfl (by decide) (by decide) (by decide) (by decide)) 0) (mo _ rfl (by decide) (by decide) (by decide) (by decide)) (mo _ rfl (by decide) (by decide) (by decide) (by decide)) (mo _ rfl (by decide) (by decide) (by decide) (by decide)) (mo _ rfl (by decide) (by decide) (by decide) (by decide)) (mo _ rfl (by decide) (by decide) (by decide) (by decide)) (mo _ rfl (by decide) (by decide) (by decide) (by decide)) (mo _ rfl (by decide) (by decide) (by decide) (by decide))
  · refine h.l.add ha (congrFun (no _ (by decide) (by decide) (by decide) (by decide) (by decide) (by decide) (by decide) (by decide) (by decide) (by decide)) 0) ?_ ?_ (fun f i a b c => ?_) ?_
    · unfold bgN; rw [up_ne (by simp), up_ne (by simp), up_ne (by simp)]; exact q.1
    · unfold bgN
      rw [up_ne (by simp), up_ne (by simp), up_ne (by simp)]
      have := (ntN_e (N := nT N p (N 4 0 + N 3 0 + 1)) (kd := 1) (t := N 51 0) (k := 0) (by rw [er, en, hr]; exact h.l.1.2.2.2)).2
      rw [er] at this
      omega
    · rw [bgN_o (by omega) (by omega) (by omega) (by omega) (by omega)]
      have h1 : ∀ f, f < 31 → fTg f ≠ 11 := by decide +kernel
      exact fr f (by omega) (by omega) (h1 f (by omega)) (by omega) (by omega) _ _
    · obtain ⟨q1, q2, q3, q4, q5, q6, q7, q8, q9, q10, q11, q12⟩ := q
      rw [hr] at q2 q3 q4 q5 q6 q7 q8 q9 q10
      have ek : bgN N p 23 (M 12 0) = p := by
        unfold bgN
        rw [up_ne (by simp), up_ne (by simp), hr, up_same]
      unfold EntS
      rw [gl 20 (by decide) (by decide) (by decide), gl 21 (by decide) (by decide) (by decide), gl 22 (by decide) (by decide) (by decide), ek, gl 24 (by decide) (by decide) (by decide), gl 25 (by decide) (by decide) (by decide), gl 26 (by decide) (by decide) (by decide), gl 27 (by decide) (by decide) (by decide), gl 28 (by decide) (by decide) (by decide), hr, q2, q3, q4, q6, q7, q8, q9, q10, m2, m3, z1, z2, z3, z4, z5, ha.1, hg]
      exact ⟨⟨by omega, rfl, hnt, rfl⟩, ⟨rfl, rfl, rfl⟩, by rw [if_neg (by decide)], fun _ => rfl, Or.inr ⟨by decide, rfl⟩, Or.inl rfl, Or.inl rfl, ⟨by decide, by decide⟩, fun z => by rcases z with z | z <;> exact absurd z (by decide)⟩
  · rw [m1] at b
    by_cases e : r = M 12 0
    · rw [e, m2] at c; exact absurd c (by decide)
    · have b' : r < M 12 0 := by omega
      rw [(bgn_kb p b').1] at c
      rw [(bgn_kb p b').2] at d ⊢
      have hh := h.u.1 r a b' c (eLv _ (hw.bys r a b') d)
      rw [nu r b', nfo r b']
      exact ⟨hh.1.trans (b01_c (bgn_Und p b').symm), Lnk.c hh.2 (fun q x y => ⟨(bgn_kb p (by omega)).1, (bgn_kb p (by omega)).2, fun _ _ z => by rw [nu q (by omega)] at z; exact z⟩)⟩
  · rw [bgn_many] at b
    rw [m1]
    by_cases e : t' = M 22 0
    · rw [e, nw 36 rfl]
      refine ⟨Or.inl rfl, fun q x y z w _ => ?_⟩
      by_cases e2 : q = M 12 0
      · rw [e2, m2] at z; exact absurd z (by decide)
      · rw [(bgn_kb p (by omega)).2] at w
        have := (hw.bys q x (by omega)).2
        omega
    · rw [lo 36 t' rfl (by simp) (by omega)]
      have hl2 := Lnk.c (N' := bgN N p) (M' := bgn M p) (h.u.2 t' a (by omega) (eLv _ ⟨a, by omega⟩ c)) (fun q x y => ⟨(bgn_kb p y).1, (bgn_kb p y).2, fun _ _ z => by rw [nu q y] at z; exact z⟩)
      refine hl2.mono (by omega) (fun q x y z _ _ => ?_)
      rw [show q = M 12 0 from by omega, m2] at z
      exact absurd z (by decide)
  · rw [bgn_many]
    unfold bgN
    rw [up_ne (by simp), up_same, h.t.1.1]
  · rw [bgn_many, bgN_o (by decide) (by decide) (by omega) (by decide) (by decide)]
    show (if _ then _ else _) = _
    rw [if_pos ⟨rfl, rfl⟩, hnt]
  · rw [bgn_many] at b
    have eL : ∀ i, bgN N p 39 i = nT N p (N 4 0 + N 3 0 + 1) 39 i := fun i => bgN_o (by decide) (by decide) (by omega) (by decide) (by decide)
    have eQ : ∀ (f : Nat) i, f = 41 ∨ f = 42 → bgN N p f i = N f i := fun f i hf => by
      rcases hf with rfl | rfl <;> (rw [bgN_o (by decide) (by decide) (by omega) (by decide) (by decide)]; exact fr _ (by decide) (by decide) (by decide) (by decide) (by decide) _ _)
    have eA : ∀ i, i < M 22 0 → bgN N p 40 i = N 40 i := fun i hi => by
      rw [bgN_o (by decide) (by decide) (by omega) (by decide) (by decide)]
      exact nT_o (by decide) (by simp) (Or.inl (by decide)) (Or.inl (by decide)) (Or.inr (by omega))
    have cP : bgN N p 37 p = M 22 0 ∨ p < 0 := by
      rcases hb with rfl | hb
      · exact Or.inr (by decide)
      · refine Or.inl ?_
        rw [bgN_o (by decide) (by decide) (by omega) (by decide) (by decide)]
        show (if _ then _ else _) = _
        rw [if_neg (by simp), if_pos ⟨rfl, rfl, hb.1.1⟩, hnt]
    by_cases e : t' = M 22 0
    · subst e
      unfold TrS
      rw [nw 31 rfl, nw 32 rfl, nw 33 rfl, nw 34 rfl, nw 35 rfl, nw 37 rfl, nw 38 rfl, bgn_parent, if_pos rfl, bgn_topN hw.par hb, bgn_depN hw.par hb, bgn_began, if_pos rfl, bgn_state, if_pos rfl, bgn_many]
      refine ⟨⟨rfl, ?_, ?_, ?_, rfl⟩, fun i x y => ?_, Or.inl ⟨rfl, fun u x y => ?_⟩, fun hp0 => ?_, fun z => absurd z (by decide)⟩
      · show (if p < 0 then N 51 0 else N 32 p) = _
        rcases hb with rfl | hb
        · rw [if_pos (by decide), if_pos (by decide), hnt]
        · have := hb.1.1
          rw [if_neg (by omega), if_neg (by omega)]
          exact (h.t.2 p hb.1.1 hb.1.2).1.2.1
      · show (if p < 0 then 1 else N 33 p + 1) = _
        rcases hb with rfl | hb
        · rw [if_pos (by decide), if_pos (by decide)]
        · have := hb.1.1
          rw [if_neg (by omega), if_neg (by omega), (h.t.2 p hb.1.1 hb.1.2).1.2.2.1]
      · show N 4 0 + N 3 0 + 1 = _
        rw [hr, hg]
      · rw [eL, bgn_o rfl (by simp) (by simp) (by simp) (by decide), hz _ (by omega)]
        unfold nT
        rw [if_neg (by simp), if_neg (by simp), if_neg (fun z => absurd z.1 (by decide)), if_pos ⟨rfl, by omega, by omega⟩]
      · rw [bgn_parent]
        by_cases e2 : u = M 22 0
        · rw [if_pos e2]; omega
        · rw [if_neg e2]
          have := hw.par.2.2 u x (by omega)
          omega
      · show ((if p < 0 then -1 else N 37 p) = -1 ∧ _) ∨ _
        rcases hb with rfl | hb
        · exact absurd hp0 (by decide)
        · rw [if_neg (by omega)]
          show (N 37 p = -1 ∧ _) ∨ (0 ≤ (if p < 0 then -1 else N 37 p) ∧ (if p < 0 then -1 else N 37 p) < _ ∧ bgn M p 24 (if p < 0 then -1 else N 37 p) = p ∧ ∀ u, 0 ≤ u → u < _ → bgn M p 24 u = p → u ≤ (if p < 0 then -1 else N 37 p))
          rw [if_neg (by omega)]
          rcases (h.t.2 p hb.1.1 hb.1.2).2.2.1 with ⟨c1, c2⟩ | ⟨c1, c2, c3, c4⟩
          · refine Or.inl ⟨c1, fun u x y => ?_⟩
            rw [bgn_parent, if_neg (by omega)]
            exact c2 u x y
          · refine Or.inr ⟨c1, c2, ?_, fun u x y z => ?_⟩
            · rw [bgn_parent, if_neg (by omega)]; exact c3
            · rw [bgn_parent, if_neg (by omega)] at z
              exact c4 u x y z
    · have hin : inM M t' := ⟨a, by omega⟩
      have hin2 := hin.2
      have hpt := hw.par.2.2 t' a hin2
      obtain ⟨⟨t1, t2, t3, t4, t5⟩, t6, t7, t8, t9⟩ := h.t.2 t' a hin.2
      unfold TrS
      rw [lo 31 t' rfl (by simp) hin2, lo 32 t' rfl (by simp) hin2, lo 33 t' rfl (by simp) hin2, lo 34 t' rfl (by simp) hin2, lo 35 t' rfl (by simp) hin2, lo 38 t' rfl (by simp) hin2, eQ 41 t' (Or.inl rfl), eQ 42 t' (Or.inr rfl), eA t' hin2, bgn_parent, if_neg e, bgn_top hw.par p hin, bgn_dep hw.par p hin, bgn_began, if_neg e, bgn_state, if_neg e, bgn_many, mo 27 rfl (by decide) (by decide) (by decide) (by decide), mo 28 rfl (by decide) (by decide) (by decide) (by decide), mo 29 rfl (by decide) (by decide) (by decide) (by decide)]
      refine ⟨⟨t1, t2, t3, t4, t5⟩, fun i x y => ?_, ?_, fun x => ?_, t9⟩
      · rw [eL, nT_o (by decide) (by simp) (Or.inl (by decide)) (Or.inr (Or.inl (by omega))) (Or.inl (by decide)), mo 26 rfl (by decide) (by decide) (by decide) (by decide)]
        exact t6 i x y
      · by_cases e2 : t' = p
        · subst e2
          have cc : bgN N t' 37 t' = M 22 0 := by rcases cP with z | z; exact z; omega
          rw [cc]
          refine Or.inr ⟨hm0, by omega, by rw [bgn_parent, if_pos rfl], fun u x y z => by omega⟩
        · rw [lo 37 t' rfl (fun z => e2 z.2) hin2]
          rcases t7 with ⟨c1, c2⟩ | ⟨c1, c2, c3, c4⟩
          · refine Or.inl ⟨c1, fun u x y => ?_⟩
            rw [bgn_parent]
            by_cases e3 : u = M 22 0
            · rw [if_pos e3]; exact fun z => e2 z.symm
            · rw [if_neg e3]; exact c2 u x (by omega)
          · refine Or.inr ⟨c1, by omega, by rw [bgn_parent, if_neg (by omega)]; exact c3, fun u x y z => ?_⟩
            rw [bgn_parent] at z
            by_cases e3 : u = M 22 0
            · rw [if_pos e3] at z; exact absurd z.symm e2
            · rw [if_neg e3] at z; exact c4 u x (by omega) z
      · rcases t8 x with ⟨c1, c2⟩ | ⟨c1, c2, c3, c4⟩
        · refine Or.inl ⟨c1, fun u y z => ?_⟩
          rw [bgn_parent, if_neg (by omega)]
          exact c2 u y z
        · refine Or.inr ⟨c1, c2, by rw [bgn_parent, if_neg (by omega)]; exact c3, fun u y z w => ?_⟩
          rw [bgn_parent, if_neg (by omega)] at w
          exact c4 u y z w
  · rw [no _ (by decide) (by decide) (by decide) (by decide) (by decide) (by decide) (by decide) (by decide) (by decide) (by decide), h.cc.1, bgn_opens hw]
  · unfold bgN
    rw [up_same, h.cc.2.1, bgn_lives hm0]
  · rw [no _ (by decide) (by decide) (by decide) (by decide) (by decide) (by decide) (by decide) (by decide) (by decide) (by decide), mo 38 rfl (by decide) (by decide) (by decide) (by decide)]; exact h.cc.2.2

