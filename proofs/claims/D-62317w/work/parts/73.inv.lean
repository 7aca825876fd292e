/-! what each operation keeps: four groups -/
def PLv (M : MSt) : Prop := ∀ t, inM M t → Liv M t → 0 ≤ M 24 t → Liv M (M 24 t)
def ReqA (M : MSt) : Prop := ∀ t, 0 ≤ t → t < M 22 0 → M 23 t = 2 → ReqOk (M 27 t) (M 28 t) (M 29 t)
/-- the tree and the states -/
def G1 (M : MSt) : Prop := ParOk M ∧ DepOk M ∧ StOk M ∧ PLv M ∧ ReqA M
/-- locks -/
def G2 (M : MSt) : Prop := LkOk M ∧ LkZ M ∧ ∀ t i, inM M t → 0 ≤ i → i < 33 → M 26 (33 * t + i) ≠ 0 → Liv M t
noncomputable def Psi (M : MSt) : Int := M 12 0 + cnt (UU M) (M 12 0) + lives M
def RcB (M : MSt) : Prop := ∀ r, 0 ≤ r → r < M 12 0 → (0 ≤ M 15 r ∧ M 15 r < M 22 0) ∧ (M 14 r = 2 ∨ M 14 r = 3 → 0 ≤ M 16 r ∧ M 16 r ≤ 31)
def CmA (M : MSt) : Prop := ∀ q, 0 ≤ q → q < M 12 0 → M 14 q = 4 → M 24 (M 15 q) < 0 → M 23 (M 15 q) = 3
def CmB (M : MSt) : Prop := ∀ r, 0 ≤ r → r < M 12 0 → M 14 r = 2 → M 23 (top M (M 15 r)) = 3 → ∃ q, 0 ≤ q ∧ q < M 12 0 ∧ M 11 0 + q + 1 ≤ M 13 0 ∧ M 14 q = 4 ∧ M 15 q = top M (M 15 r)
/-- the log -/
def G3 (b : Int) (M : MSt) : Prop := (0 ≤ M 12 0 ∧ Psi M ≤ b) ∧ 0 ≤ M 11 0 ∧ RcB M ∧ CmA M ∧ CmB M
def PgB (M : MSt) : Prop := ∀ p, 0 ≤ p → p < 8 → (M 7 p = 1 → M 6 p ≤ lst M) ∧ M 3 p ≤ M 13 0
/-- pages -/
def G4 (M : MSt) : Prop := (1 ≤ M 0 0 ∧ M 0 0 ≤ 8) ∧ (M 11 0 ≤ M 13 0 ∧ M 13 0 ≤ lst M) ∧ PgB M
def Clk (c : Int) (M : MSt) : Prop := 0 ≤ M 10 0 ∧ M 10 0 ≤ M 12 0 + c
def Inv (b c : Int) (M : MSt) : Prop := G1 M ∧ G2 M ∧ G3 b M ∧ G4 M ∧ Clk c M
theorem cnt_le {P Q : Int → Prop} {b : Int} (h : ∀ i, 0 ≤ i → i < b → P i → Q i) : cnt P b ≤ cnt Q b := by
  unfold cnt
  have : ∀ n : Nat, (n : Int) ≤ b → cntN P n ≤ cntN Q n := by
    intro n
    induction n with
    | zero => intro _; exact Int.le_refl _
    | succ n ih =>
      intro hn
      have := ih (by omega)
      unfold cntN
      have e : b01 (P n) ≤ b01 (Q n) := by
        by_cases hp : P n
        · rw [b01_t hp, b01_t (h n (by omega) (by omega) hp)]; exact Int.le_refl _
        · rw [b01_f hp]; rcases b01_or (Q n) with q | q <;> rw [q] <;> decide
      omega
  by_cases hb : 0 ≤ b
  · exact this b.toNat (by omega)
  · rw [show b.toNat = 0 from by omega]; exact Int.le_refl _
theorem opens_UU (M : MSt) : opens M ≤ cnt (UU M) (M 12 0) := cnt_le fun _ _ _ h => ⟨h.1, h.2.2.2⟩
/-- a live one's top is live -/
theorem PLv.up {M : MSt} (hp : ParOk M) (h : PLv M) : ∀ (n : Nat) (t : Int), inM M t → Liv M t → Liv M (topN M n t) := by
  intro n
  induction n with
  | zero => intro t _ hl; exact hl
  | succ n ih =>
    intro t ht hl
    unfold topN
    split
    · next q => exact ih _ ⟨q, by have := hp.2.2 t ht.1 ht.2; have := ht.2; omega⟩ (h t ht hl q)
    · exact hl
theorem PLv.lvt {M : MSt} (hp : ParOk M) (h : PLv M) {t : Int} (ht : inM M t) (hl : Liv M t) : LvT M t := h.up hp 4 t ht hl
theorem Inv.wf {b c : Int} {M : MSt} (h : Inv b c M) (hb : b ≤ 300) (hc : c ≤ 900000) (hba : M 11 0 ≤ 1000000) : WF M := by
  obtain ⟨h1, h2, h3, h4, h5⟩ := h
  have o := opens_UU M
  have p := h3.1.2
  unfold Psi at p
  unfold Clk at h5
  exact ⟨h1.1, ⟨h3.1.1, by omega⟩, ⟨h3.2.1, hba⟩, h3.2.2.1, ⟨h5.1, by omega⟩, h4.1, h1.2.2.2.2⟩
theorem Inv.iv {b c : Int} {M : MSt} (h : Inv b c M) (hb : b ≤ 300) (hc : c ≤ 900000) (hba : M 11 0 ≤ 1000000) : IvM M :=
  ⟨h.wf hb hc hba, h.1.2.1, h.1.2.2.1, h.2.1.1, fun _ ht hl => h.1.2.2.2.1.lvt h.1.1 ht hl⟩
theorem Inv.mono {b c b' c' : Int} {M : MSt} (h : Inv b c M) (hb : b ≤ b') (hc : c ≤ c') : Inv b' c' M :=
  ⟨h.1, h.2.1, ⟨⟨h.2.2.1.1.1, by have := h.2.2.1.1.2; omega⟩, h.2.2.1.2⟩, h.2.2.2.1, ⟨h.2.2.2.2.1, by have := h.2.2.2.2.2; omega⟩⟩
theorem Inv.recs {b c : Int} {M : MSt} (h : Inv b c M) : 0 ≤ M 12 0 ∧ M 12 0 ≤ b := by
  have p := h.2.2.1.1.2
  have q := cnt_bd (P := UU M) h.2.2.1.1.1
  have r := lives_bd h.1.1.1
  unfold Psi at p
  exact ⟨h.2.2.1.1.1, by omega⟩
/-! the groups rest on their fields -/
theorem UU_c {M M' : MSt} (h1 : M' 14 = M 14) (h2 : M' 17 = M 17) (h3 : M' 11 0 = M 11 0) (h4 : M' 12 0 = M 12 0) (r : Int) : UU M' r ↔ UU M r := by
  unfold UU
  rw [h1, Und_c h1 h2 h3 h4]
theorem Psi_c {M M' : MSt} (h1 : M' 14 = M 14) (h2 : M' 17 = M 17) (h3 : M' 11 0 = M 11 0) (h4 : M' 12 0 = M 12 0) (h5 : M' 23 = M 23) (h6 : M' 22 0 = M 22 0) : Psi M' = Psi M := by
  unfold Psi
  rw [h4, lives_c h5 h6, cnt_ext (fun i _ _ => UU_c h1 h2 h3 h4 i)]
theorem G1.c {M M' : MSt} (h : G1 M) (m1 : M' 22 0 = M 22 0) (m2 : M' 24 = M 24) (m3 : M' 23 = M 23) (m4 : M' 27 = M 27) (m5 : M' 28 = M 28) (m6 : M' 29 = M 29) : G1 M' := by
  obtain ⟨a, b, c, d, e⟩ := h
  refine ⟨a.c m2 m1, b.c m2 m1, ?_, ?_, ?_⟩
  · unfold StOk; rw [m1, m3]; exact c
  · unfold PLv inM Liv; rw [m1, m2, m3]; exact d
  · unfold ReqA; rw [m1, m3, m4, m5, m6]; exact e
theorem G2.c {M M' : MSt} (h : G2 M) (m1 : M' 22 0 = M 22 0) (m2 : M' 26 = M 26) (m3 : ∀ t, Liv M' t ↔ Liv M t) : G2 M' := by
  unfold G2 LkOk LkZ inM
  rw [m1, m2]
  exact ⟨h.1, h.2.1, fun t i a b c d => (m3 t).mpr (h.2.2 t i a b c d)⟩
theorem G3.c {b : Int} {M M' : MSt} (h : G3 b M) (m1 : M' 22 0 = M 22 0) (m2 : M' 24 = M 24) (m3 : M' 23 = M 23) (m4 : M' 11 0 = M 11 0) (m5 : M' 12 0 = M 12 0) (m6 : M' 14 = M 14) (m7 : M' 15 = M 15) (m8 : M' 16 = M 16) (m9 : M' 17 = M 17) (m10 : M 13 0 ≤ M' 13 0) : G3 b M' := by
  obtain ⟨x1, x2, x3, x4, x5⟩ := h
  refine ⟨?_, by rw [m4]; exact x2, ?_, ?_, ?_⟩
  · rw [m5, Psi_c m6 m9 m4 m5 m3 m1]; exact x1
  · unfold RcB; rw [m1, m5, m6, m7, m8]; exact x3
  · unfold CmA; rw [m2, m3, m5, m6, m7]; exact x4
  · unfold CmB
    rw [m3, m4, m5, m6, m7]
    intro r a b' c d
    rw [top_c m2] at d ⊢
    obtain ⟨q, q1, q2, q3, q4, q5⟩ := x5 r a b' c d
    exact ⟨q, q1, q2, by omega, q4, q5⟩
theorem G4.c {M M' : MSt} (h : G4 M) (m1 : M' 0 0 = M 0 0) (m2 : M' 11 0 = M 11 0) (m3 : M' 13 0 = M 13 0) (m4 : M 12 0 ≤ M' 12 0) (m5 : M' 7 = M 7) (m6 : M' 6 = M 6) (m7 : M' 3 = M 3) : G4 M' := by
  obtain ⟨x1, x2, x3⟩ := h
  unfold lst at x2
  unfold PgB lst at x3
  refine ⟨by rw [m1]; exact x1, by rw [m2, m3]; unfold lst; omega, fun p a b => ?_⟩
  have q := x3 p a b
  rw [m3, m5, m6, m7]
  unfold lst
  rw [m2]
  exact ⟨fun z => by have := q.1 z; omega, q.2⟩
/-! pages -/
theorem G4.xwrt {M : MSt} (h : G4 M) {p : Int} (hp : 0 ≤ p ∧ p < 8) (hi : M 7 p = 1) : G4 (wrt M p) ∧ M 13 0 ≤ wrt M p 13 0 := by
  have w : ∀ {f : Nat} {i : Int}, f ≠ 13 → f ≠ 1 → f ≠ 2 → f ≠ 3 → f ≠ 8 → CNestedStoreLaw_law_r7484_ab0530.wrt M p f i = M f i := fun a b c d e => wrt_g a b c d e
  have ef : CNestedStoreLaw_law_r7484_ab0530.wrt M p 13 0 = if M 13 0 < M 6 p then M 6 p else M 13 0 := by
    unfold CNestedStoreLaw_law_r7484_ab0530.wrt
    rw [up_ne (by simp), up_ne (by simp)]
    unfold cpd
    rw [if_neg (by simp), if_neg (by simp), up_same]
  have ed : ∀ q, CNestedStoreLaw_law_r7484_ab0530.wrt M p 3 q = if q = p then M 6 p else M 3 q := fun q => by
    unfold CNestedStoreLaw_law_r7484_ab0530.wrt
    rw [up_ne (by simp)]
    by_cases e : q = p
    · rw [e, up_same, if_pos rfl]
    · rw [up_ne (fun z => e z.2), if_neg e]
      unfold cpd
      rw [if_neg (by simp), if_neg (by simp), up_ne (by simp)]
  obtain ⟨x1, x2, x3⟩ := h
  have xp := (x3 p hp.1 hp.2).1 hi
  have hge : M 13 0 ≤ CNestedStoreLaw_law_r7484_ab0530.wrt M p 13 0 := by rw [ef]; split <;> omega
  refine ⟨⟨?_, ?_, fun q a b => ?_⟩, hge⟩
  · rw [w (by decide) (by decide) (by decide) (by decide) (by decide)]; exact x1
  · unfold lst at x2 xp ⊢
    rw [ef, w (by decide) (by decide) (by decide) (by decide) (by decide), w (by decide) (by decide) (by decide) (by decide) (by decide)]
    split <;> omega
  · have xq := x3 q a b
    unfold lst at xq ⊢
    rw [w (f := 7) (by decide) (by decide) (by decide) (by decide) (by decide), w (f := 6) (by decide) (by decide) (by decide) (by decide) (by decide), w (f := 11) (by decide) (by decide) (by decide) (by decide) (by decide), w (f := 12) (by decide) (by decide) (by decide) (by decide) (by decide), ed]
    refine ⟨xq.1, ?_⟩
    split
    · rw [ef]; split <;> omega
    · omega
theorem G4.xevc {M : MSt} (h : G4 M) {p : Int} (hp : 0 ≤ p ∧ p < 8) (hi : M 7 p = 1) : G4 (evc M p) ∧ M 13 0 ≤ evc M p 13 0 := by
  have key : ∀ K : MSt, G4 K → G4 (up K 7 p 0) := fun K ⟨x1, x2, x3⟩ => by
    refine ⟨x1, x2, fun q a b => ⟨fun z => ?_, (x3 q a b).2⟩⟩
    by_cases e : q = p
    · rw [e, up_same] at z; exact absurd z (by decide)
    · rw [up_ne (fun y => e y.2)] at z; exact (x3 q a b).1 z
  unfold CNestedStoreLaw_law_r7484_ab0530.evc
  split
  · exact ⟨key _ (h.xwrt hp hi).1, (h.xwrt hp hi).2⟩
  · exact ⟨key _ h, Int.le_refl _⟩
theorem G4.xldp {M : MSt} (h : G4 M) (p : Int) : G4 (ldp M p) := by
  have w : ∀ {f : Nat} {i : Int}, f ≠ 4 → f ≠ 5 → f ≠ 6 → f ≠ 8 → f ≠ 7 → CNestedStoreLaw_law_r7484_ab0530.ldp M p f i = M f i := fun a b c d e => ldp_g a b c d e
  obtain ⟨x1, x2, x3⟩ := h
  have el : ∀ q, CNestedStoreLaw_law_r7484_ab0530.ldp M p 6 q = if q = p then M 3 p else M 6 q := fun q => by simp [CNestedStoreLaw_law_r7484_ab0530.ldp, up, cpu]
  refine ⟨?_, ?_, fun q a b => ?_⟩
  · rw [w (by decide) (by decide) (by decide) (by decide) (by decide)]; exact x1
  · unfold lst at x2 ⊢
    rw [w (f := 11) (by decide) (by decide) (by decide) (by decide) (by decide), w (f := 12) (by decide) (by decide) (by decide) (by decide) (by decide), w (f := 13) (by decide) (by decide) (by decide) (by decide) (by decide)]
    exact x2
  · have xq := x3 q a b
    unfold lst at xq x2 ⊢
    rw [w (f := 11) (by decide) (by decide) (by decide) (by decide) (by decide), w (f := 12) (by decide) (by decide) (by decide) (by decide) (by decide), w (f := 13) (by decide) (by decide) (by decide) (by decide) (by decide), w (f := 3) (by decide) (by decide) (by decide) (by decide) (by decide), el, ldp_if]
    refine ⟨fun z => ?_, xq.2⟩
    by_cases e : q = p
    · rw [if_pos e]; subst e; omega
    · rw [if_neg e] at z ⊢; exact xq.1 z
theorem usd_pos {M : MSt} (h : usd M = M 0 0) (h1 : 1 ≤ M 0 0) : 0 ≤ old M 8 ∧ old M 8 < 8 ∧ M 7 (old M 8) = 1 := by
  have q := old_bd (M := M) (b := 8) (by decide)
  have p : ¬ old M 8 < 0 := fun z => by
    have := q.2.2.1.mp z
    unfold usd at h
    omega
  exact ⟨by omega, q.2.1, q.2.2.2 (by omega)⟩
theorem G4.xtch {M : MSt} (h : G4 M) (p : Int) : G4 (tch M p) ∧ M 13 0 ≤ tch M p 13 0 := by
  have key : ∀ (K : MSt) (z : Int), G4 K → G4 (up K 9 p z) := fun K z g => g.c rfl rfl rfl (Int.le_refl _) rfl rfl rfl
  have hc : G4 (clk M) := h.c rfl rfl rfl (Int.le_refl _) rfl rfl rfl
  by_cases hi : M 7 p = 1
  · rw [tch_in hi]
    exact ⟨key _ _ hc, Int.le_refl _⟩
  · by_cases hu : usd M = M 0 0
    · rw [tch_ev hi hu]
      have o := usd_pos hu h.1.1
      have e := hc.xevc (p := old M 8) ⟨o.1, o.2.1⟩ o.2.2
      refine ⟨key _ _ (e.1.xldp p), ?_⟩
      rw [up_ne (by simp), ldp_g (by decide) (by decide) (by decide) (by decide) (by decide)]
      exact e.2
    · rw [tch_nw hi hu]
      refine ⟨key _ _ (hc.xldp p), ?_⟩
      rw [up_ne (by simp), ldp_g (by decide) (by decide) (by decide) (by decide) (by decide)]
      exact Int.le_refl _
theorem G4.xbcm {M : MSt} (h : G4 M) {k now v num : Int} (hn : num ≤ lst M) : G4 (bcm M k now v num) := by
  obtain ⟨x1, x2, x3⟩ := h
  have w : ∀ (f : Nat) (i : Int), f ≠ 4 → f ≠ 5 → f ≠ 6 → f ≠ 8 → CNestedStoreLaw_law_r7484_ab0530.bcm M k now v num f i = M f i := fun f i a b c d => by
    unfold CNestedStoreLaw_law_r7484_ab0530.bcm
    rw [up_ne (fun z => d z.1), up_ne (fun z => c z.1), up_ne (fun z => b z.1), up_ne (fun z => a z.1)]
  have el : ∀ q, CNestedStoreLaw_law_r7484_ab0530.bcm M k now v num 6 q = if q = k / 4 then num else M 6 q := fun q => by
    unfold CNestedStoreLaw_law_r7484_ab0530.bcm
    rw [up_ne (by simp)]
    by_cases e : q = k / 4
    · rw [e, up_same, if_pos rfl]
    · rw [up_ne (fun z => e z.2), if_neg e, up_ne (by simp), up_ne (by simp)]
  refine ⟨?_, ?_, fun q a b => ?_⟩
  · rw [w _ _ (by decide) (by decide) (by decide) (by decide)]; exact x1
  · unfold lst at x2 ⊢
    rw [w 11 _ (by decide) (by decide) (by decide) (by decide), w 13 _ (by decide) (by decide) (by decide) (by decide), w 12 _ (by decide) (by decide) (by decide) (by decide)]
    exact x2
  · have xq := x3 q a b
    unfold lst at xq hn ⊢
    rw [w 11 _ (by decide) (by decide) (by decide) (by decide), w 13 _ (by decide) (by decide) (by decide) (by decide), w 12 _ (by decide) (by decide) (by decide) (by decide), w 7 _ (by decide) (by decide) (by decide) (by decide), w 3 _ (by decide) (by decide) (by decide) (by decide), el]
    refine ⟨fun z => ?_, xq.2⟩
    split
    · exact hn
    · exact xq.1 z
/-- a change of pages alone -/
theorem Inv.pages {b c c' : Int} {M M' : MSt} (h : Inv b c M) (ho : ∀ f i, pgF f = false → M' f i = M f i) (h4 : G4 M') (hf : M 13 0 ≤ M' 13 0) (hc : Clk c' M') : Inv b c' M' := by
  have o : ∀ f : Nat, pgF f = false → M' f = M f := fun f a => funext fun i => ho f i a
  exact ⟨h.1.c (ho _ _ rfl) (o _ rfl) (o _ rfl) (o _ rfl) (o _ rfl) (o _ rfl), h.2.1.c (ho _ _ rfl) (o _ rfl) (Liv_c (o _ rfl)), h.2.2.1.c (ho _ _ rfl) (o _ rfl) (o _ rfl) (ho _ _ rfl) (ho _ _ rfl) (o _ rfl) (o _ rfl) (o _ rfl) (o _ rfl) hf, h4, hc⟩
theorem Inv.xtch {b c : Int} {M : MSt} (h : Inv b c M) (p : Int) : Inv b (c + 1) (tch M p) := by
  refine h.pages (fun f i a => tch_o a) (h.2.2.2.1.xtch p).1 (h.2.2.2.1.xtch p).2 ?_
  have k := h.2.2.2.2
  unfold Clk at k ⊢
  rw [tch_clock _ _ rfl, tch_o rfl]
  omega
theorem Inv.xwrt {b c : Int} {M : MSt} (h : Inv b c M) {p : Int} (hp : 0 ≤ p ∧ p < 8) (hi : M 7 p = 1) : Inv b c (wrt M p) := by
  refine h.pages (fun f i a => wrt_o a) (h.2.2.2.1.xwrt hp hi).1 (h.2.2.2.1.xwrt hp hi).2 ?_
  have k := h.2.2.2.2
  unfold Clk at k ⊢
  rw [wrt_g (by decide) (by decide) (by decide) (by decide) (by decide), wrt_o rfl]
  exact k
/-! a record more -/
theorem CmB.add {M M' : MSt} (h : CmB M) (ha : Add M M') (hp : M' 24 = M 24) (hf : M 13 0 ≤ M' 13 0) (hs : ∀ x, M' 23 x = 3 → M 23 x = 3) (hk : M' 14 (M 12 0) = 2 → M' 23 (top M (M' 15 (M 12 0))) ≠ 3) : CmB M' := by
  obtain ⟨h1, h2, h3⟩ := ha
  intro r a b' c d
  rw [top_c hp] at d ⊢
  rw [h2] at b'
  by_cases e : r = M 12 0
  · rw [e] at c d; exact absurd d (hk c)
  · rw [h3 14 r rfl (by decide) e] at c
    rw [h3 15 r rfl (by decide) e] at d ⊢
    obtain ⟨q, q1, q2, q3, q4, q5⟩ := h r a (by omega) c (hs _ d)
    exact ⟨q, q1, by omega, by rw [h1]; omega, by rw [h3 14 q rfl (by decide) (by omega)]; exact q4, by rw [h3 15 q rfl (by decide) (by omega)]; exact q5⟩
theorem CmA.add {M M' : MSt} (h : CmA M) (ha : Add M M') (hp : M' 24 = M 24) (hs : ∀ x, M 23 x = 3 → M' 23 x = 3) (hk : M' 14 (M 12 0) = 4 → M 24 (M' 15 (M 12 0)) < 0 → M' 23 (M' 15 (M 12 0)) = 3) : CmA M' := by
  obtain ⟨h1, h2, h3⟩ := ha
  intro q a b' c d
  rw [hp] at d
  rw [h2] at b'
  by_cases e : q = M 12 0
  · subst e; exact hk c d
  · rw [h3 14 q rfl (by decide) e] at c
    rw [h3 15 q rfl (by decide) e] at d ⊢
    exact hs _ (h q a (by omega) c d)
theorem RcB.add {M M' : MSt} (h : RcB M) (ha : Add M M') (hm : M' 22 0 = M 22 0) (hb : 0 ≤ M' 15 (M 12 0) ∧ M' 15 (M 12 0) < M 22 0) (hk : M' 14 (M 12 0) = 2 ∨ M' 14 (M 12 0) = 3 → 0 ≤ M' 16 (M 12 0) ∧ M' 16 (M 12 0) ≤ 31) : RcB M' := by
  obtain ⟨h1, h2, h3⟩ := ha
  intro r a b'
  rw [h2] at b'
  rw [hm]
  by_cases e : r = M 12 0
  · subst e; exact ⟨hb, hk⟩
  · rw [h3 14 r rfl (by decide) e, h3 15 r rfl (by decide) e, h3 16 r rfl (by decide) e]
    exact h r a (by omega)
theorem UU_add {M M' : MSt} (ha : Add M M') {r : Int} (hr : r < M 12 0) (hk : M' 14 (M 12 0) ≠ 3) : UU M' r ↔ UU M r := by
  unfold UU
  rw [ha.2.2 14 r rfl (by decide) (by omega), Und_add ha hr]
  exact ⟨fun z => ⟨z.1, fun q => z.2 (Or.inl q)⟩, fun z => ⟨z.1, fun q => by rcases q with q | q; exact z.2 q; exact hk q.1⟩⟩
theorem cUU_add {M M' : MSt} (ha : Add M M') (h0 : 0 ≤ M 12 0) (hk : M' 14 (M 12 0) ≠ 3) : cnt (UU M') (M' 12 0) = cnt (UU M) (M 12 0) + b01 (M' 14 (M 12 0) = 2) := by
  rw [ha.2.1, cnt_s h0, cnt_ext (P := UU M') (P' := UU M) (fun i a b => UU_add ha b hk)]
  rw [b01_c (P := UU M' (M 12 0)) (Q := M' 14 (M 12 0) = 2) ⟨fun z => z.1, fun z => ⟨z, Und_last ha⟩⟩]
theorem und_add (M : MSt) (t u : Int) : Add M (s_und M t u) := ⟨und_o rfl rfl, und_n.1, fun _ _ a b c => und_l (pg_lg a) b c⟩
theorem upd_add (M : MSt) (t k now v : Int) : Add M (s_upd M t k now v) := ⟨upd_o rfl rfl, (upd_n M t k now v).1, fun _ _ a b c => upd_l (pg_lg a) b c⟩
theorem cUU_und {M : MSt} {t u : Int} (h0 : 0 ≤ u) (hu : u < M 12 0) (ho : UU M u) : cnt (UU (s_und M t u)) (M 12 0 + 1) = cnt (UU M) (M 12 0) - 1 := by
  rw [cnt_s (by omega), b01_f (fun q => by have := q.1; rw [und_n.2.1] at this; omega)]
  have e : cnt (UU (s_und M t u)) (M 12 0) = cnt (fun r => UU M r ∧ r ≠ u) (M 12 0) := cnt_ext fun i h1 h2 => UU_und hu h2
  rw [e]
  have := cntN_drop (P := UU M) (P' := fun r => UU M r ∧ r ≠ u) (fun r => Iff.rfl) ho h0 (M 12 0).toNat
  unfold cnt
  rw [this, if_pos (by omega)]
  omega
theorem G4.und {M : MSt} (h : G4 M) (t u : Int) : G4 (s_und M t u) ∧ M 13 0 ≤ s_und M t u 13 0 := by
  have a : G4 (up (up (up (app M 3 t (M 16 u)) 17 (M 12 0) (M 11 0 + u + 1)) 20 (M 12 0) (M 18 u)) 21 (M 12 0) (M 19 u)) := by
    refine h.c ?_ ?_ ?_ ?_ ?_ ?_ ?_ <;> first | rfl | (show M 12 0 ≤ M 12 0 + 1; omega) | skip
  have b := a.xtch (M 16 u / 4)
  unfold s_und
  refine ⟨b.1.xbcm ?_, ?_⟩
  · show _ ≤ lst (tch _ _)
    unfold lst
    rw [tch_o rfl, tch_o rfl]
    show _ ≤ M 11 0 + (M 12 0 + 1)
    omega
  · have e : ∀ (K : MSt) (k now v num : Int), bcm K k now v num 13 0 = K 13 0 := fun K k now v num => rfl
    rw [e]
    exact b.2
theorem Inv.und {b c : Int} {M : MSt} {t u : Int} (h : Inv b c M) (h0 : 0 ≤ u) (hu : u < M 12 0) (ho : UU M u) (ht : inM M t) : Inv b c (s_und M t u) := by
  obtain ⟨h1, h2, ⟨⟨h3, h4⟩, h5, h6, h7, h8⟩, h9, h10⟩ := h
  have o : ∀ f : Nat, pgF f = false → lgF f = false → s_und M t u f = M f := fun f a e => funext fun i => und_o a e
  have ha := und_add M t u
  have n := und_n (M := M) (t := t) (u := u)
  have g := h9.und t u
  refine ⟨h1.c (und_o rfl rfl) (o _ rfl rfl) (o _ rfl rfl) (o _ rfl rfl) (o _ rfl rfl) (o _ rfl rfl), h2.c (und_o rfl rfl) (o _ rfl rfl) (Liv_c (o _ rfl rfl)), ⟨⟨?_, ?_⟩, by rw [ha.1]; exact h5, ?_, ?_, ?_⟩, g.1, ?_⟩
  · rw [n.1]; omega
  · unfold Psi at h4 ⊢
    rw [n.1, cUU_und h0 hu ho, lives_c (M' := M) (o _ rfl rfl) (und_o rfl rfl)]
    omega
  · exact h6.add ha (und_o rfl rfl) (by rw [n.2.2.1]; exact ht) (fun _ => by rw [n.2.2.2.1]; exact (h6 u h0 hu).2 (Or.inl ho.1))
  · exact h7.add ha (o _ rfl rfl) (fun x z => by rw [o 23 rfl rfl]; exact z) (fun z => by rw [n.2.1] at z; exact absurd z (by decide))
  · exact h8.add ha (o _ rfl rfl) g.2 (fun x z => by rw [o 23 rfl rfl] at z; exact z) (fun z => by rw [n.2.1] at z; exact absurd z (by decide))
  · unfold Clk at h10 ⊢
    rw [und_clock, n.1]
    omega
theorem G4.upd {M : MSt} (h : G4 M) (t k now v : Int) : G4 (s_upd M t k now v) ∧ M 13 0 ≤ s_upd M t k now v 13 0 := by
  have a : G4 (app M 2 t k) := by
    refine h.c ?_ ?_ ?_ ?_ ?_ ?_ ?_ <;> first | rfl | (show M 12 0 ≤ M 12 0 + 1; omega) | skip
  have b := a.xtch (k / 4)
  have d : G4 (up (up (up (up (tch (app M 2 t k) (k / 4)) 18 (M 12 0) ((tch (app M 2 t k) (k / 4)) 4 k)) 19 (M 12 0) ((tch (app M 2 t k) (k / 4)) 5 k)) 20 (M 12 0) now) 21 (M 12 0) (if now = 0 then 0 else v)) := b.1.c rfl rfl rfl (Int.le_refl _) rfl rfl rfl
  unfold s_upd
  refine ⟨d.xbcm ?_, ?_⟩
  · show _ ≤ tch (app M 2 t k) (k / 4) 11 0 + tch (app M 2 t k) (k / 4) 12 0
    rw [tch_o rfl, tch_o rfl]
    show _ ≤ M 11 0 + (M 12 0 + 1)
    omega
  · exact b.2
theorem upd_clock {M : MSt} {t k now v : Int} : s_upd M t k now v 10 0 = M 10 0 + 1 := by
  show tch (app M 2 t k) (k / 4) 10 0 = _
  rw [tch_clock _ _ rfl]
  rfl
theorem Inv.upd {b c : Int} {M : MSt} {t k now v : Int} (h : Inv b c M) (ht : inM M t) (hl : Liv M t) (hk : 0 ≤ k ∧ k ≤ 31) : Inv (b + 2) c (s_upd M t k now v) := by
  obtain ⟨h1, h2, ⟨⟨h3, h4⟩, h5, h6, h7, h8⟩, h9, h10⟩ := h
  have o : ∀ f : Nat, pgF f = false → lgF f = false → s_upd M t k now v f = M f := fun f a e => funext fun i => upd_o a e
  have ha := upd_add M t k now v
  have n := upd_n M t k now v
  have g := h9.upd t k now v
  refine ⟨h1.c (upd_o rfl rfl) (o _ rfl rfl) (o _ rfl rfl) (o _ rfl rfl) (o _ rfl rfl) (o _ rfl rfl), h2.c (upd_o rfl rfl) (o _ rfl rfl) (Liv_c (o _ rfl rfl)), ⟨⟨?_, ?_⟩, by rw [ha.1]; exact h5, ?_, ?_, ?_⟩, g.1, ?_⟩
  · rw [n.1]; omega
  · unfold Psi at h4 ⊢
    rw [cUU_add ha h3 (by rw [n.2.1]; decide), n.1, lives_c (M' := M) (o _ rfl rfl) (upd_o rfl rfl)]
    rcases b01_or (s_upd M t k now v 14 (M 12 0) = 2) with e | e <;> rw [e] <;> omega
  · exact h6.add ha (upd_o rfl rfl) (by rw [n.2.2.1]; exact ht) (fun _ => by rw [n.2.2.2.1]; exact hk)
  · exact h7.add ha (o _ rfl rfl) (fun x z => by rw [o 23 rfl rfl]; exact z) (fun z => by rw [n.2.1] at z; exact absurd z (by decide))
  · refine h8.add ha (o _ rfl rfl) g.2 (fun x z => by rw [o 23 rfl rfl] at z; exact z) (fun _ z => ?_)
    rw [n.2.2.1, o 23 rfl rfl] at z
    have := h1.2.2.2.1.lvt h1.1 ht hl
    unfold LvT Liv at this
    omega
  · unfold Clk at h10 ⊢
    rw [upd_clock, n.1]
    omega

