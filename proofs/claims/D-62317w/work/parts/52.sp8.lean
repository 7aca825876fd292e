/-! trees -/
theorem topN_s {M : MSt} : ∀ (n : Nat) (x : Int), ndp M n x → 0 ≤ x → topN M (n + 1) x = topN M n x := by
  intro n
  induction n with
  | zero => intro x h h0; have h : x < 0 := h; omega
  | succ n ih =>
    intro x h h0
    rcases h with h | h
    · omega
    · show (if 0 ≤ M 24 x then topN M (n + 1) (M 24 x) else x) = (if 0 ≤ M 24 x then topN M n (M 24 x) else x)
      by_cases c : 0 ≤ M 24 x
      · rw [if_pos c, if_pos c, ih _ h c]
      · rw [if_neg c, if_neg c]
theorem depN_s {M : MSt} : ∀ (n : Nat) (x : Int), ndp M n x → depN M (n + 1) x = depN M n x := by
  intro n
  induction n with
  | zero => intro x h; have h : x < 0 := h; show (if 0 ≤ x then _ else 0) = 0; rw [if_neg (by omega)]
  | succ n ih =>
    intro x h
    show (if 0 ≤ x then 1 + depN M (n + 1) (M 24 x) else 0) = (if 0 ≤ x then 1 + depN M n (M 24 x) else 0)
    rcases h with h | h
    · rw [if_neg (by omega), if_neg (by omega)]
    · rw [ih _ h]
theorem depN_le {M : MSt} : ∀ (n : Nat) (x : Int), 0 ≤ depN M n x ∧ depN M n x ≤ n := by
  intro n
  induction n with
  | zero => intro x; exact ⟨Int.le_refl _, Int.le_refl _⟩
  | succ n ih =>
    intro x
    show 0 ≤ (if 0 ≤ x then 1 + depN M n (M 24 x) else 0) ∧ (if 0 ≤ x then 1 + depN M n (M 24 x) else 0) ≤ _
    have := ih (M 24 x)
    split <;> omega
theorem ndp_p {M : MSt} {x : Int} (h : ndp M 4 x) (h0 : 0 ≤ x) : ndp M 3 (M 24 x) := by
  rcases h with h | h
  · omega
  · exact h
theorem top_child {M : MSt} {c t : Int} (hc : ndp M 4 c) (hc0 : 0 ≤ c) (ht : 0 ≤ t) (h : M 24 c = t) : top M c = top M t := by
  have h3 := ndp_p hc hc0
  rw [h] at h3
  unfold top
  rw [topN_s 3 t h3 ht]
  show (if 0 ≤ M 24 c then topN M 3 (M 24 c) else c) = _
  rw [h, if_pos ht]
theorem dep_child {M : MSt} {c t : Int} (hc : ndp M 4 c) (hc0 : 0 ≤ c) (ht : 0 ≤ t) (h : M 24 c = t) : dep M c = dep M t + 1 := by
  have h3 := ndp_p hc hc0
  rw [h] at h3
  unfold dep
  rw [h, depN_s 3 t h3]
  have h4 : ndp M 2 (M 24 t) := by
    rcases h3 with z | z
    · omega
    · exact z
  rw [depN_s 3 (M 24 t) (ndp_s _ _ h4), depN_s 2 (M 24 t) h4]
  show 1 + (if 0 ≤ t then 1 + depN M 2 (M 24 t) else 0) = _
  rw [if_pos ht]
  omega
theorem dep_le {M : MSt} {t : Int} (h : ndp M 4 t) (h0 : 0 ≤ t) : 1 ≤ dep M t ∧ dep M t ≤ 4 := by
  unfold dep
  rw [depN_s 3 _ (ndp_p h h0)]
  have := depN_le (M := M) 3 (M 24 t)
  omega
theorem abv_top {M : MSt} (hp : ParOk M) (hd : DepOk M) {t : Int} : ∀ (n : Nat) (x : Int), (x = -1 ∨ inM M x) → abvN M t n x → inM M x ∧ top M x = top M t ∧ inM M t := by
  intro n
  induction n with
  | zero => intro x _ h; exact h.elim
  | succ n ih =>
    intro x hx h
    have hx : inM M x := by rcases hx with z | z; have := h.1; omega; exact z
    refine ⟨hx, ?_⟩
    rcases h.2 with e | e
    · rw [e]; exact ⟨rfl, by rw [← e]; exact hx⟩
    · have hpx := hp.2.2 x hx.1 hx.2
      have q := ih (M 24 x) (by unfold inM; have := hx.2; omega) e
      exact ⟨(top_child (hd x hx.1 hx.2) hx.1 q.1.1 rfl).trans q.2.1, q.2.2⟩
theorem InS_top {M : MSt} (hp : ParOk M) (hd : DepOk M) {t u : Int} (hu : inM M u) (h : InS M t u) : top M u = top M t ∧ inM M t := by
  rw [InS_abv hu.1 (hd u hu.1 hu.2)] at h
  exact (abv_top hp hd 4 u (Or.inr hu) h).2
theorem abv_up {M : MSt} {t : Int} : ∀ (n : Nat) (x : Int), abvN M t n x → abvN M t (n + 1) x := by
  intro n
  induction n with
  | zero => intro x h; exact h.elim
  | succ n ih =>
    intro x h
    exact ⟨h.1, by rcases h.2 with e | e; exact Or.inl e; exact Or.inr (ih _ e)⟩
theorem abv_split {M : MSt} (hp : ParOk M) {t : Int} (ht : 0 ≤ t) : ∀ (n : Nat) (x : Int), (x = -1 ∨ inM M x) → (abvN M t n x → x = t ∨ ∃ c, inM M c ∧ M 24 c = t ∧ abvN M c n x) := by
  intro n
  induction n with
  | zero => intro x _ h; exact h.elim
  | succ n ih =>
    intro x hx h
    have hx : inM M x := by rcases hx with z | z; have := h.1; omega; exact z
    by_cases e0 : x = t
    · exact Or.inl e0
    · rcases h.2 with e | e
      · exact absurd e e0
      · have hpx := hp.2.2 x hx.1 hx.2
        rcases ih (M 24 x) (by unfold inM; have := hx.2; omega) e with z | ⟨c, c1, c2, c3⟩
        · exact Or.inr ⟨x, hx, z, hx.1, Or.inl rfl⟩
        · exact Or.inr ⟨c, c1, c2, hx.1, Or.inr c3⟩
theorem abv_join {M : MSt} {t c : Int} (h : M 24 c = t) (ht : 0 ≤ t) (hn : 0 ≤ c) : ∀ (n : Nat) (x : Int), abvN M c n x → abvN M t (n + 1) x := by
  intro n
  induction n with
  | zero => intro x q; exact q.elim
  | succ n ih =>
    intro x q
    refine ⟨q.1, Or.inr ?_⟩
    rcases q.2 with e | e
    · rw [e, h]; exact ⟨ht, Or.inl rfl⟩
    · exact ih _ e
theorem InS_split {M : MSt} (hp : ParOk M) (hd : DepOk M) {t u : Int} (ht : inM M t) (hu : inM M u) : InS M t u ↔ u = t ∨ ∃ c, inM M c ∧ M 24 c = t ∧ InS M c u := by
  have nd := hd u hu.1 hu.2
  constructor
  · intro h
    rcases abv_split hp ht.1 4 u (Or.inr hu) ((InS_abv hu.1 nd).mp h) with e | ⟨c, c1, c2, c3⟩
    · exact Or.inl e
    · exact Or.inr ⟨c, c1, c2, (InS_abv hu.1 nd).mpr c3⟩
  · rintro (e | ⟨c, c1, c2, c3⟩)
    · exact Or.inl e
    · rw [InS_abv hu.1 nd, ← abvN_s 4 u nd]
      exact abv_join c2 ht.1 c1.1 4 u ((InS_abv hu.1 nd).mp c3)
/-! the latest open update of a tree -/
def cnd (N M : MSt) (S : Int → Prop) (pt r : Int) : Prop := (0 ≤ r ∧ r < M 12 0) ∧ M 14 r = 2 ∧ N 29 r = 0 ∧ S (M 15 r) ∧ pt < M 11 0 + r + 1
def IsM (N M : MSt) (S : Int → Prop) (pt z : Int) : Prop := (z = -1 ∧ ∀ r, ¬ cnd N M S pt r) ∨ (cnd N M S pt z ∧ ∀ r, cnd N M S pt r → r ≤ z)
/-- the chains of the ones in S are sound -/
def CH (N M : MSt) (S : Int → Prop) : Prop := ∀ u, inM M u → S u → Lnk N M (N 36 u) u (M 12 0) ∧ ∀ r, 0 ≤ r → r < M 12 0 → M 14 r = 2 → M 15 r = u → Lnk N M (N 30 r) u r
/-- all but the chains' heads is as it was -/
def EqL (N N1 : MSt) : Prop := ∀ f i, f ≠ 36 → N1 f i = N f i
theorem Lnk.eq {N N1 M : MSt} {l t b : Int} (h : Lnk N M l t b) (e : EqL N N1) : Lnk N1 M l t b := Lnk.c h (fun q _ _ => ⟨rfl, rfl, fun _ _ z => by rw [e 29 q (by decide)] at z; exact z⟩)
theorem cnd_eq {N N1 M : MSt} {S : Int → Prop} {pt r : Int} (e : EqL N N1) : cnd N1 M S pt r ↔ cnd N M S pt r := by
  unfold cnd
  rw [e 29 r (by decide)]
theorem IsM.eq {N N1 M : MSt} {S : Int → Prop} {pt z : Int} (h : IsM N M S pt z) (e : EqL N N1) : IsM N1 M S pt z := by
  rcases h with ⟨a, b⟩ | ⟨a, b⟩
  · exact Or.inl ⟨a, fun r q => b r ((cnd_eq e).mp q)⟩
  · exact Or.inr ⟨(cnd_eq e).mpr a, fun r q => b r ((cnd_eq e).mp q)⟩
theorem IsM.iff {N M : MSt} {S S' : Int → Prop} {pt z : Int} (h : IsM N M S pt z) (e : ∀ r, 0 ≤ r → r < M 12 0 → (S' (M 15 r) ↔ S (M 15 r))) : IsM N M S' pt z := by
  have k : ∀ r, cnd N M S' pt r ↔ cnd N M S pt r := fun r => by
    unfold cnd
    exact ⟨fun ⟨a, b, c, d, f⟩ => ⟨a, b, c, (e r a.1 a.2).mp d, f⟩, fun ⟨a, b, c, d, f⟩ => ⟨a, b, c, (e r a.1 a.2).mpr d, f⟩⟩
  rcases h with ⟨a, b⟩ | ⟨a, b⟩
  · exact Or.inl ⟨a, fun r q => b r ((k r).mp q)⟩
  · exact Or.inr ⟨(k z).mpr a, fun r q => b r ((k r).mp q)⟩
theorem IsM.join {N M : MSt} {S S' : Int → Prop} {pt z z' : Int} (h : IsM N M S pt z) (h' : IsM N M S' pt z') : IsM N M (fun u => S u ∨ S' u) pt (if z < z' then z' else z) := by
  have k : ∀ r, cnd N M (fun u => S u ∨ S' u) pt r ↔ cnd N M S pt r ∨ cnd N M S' pt r := fun r => by
    unfold cnd
    exact ⟨fun ⟨a, b, c, d, f⟩ => by rcases d with d | d; exact Or.inl ⟨a, b, c, d, f⟩; exact Or.inr ⟨a, b, c, d, f⟩, fun q => by rcases q with ⟨a, b, c, d, f⟩ | ⟨a, b, c, d, f⟩; exact ⟨a, b, c, Or.inl d, f⟩; exact ⟨a, b, c, Or.inr d, f⟩⟩
  rcases h with ⟨a, b⟩ | ⟨a, b⟩ <;> rcases h' with ⟨a', b'⟩ | ⟨a', b'⟩
  · refine Or.inl ⟨by split <;> omega, fun r q => ?_⟩
    rcases (k r).mp q with q | q
    · exact b r q
    · exact b' r q
  · have := a'.1.1
    rw [if_pos (by omega)]
    refine Or.inr ⟨(k _).mpr (Or.inr a'), fun r q => ?_⟩
    rcases (k r).mp q with q | q
    · exact absurd q (b r)
    · exact b' r q
  · have := a.1.1
    rw [if_neg (by omega)]
    refine Or.inr ⟨(k _).mpr (Or.inl a), fun r q => ?_⟩
    rcases (k r).mp q with q | q
    · exact b r q
    · exact absurd q (b' r)
  · by_cases c : z < z'
    · rw [if_pos c]
      refine Or.inr ⟨(k _).mpr (Or.inr a'), fun r q => ?_⟩
      rcases (k r).mp q with q | q
      · have := b r q; omega
      · exact b' r q
    · rw [if_neg c]
      refine Or.inr ⟨(k _).mpr (Or.inl a), fun r q => ?_⟩
      rcases (k r).mp q with q | q
      · exact b r q
      · have := b' r q; omega

