/-! the invariant: archive and crash -/
theorem Inv.wr1 {b c : Int} {M : MSt} (h : Inv b c M) (p : Int) : Inv b c (r_write M p).2 := by
  unfold r_write
  by_cases q : (0 ≤ p ∧ p ≤ 7) ∧ M 7 p = 1 ∧ M 8 p = 1
  · rw [pick_t q]; exact h.xwrt ⟨q.1.1, by omega⟩ q.2.1
  · rw [pick_f q]; exact h
theorem Inv.wrN {b c : Int} {M : MSt} (h : Inv b c M) (n : Nat) : Inv b c (wrN M n).2 := by
  induction n with
  | zero => exact h
  | succ n ih => exact ih.wr1 n
theorem Inv.xarc {b c : Int} {M : MSt} (h : Inv b c M) (h0 : lives M ≤ 0) (hb : 0 ≤ b) : Inv b (c + b) (arc M) := by
  have hr := h.recs
  obtain ⟨h1, h2, ⟨⟨h3, h4⟩, h5, h6, h7, h8⟩, ⟨x1, x2, x3⟩, h10⟩ := h
  have o : ∀ f : Nat, f ≠ 11 → f ≠ 12 → f ≠ 13 → arc M f = M f := fun f a b c => funext fun _ => by
    unfold arc
    rw [up_ne (fun z => c z.1), up_ne (fun z => b z.1), up_ne (fun z => a z.1)]
  have e1 : arc M 11 0 = lst M := by
    unfold arc
    rw [up_ne (by simp), up_ne (by simp), up_same]
  have e2 : arc M 12 0 = 0 := by
    unfold arc
    rw [up_ne (by simp), up_same]
  have e3 : arc M 13 0 = lst M := up_same _ _ _ _
  have em : arc M 22 0 = M 22 0 := congrFun (o _ (by decide) (by decide) (by decide)) 0
  refine ⟨h1.c em (o _ (by decide) (by decide) (by decide)) (o _ (by decide) (by decide) (by decide)) (o _ (by decide) (by decide) (by decide)) (o _ (by decide) (by decide) (by decide)) (o _ (by decide) (by decide) (by decide)), h2.c em (o _ (by decide) (by decide) (by decide)) (Liv_c (o _ (by decide) (by decide) (by decide))), ⟨⟨by omega, ?_⟩, ?_, fun r a b => ?_, fun r a b => ?_, fun r a b => ?_⟩, ⟨?_, ?_, fun p a b => ?_⟩, ?_⟩
  · unfold Psi
    rw [e2, lives_c (M' := M) (o _ (by decide) (by decide) (by decide)) em, cnt_0]
    omega
  · rw [e1]; unfold lst; omega
  · rw [e2] at b; omega
  · rw [e2] at b; omega
  · rw [e2] at b; omega
  · rw [o 0 (by decide) (by decide) (by decide)]; exact x1
  · rw [e1, e3]; unfold lst; rw [e1, e2]; unfold lst; omega
  · have q := x3 p a b
    rw [e3, o 7 (by decide) (by decide) (by decide), o 6 (by decide) (by decide) (by decide), o 3 (by decide) (by decide) (by decide)]
    have el : lst (arc M) = lst M := by
      show arc M 11 0 + arc M 12 0 = _
      rw [e1, e2]; omega
    rw [el]
    exact ⟨q.1, by omega⟩
  · unfold Clk at h10 ⊢
    rw [e2, o 10 (by decide) (by decide) (by decide)]
    omega
/-- the log lct to its first k records -/
def lct (M : MSt) (k : Int) : MSt := up M 12 0 k
theorem lct_add (M : MSt) (k : Int) : Add (lct M k) (lct M (k + 1)) := by
  refine ⟨rfl, ?_, fun f i a b c => ?_⟩
  · show up M 12 0 (k + 1) 12 0 = up M 12 0 k 12 0 + 1
    rw [up_same, up_same]
  · show up M 12 0 (k + 1) f i = up M 12 0 k f i
    rw [up_ne (fun z => b z.1), up_ne (fun z => b z.1)]
theorem cnt_most {P P' : Int → Prop} {u b : Int} (h : ∀ r, 0 ≤ r → r < b → P r → r ≠ u → P' r) (h0 : 0 ≤ b) : cnt P b ≤ cnt P' b + 1 := by
  have : ∀ n : Nat, (n : Int) ≤ b → cntN P n ≤ cntN P' n + (if 0 ≤ u ∧ u < n then 1 else 0) := by
    intro n
    induction n with
    | zero => intro _; rw [if_neg (by omega)]; exact Int.le_refl _
    | succ n ih =>
      intro hn
      have q := ih (by omega)
      have e1 := b01_or (P n)
      have e2 := b01_or (P' n)
      unfold cntN
      by_cases e : (n : Int) = u
      · rw [if_neg (by omega)] at q
        rw [if_pos (by omega)]
        omega
      · have e3 : b01 (P n) ≤ b01 (P' n) := by
          by_cases hp : P n
          · rw [b01_t hp, b01_t (h n (by omega) (by omega) hp e)]; exact Int.le_refl _
          · rw [b01_f hp]; omega
        by_cases e4 : 0 ≤ u ∧ u < (n : Int)
        · rw [if_pos e4] at q
          rw [if_pos (by omega)]
          omega
        · rw [if_neg e4] at q
          rw [if_neg (by omega)]
          omega
  have q := this b.toNat (by omega)
  unfold cnt
  split at q <;> omega
theorem lct_step (M : MSt) {k : Int} (hk : 0 ≤ k) : k + cnt (UU (lct M k)) k ≤ (k + 1) + cnt (UU (lct M (k + 1))) (k + 1) := by
  have ha := lct_add M k
  have er : lct M k 12 0 = k := up_same _ _ _ _
  have q := cnt_most (P := UU (lct M k)) (P' := UU (lct M (k + 1))) (u := M 17 k - M 11 0 - 1) (b := k) (fun r a b c d => by
    refine ⟨c.1, fun z => ?_⟩
    rcases (Und_add ha (by rw [er]; exact b)).mp z with z | z
    · exact c.2 z
    · rw [er] at z
      have z2 : M 17 k = M 11 0 + r + 1 := z.2
      omega) hk
  have s := cnt_s (P := UU (lct M (k + 1))) hk
  have b := b01_or (UU (lct M (k + 1)) k)
  omega
theorem lct_le (M : MSt) : ∀ (n : Nat) (k : Int), 0 ≤ k → k + cnt (UU (lct M k)) k ≤ (k + n) + cnt (UU (lct M (k + n))) (k + n) := by
  intro n
  induction n with
  | zero => intro k _; rw [show k + ((0 : Nat) : Int) = k from by omega]; exact Int.le_refl _
  | succ n ih =>
    intro k hk
    have a := lct_step M hk
    have b := ih (k + 1) (by omega)
    rw [show k + ((n + 1 : Nat) : Int) = k + 1 + n from by omega]
    omega
theorem lct_UU {M : MSt} {k : Int} (h0 : 0 ≤ k) (h : k ≤ M 12 0) : k + cnt (UU (lct M k)) k ≤ M 12 0 + cnt (UU M) (M 12 0) := by
  have q := lct_le M (M 12 0 - k).toNat k h0
  rw [show k + ((M 12 0 - k).toNat : Int) = M 12 0 from by omega] at q
  rw [show lct M (M 12 0) = M from up_self M 12 0] at q
  exact q
theorem cr0_UU (M : MSt) (n : Int) (r : Int) : UU (cr0 M n) r ↔ UU (lct M (M 13 0 + n - M 11 0)) r := UU_c (funext fun i => by unfold cr0 lct; rw [up_ne (by simp), up_ne (by simp), up_ne (by simp)]) (funext fun i => by unfold cr0 lct; rw [up_ne (by simp), up_ne (by simp), up_ne (by simp)]) (by unfold cr0 lct; rw [up_ne (by simp), up_ne (by simp), up_ne (by simp)]) (by unfold cr0 lct; rw [up_same, up_same]) r
theorem Inv.crok {b c : Int} {M : MSt} (h : Inv b c M) (hb : b ≤ 300) (hc : c ≤ 899000) : CrOk M := by
  have hr := h.recs
  have h4 := h.2.2.1.1.2
  have x2 := h.2.2.2.1.2.1
  have k := h.2.2.2.2
  have lv := (lives_bd h.1.1.1).1
  refine ⟨fun t x y => top_par h.1.2.1 ⟨x, y⟩, x2, ?_, fun n a e => ?_⟩
  · unfold Clk at k; omega
  · unfold lst at x2 e
    unfold Psi at h4
    rw [cnt_ext (P := UU (cr0 M n)) (P' := UU (lct M (M 13 0 + n - M 11 0))) (fun i _ _ => cr0_UU M n i)]
    have := lct_UU (M := M) (k := M 13 0 + n - M 11 0) (by omega) (by omega)
    omega
theorem Inv.xcr1 {b c : Int} {M : MSt} {n : Int} (h : Inv b c M) (hn : 0 ≤ n) (hn2 : n ≤ lst M - M 13 0) : Inv b (c + b) (cr1 M n) ∧ ∀ t, inM M t → (cr1 M n 23 t = 3 ∨ cr1 M n 23 t = 4) := by
  have hr := h.recs
  obtain ⟨⟨a1, a2, a3, a4, a5⟩, ⟨b1, b2, b3⟩, ⟨⟨h3, h4⟩, h5, h6, h7, h8⟩, ⟨x1, x2, x3⟩, h10⟩ := h
  have hm0 := a1.1
  have o : ∀ (f : Nat) (i : Int), f ≠ 13 → f ≠ 12 → f ≠ 7 → f ≠ 8 → f ≠ 26 → f ≠ 23 → cr1 M n f i = M f i := fun f i c1 c2 c3 c4 c5 c6 => by
    unfold cr1 cst
    rw [if_neg (fun z => c5 z.1), if_neg (fun z => c6 z.1)]
    unfold zfr
    rw [if_neg (fun z => by rcases z.1 with z | z; exact c3 z; exact c4 z)]
    unfold cr0
    rw [up_ne (fun z => c2 z.1), up_ne (fun z => c1 z.1)]
  have of : ∀ (f : Nat), f ≠ 13 → f ≠ 12 → f ≠ 7 → f ≠ 8 → f ≠ 26 → f ≠ 23 → cr1 M n f = M f := fun f c1 c2 c3 c4 c5 c6 => funext fun i => o f i c1 c2 c3 c4 c5 c6
  have em : cr1 M n 22 0 = M 22 0 := o _ _ (by decide) (by decide) (by decide) (by decide) (by decide) (by decide)
  have ep : cr1 M n 24 = M 24 := of _ (by decide) (by decide) (by decide) (by decide) (by decide) (by decide)
  have eb : cr1 M n 11 0 = M 11 0 := o _ _ (by decide) (by decide) (by decide) (by decide) (by decide) (by decide)
  have er : cr1 M n 12 0 = M 13 0 + n - M 11 0 := by
    unfold cr1 cst
    rw [if_neg (by simp), if_neg (by simp)]
    unfold zfr
    rw [if_neg (by simp)]
    exact up_same _ _ _ _
  have ef : cr1 M n 13 0 = M 13 0 + n := by
    unfold cr1 cst
    rw [if_neg (by simp), if_neg (by simp)]
    unfold zfr
    rw [if_neg (by simp)]
    unfold cr0
    rw [up_ne (by simp), up_same]
  have ei : ∀ p, 0 ≤ p → p < 8 → cr1 M n 7 p = 0 := fun p x y => by
    unfold cr1 cst
    rw [if_neg (by simp), if_neg (by simp)]
    unfold zfr
    rw [if_pos ⟨Or.inl rfl, x, y⟩]
  have zs : ∀ i, zfr (cr0 M n) 8 23 i = M 23 i := fun i => by
    unfold zfr
    rw [if_neg (by simp)]
    unfold cr0
    rw [up_ne (by simp), up_ne (by simp)]
  have zt : ∀ i, top (zfr (cr0 M n) 8) i = top M i := fun i => top_c (funext fun j => by
    unfold zfr
    rw [if_neg (by simp)]
    unfold cr0
    rw [up_ne (by simp), up_ne (by simp)]) i
  have es : ∀ t, inM M t → cr1 M n 23 t = if M 23 (top M t) = 3 then M 23 t else 4 := fun t ht => by
    unfold cr1 cst
    rw [if_neg (by simp), if_pos ⟨rfl, ht⟩, zt, zs, zs]
  have el : ∀ i, cr1 M n 26 i = if 0 ≤ i ∧ i < 33 * M 22 0 then 0 else M 26 i := fun i => by
    unfold cr1 cst
    by_cases e : 0 ≤ i ∧ i < 33 * M 22 0
    · rw [if_pos ⟨rfl, e⟩, if_pos e]
    · rw [if_neg (fun z => e z.2), if_neg e, if_neg (by simp)]
      unfold zfr
      rw [if_neg (by simp)]
      unfold cr0
      rw [up_ne (by simp), up_ne (by simp)]
  have s34 : ∀ t, inM M t → cr1 M n 23 t = 3 ∨ cr1 M n 23 t = 4 := fun t ht => by
    rw [es t ht]
    split
    · next q =>
      have q1 := a3 t ht.1 ht.2
      have q2 : ¬ Liv M t := fun z => by
        have := a4.lvt a1 ht z
        unfold LvT Liv at this
        omega
      unfold Liv at q2
      omega
    · exact Or.inr rfl
  have stop : ∀ t, inM M t → (cr1 M n 23 (top M t) = 3 ↔ M 23 (top M t) = 3) := fun t ht => by
    have q := InS_tops a1 a2 ht
    rw [es _ q.1, top_root (top_par a2 ht)]
    split
    · exact Iff.rfl
    · next z => exact ⟨fun y => absurd y (by decide), fun y => absurd y z⟩
  have nl : ∀ t, inM M t → ¬ Liv (cr1 M n) t := fun t ht z => by
    have := s34 t ht
    unfold Liv at z
    omega
  unfold lst at x2 hn2
  refine ⟨⟨⟨a1.c ep em, a2.c ep em, fun t x y => ?_, fun t ht hlt _ => ?_, fun t x y z => ?_⟩, ⟨fun t i x y z w => ?_, fun i hi => ?_, fun t i x y z w => ?_⟩, ⟨⟨by omega, ?_⟩, by rw [eb]; exact h5, fun r x y => ?_, fun q x y z w => ?_, fun r x y z w => ?_⟩, ⟨?_, ?_, fun p x y => ?_⟩, ?_⟩, s34⟩
  · rw [em] at y
    have := s34 t ⟨x, y⟩
    omega
  · exact absurd hlt (nl t ⟨ht.1, by have := ht.2; omega⟩)
  · rw [em] at y
    have := s34 t ⟨x, y⟩
    omega
  · rw [em] at y
    rw [el, if_pos (by omega)]
    omega
  · rw [em] at hi
    rw [el]
    split
    · rfl
    · exact b2 i hi
  · rw [el, if_pos (by have := x.1; have := x.2; omega)] at w
    exact absurd rfl w
  · unfold Psi at h4 ⊢
    have hl0 : lives (cr1 M n) = 0 := by
      unfold lives
      rw [em, cnt_ext (P := Liv (cr1 M n)) (P' := fun _ => False) (fun i a b => ⟨fun z => nl i ⟨a, b⟩ z, False.elim⟩)]
      have : ∀ k : Nat, cntN (fun _ => False) k = 0 := fun k => by
        induction k with
        | zero => rfl
        | succ k ih => unfold cntN; rw [ih, b01_f id]; rfl
      exact this _
    have hlv := (lives_bd hm0).1
    have hu : cnt (UU (cr1 M n)) (M 13 0 + n - M 11 0) = cnt (UU (lct M (M 13 0 + n - M 11 0))) (M 13 0 + n - M 11 0) := cnt_ext fun i _ _ => UU_c (M := lct M (M 13 0 + n - M 11 0)) (of 14 (by decide) (by decide) (by decide) (by decide) (by decide) (by decide)) (of 17 (by decide) (by decide) (by decide) (by decide) (by decide) (by decide)) eb (er.trans (up_same _ _ _ _).symm) i
    have := lct_UU (M := M) (k := M 13 0 + n - M 11 0) (by omega) (by omega)
    rw [er, hl0, hu]
    omega
  · rw [er] at y
    rw [em, of 15 (by decide) (by decide) (by decide) (by decide) (by decide) (by decide), of 14 (by decide) (by decide) (by decide) (by decide) (by decide) (by decide), of 16 (by decide) (by decide) (by decide) (by decide) (by decide) (by decide)]
    exact h6 r x (by omega)
  · rw [er] at y
    rw [of 14 (by decide) (by decide) (by decide) (by decide) (by decide) (by decide)] at z
    rw [ep, of 15 (by decide) (by decide) (by decide) (by decide) (by decide) (by decide)] at w
    rw [of 15 (by decide) (by decide) (by decide) (by decide) (by decide) (by decide)]
    have hin := (h6 q x (by omega)).1
    have e := h7 q x (by omega) z w
    rw [es _ hin, top_root w, if_pos e]
    exact e
  · rw [er] at y
    rw [of 14 (by decide) (by decide) (by decide) (by decide) (by decide) (by decide)] at z
    rw [top_c ep, of 15 (by decide) (by decide) (by decide) (by decide) (by decide) (by decide)] at w
    rw [top_c ep, of 15 (by decide) (by decide) (by decide) (by decide) (by decide) (by decide), of 14 (by decide) (by decide) (by decide) (by decide) (by decide) (by decide), er, ef, eb]
    have hin := (h6 r x (by omega)).1
    obtain ⟨q, q1, q2, q3, q4, q5⟩ := h8 r x (by omega) z ((stop _ hin).mp w)
    exact ⟨q, q1, by omega, by omega, q4, q5⟩
  · rw [o 0 _ (by decide) (by decide) (by decide) (by decide) (by decide) (by decide)]; exact x1
  · unfold lst; rw [eb, ef, er]; omega
  · rw [ei p x y, ef, o 3 _ (by decide) (by decide) (by decide) (by decide) (by decide) (by decide)]
    have := (x3 p x y).2
    exact ⟨fun z => absurd z (by decide), by omega⟩
  · unfold Clk at h10 ⊢
    rw [er, o 10 _ (by decide) (by decide) (by decide) (by decide) (by decide) (by decide)]
    omega
theorem Inv.xrdo {b c : Int} {K : MSt} {r : Int} (h : Inv b c K) (hr : r < K 12 0) : Inv b (c + 1) (rdo K r) := by
  unfold rdo
  split
  · split
    · have h1 := h.xtch (K 16 r / 4)
      refine h1.pages (fun f i a => bcm_o a) (h1.2.2.2.1.xbcm ?_) (Int.le_refl _) ?_
      · unfold lst
        rw [tch_o rfl, tch_o rfl]
        omega
      · exact h1.2.2.2.2
    · exact h.xtch _
  · exact h.mono (Int.le_refl _) (by omega)
theorem Inv.xrdN {b c : Int} {K : MSt} (h : Inv b c K) : ∀ n : Nat, (n : Int) ≤ K 12 0 → Inv b (c + n) (rdN K n) := by
  intro n
  induction n with
  | zero => intro _; exact h.mono (Int.le_refl _) (by omega)
  | succ n ih =>
    intro hn
    have q := (ih (by omega)).xrdo (r := n) (by rw [rdN_o rfl]; omega)
    rw [show c + (n : Int) + 1 = c + ((n + 1 : Nat) : Int) from by omega] at q
    exact q
theorem Inv.xucN {b c : Int} : ∀ (n : Nat) (K : MSt), Inv b c K → (n : Int) ≤ K 12 0 → Inv b c (ucN n K).2 := by
  intro n
  induction n with
  | zero => intro K h _; exact h
  | succ n ih =>
    intro K h hn
    unfold ucN
    by_cases hc : K 14 (n : Int) = 2 ∧ ¬ Und K (n : Int) ∧ ¬ Cmt K (top K (K 15 (n : Int)))
    · rw [pick_t hc]
      have e1 : ∀ t, s_und K t n 12 0 = K 12 0 + 1 := fun t => und_n.1
      have hin := (h.2.2.1.2.2.1 n (by omega) (by omega)).1
      have ht := top_bd h.1.1 hin.1 hin.2
      exact ih _ (h.und (by omega) (by omega) ⟨hc.1, hc.2.1⟩ ⟨ht.1, by omega⟩) (by rw [e1]; omega)
    · rw [pick_f hc]
      exact ih K h (by omega)
theorem Inv.flu {b c : Int} {M : MSt} (h : Inv b c M) : Inv b c (up M 13 0 (lst M)) := by
  have o : ∀ f : Nat, f ≠ 13 → up M 13 0 (lst M) f = M f := fun f a => funext fun _ => up_ne (fun z => a z.1)
  have oo : ∀ (f : Nat) (j : Int), f ≠ 13 → up M 13 0 (lst M) f j = M f j := fun f j a => up_ne (fun z => a z.1)
  obtain ⟨h1, h2, h3, ⟨x1, x2, x3⟩, h5⟩ := h
  refine ⟨h1.c (oo _ _ (by decide)) (o _ (by decide)) (o _ (by decide)) (o _ (by decide)) (o _ (by decide)) (o _ (by decide)), h2.c (oo _ _ (by decide)) (o _ (by decide)) (Liv_c (o _ (by decide))), h3.c (oo _ _ (by decide)) (o _ (by decide)) (o _ (by decide)) (oo _ _ (by decide)) (oo _ _ (by decide)) (o _ (by decide)) (o _ (by decide)) (o _ (by decide)) (o _ (by decide)) ?_, ⟨x1, ?_, fun p a b => ?_⟩, h5⟩
  · rw [up_same]; exact x2.2
  · rw [up_same, oo _ _ (by decide)]
    have e : lst (up M 13 0 (lst M)) = lst M := rfl
    rw [e]
    have := h3.1.1
    unfold lst
    omega
  · rw [up_same]
    have := (x3 p a b).2
    exact ⟨(x3 p a b).1, by rw [oo _ _ (by decide)]; omega⟩
theorem Inv.xcrs {b c : Int} {M : MSt} {n : Int} (h : Inv b c M) (hn : 0 ≤ n) (hn2 : n ≤ lst M - M 13 0) : Inv b (c + 2 * b) (crs M n).2 := by
  have h1 := (h.xcr1 hn hn2).1
  have hr := h1.recs
  have x2 := h.2.2.2.1.2.1
  have er : cr1 M n 12 0 = M 13 0 + n - M 11 0 := by
    unfold cr1 cst
    rw [if_neg (by simp), if_neg (by simp)]
    unfold zfr
    rw [if_neg (by simp)]
    exact up_same _ _ _ _
  have h2 : Inv b (c + b + ((M 13 0 + n - M 11 0).toNat : Int)) (cr2 M n) := h1.xrdN _ (by omega)
  have h3 : Inv b (c + b + ((M 13 0 + n - M 11 0).toNat : Int)) (cr3 M n).2 := Inv.xucN _ _ h2 (by
    show _ ≤ rdN (cr1 M n) _ 12 0
    rw [rdN_o rfl]
    omega)
  exact h3.flu.mono (Int.le_refl _) (by omega)
/-! n operations -/
def JI (n : Int) (M : MSt) : Prop := 0 ≤ n ∧ Inv (2 * n) (2000 * n) M ∧ M 11 0 ≤ 300 * n
theorem JI.wf {n : Int} {M : MSt} (h : JI n M) (hn : n ≤ 64) : WF M := h.2.1.wf (by omega) (by omega) (by have := h.2.2; omega)
theorem JI.iv {n : Int} {M : MSt} (h : JI n M) (hn : n ≤ 64) : IvM M := h.2.1.iv (by omega) (by omega) (by have := h.2.2; omega)
theorem JI.crok {n : Int} {M : MSt} (h : JI n M) (hn : n ≤ 64) : CrOk M := h.2.1.crok (by omega) (by omega)
theorem JI.next {n : Int} {M M' : MSt} (h : JI n M) (hn : n ≤ 64) (hI : Inv (2 * n + 2) (2000 * n + 600) M') (hb : M' 11 0 ≤ M 11 0 + 2 * n) : JI (n + 1) M' := ⟨by have := h.1; omega, hI.mono (by omega) (by omega), by have := h.2.2; omega⟩
theorem JI.same {n : Int} {M : MSt} (h : JI n M) : JI (n + 1) M := ⟨by have := h.1; omega, h.2.1.mono (by omega) (by omega), by have := h.2.2; omega⟩

