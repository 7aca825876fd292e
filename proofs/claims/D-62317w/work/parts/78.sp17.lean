/-! a crash, side by side -/
/-- of the first b: no locks, and gone unless its top is done -/
def cstN (N : MSt) (b : Int) (f : Nat) (i : Int) : Int := if f = 39 ∧ 0 ≤ i ∧ i < 33 * b then 0 else if f = 35 ∧ 0 ≤ i ∧ i < b then (if N 35 (N 32 i) = 3 then N 35 i else 4) else N f i
theorem cstN_0 (N : MSt) : cstN N 0 = N := by
  funext f i
  unfold cstN
  rw [if_neg (by omega), if_neg (by omega)]
theorem cstN_o {N : MSt} {b i : Int} {f : Nat} (h : f ≠ 39) (h1 : f ≠ 35) : cstN N b f i = N f i := by
  unfold cstN
  rw [if_neg (fun z => h z.1), if_neg (fun z => h1 z.1)]
theorem cstN_top {N : MSt} {b : Int} (ht : 0 ≤ N 32 b ∧ N 32 b ≤ b) (htt : N 32 (N 32 b) = N 32 b) : cstN N b 35 (N 32 b) = 3 ↔ N 35 (N 32 b) = 3 := by
  unfold cstN
  rw [if_neg (by simp)]
  by_cases e : N 32 b < b
  · rw [if_pos ⟨rfl, ht.1, e⟩, htt]
    split
    · exact Iff.rfl
    · next z => exact ⟨fun y => absurd y (by decide), fun y => absurd y z⟩
  · rw [if_neg (fun z => e z.2.2)]
theorem cstN_s {N : MSt} {b : Int} (h : 0 ≤ b) : up (ulN (cstN N b) b 33) 35 b (if N 35 (N 32 b) = 3 then N 35 b else 4) = cstN N (b + 1) := by
  funext f i
  unfold up ulN cstN
  by_cases h3 : f = 39
  · subst h3
    by_cases h4 : 33 * b ≤ i ∧ i < 33 * b + 33
    · rw [if_neg (fun z => absurd z.1 (by decide)), if_pos ⟨rfl, h4⟩]
      exact (if_pos ⟨rfl, by omega, by omega⟩).symm
    · rw [if_neg (fun z => absurd z.1 (by decide)), if_neg (fun z => h4 z.2)]
      by_cases h5 : 0 ≤ i ∧ i < 33 * b
      · refine (if_pos ⟨rfl, h5⟩).trans (if_pos ⟨rfl, by omega, by omega⟩).symm
      · refine (if_neg (fun z => h5 z.2)).trans ((if_neg (fun z => absurd z.1 (by decide))).trans ?_)
        exact ((if_neg (fun z => by omega)).trans (if_neg (fun z => absurd z.1 (by decide)))).symm
  · by_cases h1 : f = 35
    · subst h1
      by_cases h2 : i = b
      · rw [if_pos ⟨rfl, h2⟩]
        subst h2
        exact ((if_neg (fun z => absurd z.1 (by decide))).trans (if_pos ⟨rfl, h, by omega⟩)).symm
      · rw [if_neg (fun z => h2 z.2)]
        refine (if_neg (fun z => absurd z.1 (by decide))).trans ((if_neg (fun z => absurd z.1 (by decide))).trans ?_)
        by_cases h4 : 0 ≤ i ∧ i < b
        · exact (if_pos ⟨rfl, h4⟩).trans ((if_neg (fun z => absurd z.1 (by decide))).trans (if_pos ⟨rfl, by omega, by omega⟩)).symm
        · exact (if_neg (fun z => h4 z.2)).trans ((if_neg (fun z => absurd z.1 (by decide))).trans (if_neg (fun z => by omega))).symm
    · rw [if_neg (fun z => h1 z.1)]
      refine (if_neg (fun z => h3 z.1)).trans ((if_neg (fun z => h3 z.1)).trans ((if_neg (fun z => h1 z.1)).trans ?_))
      exact ((if_neg (fun z => h3 z.1)).trans (if_neg (fun z => h1 z.1))).symm
theorem cstN_k {N : MSt} {b : Int} (h : 0 ≤ b) (h3 : N 35 (N 32 b) = 3) : ulN (cstN N b) b 33 = cstN N (b + 1) := by
  rw [← cstN_s h, if_pos h3]
  have e : ulN (cstN N b) b 33 35 b = N 35 b := by
    rw [ulN_o (by decide)]
    unfold cstN
    rw [if_neg (by simp), if_neg (by omega)]
  have := up_self (ulN (cstN N b) b 33) 35 b
  rw [e] at this
  exact this.symm
/-- the store before the log is gone through -/
def crN (N : MSt) (n b : Int) : MSt := up (up (cstN (up (up (up N 5 0 (N 5 0 + n)) 3 0 (N 5 0 + n - N 4 0)) 1 0 0) b) 7 0 0) 6 0 0
theorem crN_o {N : MSt} {n b i : Int} {f : Nat} (c1 : f ≠ 5) (c2 : f ≠ 3) (c3 : f ≠ 1) (c4 : f ≠ 7) (c5 : f ≠ 6) (c6 : f ≠ 39) (c7 : f ≠ 35) : crN N n b f i = N f i := by
  unfold crN
  rw [up_ne (fun z => c5 z.1), up_ne (fun z => c4 z.1), cstN_o c6 c7, up_ne (fun z => c3 z.1), up_ne (fun z => c2 z.1), up_ne (fun z => c1 z.1)]
theorem crN_k {N : MSt} {n b i : Int} {f : Nat} (h : f = 5 ∨ f = 3 ∨ f = 1 ∨ f = 7 ∨ f = 6) : crN N n b f i = up (up (up (up (up N 5 0 (N 5 0 + n)) 3 0 (N 5 0 + n - N 4 0)) 1 0 0) 7 0 0) 6 0 0 f i := by
  have hl : f ≠ 39 ∧ f ≠ 35 := by omega
  unfold crN up
  split
  · rfl
  · split
    · rfl
    · rw [cstN_o hl.1 hl.2]
theorem cr1_fl (M : MSt) (n : Int) : cr1 M n 12 0 = M 13 0 + n - M 11 0 ∧ cr1 M n 13 0 = M 13 0 + n := by
  unfold cr1 cst
  rw [if_neg (by simp), if_neg (by simp), if_neg (by simp), if_neg (by simp)]
  unfold zfr
  rw [if_neg (by simp), if_neg (by simp)]
  refine ⟨up_same _ _ _ _, ?_⟩
  unfold cr0
  rw [up_ne (by simp), up_same]
theorem cr1_if (M : MSt) (n : Int) {p : Int} (x : 0 ≤ p) (y : p < 8) : cr1 M n 7 p = 0 := by
  unfold cr1 cst
  rw [if_neg (by simp), if_neg (by simp)]
  unfold zfr
  rw [if_pos ⟨Or.inl rfl, x, y⟩]
theorem cr1_st (M : MSt) (n : Int) {t : Int} (ht : inM M t) : cr1 M n 23 t = if M 23 (top M t) = 3 then M 23 t else 4 := by
  have zs : ∀ i, zfr (cr0 M n) 8 23 i = M 23 i := fun i => by
    unfold zfr
    rw [if_neg (by simp)]
    unfold cr0
    rw [up_ne (by simp), up_ne (by simp)]
  have zt : ∀ i, top (zfr (cr0 M n) 8) i = top M i := fun i => top_c (funext fun j => by
    unfold zfr
    rw [if_neg (by simp)]
    unfold cr0
    rw [up_ne (by simp), up_ne (by simp)]) i
  unfold cr1 cst
  rw [if_neg (by simp), if_pos ⟨rfl, ht⟩, zt, zs, zs]
theorem cr1_lk (M : MSt) (n i : Int) : cr1 M n 26 i = if 0 ≤ i ∧ i < 33 * M 22 0 then 0 else M 26 i := by
  unfold cr1 cst
  by_cases e : 0 ≤ i ∧ i < 33 * M 22 0
  · rw [if_pos ⟨rfl, e⟩, if_pos e]
  · rw [if_neg (fun z => e z.2), if_neg e, if_neg (by simp)]
    unfold zfr
    rw [if_neg (by simp)]
    unfold cr0
    rw [up_ne (by simp), up_ne (by simp)]
/-- no one is alive -/
def Dead (M : MSt) : Prop := ∀ t, inM M t → M 23 t = 3 ∨ M 23 t = 4
theorem Dead.lvt {M : MSt} (h : Dead M) (hp : ParOk M) (hd : DepOk M) {t : Int} (ht : inM M t) : ¬ LvT M t := fun z => by
  have := h _ (InS_tops hp hd ht).1
  unfold LvT Liv at z
  omega
theorem Dead.lives {M : MSt} (h : Dead M) : lives M = 0 := by
  unfold CNestedStoreLaw_law_r7484_ab0530.lives
  rw [cnt_ext (P := Liv M) (P' := fun _ => False) (fun i a b => ⟨fun z => by have := h i ⟨a, b⟩; unfold Liv at z; omega, False.elim⟩)]
  have : ∀ k : Nat, cntN (fun _ => False) k = 0 := fun k => by
    induction k with
    | zero => rfl
    | succ k ih => unfold cntN; rw [ih, b01_f id]; rfl
  exact this _
theorem Dead.opens {M : MSt} (h : Dead M) (hp : ParOk M) (hd : DepOk M) (hb : RcB M) : opens M = 0 := by
  unfold CNestedStoreLaw_law_r7484_ab0530.opens
  rw [cnt_ext (P := Opn M) (P' := fun _ => False) (fun i a b => ⟨fun z => by
    have hin := (hb i a b).1
    have := h _ (InS_tops hp hd hin).1
    have h1 := z.2.1
    have h2 := z.2.2.1
    omega, False.elim⟩)]
  have : ∀ k : Nat, cntN (fun _ => False) k = 0 := fun k => by
    induction k with
    | zero => rfl
    | succ k ih => unfold cntN; rw [ih, b01_f id]; rfl
  exact this _
theorem Sim_cr1 {N M : MSt} {n b c : Int} (h : Sim N M) (hI : Inv b c M) (hn : 0 ≤ n) (hn2 : n ≤ lst M - M 13 0) : Sim0 (crN N n (M 22 0)) (cr1 M n) ∧ Dead (cr1 M n) := by
  have hc := hI.xcr1 hn hn2
  have em : cr1 M n 22 0 = M 22 0 := cr1_o (by decide) (by decide) (by decide) (by decide) (by decide) (by decide)
  have ep : cr1 M n 24 = M 24 := funext fun i => cr1_o (by decide) (by decide) (by decide) (by decide) (by decide) (by decide)
  have hD : Dead (cr1 M n) := fun t ht => hc.2 t ⟨ht.1, by have := ht.2; omega⟩
  have hp1 := hc.1.1.1
  have hd1 := hc.1.1.2.1
  have hg : N 4 0 = M 11 0 := h.l.1.1
  have hfl : N 5 0 = M 13 0 := h.p.1.2.2
  have hfb := hI.2.2.2.1.2.1
  have n0 : ∀ f : Nat, f ≠ 5 → f ≠ 3 → f ≠ 1 → f ≠ 7 → f ≠ 6 → f ≠ 39 → f ≠ 35 → crN N n (M 22 0) f = N f := fun f a1 a2 a3 a4 a5 a6 a7 => funext fun i => crN_o a1 a2 a3 a4 a5 a6 a7
  have m0 : ∀ f : Nat, f ≠ 13 → f ≠ 12 → f ≠ 7 → f ≠ 8 → f ≠ 26 → f ≠ 23 → cr1 M n f = M f := fun f a1 a2 a3 a4 a5 a6 => funext fun i => cr1_o a1 a2 a3 a4 a5 a6
  have nf : crN N n (M 22 0) 5 0 = M 13 0 + n := by
    rw [crN_k (Or.inl rfl), up_ne (by simp), up_ne (by simp), up_ne (by simp), up_ne (by simp), up_same, hfl]
  have nr : crN N n (M 22 0) 3 0 = M 13 0 + n - M 11 0 := by
    rw [crN_k (Or.inr (Or.inl rfl)), up_ne (by simp), up_ne (by simp), up_ne (by simp), up_same, hfl, hg]
  have nfr : crN N n (M 22 0) 1 0 = 0 := by
    rw [crN_k (Or.inr (Or.inr (Or.inl rfl))), up_ne (by simp), up_ne (by simp), up_same]
  have nlv : crN N n (M 22 0) 7 0 = 0 := by
    rw [crN_k (Or.inr (Or.inr (Or.inr (Or.inl rfl)))), up_ne (by simp), up_same]
  have ulv : usd (cr1 M n) = 0 := by
    unfold usd
    rw [cnt_ext (P := fun q => cr1 M n 7 q = 1) (P' := fun _ => False) (fun i a b => ⟨fun z => by rw [cr1_if M n a b] at z; exact absurd z (by decide), False.elim⟩)]
    show cntN _ 8 = 0
    have : ∀ k : Nat, cntN (fun _ => False) k = 0 := fun k => by
      induction k with
      | zero => rfl
      | succ k ih => unfold cntN; rw [ih, b01_f id]; rfl
    exact this _
  have st : ∀ t, inM M t → crN N n (M 22 0) 35 t = cr1 M n 23 t := fun t ht => by
    have q := h.t.2 t ht.1 ht.2
    have ht1 := (InS_tops hI.1.1 hI.1.2.1 ht).1
    have q2 := h.t.2 _ ht1.1 ht1.2
    rw [cr1_st M n ht]
    have oo : ∀ f i, f ≠ 5 → f ≠ 3 → f ≠ 1 → up (up (up N 5 0 (N 5 0 + n)) 3 0 (N 5 0 + n - N 4 0)) 1 0 0 f i = N f i := fun f i x y z => by rw [up_ne (fun e => z e.1), up_ne (fun e => y e.1), up_ne (fun e => x e.1)]
    unfold crN
    rw [up_ne (by simp), up_ne (by simp)]
    unfold cstN
    rw [if_neg (by simp), if_pos ⟨rfl, ht⟩, oo _ _ (by decide) (by decide) (by decide), oo _ _ (by decide) (by decide) (by decide), oo _ _ (by decide) (by decide) (by decide), q.1.2.1, q2.1.2.2.2.2, q.1.2.2.2.2]
  refine ⟨⟨⟨⟨?_, ?_, ?_⟩, fun i a b => ?_, fun i j a b c => ?_, fun p a b => ?_, fun p a b => ?_, fun p a b z => ?_⟩, ⟨⟨?_, ?_, ?_, ?_⟩, fun r a b => ?_⟩, ⟨fun r a b c d => ?_, fun t a b c => ?_⟩, ⟨⟨?_, ?_⟩, fun t a b => ?_⟩, ?_, ?_⟩, hD⟩
  · rw [nfr, ulv]
  · rw [n0 2 (by decide) (by decide) (by decide) (by decide) (by decide) (by decide) (by decide), m0 0 (by decide) (by decide) (by decide) (by decide) (by decide) (by decide)]; exact h.p.1.2.1
  · rw [nf, (cr1_fl M n).2]
  · rw [nfr] at b; omega
  · rw [nfr] at c; omega
  · rw [cr1_if M n a b]; exact ⟨Or.inl rfl, fun z => absurd z (by decide)⟩
  · rw [n0 11 (by decide) (by decide) (by decide) (by decide) (by decide) (by decide) (by decide), n0 14 (by decide) (by decide) (by decide) (by decide) (by decide) (by decide) (by decide), n0 12 (by decide) (by decide) (by decide) (by decide) (by decide) (by decide) (by decide), m0 1 (by decide) (by decide) (by decide) (by decide) (by decide) (by decide), m0 2 (by decide) (by decide) (by decide) (by decide) (by decide) (by decide), m0 3 (by decide) (by decide) (by decide) (by decide) (by decide) (by decide)]
    exact h.p.2.2.2.2.1 p a b
  · rw [cr1_if M n a b] at z; exact absurd z (by decide)
  · rw [n0 4 (by decide) (by decide) (by decide) (by decide) (by decide) (by decide) (by decide), m0 11 (by decide) (by decide) (by decide) (by decide) (by decide) (by decide)]; exact hg
  · rw [nr, (cr1_fl M n).1]
  · rw [(cr1_fl M n).1]; omega
  · rw [(cr1_fl M n).1, n0 50 (by decide) (by decide) (by decide) (by decide) (by decide) (by decide) (by decide)]
    have := h.l.1.2.2.2
    unfold lst at hn2
    omega
  · rw [(cr1_fl M n).1] at b
    unfold lst at hn2
    have q := h.l.2 r a (by omega)
    unfold EntS at q ⊢
    rw [n0 20 (by decide) (by decide) (by decide) (by decide) (by decide) (by decide) (by decide), n0 21 (by decide) (by decide) (by decide) (by decide) (by decide) (by decide) (by decide), n0 22 (by decide) (by decide) (by decide) (by decide) (by decide) (by decide) (by decide), n0 23 (by decide) (by decide) (by decide) (by decide) (by decide) (by decide) (by decide), n0 24 (by decide) (by decide) (by decide) (by decide) (by decide) (by decide) (by decide), n0 25 (by decide) (by decide) (by decide) (by decide) (by decide) (by decide) (by decide), n0 26 (by decide) (by decide) (by decide) (by decide) (by decide) (by decide) (by decide), n0 27 (by decide) (by decide) (by decide) (by decide) (by decide) (by decide) (by decide), n0 28 (by decide) (by decide) (by decide) (by decide) (by decide) (by decide) (by decide),
      m0 11 (by decide) (by decide) (by decide) (by decide) (by decide) (by decide), m0 14 (by decide) (by decide) (by decide) (by decide) (by decide) (by decide), m0 15 (by decide) (by decide) (by decide) (by decide) (by decide) (by decide), m0 16 (by decide) (by decide) (by decide) (by decide) (by decide) (by decide), m0 17 (by decide) (by decide) (by decide) (by decide) (by decide) (by decide), m0 18 (by decide) (by decide) (by decide) (by decide) (by decide) (by decide), m0 19 (by decide) (by decide) (by decide) (by decide) (by decide) (by decide), m0 20 (by decide) (by decide) (by decide) (by decide) (by decide) (by decide), m0 21 (by decide) (by decide) (by decide) (by decide) (by decide) (by decide)]
    exact q
  · exact absurd d (hD.lvt hp1 hd1 (hc.1.2.2.1.2.2.1 r a b).1)
  · exact absurd c (hD.lvt hp1 hd1 ⟨a, b⟩)
  · rw [n0 8 (by decide) (by decide) (by decide) (by decide) (by decide) (by decide) (by decide), em]; exact h.t.1.1
  · rw [n0 51 (by decide) (by decide) (by decide) (by decide) (by decide) (by decide) (by decide), em]; exact h.t.1.2
  · rw [em] at b
    obtain ⟨⟨t1, t2, t3, t4, t5⟩, t6, t7, t8, t9⟩ := h.t.2 t a b
    unfold TrS
    rw [st t ⟨a, b⟩, n0 31 (by decide) (by decide) (by decide) (by decide) (by decide) (by decide) (by decide), n0 32 (by decide) (by decide) (by decide) (by decide) (by decide) (by decide) (by decide), n0 33 (by decide) (by decide) (by decide) (by decide) (by decide) (by decide) (by decide), n0 34 (by decide) (by decide) (by decide) (by decide) (by decide) (by decide) (by decide), n0 37 (by decide) (by decide) (by decide) (by decide) (by decide) (by decide) (by decide), n0 38 (by decide) (by decide) (by decide) (by decide) (by decide) (by decide) (by decide), ep, top_c ep, dep_c ep, m0 25 (by decide) (by decide) (by decide) (by decide) (by decide) (by decide), em]
    refine ⟨⟨t1, t2, t3, t4, rfl⟩, fun i x y => ?_, t7, t8, fun z => ?_⟩
    · rw [cr1_lk, if_pos (by omega)]
      unfold crN
      rw [up_ne (by simp), up_ne (by simp)]
      unfold cstN
      rw [if_pos ⟨rfl, by omega, by omega⟩]
    · have := hc.2 t ⟨a, b⟩
      omega
  · rw [nlv, hD.lives]
  · rw [n0 9 (by decide) (by decide) (by decide) (by decide) (by decide) (by decide) (by decide), m0 38 (by decide) (by decide) (by decide) (by decide) (by decide) (by decide)]; exact h.cc.2.2

