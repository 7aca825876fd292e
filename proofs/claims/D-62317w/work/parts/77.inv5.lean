/-! the base stays -/
theorem styN_base {t : Int} : ∀ (n : Nat) (M : MSt), (styN t n M).2 11 0 = M 11 0 := by
  intro n
  induction n with
  | zero => intro M; rfl
  | succ n ih =>
    intro M
    unfold styN
    by_cases h1 : Liv M t
    · rw [pick_t h1]
      by_cases h2 : vic M t < 0
      · rw [pick_t h2]
      · rw [pick_f h2, ih, abt_o rfl rfl (by decide) (by decide)]
    · rw [pick_f h1]
theorem act_base {M : MSt} {t w x y : Int} : (act M t w x y).2 11 0 = M 11 0 := by
  unfold act
  by_cases h1 : w = 1
  · rw [if_pos h1]
    show up (tch M (x / 4)) 38 0 (vlw (tch M (x / 4)) x) 11 0 = _
    rw [up_ne (by simp), tch_o rfl]
  · rw [if_neg h1]
    by_cases h4 : w = 4
    · rw [if_pos h4]
      show up (scn1 M x y) 38 0 (wr (sumA (vlw (scn1 M x y)) x (y - x + 1).toNat)) 11 0 = _
      rw [up_ne (by simp)]
      exact congrFun (tcs_o rfl _ _ M) 0
    · rw [if_neg h4]
      by_cases h3 : w = 3 ∧ thr M x = 0
      · rw [if_pos h3]
      · rw [if_neg h3]
        by_cases hf : Ful M
        · rw [pick_t hf]
        · rw [pick_f hf]
          exact upd_o (f := 11) (now := if w = 2 then 1 else 0) (v := y) rfl rfl
theorem req_base {M : MSt} {t w x y : Int} : (req M t w x y).2 11 0 = M 11 0 := by
  have h : (acqL t (mdo M w x) (nds M w x y) (up M 23 t 1)).2 11 0 = M 11 0 := by
    rw [acqL_o (by decide), up_ne (by simp)]
  unfold req
  split
  · unfold sty
    rw [styN_base]
    unfold sty0
    rw [up_ne (by simp), up_ne (by simp), up_ne (by simp), up_ne (by simp), h]
  · rw [act_base, h]
theorem wrN_base (M : MSt) (n : Nat) : (wrN M n).2 11 0 = M 11 0 ∧ (wrN M n).2 12 0 = M 12 0 := ⟨congrFun (wrN_o rfl n) 0, congrFun (wrN_o rfl n) 0⟩
theorem JI.begin {n : Int} {M : MSt} (h : JI n M) (hn : n ≤ 64) (f : Int) : JI (n + 1) (r_begin M f).2 := by
  unfold r_begin
  by_cases h1 : (f ≠ -1 ∧ ¬ Act M f) ∨ M 22 0 = 60 ∨ (f ≠ -1 ∧ 4 ≤ dep M f)
  · rw [pick_t h1]; exact h.same
  · rw [pick_f h1]
    by_cases h2 : Ful M
    · rw [pick_t h2]; exact h.same
    · rw [pick_f h2]
      have hm := h.2.1.1.1.2.1
      refine h.next hn ((h.2.1.bgn (p := f) ?_ ?_).mono (Int.le_refl _) (by omega)) ?_
      · by_cases e : f = -1
        · exact Or.inl e
        · have ha : Act M f := Classical.byContradiction fun q => h1 (Or.inl ⟨e, q⟩)
          exact Or.inr ⟨ha.1, ha.2, Int.not_le.mp fun q => h1 (Or.inr (Or.inr ⟨e, q⟩))⟩
      · have : M 22 0 ≠ 60 := fun q => h1 (Or.inr (Or.inl q))
        omega
      · show bgn M f 11 0 ≤ _
        rw [(bgn_add M f).1]
        have := h.1
        omega
theorem JI.req {n : Int} {M : MSt} (h : JI n M) (hn : n ≤ 64) {t w x y : Int} (ht : inM M t) (hl : Liv M t) (hq : ReqOk w x y) : JI (n + 1) (req M t w x y).2 :=
  h.next hn ((h.2.1.req ht hl hq).mono (Int.le_refl _) (by omega)) (by rw [req_base]; have := h.1; omega)
theorem JI.ask {n : Int} {M : MSt} (h : JI n M) (hn : n ≤ 64) {ok : Prop} {t w x y : Int} (hq : ok → ReqOk w x y) : JI (n + 1) (r_ask M ok t w x y).2 := by
  unfold r_ask
  by_cases h1 : Act M t ∧ ok
  · rw [pick_t h1]
    by_cases h2 : Bsy M t
    · rw [pick_t h2]; exact h.same
    · rw [pick_f h2]
      exact h.req hn h1.1.1 (Or.inl h1.1.2) (hq h1.2)
  · rw [pick_f h1]; exact h.same
theorem JI.resume {n : Int} {M : MSt} (h : JI n M) (hn : n ≤ 64) (t : Int) : JI (n + 1) (r_resume M t).2 := by
  unfold r_resume
  by_cases h1 : (0 ≤ t ∧ t < M 22 0) ∧ M 23 t = 2
  · rw [pick_t h1]
    exact h.req hn h1.1 (Or.inr h1.2) (h.2.1.1.2.2.2.2 t h1.1.1 h1.1.2 h1.2)
  · rw [pick_f h1]; exact h.same
theorem JI.commit {n : Int} {M : MSt} (h : JI n M) (hn : n ≤ 64) (t : Int) : JI (n + 1) (r_commit M t).2 := by
  unfold r_commit
  by_cases h1 : Act M t
  · rw [pick_t h1]
    by_cases h2 : Bsy M t
    · rw [pick_t h2]; exact h.same
    · rw [pick_f h2]
      refine h.next hn ((h.2.1.cmt h1 h2).mono (by omega) (by omega)) ?_
      show CNestedStoreLaw_law_r7484_ab0530.cmt M t 11 0 ≤ _
      rw [cmt_o (by decide) (by decide), cm1_o rfl (by decide)]
      have := h.1
      omega
  · rw [pick_f h1]; exact h.same
theorem JI.abort {n : Int} {M : MSt} (h : JI n M) (hn : n ≤ 64) (t : Int) : JI (n + 1) (r_abort M t).2 := by
  unfold r_abort
  by_cases h1 : (0 ≤ t ∧ t < M 22 0) ∧ Liv M t
  · rw [pick_t h1]
    refine h.next hn ((h.2.1.abt h1.1).mono (by omega) (by omega)) ?_
    rw [abt_o rfl rfl (by decide) (by decide)]
    have := h.1
    omega
  · rw [pick_f h1]; exact h.same
theorem JI.rollback {n : Int} {M : MSt} (h : JI n M) (hn : n ≤ 64) (t pt : Int) : JI (n + 1) (r_rollback M t pt).2 := by
  unfold r_rollback
  by_cases h1 : Act M t ∧ M 25 t ≤ pt ∧ pt ≤ lst M
  · rw [pick_t h1]
    by_cases h2 : Bsy M t
    · rw [pick_t h2]; exact h.same
    · rw [pick_f h2]
      refine h.next hn ((h.2.1.undoes h1.1.1 pt).mono (by omega) (by omega)) ?_
      have e : (undoes M t pt).2 11 = M 11 := undN_o rfl rfl t pt _ M
      rw [e]
      have := h.1
      omega
  · rw [pick_f h1]; exact h.same
theorem JI.write {n : Int} {M : MSt} (h : JI n M) (hn : n ≤ 64) (p : Int) : JI (n + 1) (r_write M p).2 := by
  refine h.next hn ((h.2.1.wr1 p).mono (by omega) (by omega)) ?_
  have := h.1
  unfold r_write
  by_cases q : (0 ≤ p ∧ p ≤ 7) ∧ M 7 p = 1 ∧ M 8 p = 1
  · rw [pick_t q]
    show wrt M p 11 0 ≤ _
    rw [wrt_o rfl]
    omega
  · rw [pick_f q]
    show M 11 0 ≤ _
    omega
theorem JI.archive {n : Int} {M : MSt} (h : JI n M) (hn : n ≤ 64) : JI (n + 1) (r_archive M).2 := by
  have h0 := h.1
  unfold r_archive
  split
  · exact h.same
  · next q =>
    have hw := h.2.1.wrN 8
    have el : lives (wrN M 8).2 = lives M := lives_c (wrN_o rfl 8) (congrFun (wrN_o rfl 8) 0)
    have hr := h.2.1.recs
    refine h.next hn ((hw.xarc (by omega) (by omega)).mono (by omega) (by omega)) ?_
    show arc (wrN M 8).2 11 0 ≤ _
    unfold arc
    rw [up_ne (by simp), up_ne (by simp), up_same]
    unfold lst
    rw [(wrN_base M 8).1, (wrN_base M 8).2]
    omega
theorem ucN_base : ∀ (n : Nat) (K : MSt), (ucN n K).2 11 0 = K 11 0 := by
  intro n
  induction n with
  | zero => intro K; rfl
  | succ n ih =>
    intro K
    unfold ucN
    by_cases hc : K 14 (n : Int) = 2 ∧ ¬ Und K (n : Int) ∧ ¬ Cmt K (top K (K 15 (n : Int)))
    · rw [pick_t hc]
      show (ucN n _).2 11 0 = _
      rw [ih, und_o rfl rfl]
    · rw [pick_f hc, ih]
theorem cr1_o {M : MSt} {n i : Int} {f : Nat} (c1 : f ≠ 13) (c2 : f ≠ 12) (c3 : f ≠ 7) (c4 : f ≠ 8) (c5 : f ≠ 26) (c6 : f ≠ 23) : cr1 M n f i = M f i := by
  unfold cr1 cst
  rw [if_neg (fun z => c5 z.1), if_neg (fun z => c6 z.1)]
  unfold zfr
  rw [if_neg (fun z => by rcases z.1 with z | z; exact c3 z; exact c4 z)]
  unfold cr0
  rw [up_ne (fun z => c2 z.1), up_ne (fun z => c1 z.1)]
theorem JI.crash {n : Int} {M : MSt} (h : JI n M) (hn : n ≤ 64) (k : Int) : JI (n + 1) (r_crash M k).2 := by
  have h0 := h.1
  unfold r_crash
  split
  · next q =>
    refine h.next hn ((h.2.1.xcrs q.1 q.2).mono (by omega) (by omega)) ?_
    show up (cr3 M k).2 13 0 (lst (cr3 M k).2) 11 0 ≤ _
    rw [up_ne (by simp)]
    have e : (cr3 M k).2 11 0 = M 11 0 := by
      unfold cr3
      rw [ucN_base]
      unfold cr2
      rw [rdN_o rfl, cr1_o (by decide) (by decide) (by decide) (by decide) (by decide) (by decide)]
    rw [e]
    omega
  · exact h.same
theorem JI.sst {n : Int} {M Z : MSt} (h : JI n M) : JI n (sset M Z) := by
  have o : ∀ f : Nat, scr f = false → sset M Z f = M f := fun f a => sset_n a
  have oo : ∀ (f : Nat) (i : Int), scr f = false → sset M Z f i = M f i := fun f i a => congrFun (sset_n a) i
  obtain ⟨h0, ⟨h1, h2, h3, h4, h5⟩, h6⟩ := h
  refine ⟨h0, ⟨h1.c (oo _ _ rfl) (o _ rfl) (o _ rfl) (o _ rfl) (o _ rfl) (o _ rfl), h2.c (oo _ _ rfl) (o _ rfl) (Liv_c (o _ rfl)), h3.c (oo _ _ rfl) (o _ rfl) (o _ rfl) (oo _ _ rfl) (oo _ _ rfl) (o _ rfl) (o _ rfl) (o _ rfl) (o _ rfl) (Int.le_of_eq (oo _ _ rfl).symm), h4.c (oo _ _ rfl) (oo _ _ rfl) (oo _ _ rfl) (Int.le_of_eq (oo _ _ rfl).symm) (o _ rfl) (o _ rfl) (o _ rfl), ?_⟩, by rw [oo _ _ rfl]; exact h6⟩
  unfold Clk
  rw [oo _ _ rfl, oo _ _ rfl]
  exact h5
/-- nothing has been done yet -/
def M0 (f : Int) (k : Nat) (i : Int) : Int := if k = 0 ∧ i = 0 then (if f < 1 then 1 else if 8 < f then 8 else f) else 0
theorem M0_o {f i : Int} {k : Nat} (h : k ≠ 0) : M0 f k i = 0 := if_neg (fun z => h z.1)
theorem JI.start (f : Int) : JI 0 (M0 f) := by
  have o : ∀ (k : Nat) (i : Int), k ≠ 0 → M0 f k i = 0 := fun k i a => M0_o a
  have om := o 22 0 (by decide)
  have orr := o 12 0 (by decide)
  have hl : lives (M0 f) = 0 := by unfold lives; rw [om]; rfl
  refine ⟨by decide, ⟨⟨⟨by omega, by omega, fun t a b => by omega⟩, fun t a b => by omega, fun t a b => by omega, fun t ht => by have := ht.1; have := ht.2; omega, fun t a b => by omega⟩, ⟨fun t i a b => by omega, fun i _ => o _ _ (by decide), fun t i ht => by have := ht.1; have := ht.2; omega⟩, ⟨⟨by omega, ?_⟩, by rw [o _ _ (by decide)]; decide, fun t a b => by omega, fun t a b => by omega, fun t a b => by omega⟩, ⟨?_, ?_, fun p a b => ?_⟩, ?_⟩, by rw [o _ _ (by decide)]; decide⟩
  · unfold Psi
    rw [orr, hl, cnt_0]
    decide
  · have e : M0 f 0 0 = if f < 1 then 1 else if 8 < f then 8 else f := if_pos ⟨rfl, rfl⟩
    rw [e]
    split
    · omega
    · split <;> omega
  · unfold lst
    rw [o _ _ (by decide), o _ _ (by decide), o _ _ (by decide)]
    decide
  · rw [o _ _ (by decide), o _ _ (by decide), o _ _ (by decide), o _ _ (by decide)]
    exact ⟨fun z => absurd z (by decide), by decide⟩
  · unfold Clk
    rw [o _ _ (by decide), o _ _ (by decide)]
    decide

