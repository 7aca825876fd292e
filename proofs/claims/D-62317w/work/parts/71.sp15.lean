/-! asking for the locks of a request, one by one -/
/-- t may not get it now -/
def skf (M : MSt) (t i m : Int) : Prop := M 26 (33 * t + i) < m ∧ ¬ May M t i m
noncomputable def lk1 (M : MSt) (t i m g : Int) : MSt := pick (g = 1 ∧ M 26 (33 * t + i) < m ∧ May M t i m) (up M 26 (33 * t + i) m) M
theorem skf_iff {M : MSt} {t i m : Int} : skf M t i m ↔ ∃ u, skP M t i m u := by
  unfold skf skP May exB
  constructor
  · rintro ⟨h1, h2⟩
    obtain ⟨u, a, b, c⟩ := Classical.not_not.mp h2
    exact ⟨u, h1, ⟨a, b⟩, c⟩
  · rintro ⟨u, h1, ⟨a, b⟩, c⟩
    exact ⟨h1, fun h => h ⟨u, a, b, c⟩⟩
theorem lk1_f {M : MSt} {t i m g : Int} (h : skf M t i m) : lk1 M t i m g = M := pick_f (fun z => h.2 z.2.2)
theorem lk1_o {M : MSt} {t i m g j : Int} {f : Nat} (h : f ≠ 26) : lk1 M t i m g f j = M f j := by
  unfold lk1 pick
  split
  · exact up_ne (fun z => h z.1)
  · rfl
theorem skN_o {N M : MSt} {t i m g j : Int} {f : Nat} (h : f ≠ 39) : skN N M t i m g f j = N f j := by
  unfold skN pick
  split
  · exact up_ne (fun z => h z.1)
  · rfl
noncomputable def akL (t m g : Int) : List Int → MSt → MSt
  | [], M => M
  | x :: xs, M => pick (skf M t x m) M (akL t m g xs (lk1 M t x m g))
def akP (t m g : Int) : List Int → MSt → Int → Prop
  | [], _, _ => False
  | x :: xs, M, u => (skf M t x m ∧ skP M t x m u) ∨ (¬ skf M t x m ∧ akP t m g xs (lk1 M t x m g) u)
def akR (t m g : Int) : List Int → MSt → Prop
  | [], _ => False
  | x :: xs, M => skf M t x m ∨ akR t m g xs (lk1 M t x m g)
theorem akR_iff {t m g : Int} : ∀ (l : List Int) (M : MSt), akR t m g l M ↔ ∃ u, akP t m g l M u := by
  intro l
  induction l with
  | nil => intro M; exact ⟨False.elim, fun ⟨_, h⟩ => h⟩
  | cons x xs ih =>
    intro M
    unfold akR akP
    by_cases h : skf M t x m
    · obtain ⟨u, hu⟩ := skf_iff.mp h
      exact ⟨fun _ => ⟨u, Or.inl ⟨h, hu⟩⟩, fun _ => Or.inl h⟩
    · rw [ih]
      constructor
      · rintro (z | ⟨u, z⟩)
        · exact absurd z h
        · exact ⟨u, Or.inr ⟨h, z⟩⟩
      · rintro ⟨u, z | z⟩
        · exact absurd z.1 h
        · exact Or.inr ⟨u, z.2⟩
theorem akL_acq {t m : Int} : ∀ (l : List Int) (M : MSt), akL t m 1 l M = (acqL t m l M).2 ∧ (akR t m 1 l M ↔ (acqL t m l M).1 = 0) := by
  intro l
  induction l with
  | nil => intro M; exact ⟨rfl, ⟨False.elim, fun h => absurd h (by show ¬ (1 : Int) = 0; decide)⟩⟩
  | cons x xs ih =>
    intro M
    unfold akL akR acqL
    by_cases h : m ≤ M 26 (33 * t + x)
    · have h1 : ¬ skf M t x m := fun z => by have := z.1; omega
      have h2 : lk1 M t x m 1 = M := pick_f (fun z => by have := z.2.1; omega)
      rw [pick_f h1, pick_t h, h2]
      exact ⟨(ih M).1, ⟨fun z => by rcases z with z | z; exact absurd z h1; exact (ih M).2.mp z, fun z => Or.inr ((ih M).2.mpr z)⟩⟩
    · rw [pick_f h]
      by_cases h2 : May M t x m
      · have h1 : ¬ skf M t x m := fun z => z.2 h2
        have h3 : lk1 M t x m 1 = up M 26 (33 * t + x) m := pick_t ⟨rfl, by omega, h2⟩
        rw [pick_f h1, pick_t h2, h3]
        exact ⟨(ih _).1, ⟨fun z => by rcases z with z | z; exact absurd z h1; exact (ih _).2.mp z, fun z => Or.inr ((ih _).2.mpr z)⟩⟩
      · have h1 : skf M t x m := ⟨by omega, h2⟩
        rw [pick_t h1, pick_f h2]
        exact ⟨rfl, ⟨fun _ => rfl, fun _ => Or.inl h1⟩⟩
theorem akL_0 {t m : Int} : ∀ (l : List Int) (M : MSt), akL t m 0 l M = M := by
  intro l
  induction l with
  | nil => intro M; rfl
  | cons x xs ih =>
    intro M
    have h2 : lk1 M t x m 0 = M := pick_f (fun z => absurd z.1 (by decide))
    unfold akL
    rw [h2, ih]
    unfold pick
    split <;> rfl
/-- with nothing got: those that bar the first lock that may not be got -/
theorem akP_0 {t m : Int} {M : MSt} : ∀ l : List Int, (∀ x ∈ l, 0 ≤ x) → ∀ u, akP t m 0 l M u ↔ 0 ≤ flkL M t m l ∧ inM M u ∧ Bar M u t (flkL M t m l) m := by
  intro l
  induction l with
  | nil => intro _ u; exact ⟨False.elim, fun h => absurd h.1 (by show ¬ (0 : Int) ≤ -1; decide)⟩
  | cons x xs ih =>
    intro hx u
    have h2 : lk1 M t x m 0 = M := pick_f (fun z => absurd z.1 (by decide))
    unfold akP flkL
    rw [h2]
    show _ ↔ 0 ≤ pick (skf M t x m) x (flkL M t m xs) ∧ inM M u ∧ Bar M u t (pick (skf M t x m) x (flkL M t m xs)) m
    by_cases h : skf M t x m
    · rw [pick_t h]
      refine ⟨fun z => ?_, fun z => Or.inl ⟨h, h.1, z.2⟩⟩
      rcases z with z | z
      · exact ⟨hx x (List.mem_cons_self ..), z.2.2⟩
      · exact absurd h z.1
    · rw [pick_f h, ← ih (fun y hy => hx y (List.mem_cons_of_mem _ hy)) u]
      exact ⟨fun z => by rcases z with z | z; exact absurd z.1 h; exact z.2, fun z => Or.inr ⟨h, z⟩⟩
theorem akP_one {t m g x : Int} {M : MSt} {u : Int} : akP t m g [x] M u ↔ skP M t x m u := by
  unfold akP
  by_cases h : skf M t x m
  · exact ⟨fun z => by rcases z with z | z; exact z.2; exact absurd h z.1, fun z => Or.inl ⟨h, z⟩⟩
  · exact ⟨fun z => by rcases z with z | z; exact absurd z.1 h; exact absurd z.2 id, fun z => absurd (skf_iff.mpr ⟨u, z⟩) h⟩
theorem akL_one {t m g x : Int} {M : MSt} : akL t m g [x] M = lk1 M t x m g := by
  unfold akL
  by_cases h : skf M t x m
  · rw [pick_t h, lk1_f h]
  · rw [pick_f h]; rfl
theorem akL_f {t m g x : Int} {xs : List Int} {M : MSt} (h : skf M t x m) : akL t m g (x :: xs) M = lk1 M t x m g := by
  unfold akL
  rw [pick_t h, lk1_f h]
theorem akP_f {t m g x : Int} {xs : List Int} {M : MSt} (h : skf M t x m) {u : Int} : akP t m g (x :: xs) M u ↔ skP M t x m u := by
  unfold akP
  exact ⟨fun z => by rcases z with z | z; exact z.2; exact absurd h z.1, fun z => Or.inl ⟨h, z⟩⟩
theorem akL_s {t m g x : Int} {xs : List Int} {M : MSt} (h : ¬ skf M t x m) : akL t m g (x :: xs) M = akL t m g xs (lk1 M t x m g) := by
  show pick _ _ _ = _
  rw [pick_f h]
theorem akP_s {t m g x : Int} {xs : List Int} {M : MSt} (h : ¬ skf M t x m) {u : Int} : akP t m g (x :: xs) M u ↔ akP t m g xs (lk1 M t x m g) u := by
  show (_ ∨ _) ↔ _
  exact ⟨fun z => by rcases z with z | z; exact absurd z.1 h; exact z.2, fun z => Or.inr ⟨h, z⟩⟩
theorem thr_lk1 (M : MSt) (t i m g k : Int) : thr (lk1 M t i m g) k = thr M k := by
  unfold thr
  rw [lk1_o (by decide), lk1_o (by decide), lk1_o (by decide)]
theorem thr_akL (t m g : Int) : ∀ (l : List Int) (M : MSt) (k : Int), thr (akL t m g l M) k = thr M k := by
  intro l
  induction l with
  | nil => intro M k; rfl
  | cons x xs ih =>
    intro M k
    unfold akL
    by_cases h : skf M t x m
    · rw [pick_t h]
    · rw [pick_f h, ih, thr_lk1]
theorem akL_o {t m g : Int} {f : Nat} (hf : f ≠ 26) : ∀ (l : List Int) (M : MSt) (j : Int), akL t m g l M f j = M f j := by
  intro l
  induction l with
  | nil => intro M j; rfl
  | cons x xs ih =>
    intro M j
    unfold akL
    by_cases h : skf M t x m
    · rw [pick_t h]
    · rw [pick_f h, ih, lk1_o hf]
theorem LkOk.lk1 {M : MSt} (h : LkOk M) {t i m g : Int} (hm : m = 1 ∨ m = 2) : LkOk (lk1 M t i m g) := by
  intro u j a b c d
  rw [lk1_o (by decide)] at b
  have q := h u j a b c d
  unfold CNestedStoreLaw_law_r7484_ab0530.lk1 pick
  split
  · unfold up
    split <;> omega
  · exact q
/-- what asking needs -/
def AskOk (N M : MSt) : Prop := Sim N M ∧ ParOk M ∧ DepOk M ∧ LkOk M
theorem AskOk.step {N M : MSt} (h : AskOk N M) {t i m : Int} (g : Int) (_ : inM M t) (_ : 0 ≤ i ∧ i < 33) (hm : m = 1 ∨ m = 2) : AskOk (skN N M t i m g) (lk1 M t i m g) := by
  obtain ⟨h1, h2, h3, h4⟩ := h
  refine ⟨h1.lk (fun f j hf => skN_o hf) (fun f j hf => lk1_o hf) (fun u j hu a b => ?_), ?_, ?_, h4.lk1 hm⟩
  · have q := (h1.t.2 u hu.1 hu.2).2.1 j a b
    unfold skN lk1 pick
    split
    · unfold up
      by_cases e : 33 * u + j = 33 * t + i
      · rw [if_pos ⟨rfl, e⟩, if_pos ⟨rfl, e⟩]
      · rw [if_neg (fun z => e z.2), if_neg (fun z => e z.2)]; exact q
    · exact q
  · exact h2.c (funext fun j => lk1_o (by decide)) (lk1_o (by decide))
  · exact h3.c (funext fun j => lk1_o (by decide)) (lk1_o (by decide))
/-- the same numbers but for locks -/
def EqK (N N1 : MSt) : Prop := ∀ f i, f ≠ 39 → N1 f i = N f i
theorem EqK.rf (N : MSt) : EqK N N := fun _ _ _ => rfl
theorem EqK.tr {N N1 N2 : MSt} (h : EqK N N1) (h1 : EqK N1 N2) : EqK N N2 := fun f i a => (h1 f i a).trans (h f i a)
theorem EqK.sk (N M : MSt) (t i m g : Int) : EqK N (skN N M t i m g) := fun _ _ h => skN_o h
/-- the answer of a whole asking -/
def AskR (N M : MSt) (t m g : Int) (l : List Int) (w : Int64) (N1 : MSt) : Prop := EqK N N1 ∧ AskOk N1 (akL t m g l M) ∧ (g = 0 → N1 = N) ∧ ∀ u, lb w u ↔ akP t m g l M u
theorem skN_0 {N M : MSt} {t i m : Int} : skN N M t i m 0 = N := pick_f (fun z => absurd z.1 (by decide))
theorem AskR.one {N M : MSt} {t x m g : Int} {w : Int64} (h : AskOk N M) (ht : inM M t) (hx : 0 ≤ x ∧ x < 33) (hm : m = 1 ∨ m = 2) (hw : ∀ u, lb w u ↔ skP M t x m u) : AskR N M t m g [x] w (skN N M t x m g) :=
  ⟨EqK.sk N M t x m g, by rw [akL_one]; exact h.step g ht hx hm, fun e => by subst e; exact skN_0, fun u => (hw u).trans akP_one.symm⟩
theorem AskR.stop {N M : MSt} {t x m g : Int} {xs : List Int} {w : Int64} (h : AskOk N M) (ht : inM M t) (hx : 0 ≤ x ∧ x < 33) (hm : m = 1 ∨ m = 2) (hw : ∀ u, lb w u ↔ skP M t x m u) (h0 : w ≠ 0) : AskR N M t m g (x :: xs) w (skN N M t x m g) := by
  have hs : skf M t x m := Classical.byContradiction fun z => h0 (lb_z.mpr fun u hu => z (skf_iff.mpr ⟨u, (hw u).mp hu⟩))
  exact ⟨EqK.sk N M t x m g, by rw [akL_f hs]; exact h.step g ht hx hm, fun e => by subst e; exact skN_0, fun u => (hw u).trans (akP_f hs).symm⟩
theorem AskR.go {N M N1 : MSt} {t x m g : Int} {xs : List Int} {w w1 : Int64} (hw : ∀ u, lb w u ↔ skP M t x m u) (h0 : w = 0) (h : AskR (skN N M t x m g) (lk1 M t x m g) t m g xs w1 N1) : AskR N M t m g (x :: xs) w1 N1 := by
  have hs : ¬ skf M t x m := fun z => by
    obtain ⟨u, hu⟩ := skf_iff.mp z
    exact lb_z.mp h0 u ((hw u).mpr hu)
  obtain ⟨h1, h2, h3, h4⟩ := h
  exact ⟨(EqK.sk N M t x m g).tr h1, by rw [akL_s hs]; exact h2, fun e => (h3 e).trans (by subst e; exact skN_0), fun u => (h4 u).trans (akP_s hs).symm⟩
theorem AskR.zero {N M N1 : MSt} {t m g : Int} {l : List Int} {w : Int64} (h : AskR N M t m g l w N1) : w = 0 ↔ ¬ akR t m g l M := by
  rw [lb_z, akR_iff]
  exact ⟨fun z ⟨u, hu⟩ => z u ((h.2.2.2 u).mpr hu), fun z u hu => z ⟨u, (h.2.2.2 u).mp hu⟩⟩

