/-! pure words over the model's state M : Nat → Int → Int (field number, place; a scalar at place 0) -/
def exB (K : Int → Prop) (a b : Int) : Prop := ∃ r, a ≤ r ∧ r < b ∧ K r
theorem exB_step {K : Int → Prop} {a b : Int} (h : a ≤ b) : exB K a (b + 1) ↔ exB K a b ∨ K b := by
  constructor
  · rintro ⟨r, h1, h2, h3⟩
    by_cases e : r = b
    · subst e; exact Or.inr h3
    · exact Or.inl ⟨r, h1, by omega, h3⟩
  · rintro (⟨r, h1, h2, h3⟩ | h3)
    · exact ⟨r, h1, by omega, h3⟩
    · exact ⟨b, h, by omega, h3⟩
theorem exB_nil {K : Int → Prop} {a b : Int} (h : b ≤ a) : ¬ exB K a b := by
  rintro ⟨r, h1, h2, -⟩
  omega
theorem exB_t {K : Int → Prop} {a b : Int} (h : a ≤ b) (q : exB K a b ∨ K b) : b01 (exB K a (b + 1)) = 1 := b01_t ((exB_step h).mpr q)
theorem exB_f {K : Int → Prop} {a b : Int} (h : a ≤ b) (q : ¬ exB K a b) (q2 : ¬ K b) : b01 (exB K a (b + 1)) = 0 := b01_f fun z => by
  rcases (exB_step h).mp z with z | z
  · exact q z
  · exact q2 z
noncomputable def cntN (P : Int → Prop) : Nat → Int
  | 0 => 0
  | n + 1 => cntN P n + b01 (P (n : Int))
noncomputable def cnt (P : Int → Prop) (b : Int) : Int := cntN P b.toNat
theorem cnt_0 {P : Int → Prop} : cnt P 0 = 0 := rfl
theorem cnt_s {P : Int → Prop} {b : Int} (h : 0 ≤ b) : cnt P (b + 1) = cnt P b + b01 (P b) := by
  obtain ⟨n, rfl⟩ := Int.eq_ofNat_of_zero_le h
  show cntN P (Int.toNat ((n : Int) + 1)) = cntN P (Int.toNat (n : Int)) + _
  rw [show Int.toNat ((n : Int) + 1) = n + 1 from by omega, show Int.toNat (n : Int) = n from by omega]
  rfl
theorem cntN_bd {P : Int → Prop} (n : Nat) : 0 ≤ cntN P n ∧ cntN P n ≤ (n : Int) := by
  induction n with
  | zero => exact ⟨Int.le_refl _, Int.le_refl _⟩
  | succ n ih =>
    have := b01_or (P (n : Int))
    unfold cntN
    omega
theorem cnt_bd {P : Int → Prop} {b : Int} (h : 0 ≤ b) : 0 ≤ cnt P b ∧ cnt P b ≤ b := by
  have := cntN_bd (P := P) b.toNat
  unfold cnt
  omega
theorem cnt_ext {P P' : Int → Prop} {b : Int} (h : ∀ i, 0 ≤ i → i < b → (P i ↔ P' i)) : cnt P b = cnt P' b := by
  unfold cnt
  have : ∀ n : Nat, (n : Int) ≤ b → cntN P n = cntN P' n := by
    intro n
    induction n with
    | zero => intro _; rfl
    | succ n ih =>
      intro hn
      unfold cntN
      rw [ih (by omega), b01_c (h n (by omega) (by omega))]
  by_cases hb : 0 ≤ b
  · exact this b.toNat (by omega)
  · rw [show b.toNat = 0 from by omega]; rfl
/-- parents lie below, there are at most 60 -/
def ParOk (M : MSt) : Prop := 0 ≤ M 22 0 ∧ M 22 0 ≤ 60 ∧ ∀ t, 0 ≤ t → t < M 22 0 → -1 ≤ M 24 t ∧ M 24 t < t
def thr (M : MSt) (k : Int) : Int := if M 7 (k / 4) = 1 then M 4 k else M 1 k
def vlw (M : MSt) (k : Int) : Int := if M 7 (k / 4) = 1 then M 5 k else M 2 k
def lsw (M : MSt) (p : Int) : Int := if M 7 p = 1 then M 6 p else M 3 p
def lst (M : MSt) : Int := M 11 0 + M 12 0
def Liv (M : MSt) (t : Int) : Prop := M 23 t = 1 ∨ M 23 t = 2
def topN (M : MSt) : Nat → Int → Int
  | 0, x => x
  | n + 1, x => if 0 ≤ M 24 x then topN M n (M 24 x) else x
def top (M : MSt) (t : Int) : Int := topN M 4 t
def abvN (M : MSt) (a : Int) : Nat → Int → Prop
  | 0, _ => False
  | n + 1, x => 0 ≤ x ∧ (x = a ∨ abvN M a n (M 24 x))
/-- a lies above t -/
def Abv (M : MSt) (a t : Int) : Prop := abvN M a 4 (M 24 t)
def depN (M : MSt) : Nat → Int → Int
  | 0, _ => 0
  | n + 1, x => if 0 ≤ x then 1 + depN M n (M 24 x) else 0
def dep (M : MSt) (t : Int) : Int := 1 + depN M 4 (M 24 t)
def Und (M : MSt) (u : Int) : Prop := exB (fun r => M 14 r = 3 ∧ M 17 r = M 11 0 + u + 1) (u + 1) (M 12 0)
def Opn (M : MSt) (r : Int) : Prop := M 14 r = 2 ∧ M 23 (top M (M 15 r)) ≠ 3 ∧ M 23 (top M (M 15 r)) ≠ 4 ∧ ¬ Und M r
noncomputable def opens (M : MSt) : Int := cnt (Opn M) (M 12 0)
noncomputable def lives (M : MSt) : Int := cnt (Liv M) (M 22 0)
def Ful (M : MSt) : Prop := 300 < M 12 0 + opens M + lives M + 2
def Act (M : MSt) (t : Int) : Prop := (0 ≤ t ∧ t < M 22 0) ∧ M 23 t = 1
def Bsy (M : MSt) (t : Int) : Prop := exB (fun u => Liv M u ∧ M 24 u = t) 0 (M 22 0)
theorem topN_bd {M : MSt} (h : ParOk M) : ∀ (n : Nat) (t : Int), 0 ≤ t → t < M 22 0 → 0 ≤ topN M n t ∧ topN M n t ≤ t := by
  intro n
  induction n with
  | zero => intro t h0 h1; exact ⟨h0, Int.le_refl _⟩
  | succ n ih =>
    intro t h0 h1
    have hp := h.2.2 t h0 h1
    unfold topN
    split
    · next hq => have := ih (M 24 t) hq (by omega); omega
    · exact ⟨h0, Int.le_refl _⟩
theorem top_bd {M : MSt} (h : ParOk M) {t : Int} (h0 : 0 ≤ t) (h1 : t < M 22 0) : 0 ≤ top M t ∧ top M t ≤ t := topN_bd h 4 t h0 h1
theorem opens_bd {M : MSt} (h : 0 ≤ M 12 0) : 0 ≤ opens M ∧ opens M ≤ M 12 0 := cnt_bd h
theorem lives_bd {M : MSt} (h : 0 ≤ M 22 0) : 0 ≤ lives M ∧ lives M ≤ M 22 0 := cnt_bd h

