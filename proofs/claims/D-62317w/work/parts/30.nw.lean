def fTg (f : Nat) : Nat := match f with
  | 1 => 0
  | 2 => 0
  | 3 => 0
  | 4 => 0
  | 5 => 0
  | 6 => 0
  | 7 => 0
  | 8 => 0
  | 9 => 0
  | 11 => 6
  | 12 => 6
  | 13 => 6
  | 15 => 8
  | 16 => 8
  | 17 => 8
  | 20 => 10
  | 21 => 10
  | 22 => 10
  | 23 => 10
  | 24 => 10
  | 25 => 10
  | 26 => 10
  | 27 => 10
  | 28 => 10
  | 29 => 10
  | 30 => 10
  | 31 => 11
  | 32 => 11
  | 33 => 11
  | 34 => 11
  | 35 => 11
  | 36 => 11
  | 37 => 11
  | 38 => 11
  | _ => 99
def fSl (f : Nat) : Nat := match f with
  | 1 => 3
  | 2 => 4
  | 3 => 6
  | 4 => 7
  | 5 => 8
  | 6 => 9
  | 7 => 10
  | 8 => 12
  | 9 => 13
  | 11 => 1
  | 12 => 3
  | 13 => 4
  | 15 => 1
  | 16 => 3
  | 17 => 4
  | 20 => 0
  | 21 => 1
  | 22 => 2
  | 23 => 3
  | 24 => 4
  | 25 => 5
  | 26 => 6
  | 27 => 7
  | 28 => 8
  | 29 => 9
  | 30 => 10
  | 31 => 1
  | 32 => 2
  | 33 => 3
  | 34 => 4
  | 35 => 5
  | 36 => 8
  | 37 => 9
  | 38 => 10
  | _ => 0
def fRt (f : Nat) : Nat := match f with
  | 21 => 21
  | 22 => 11
  | 28 => 10
  | 30 => 10
  | 31 => 11
  | 32 => 11
  | 35 => 20
  | 36 => 10
  | 37 => 11
  | 38 => 11
  | _ => 0
def aTg (f : Nat) : Nat := match f with
  | 10 => 3
  | 14 => 7
  | 18 => 9
  | 39 => 12
  | _ => 99
def aLn (f : Nat) : Nat := match f with
  | 10 => 8
  | 14 => 4
  | 18 => 4
  | 39 => 33
  | _ => 1
def tK (f : Nat) : Nat := match f with
  | 0 => 1
  | 1 => 13
  | 2 => 13
  | 3 => 11
  | 4 => 14
  | 5 => 15
  | 6 => 2
  | 7 => 11
  | 8 => 2
  | 9 => 11
  | 10 => 3
  | 11 => 4
  | 12 => 12
  | _ => 0
def tL (f : Nat) : Nat := match f with
  | 1 => 8
  | 2 => 8
  | 3 => 8
  | 4 => 301
  | 5 => 60
  | 7 => 4
  | 9 => 4
  | 12 => 33
  | _ => 0
/-! THE FLAT STORE: numbers N by field and place, addresses A by tag and place -/
abbrev ASt : Type := Nat → Int → Nat
noncomputable def rfv (A : ASt) (tg : Nat) (v : Int) : Option Nat := @ite _ (v < 0) (Classical.propDecidable _) none (some (A tg v))
noncomputable abbrev rq (A : ASt) (tg : Nat) (v : Int) : Value := va_rf (rfv A tg v)
theorem rfv_s {A : ASt} {tg : Nat} {v : Int} (h : 0 ≤ v) : rfv A tg v = some (A tg v) := by unfold rfv; exact if_neg (by omega)
theorem rfv_n {A : ASt} {tg : Nat} {v : Int} (h : v < 0) : rfv A tg v = none := by unfold rfv; exact if_pos h
theorem rq_s {A : ASt} {tg : Nat} {v : Int} (h : 0 ≤ v) : rq A tg v = .ref (A tg v) := by show va_rf (rfv A tg v) = _; rw [rfv_s h]; rfl
theorem rq_n {A : ASt} {tg : Nat} {v : Int} (h : v < 0) : rq A tg v = .null := by show va_rf (rfv A tg v) = _; rw [rfv_n h]; rfl
def Vld (N : MSt) (tg : Nat) (v : Int) : Prop := match tg with
  | 0 | 1 | 2 | 3 | 4 | 5 => v = 0
  | 6 | 7 | 8 | 9 => 0 ≤ v ∧ v < 8
  | 10 => 0 ≤ v ∧ v < N 50 0
  | 11 | 12 => 0 ≤ v ∧ v < N 51 0
  | 20 => 1 ≤ v ∧ v < 5
  | 21 => 1 ≤ v ∧ v < 6
  | _ => False
theorem Vld.nn {N : MSt} {tg : Nat} {v : Int} (h : Vld N tg v) : 0 ≤ v := by
  unfold Vld at h
  split at h <;> first | exact h.elim | omega
theorem Vld_up {N : MSt} {tg f : Nat} {v i z : Int} (hf : f ≠ 50 ∧ f ≠ 51) : Vld (up N f i z) tg v ↔ Vld N tg v := by
  unfold Vld
  rw [show up N f i z 50 0 = N 50 0 from up_ne (fun q => hf.1 q.1.symm), show up N f i z 51 0 = N 51 0 from up_ne (fun q => hf.2 q.1.symm)]
/-- a reference is null or valid -/
def Rok (N : MSt) (tg : Nat) (v : Int) : Prop := v = -1 ∨ Vld N tg v
theorem Rok_up {N : MSt} {tg f : Nat} {v i z : Int} (hf : f ≠ 50 ∧ f ≠ 51) : Rok (up N f i z) tg v ↔ Rok N tg v := by
  unfold Rok
  rw [Vld_up hf]
/-- the parts of the heap that never change -/
def FlS (A : ASt) (N : MSt) (g : GSt) : Prop :=
  (gR g 1 0 (A 0 0) = some (A 1 0) ∧ gR g 1 1 (A 0 0) = some (A 2 0) ∧ gR g 1 2 (A 0 0) = some (A 3 0) ∧ gR g 1 5 (A 0 0) = some (A 4 0) ∧ gR g 1 11 (A 0 0) = some (A 5 0)) ∧
  (∀ p : Int, 0 ≤ p → p < 8 → gR g 13 p (A 1 0) = some (A 6 p) ∧ gR g 13 p (A 2 0) = some (A 8 p) ∧ gR g 2 2 (A 6 p) = some (A 7 p) ∧ gR g 2 2 (A 8 p) = some (A 9 p) ∧ gI g 2 0 (A 6 p) = p ∧ gI g 2 0 (A 8 p) = p) ∧
  (∀ r : Int, 0 ≤ r → r < 301 → gR g 14 r (A 4 0) = if r < N 50 0 then some (A 10 r) else none) ∧
  (∀ t : Int, 0 ≤ t → t < 60 → gR g 15 t (A 5 0) = if t < N 51 0 then some (A 11 t) else none) ∧
  (∀ t : Int, 0 ≤ t → t < N 51 0 → gR g 4 7 (A 11 t) = some (A 12 t) ∧ gI g 4 0 (A 11 t) = t)
/-- what a transaction asks for -/
def FlQ (A : ASt) (N : MSt) (g : GSt) : Prop := ∀ t : Int, 0 ≤ t → t < N 51 0 → (N 40 t = 0 ∧ gR g 4 6 (A 11 t) = none) ∨
  ((1 ≤ N 40 t ∧ N 40 t ≤ 4) ∧ gR g 4 6 (A 11 t) = some (A 13 t) ∧ gK g (A 13 t) = 4 + (N 40 t).toNat ∧ gI g (4 + (N 40 t).toNat) 0 (A 13 t) = N 41 t ∧ (N 40 t = 2 ∨ N 40 t = 4 → gI g (4 + (N 40 t).toNat) 1 (A 13 t) = N 42 t))
def FlK (A : ASt) (N : MSt) (g : GSt) : Prop := ∀ (tg : Nat) (v : Int), tg < 13 → Vld N tg v → gK g (A tg v) = tK tg ∧ gL g (A tg v) = tL tg
def FlJ (A : ASt) (N : MSt) : Prop := ∀ (tg tg' : Nat) (v v' : Int), tg < 13 → tg' < 13 → Vld N tg v → Vld N tg' v' → A tg v = A tg' v' → tg = tg' ∧ v = v'
def FlE (D : GD) (A : ASt) : Prop := (∀ i : Int, 1 ≤ i → i < 5 → A 20 i = dQ D i.toNat) ∧ ∀ i : Int, 1 ≤ i → i < 6 → A 21 i = dKd D i.toNat
def FlC (D : GD) (N : MSt) (g : GSt) : Prop := (0 ≤ N 50 0 ∧ N 50 0 ≤ 301) ∧ (0 ≤ N 51 0 ∧ N 51 0 ≤ 60) ∧ 0 ≤ N 52 0 ∧ (gZ g : Int) + (301 - N 50 0) + 2 * (60 - N 51 0) + N 52 0 ≤ (dTp D : Int)
def FlV (A : ASt) (N : MSt) (g : GSt) : Prop := ∀ (f : Nat) (v : Int), fTg f ≠ 99 → Vld N (fTg f) v → (fRt f = 0 → gI g (tK (fTg f)) (fSl f) (A (fTg f) v) = N f v) ∧ (fRt f ≠ 0 → gR g (tK (fTg f)) (fSl f) (A (fTg f) v) = rfv A (fRt f) (N f v) ∧ Rok N (fRt f) (N f v))
def FlA (A : ASt) (N : MSt) (g : GSt) : Prop := ∀ (f : Nat) (v z : Int), aTg f ≠ 99 → Vld N (aTg f) v → 0 ≤ z → z < (aLn f : Int) → gI g (tK (aTg f)) z (A (aTg f) v) = N f ((aLn f : Int) * v + z)
def Flat (D : GD) (A : ASt) (N : MSt) (g : GSt) : Prop := FlS A N g ∧ FlQ A N g ∧ FlK A N g ∧ FlJ A N ∧ FlE D A ∧ FlC D N g ∧ FlV A N g ∧ FlA A N g
def RelN (D : GD) (A : ASt) (N : MSt) (H : Heap) : Prop := ∃ g, RelG D g H ∧ Flat D A N g
def QN (D : GD) (Q : Option Value → ASt → MSt → Prop) : Option Value → GSt → Prop := fun r g => ∃ A N, Flat D A N g ∧ Q r A N
def NCon (D : GD) (y : MethodName) (w : List Cond) (lv : Nat) (av : List Value) (A : ASt) (N : MSt) (Q : Option Value → ASt → MSt → Prop) : Prop := ∀ g, Flat D A N g → GCon D y w lv av g (QN D Q)
/-! tables, decided -/
theorem tb_f39 : ∀ f, fTg f ≠ 99 → f < 39 := by
  intro f h
  unfold fTg at h
  split at h <;> first | decide | exact absurd rfl h
theorem tb_a40 : ∀ f, aTg f ≠ 99 → f < 40 := by
  intro f h
  unfold aTg at h
  split at h <;> first | decide | exact absurd rfl h
theorem tb_tg0 : ∀ f, f < 39 → fTg f ≠ 99 → fTg f < 13 ∧ f ≠ 50 ∧ f ≠ 51 ∧ f ≠ 52 ∧ f ≠ 40 ∧ f ≠ 41 ∧ f ≠ 42 ∧ tK (fTg f) ≤ 8 ∧ 1 ≤ tK (fTg f) ∧ fSl f < nF (tK (fTg f)) ∧ aTg f = 99 := by decide +kernel
theorem tb_tg : ∀ f, fTg f ≠ 99 → fTg f < 13 ∧ f ≠ 50 ∧ f ≠ 51 ∧ f ≠ 52 ∧ f ≠ 40 ∧ f ≠ 41 ∧ f ≠ 42 ∧ tK (fTg f) ≤ 8 ∧ 1 ≤ tK (fTg f) ∧ fSl f < nF (tK (fTg f)) ∧ aTg f = 99 := fun f h => tb_tg0 f (tb_f39 f h) h
theorem tb_at0 : ∀ f, f < 40 → aTg f ≠ 99 → aTg f < 13 ∧ f ≠ 50 ∧ f ≠ 51 ∧ f ≠ 52 ∧ f ≠ 40 ∧ f ≠ 41 ∧ f ≠ 42 ∧ (tK (aTg f) = 11 ∨ tK (aTg f) = 12) ∧ tL (aTg f) = aLn f ∧ fTg f = 99 ∧ 1 ≤ aLn f := by decide +kernel
theorem tb_at : ∀ f, aTg f ≠ 99 → aTg f < 13 ∧ f ≠ 50 ∧ f ≠ 51 ∧ f ≠ 52 ∧ f ≠ 40 ∧ f ≠ 41 ∧ f ≠ 42 ∧ (tK (aTg f) = 11 ∨ tK (aTg f) = 12) ∧ tL (aTg f) = aLn f ∧ fTg f = 99 ∧ 1 ≤ aLn f := fun f h => tb_at0 f (tb_a40 f h) h
theorem tb_fj0 : ∀ f, f < 39 → ∀ f', f' < 39 → fTg f ≠ 99 → fTg f = fTg f' → fSl f = fSl f' → f = f' := by decide +kernel
theorem tb_fj : ∀ f f', fTg f ≠ 99 → fTg f' ≠ 99 → fTg f = fTg f' → fSl f = fSl f' → f = f' := fun f f' h h' => tb_fj0 f (tb_f39 f h) f' (tb_f39 f' h') h
theorem tb_aj0 : ∀ f, f < 40 → ∀ f', f' < 40 → aTg f ≠ 99 → aTg f = aTg f' → f = f' := by decide +kernel
theorem tb_aj : ∀ f f', aTg f ≠ 99 → aTg f' ≠ 99 → aTg f = aTg f' → f = f' := fun f f' h h' => tb_aj0 f (tb_a40 f h) f' (tb_a40 f' h') h
/-- slots of the parts that never change are no field's -/
theorem tb_sa : ∀ f, f < 39 → fTg f ≠ 99 → ¬ (tK (fTg f) = 2 ∧ fSl f = 0) ∧ ¬ (tK (fTg f) = 2 ∧ fSl f = 2) ∧ ¬ (tK (fTg f) = 4 ∧ fSl f = 0) ∧ ¬ (tK (fTg f) = 4 ∧ fSl f = 7) := by decide +kernel
theorem tb_sb : ∀ f, f < 39 → fTg f ≠ 99 → ¬ (tK (fTg f) = 4 ∧ fSl f = 6) ∧ tK (fTg f) < 5 := by decide +kernel
theorem tb_sc : ∀ f, f < 39 → fTg f ≠ 99 → ¬ (tK (fTg f) = 1 ∧ (fSl f = 0 ∨ fSl f = 1 ∨ fSl f = 2 ∨ fSl f = 5 ∨ fSl f = 11)) := by decide +kernel
theorem tb_st : ∀ f, fTg f ≠ 99 → ¬ (tK (fTg f) = 2 ∧ fSl f = 0) ∧ ¬ (tK (fTg f) = 2 ∧ fSl f = 2) ∧ ¬ (tK (fTg f) = 4 ∧ fSl f = 0) ∧ ¬ (tK (fTg f) = 4 ∧ fSl f = 7) ∧ ¬ (tK (fTg f) = 4 ∧ fSl f = 6) ∧ ¬ (tK (fTg f) = 1 ∧ (fSl f = 0 ∨ fSl f = 1 ∨ fSl f = 2 ∨ fSl f = 5 ∨ fSl f = 11)) ∧ tK (fTg f) < 5 := fun f h =>
  ⟨(tb_sa f (tb_f39 f h) h).1, (tb_sa f (tb_f39 f h) h).2.1, (tb_sa f (tb_f39 f h) h).2.2.1, (tb_sa f (tb_f39 f h) h).2.2.2, (tb_sb f (tb_f39 f h) h).1, tb_sc f (tb_f39 f h) h, (tb_sb f (tb_f39 f h) h).2⟩
section Flats
variable {D : GD} {A : ASt} {N : MSt} {g : GSt}
/-- a number field has changed -/
theorem Flat.setI {f : Nat} {v z : Int} (h : Flat D A N g) (hf : fTg f ≠ 99) (hr : fRt f = 0) (hv : Vld N (fTg f) v) : Flat D A (up N f v z) (uI g (tK (fTg f)) (fSl f) (A (fTg f) v) z) := by
  obtain ⟨hS, hQ, hK, hJ, hE, hC, hV, hA⟩ := h
  obtain ⟨n1, n2, n3, n4, n5, n6, n7, n8, n9, n10, n11⟩ := tb_tg f hf
  obtain ⟨s1, s2, s3, s4, s5, s6, s7⟩ := tb_st f hf
  have un : ∀ (f' : Nat) (i : Int), f ≠ f' → up N f v z f' i = N f' i := fun f' i e => up_ne (fun q => e q.1.symm)
  have ue := un 50 0 n2
  have ut := un 51 0 n3
  have oI : ∀ (c : Nat) (k : Int) (b : Nat), ¬ (c = tK (fTg f) ∧ k = (fSl f : Int) ∧ b = A (fTg f) v) → gI (uI g (tK (fTg f)) (fSl f) (A (fTg f) v) z) c k b = gI g c k b := fun c k b q => uI_off q
  refine ⟨?_, ?_, ?_, ?_, hE, ?_, ?_, ?_⟩
  · unfold FlS
    rw [ue, ut]
    refine ⟨hS.1, fun p a b => ?_, hS.2.2.1, hS.2.2.2.1, fun t a b => ?_⟩
    · have q := hS.2.1 p a b
      rw [oI 2 0 _ (fun e => s1 ⟨e.1.symm, by omega⟩), oI 2 0 _ (fun e => s1 ⟨e.1.symm, by omega⟩)]
      exact q
    · have q := hS.2.2.2.2 t a b
      rw [oI 4 0 _ (fun e => s3 ⟨e.1.symm, by omega⟩)]
      exact q
  · intro t a b
    rw [ut] at b
    rw [un 40 t n5, un 41 t n6, un 42 t n7]
    rcases hQ t a b with q | ⟨q1, q2, q3, q4, q5⟩
    · exact Or.inl q
    · refine Or.inr ⟨q1, q2, q3, ?_, fun e => ?_⟩
      · rw [oI _ _ _ (fun e => by have := e.1; omega)]
        exact q4
      · rw [oI _ _ _ (fun e => by have := e.1; omega)]
        exact q5 e
  · intro tg v' a b
    exact hK tg v' a ((Vld_up ⟨n2, n3⟩).mp b)
  · intro tg tg' v1 v2 a b c d
    exact hJ tg tg' v1 v2 a b ((Vld_up ⟨n2, n3⟩).mp c) ((Vld_up ⟨n2, n3⟩).mp d)
  · unfold FlC
    rw [ue, ut, un 52 0 n4]
    exact hC
  · intro f' v' a b
    have b := (Vld_up ⟨n2, n3⟩).mp b
    by_cases e : f' = f ∧ v' = v
    · obtain ⟨rfl, rfl⟩ := e
      refine ⟨fun _ => ?_, fun q => absurd hr q⟩
      rw [uI_on, up_same]
    · rw [show up N f v z f' v' = N f' v' from up_ne (fun q => e q), Rok_up ⟨n2, n3⟩]
      refine ⟨fun q => ?_, (hV f' v' a b).2⟩
      rw [oI _ _ _ (fun q => ?_)]
      · exact (hV f' v' a b).1 q
      · obtain ⟨q1, q2, q3⟩ := q
        have j := hJ _ _ _ _ (tb_tg f' a).1 n1 b hv q3
        exact e ⟨tb_fj f' f a hf j.1 (by omega), j.2⟩
  · intro f' v' z' a b c d
    have b := (Vld_up ⟨n2, n3⟩).mp b
    obtain ⟨m1, m2, m3, m4, m5, m6, m7, m8, m9, m10, m11⟩ := tb_at f' a
    rw [un f' _ (fun e => a (by rw [← e]; exact n11)), oI _ _ _ (fun q => by have := q.1; omega)]
    exact hA f' v' z' a b c d
/-- an array's number has changed -/
theorem Flat.setA {f : Nat} {v z x : Int} (h : Flat D A N g) (hf : aTg f ≠ 99) (hv : Vld N (aTg f) v) (hz : 0 ≤ z ∧ z < (aLn f : Int)) : Flat D A (up N f ((aLn f : Int) * v + z) x) (uI g (tK (aTg f)) z (A (aTg f) v) x) := by
  obtain ⟨hS, hQ, hK, hJ, hE, hC, hV, hA⟩ := h
  obtain ⟨n1, n2, n3, n4, n5, n6, n7, n8, n9, n10, n11⟩ := tb_at f hf
  have un : ∀ (f' : Nat) (i : Int), f ≠ f' → up N f ((aLn f : Int) * v + z) x f' i = N f' i := fun f' i e => up_ne (fun q => e q.1.symm)
  have ue := un 50 0 n2
  have ut := un 51 0 n3
  have oI : ∀ (c : Nat) (k : Int) (b : Nat), ¬ (c = tK (aTg f) ∧ k = z ∧ b = A (aTg f) v) → gI (uI g (tK (aTg f)) z (A (aTg f) v) x) c k b = gI g c k b := fun c k b q => uI_off q
  refine ⟨?_, ?_, ?_, ?_, hE, ?_, ?_, ?_⟩
  · unfold FlS
    rw [ue, ut]
    refine ⟨hS.1, fun p a b => ?_, hS.2.2.1, hS.2.2.2.1, fun t a b => ?_⟩
    · have q := hS.2.1 p a b
      rw [oI 2 0 _ (fun e => by have := e.1; omega), oI 2 0 _ (fun e => by have := e.1; omega)]
      exact q
    · have q := hS.2.2.2.2 t a b
      rw [oI 4 0 _ (fun e => by have := e.1; omega)]
      exact q
  · intro t a b
    rw [ut] at b
    rw [un 40 t n5, un 41 t n6, un 42 t n7]
    rcases hQ t a b with q | ⟨q1, q2, q3, q4, q5⟩
    · exact Or.inl q
    · refine Or.inr ⟨q1, q2, q3, ?_, fun e => ?_⟩
      · rw [oI _ _ _ (fun e => by have := e.1; omega)]
        exact q4
      · rw [oI _ _ _ (fun e => by have := e.1; omega)]
        exact q5 e
  · intro tg v' a b
    exact hK tg v' a ((Vld_up ⟨n2, n3⟩).mp b)
  · intro tg tg' v1 v2 a b c d
    exact hJ tg tg' v1 v2 a b ((Vld_up ⟨n2, n3⟩).mp c) ((Vld_up ⟨n2, n3⟩).mp d)
  · unfold FlC
    rw [ue, ut, un 52 0 n4]
    exact hC
  · intro f' v' a b
    have b := (Vld_up ⟨n2, n3⟩).mp b
    obtain ⟨m1, m2, m3, m4, m5, m6, m7, m8, m9, m10, m11⟩ := tb_tg f' a
    rw [un f' _ (fun e => a (by rw [← e]; exact n10)), Rok_up ⟨n2, n3⟩]
    refine ⟨fun q => ?_, (hV f' v' a b).2⟩
    rw [oI _ _ _ (fun q => by have := q.1; omega)]
    exact (hV f' v' a b).1 q
  · intro f' v' z' a b c d
    have b := (Vld_up ⟨n2, n3⟩).mp b
    by_cases e : f' = f ∧ v' = v ∧ z' = z
    · obtain ⟨rfl, rfl, rfl⟩ := e
      rw [uI_on, up_same]
    · rw [oI _ _ _ (fun q => ?_)]
      · rw [show up N f ((aLn f : Int) * v + z) x f' ((aLn f' : Int) * v' + z') = N f' ((aLn f' : Int) * v' + z') from up_ne (fun q => ?_)]
        · exact hA f' v' z' a b c d
        · obtain ⟨rfl, q⟩ := q
          refine e ⟨rfl, ?_⟩
          have w1 : ((aLn f' : Int) * v' + z') / (aLn f' : Int) = v' := by
            rw [Int.add_comm, Int.add_mul_ediv_left _ _ (by omega), Int.ediv_eq_zero_of_lt c d]; omega
          have w2 : ((aLn f' : Int) * v + z) / (aLn f' : Int) = v := by
            rw [Int.add_comm, Int.add_mul_ediv_left _ _ (by omega), Int.ediv_eq_zero_of_lt hz.1 hz.2]; omega
          have w3 : v' = v := by rw [← w1, ← w2, q]
          refine ⟨w3, ?_⟩
          rw [w3] at q
          omega
      · obtain ⟨q1, q2, q3⟩ := q
        have j := hJ _ _ _ _ (tb_at f' a).1 n1 b hv q3
        exact e ⟨tb_aj f' f a hf j.1, j.2, q2⟩
/-- a reference field has changed -/
theorem Flat.setR {f : Nat} {v z : Int} (h : Flat D A N g) (hf : fTg f ≠ 99) (hr : fRt f ≠ 0) (hv : Vld N (fTg f) v) (hz : Rok N (fRt f) z) : Flat D A (up N f v z) (uR g (tK (fTg f)) (fSl f) (A (fTg f) v) (rfv A (fRt f) z)) := by
  obtain ⟨hS, hQ, hK, hJ, hE, hC, hV, hA⟩ := h
  obtain ⟨n1, n2, n3, n4, n5, n6, n7, n8, n9, n10, n11⟩ := tb_tg f hf
  obtain ⟨s1, s2, s3, s4, s5, s6, s7⟩ := tb_st f hf
  have un : ∀ (f' : Nat) (i : Int), f ≠ f' → up N f v z f' i = N f' i := fun f' i e => up_ne (fun q => e q.1.symm)
  have ue := un 50 0 n2
  have ut := un 51 0 n3
  have oR : ∀ (c : Nat) (k : Int) (b : Nat), ¬ (c = tK (fTg f) ∧ k = (fSl f : Int) ∧ b = A (fTg f) v) → gR (uR g (tK (fTg f)) (fSl f) (A (fTg f) v) (rfv A (fRt f) z)) c k b = gR g c k b := fun c k b q => uR_off q
  refine ⟨?_, ?_, ?_, ?_, hE, ?_, ?_, ?_⟩
  · unfold FlS
    rw [ue, ut]
    refine ⟨?_, fun p a b => ?_, fun r a b => ?_, fun t a b => ?_, fun t a b => ?_⟩
    · rw [oR 1 0 _ (fun e => s6 ⟨e.1.symm, by omega⟩), oR 1 1 _ (fun e => s6 ⟨e.1.symm, by omega⟩), oR 1 2 _ (fun e => s6 ⟨e.1.symm, by omega⟩), oR 1 5 _ (fun e => s6 ⟨e.1.symm, by omega⟩), oR 1 11 _ (fun e => s6 ⟨e.1.symm, by omega⟩)]
      exact hS.1
    · have q := hS.2.1 p a b
      rw [oR 13 _ _ (fun e => by have := e.1; omega), oR 13 _ _ (fun e => by have := e.1; omega), oR 2 2 _ (fun e => s2 ⟨e.1.symm, by omega⟩), oR 2 2 _ (fun e => s2 ⟨e.1.symm, by omega⟩)]
      exact q
    · rw [oR 14 _ _ (fun e => by have := e.1; omega)]
      exact hS.2.2.1 r a b
    · rw [oR 15 _ _ (fun e => by have := e.1; omega)]
      exact hS.2.2.2.1 t a b
    · have q := hS.2.2.2.2 t a b
      rw [oR 4 7 _ (fun e => s4 ⟨e.1.symm, by omega⟩)]
      exact q
  · intro t a b
    rw [ut] at b
    rw [un 40 t n5, un 41 t n6, un 42 t n7, oR 4 6 _ (fun e => s5 ⟨e.1.symm, by omega⟩)]
    exact hQ t a b
  · intro tg v' a b
    exact hK tg v' a ((Vld_up ⟨n2, n3⟩).mp b)
  · intro tg tg' v1 v2 a b c d
    exact hJ tg tg' v1 v2 a b ((Vld_up ⟨n2, n3⟩).mp c) ((Vld_up ⟨n2, n3⟩).mp d)
  · unfold FlC
    rw [ue, ut, un 52 0 n4]
    exact hC
  · intro f' v' a b
    have b := (Vld_up ⟨n2, n3⟩).mp b
    by_cases e : f' = f ∧ v' = v
    · obtain ⟨rfl, rfl⟩ := e
      refine ⟨fun q => absurd q hr, fun _ => ?_⟩
      rw [uR_on, up_same, Rok_up ⟨n2, n3⟩]
      exact ⟨rfl, hz⟩
    · rw [show up N f v z f' v' = N f' v' from up_ne (fun q => e q), Rok_up ⟨n2, n3⟩]
      refine ⟨(hV f' v' a b).1, fun q => ?_⟩
      rw [oR _ _ _ (fun q => ?_)]
      · exact (hV f' v' a b).2 q
      · obtain ⟨q1, q2, q3⟩ := q
        have j := hJ _ _ _ _ (tb_tg f' a).1 n1 b hv q3
        exact e ⟨tb_fj f' f a hf j.1 (by omega), j.2⟩
  · intro f' v' z' a b c d
    have b := (Vld_up ⟨n2, n3⟩).mp b
    rw [un f' _ (fun e => a (by rw [← e]; exact n11))]
    exact hA f' v' z' a b c d
end Flats

