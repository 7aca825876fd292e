/-! who must go -/
def inM (M : MSt) (x : Int) : Prop := 0 ≤ x ∧ x < M 22 0
def LeadR (M : MSt) (u v : Int) : Prop := inM M u ∧ inM M v ∧ Lead M u v
/-- v is led to from t, by one or more steps -/
def Fw (M : MSt) (t v : Int) : Prop := ∀ S : Int → Prop, (∀ x, LeadR M t x → S x) → (∀ u x, S u → LeadR M u x → S x) → S v
def Bk (M : MSt) (t u : Int) : Prop := ∀ S : Int → Prop, (∀ x, LeadR M x t → S x) → (∀ u x, S x → LeadR M u x → S u) → S u
theorem Fw.one {M : MSt} {t v : Int} (h : LeadR M t v) : Fw M t v := fun S h1 _ => h1 v h
theorem Fw.more {M : MSt} {t u v : Int} (h : Fw M t u) (h2 : LeadR M u v) : Fw M t v := fun S a b => b u v (h S a b) h2
theorem Bk.one {M : MSt} {t v : Int} (h : LeadR M v t) : Bk M t v := fun S h1 _ => h1 v h
theorem Bk.more {M : MSt} {t u v : Int} (h : Bk M t v) (h2 : LeadR M u v) : Bk M t u := fun S a b => b u v (h S a b) h2
theorem Fw.cons {M : MSt} {t u v : Int} (h : LeadR M u t) (h2 : Fw M t v) : Fw M u v := h2 (fun x => Fw M u x) (fun x hx => Fw.more (Fw.one h) hx) (fun a x ha hx => ha.more hx)
theorem Bk_Fw {M : MSt} {t u : Int} : Bk M t u ↔ Fw M u t := by
  constructor
  · intro h
    exact h (fun x => Fw M x t) (fun x hx => Fw.one hx) (fun a x ha hx => Fw.cons hx ha)
  · intro h
    have key : ∀ v, Fw M u v → ∀ w, (v = w ∨ Bk M w v) → Bk M w u := by
      intro v hv
      exact hv (fun v => ∀ w, (v = w ∨ Bk M w v) → Bk M w u) (fun x hx w hw => by
        rcases hw with rfl | hw
        · exact Bk.one hx
        · exact hw.more hx) (fun a x ha hx w hw => by
        refine ha w (Or.inr ?_)
        rcases hw with rfl | hw
        · exact Bk.one hx
        · exact hw.more hx)
    exact key t h t (Or.inl rfl)
noncomputable def lastN (P : Int → Prop) : Nat → Int
  | 0 => -1
  | n + 1 => pick (P (n : Int)) (n : Int) (lastN P n)
theorem lastN_bd {P : Int → Prop} (n : Nat) : -1 ≤ lastN P n ∧ lastN P n < n ∧ (0 ≤ lastN P n → P (lastN P n)) ∧ (lastN P n < 0 → ∀ x, 0 ≤ x → x < (n : Int) → ¬ P x) := by
  induction n with
  | zero => exact ⟨by show (-1 : Int) ≤ -1; decide, by show (-1 : Int) < 0; decide, fun h => absurd h (by show ¬ (0 : Int) ≤ -1; decide), fun _ x a b => by omega⟩
  | succ n ih =>
    unfold lastN
    by_cases h : P (n : Int)
    · rw [pick_t h]; exact ⟨by omega, by omega, fun _ => h, fun q => by omega⟩
    · rw [pick_f h]
      obtain ⟨h1, h2, h3, h4⟩ := ih
      exact ⟨h1, by omega, h3, fun q x a b => by
        by_cases e : x = n
        · subst e; exact h
        · exact h4 q x a (by omega)⟩
noncomputable def vic (M : MSt) (t : Int) : Int := pick (Fw M t t) (lastN (fun u => Fw M t u ∧ Fw M u t) (M 22 0).toNat) (-1)
theorem vic_bd {M : MSt} {t : Int} (hm : 0 ≤ M 22 0) : -1 ≤ vic M t ∧ vic M t < M 22 0 := by
  unfold vic
  have := lastN_bd (P := fun u => Fw M t u ∧ Fw M u t) (M 22 0).toNat
  by_cases h : Fw M t t
  · rw [pick_t h]; omega
  · rw [pick_f h]; omega
def Ah (Z : MSt) (x : Int) : Prop := Z 35 x = 1
def Bh (Z : MSt) (x : Int) : Prop := Z 36 x = 1
/-- within a round: all pairs ahead of (u, v) have been looked at -/
def Scn (M : MSt) (t : Int) (Z0 Z : MSt) (m u v : Int) : Prop :=
  (∀ x, inM M x → Ah Z0 x → Ah Z x) ∧ (∀ x, inM M x → Bh Z0 x → Bh Z x) ∧ (∀ x, inM M x → Ah Z x → Fw M t x) ∧ (∀ x, inM M x → Bh Z x → Bk M t x) ∧
  (∀ a b, LeadR M a b → (a < u ∨ (a = u ∧ b < v)) → ((a = t ∨ Ah Z0 a) → Ah Z b) ∧ ((b = t ∨ Bh Z0 b) → Bh Z a)) ∧ (m = 0 → (∀ x, inM M x → Ah Z x → Ah Z0 x) ∧ (∀ x, inM M x → Bh Z x → Bh Z0 x)) ∧ (m = 0 ∨ m = 1)
noncomputable def zst (Z : MSt) (u v : Int) (P P2 : Prop) : MSt := up (up Z 35 v (b01 (Ah Z v ∨ P))) 36 u (b01 (Bh Z u ∨ P2))
theorem zst_A {Z : MSt} {u v x : Int} {P P2 : Prop} : Ah (zst Z u v P P2) x ↔ Ah Z x ∨ (x = v ∧ P) := by
  unfold Ah zst
  rw [up_ne (fun q => by cases q.1)]
  by_cases h : x = v
  · subst h
    rw [up_same, b01_1]
    unfold Ah
    exact ⟨fun q => by rcases q with q | q; exact Or.inl q; exact Or.inr ⟨rfl, q⟩, fun q => by rcases q with q | q; exact Or.inl q; exact Or.inr q.2⟩
  · rw [up_ne (fun q => h q.2)]
    exact ⟨fun q => Or.inl q, fun q => by rcases q with q | q; exact q; exact absurd q.1 h⟩
theorem zst_B {Z : MSt} {u v x : Int} {P P2 : Prop} : Bh (zst Z u v P P2) x ↔ Bh Z x ∨ (x = u ∧ P2) := by
  unfold Bh zst
  by_cases h : x = u
  · subst h
    rw [up_same, b01_1]
    unfold Bh
    exact ⟨fun q => by rcases q with q | q; exact Or.inl q; exact Or.inr ⟨rfl, q⟩, fun q => by rcases q with q | q; exact Or.inl q; exact Or.inr q.2⟩
  · rw [up_ne (fun q => h q.2), up_ne (fun q => by cases q.1)]
    exact ⟨fun q => Or.inl q, fun q => by rcases q with q | q; exact q; exact absurd q.1 h⟩
theorem Scn.step {M : MSt} {t : Int} {Z0 Z : MSt} {m u v : Int} (h : Scn M t Z0 Z m u v) (hu : inM M u) (hv : inM M v) :
    Scn M t Z0 (zst Z u v ((u = t ∨ Ah Z u) ∧ ¬ Ah Z v ∧ Lead M u v) ((v = t ∨ Bh Z v) ∧ ¬ Bh Z u ∧ Lead M u v)) (b01 (m = 1 ∨ ((u = t ∨ Ah Z u) ∧ ¬ Ah Z v ∧ Lead M u v) ∨ ((v = t ∨ Bh Z v) ∧ ¬ Bh Z u ∧ Lead M u v))) u (v + 1) := by
  obtain ⟨h1, h2, h3, h4, h5, h6, h7⟩ := h
  refine ⟨fun x a b => zst_A.mpr (Or.inl (h1 x a b)), fun x a b => zst_B.mpr (Or.inl (h2 x a b)), fun x a b => ?_, fun x a b => ?_, fun a b hab hlt => ⟨fun hq => ?_, fun hq => ?_⟩, fun hm => ?_, b01_or _⟩
  · rcases zst_A.mp b with b | ⟨rfl, b, -, c⟩
    · exact h3 x a b
    · rcases b with rfl | b
      · exact Fw.one ⟨hu, hv, c⟩
      · exact (h3 u hu b).more ⟨hu, hv, c⟩
  · rcases zst_B.mp b with b | ⟨rfl, b, -, c⟩
    · exact h4 x a b
    · rcases b with rfl | b
      · exact Bk.one ⟨hu, hv, c⟩
      · exact (h4 v hv b).more ⟨hu, hv, c⟩
  · by_cases e : a < u ∨ (a = u ∧ b < v)
    · exact zst_A.mpr (Or.inl ((h5 a b hab e).1 hq))
    · have ea : a = u := by omega
      have eb : b = v := by omega
      subst ea; subst eb
      by_cases hA : Ah Z b
      · exact zst_A.mpr (Or.inl hA)
      · exact zst_A.mpr (Or.inr ⟨rfl, by rcases hq with q | q; exact Or.inl q; exact Or.inr (h1 a hu q), hA, hab.2.2⟩)
  · by_cases e : a < u ∨ (a = u ∧ b < v)
    · exact zst_B.mpr (Or.inl ((h5 a b hab e).2 hq))
    · have ea : a = u := by omega
      have eb : b = v := by omega
      subst ea; subst eb
      by_cases hB : Bh Z a
      · exact zst_B.mpr (Or.inl hB)
      · exact zst_B.mpr (Or.inr ⟨rfl, by rcases hq with q | q; exact Or.inl q; exact Or.inr (h2 b hv q), hB, hab.2.2⟩)
  · have hn := b01_0.mp hm
    have hm0 : m = 0 := by rcases h7 with h7 | h7; exact h7; exact absurd (Or.inl h7) hn
    have := h6 hm0
    refine ⟨fun x a b => ?_, fun x a b => ?_⟩
    · rcases zst_A.mp b with b | b
      · exact this.1 x a b
      · exact absurd (Or.inr (Or.inl b.2)) hn
    · rcases zst_B.mp b with b | b
      · exact this.2 x a b
      · exact absurd (Or.inr (Or.inr b.2)) hn
theorem Scn.row {M : MSt} {t : Int} {Z0 Z : MSt} {m u v : Int} (h : Scn M t Z0 Z m u v) (hv : M 22 0 ≤ v) : Scn M t Z0 Z m (u + 1) 0 := by
  obtain ⟨h1, h2, h3, h4, h5, h6, h7⟩ := h
  refine ⟨h1, h2, h3, h4, fun a b hab hlt => h5 a b hab ?_, h6, h7⟩
  have := hab.2.1.2
  have := hab.2.1.1
  omega
/-- closed: nothing is to be added -/
def ClA (M : MSt) (t : Int) (Z : MSt) : Prop := ∀ a b, LeadR M a b → (a = t ∨ Ah Z a) → Ah Z b
def ClB (M : MSt) (t : Int) (Z : MSt) : Prop := ∀ a b, LeadR M a b → (b = t ∨ Bh Z b) → Bh Z a
theorem cnt_lt {P P' : Int → Prop} {b : Int} (hb : 0 ≤ b) (h : ∀ x, 0 ≤ x → x < b → P x → P' x) (x : Int) (h0 : 0 ≤ x) (h1 : x < b) (h2 : P' x) (h3 : ¬ P x) : cnt P b + 1 ≤ cnt P' b := by
  have := cntN_drop (P := P') (P' := fun r => P' r ∧ r ≠ x) (fun r => Iff.rfl) h2 h0 b.toNat
  rw [if_pos (by omega)] at this
  have h4 : cnt P b ≤ cnt (fun r => P' r ∧ r ≠ x) b := cnt_mono fun r a c q => ⟨h r a c q, fun e => h3 (e ▸ q)⟩
  unfold cnt at h4 ⊢
  omega
theorem Scn.done {M : MSt} {t : Int} {Z0 Z : MSt} {m u : Int} (h : Scn M t Z0 Z m u 0) (hu : M 22 0 ≤ u) (hm : 0 ≤ M 22 0) (ht : inM M t) (j : Int) (hA : ClA M t Z0 ∨ j ≤ cnt (Ah Z0) (M 22 0)) (hB : ClB M t Z0 ∨ j ≤ cnt (Bh Z0) (M 22 0)) :
    (ClA M t Z ∨ j + 1 ≤ cnt (Ah Z) (M 22 0)) ∧ (ClB M t Z ∨ j + 1 ≤ cnt (Bh Z) (M 22 0)) ∧ (m = 0 → ClA M t Z ∧ ClB M t Z) := by
  obtain ⟨h1, h2, h3, h4, h5, h6, h7⟩ := h
  have h5' : ∀ a b, LeadR M a b → ((a = t ∨ Ah Z0 a) → Ah Z b) ∧ ((b = t ∨ Bh Z0 b) → Bh Z a) := fun a b hab => h5 a b hab (Or.inl (by have := hab.1.2; omega))
  have cA : (∀ x, inM M x → Ah Z x → Ah Z0 x) → ClA M t Z := fun q a b hab hq => (h5' a b hab).1 (by rcases hq with hq | hq; exact Or.inl hq; exact Or.inr (q a hab.1 hq))
  have cB : (∀ x, inM M x → Bh Z x → Bh Z0 x) → ClB M t Z := fun q a b hab hq => (h5' a b hab).2 (by rcases hq with hq | hq; exact Or.inl hq; exact Or.inr (q b hab.2.1 hq))
  refine ⟨?_, ?_, fun hm0 => ⟨cA (h6 hm0).1, cB (h6 hm0).2⟩⟩
  · by_cases e : ∀ x, inM M x → Ah Z x → Ah Z0 x
    · exact Or.inl (cA e)
    · rcases hA with hA | hA
      · exact absurd (fun x a b => (h3 x a b) (fun y => Ah Z0 y) (fun y hy => hA t y hy (Or.inl rfl)) (fun p y hp hy => hA p y hy (Or.inr hp))) e
      · obtain ⟨x, hx⟩ := Classical.not_forall.mp e
        obtain ⟨hx1, hx⟩ := Classical.not_imp.mp hx
        obtain ⟨hx2, hx3⟩ := Classical.not_imp.mp hx
        have := cnt_lt (P := Ah Z0) (P' := Ah Z) hm (fun y a b q => h1 y ⟨a, b⟩ q) x hx1.1 hx1.2 hx2 hx3
        exact Or.inr (by omega)
  · by_cases e : ∀ x, inM M x → Bh Z x → Bh Z0 x
    · exact Or.inl (cB e)
    · rcases hB with hB | hB
      · exact absurd (fun x a b => (h4 x a b) (fun y => Bh Z0 y) (fun y hy => hB y t hy (Or.inl rfl)) (fun p y hp hy => hB p y hy (Or.inr hp))) e
      · obtain ⟨x, hx⟩ := Classical.not_forall.mp e
        obtain ⟨hx1, hx⟩ := Classical.not_imp.mp hx
        obtain ⟨hx2, hx3⟩ := Classical.not_imp.mp hx
        have := cnt_lt (P := Bh Z0) (P' := Bh Z) hm (fun y a b q => h2 y ⟨a, b⟩ q) x hx1.1 hx1.2 hx2 hx3
        exact Or.inr (by omega)
theorem Cl_Fw {M : MSt} {t : Int} {Z : MSt} (hc : ClA M t Z) (hs : ∀ x, inM M x → Ah Z x → Fw M t x) {x : Int} (hx : inM M x) : Ah Z x ↔ Fw M t x :=
  ⟨hs x hx, fun h => h (fun y => Ah Z y) (fun y hy => hc t y hy (Or.inl rfl)) (fun p y hp hy => hc p y hy (Or.inr hp))⟩
theorem Cl_Bk {M : MSt} {t : Int} {Z : MSt} (hc : ClB M t Z) (hs : ∀ x, inM M x → Bh Z x → Bk M t x) {x : Int} (hx : inM M x) : Bh Z x ↔ Fw M x t := by
  rw [← Bk_Fw]
  exact ⟨hs x hx, fun h => h (fun y => Bh Z y) (fun y hy => hc y t hy (Or.inl rfl)) (fun p y hp hy => hc p y hy (Or.inr hp))⟩

