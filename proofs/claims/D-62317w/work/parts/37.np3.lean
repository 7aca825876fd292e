def shf (N : MSt) (i m : Int) (f : Nat) (j : Int) : Int := if f = 10 ∧ i ≤ j ∧ j < m then N 10 (j + 1) else N f j
def tfin (N : MSt) (i p : Int) : MSt := up (shf N i (N 1 0 - 1)) 10 (N 1 0 - 1) p
theorem shf_0 (N : MSt) (i : Int) : shf N i i = N := by
  funext f j
  unfold shf
  rw [if_neg (by omega)]
theorem shf_s (N : MSt) {i m : Int} (h : i ≤ m) : up (shf N i m) 10 m (N 10 (m + 1)) = shf N i (m + 1) := by
  funext f j
  unfold up shf
  by_cases e : f = 10
  · subst e
    by_cases e2 : j = m
    · subst e2
      rw [if_pos ⟨rfl, rfl⟩, if_pos ⟨rfl, by omega, by omega⟩]
    · rw [if_neg (fun z => e2 z.2)]
      by_cases e3 : i ≤ j ∧ j < m
      · rw [if_pos ⟨rfl, e3⟩, if_pos ⟨rfl, by omega, by omega⟩]
      · rw [if_neg (fun z => e3 z.2), if_neg (by omega)]
  · rw [if_neg (fun z => e z.1), if_neg (fun z => e z.1), if_neg (fun z => e z.1)]
theorem shf_o {N : MSt} {i m j : Int} {f : Nat} (h : f ≠ 10) : shf N i m f j = N f j := if_neg (fun z => h z.1)
theorem tfin_o {N : MSt} {i p j : Int} {f : Nat} (h : f ≠ 10) : tfin N i p f j = N f j := by
  unfold tfin
  rw [up_ne (fun z => h z.1), shf_o h]
theorem ord_gen {ord ord' : Int → Int} {fr fr' i p : Int} {inF' tc tc' : Int → Int} (hfr : (fr' = fr ∧ 0 ≤ i ∧ i < fr) ∨ (fr' = fr + 1 ∧ i = fr ∧ 0 ≤ fr)) (hp : 0 ≤ p ∧ p < 8)
    (hb : ∀ j, 0 ≤ j → j < fr → 0 ≤ ord j ∧ ord j < 8) (hI : ∀ j, 0 ≤ j → j < fr → j ≠ i → inF' (ord j) = 1) (hIp : inF' p = 1) (hinc : ∀ j k, 0 ≤ j → j < k → k < fr → tc (ord j) < tc (ord k))
    (hne : ∀ j, 0 ≤ j → j < fr → j ≠ i → ord j ≠ p) (htc : ∀ q, q ≠ p → tc' q = tc q) (htp : ∀ j, 0 ≤ j → j < fr → tc (ord j) < tc' p)
    (hc : ∀ q, 0 ≤ q → q < 8 → inF' q = 1 → q = p ∨ ∃ j, 0 ≤ j ∧ j < fr ∧ j ≠ i ∧ ord j = q)
    (ho : ∀ j, 0 ≤ j → j < fr' - 1 → ord' j = if j < i then ord j else ord (j + 1)) (hol : ord' (fr' - 1) = p) :
    (∀ j, 0 ≤ j → j < fr' → (0 ≤ ord' j ∧ ord' j < 8) ∧ inF' (ord' j) = 1) ∧ (∀ j k, 0 ≤ j → j < k → k < fr' → tc' (ord' j) < tc' (ord' k)) ∧ (∀ q, 0 ≤ q → q < 8 → inF' q = 1 → ∃ j, 0 ≤ j ∧ j < fr' ∧ ord' j = q) := by
  have key : ∀ j, 0 ≤ j → j < fr' - 1 → ∃ s, ord' j = ord s ∧ 0 ≤ s ∧ s < fr ∧ s ≠ i ∧ (s = if j < i then j else j + 1) := by
    intro j h0 h1
    refine ⟨if j < i then j else j + 1, ?_, ?_⟩
    · rw [ho j h0 h1]
      by_cases e : j < i
      · rw [if_pos e, if_pos e]
      · rw [if_neg e, if_neg e]
    · by_cases e : j < i
      · rw [if_pos e]; exact ⟨h0, by omega, by omega, rfl⟩
      · rw [if_neg e]; exact ⟨by omega, by omega, by omega, rfl⟩
  refine ⟨fun j h0 h1 => ?_, fun j k h0 h1 h2 => ?_, fun q h0 h1 h2 => ?_⟩
  · by_cases e : j = fr' - 1
    · rw [e, hol]; exact ⟨hp, hIp⟩
    · obtain ⟨s, e1, e2, e3, e4, -⟩ := key j h0 (by omega)
      rw [e1]
      exact ⟨hb s e2 e3, hI s e2 e3 e4⟩
  · obtain ⟨s, e1, e2, e3, e4, e5⟩ := key j h0 (by omega)
    rw [e1, htc _ (hne s e2 e3 e4)]
    by_cases e : k = fr' - 1
    · rw [e, hol]
      exact htp s e2 e3
    · obtain ⟨s', f1, f2, f3, f4, f5⟩ := key k (by omega) (by omega)
      rw [f1, htc _ (hne s' f2 f3 f4)]
      refine hinc s s' e2 ?_ f3
      rw [e5, f5]
      split <;> split <;> omega
  · rcases hc q h0 h1 h2 with e | ⟨s, e1, e2, e3, e4⟩
    · exact ⟨fr' - 1, by omega, by omega, by rw [hol, e]⟩
    · refine ⟨if s < i then s else s - 1, ?_, ?_, ?_⟩
      · split <;> omega
      · split <;> omega
      · by_cases z : s < i
        · rw [if_pos z, ho s e1 (by omega), if_pos z, e4]
        · rw [if_neg z, ho (s - 1) (by omega) (by omega), if_neg (by omega), show s - 1 + 1 = s from by omega, e4]
theorem old_min {M : MSt} : ∀ (n : Nat) (q : Int), 0 ≤ q → q < (n : Int) → M 7 q = 1 → 0 ≤ oldN M n ∧ M 9 (oldN M n) ≤ M 9 q := by
  intro n
  induction n with
  | zero => intro q h0 h1; omega
  | succ n ih =>
    intro q h0 h1 h2
    have hs : oldN M (n + 1) = if M 7 (n : Int) = 1 ∧ (oldN M n < 0 ∨ M 9 (n : Int) < M 9 (oldN M n)) then (n : Int) else oldN M n := old_s (M := M) (b := (n : Int)) (by omega)
    rw [hs]
    by_cases c : M 7 (n : Int) = 1 ∧ (oldN M n < 0 ∨ M 9 (n : Int) < M 9 (oldN M n))
    · rw [if_pos c]
      refine ⟨by omega, ?_⟩
      by_cases e : q = n
      · rw [e]; omega
      · have := ih q h0 (by omega) h2
        rcases c.2 with z | z <;> omega
    · rw [if_neg c]
      by_cases e : q = n
      · subst e
        have : ¬ (oldN M n < 0 ∨ M 9 (n : Int) < M 9 (oldN M n)) := fun z => c ⟨h2, z⟩
        omega
      · exact ih q h0 (by omega) h2
theorem OrdS.old {N M : MSt} (h : OrdS N M) (hf : 0 < N 1 0) : old M 8 = N 10 0 := by
  have h0 := h.2.1 0 (by omega) hf
  have hm := old_min (M := M) 8 (N 10 0) h0.1.1 (by have := h0.1.2; omega) h0.2
  have hb := old_bd (M := M) (b := 8) (by omega)
  have hm : 0 ≤ CNestedStoreLaw_law_r7484_ab0530.old M 8 ∧ M 9 (CNestedStoreLaw_law_r7484_ab0530.old M 8) ≤ M 9 (N 10 0) := hm
  obtain ⟨i, i0, i1, i2⟩ := ((h.2.2.2 (CNestedStoreLaw_law_r7484_ab0530.old M 8) hm.1 hb.2.1).2 (hb.2.2.2 hm.1)).1
  by_cases e : i = 0
  · rw [← i2, e]
  · have := h.2.2.1 0 i (by omega) (by omega) i1
    rw [i2] at this
    omega
theorem tch_in {M : MSt} {p : Int} (h : M 7 p = 1) : tch M p = up (clk M) 9 p (M 10 0 + 1) := by unfold tch tch0; rw [if_pos h]
theorem tch_ev {M : MSt} {p : Int} (h : ¬ M 7 p = 1) (hu : usd M = M 0 0) : tch M p = up (ldp (evc (clk M) (old M 8)) p) 9 p (M 10 0 + 1) := by unfold tch tch0; rw [if_neg h, if_pos hu]
theorem tch_nw {M : MSt} {p : Int} (h : ¬ M 7 p = 1) (hu : ¬ usd M = M 0 0) : tch M p = up (ldp (clk M) p) 9 p (M 10 0 + 1) := by unfold tch tch0; rw [if_neg h, if_neg hu]
/-- what touch makes of the flat store -/
noncomputable def tN (N : MSt) (p : Int) : MSt := pick (0 ≤ pl N p) (tfin N (pl N p) p) (pick (N 1 0 = N 2 0) (tfin (ldN (if N 17 (N 10 0) = 1 then brg N (N 10 0) else N) p) 0 p) (tfin (ldN (up N 1 0 (N 1 0 + 1)) p) (N 1 0) p))
theorem tfin_ord {N : MSt} {i p : Int} : (∀ j, 0 ≤ j → j < N 1 0 - 1 → tfin N i p 10 j = if j < i then N 10 j else N 10 (j + 1)) ∧ tfin N i p 10 (N 1 0 - 1) = p := by
  refine ⟨fun j a b => ?_, up_same _ _ _ _⟩
  unfold tfin
  rw [up_ne (fun z => by omega)]
  unfold shf
  by_cases e : j < i
  · rw [if_pos e, if_neg (by omega)]
  · rw [if_neg e, if_pos ⟨rfl, by omega, b⟩]
theorem usd_c {M M' : MSt} (h : M' 7 = M 7) : usd M' = usd M := by unfold usd; rw [h]
theorem usd_add {M M' : MSt} {p : Int} (hp : 0 ≤ p ∧ p < 8) (h0 : ¬ M 7 p = 1) (h1 : ∀ q, M' 7 q = if q = p then 1 else M 7 q) : usd M' = usd M + 1 := by
  have := cntN_drop (P := fun q => M' 7 q = 1) (P' := fun q => M 7 q = 1) (u := p) (fun r => by
    show _ ↔ M' 7 r = 1 ∧ r ≠ p
    rw [h1]
    by_cases e : r = p
    · rw [if_pos e, e]; exact ⟨fun z => absurd z h0, fun z => absurd rfl z.2⟩
    · rw [if_neg e]; exact ⟨fun z => ⟨z, e⟩, fun z => z.1⟩) (by show M' 7 p = 1; rw [h1, if_pos rfl]) hp.1 8
  rw [if_pos (by omega)] at this
  show cntN _ 8 = cntN _ 8 + 1
  omega
theorem usd_sub {M M' : MSt} {p : Int} (hp : 0 ≤ p ∧ p < 8) (h0 : M 7 p = 1) (h1 : ∀ q, M' 7 q = if q = p then 0 else M 7 q) : usd M' = usd M - 1 := by
  have := cntN_drop (P' := fun q => M' 7 q = 1) (P := fun q => M 7 q = 1) (u := p) (fun r => by
    show M' 7 r = 1 ↔ _
    rw [h1]
    by_cases e : r = p
    · rw [if_pos e, e]; exact ⟨fun z => absurd z (by decide), fun z => absurd rfl z.2⟩
    · rw [if_neg e]; exact ⟨fun z => ⟨z, e⟩, fun z => z.1⟩) h0 hp.1 8
  rw [if_pos (by omega)] at this
  show cntN _ 8 = cntN _ 8 - 1
  omega

