/-! the scratch fields, and that nothing else rests on them -/
def scr (f : Nat) : Bool := f == 30 || f == 31 || f == 32 || f == 33 || f == 34 || f == 35 || f == 36 || f == 37
def sset (M Z : MSt) (f : Nat) (i : Int) : Int := if scr f = true then Z f i else M f i
theorem sset_n {M Z : MSt} {f : Nat} (h : scr f = false) : sset M Z f = M f := by
  funext i
  unfold sset
  rw [if_neg (by rw [h]; decide)]
theorem sset_up {M Z : MSt} {k : Nat} {i z : Int} (h : scr k = false) : up (sset M Z) k i z = sset (up M k i z) Z := by
  funext f j
  unfold up sset
  by_cases hf : scr f = true
  · rw [if_pos hf, if_pos hf, if_neg (fun q => by rw [q.1, h] at hf; cases hf)]
  · rw [if_neg hf, if_neg hf]
theorem sset_sc {M Z : MSt} {k : Nat} {i z : Int} (h : scr k = true) : up (sset M Z) k i z = sset M (up Z k i z) := by
  funext f j
  unfold up sset
  by_cases hf : scr f = true
  · rw [if_pos hf, if_pos hf]
  · rw [if_neg hf, if_neg hf, if_neg (fun q => by rw [q.1] at hf; exact hf h)]
theorem sset_self (M : MSt) : sset M M = M := by
  funext f j
  unfold sset
  split <;> rfl
theorem sset_sset (M Z Z' : MSt) : sset (sset M Z) Z' = sset M Z' := by
  funext f j
  unfold sset
  split <;> rfl
theorem sset_cpd (M Z : MSt) (a b : Int) : cpd (sset M Z) a b = sset (cpd M a b) Z := by
  funext f j
  unfold cpd
  rw [sset_n (f := 4) rfl, sset_n (f := 5) rfl]
  unfold sset
  by_cases hf : scr f = true
  · rw [if_pos hf, if_pos hf, if_neg (fun q => by rw [q.1] at hf; cases hf), if_neg (fun q => by rw [q.1] at hf; cases hf)]
  · rw [if_neg hf, if_neg hf]
theorem sset_cpu (M Z : MSt) (a b : Int) : cpu (sset M Z) a b = sset (cpu M a b) Z := by
  funext f j
  unfold cpu
  rw [sset_n (f := 1) rfl, sset_n (f := 2) rfl]
  unfold sset
  by_cases hf : scr f = true
  · rw [if_pos hf, if_pos hf, if_neg (fun q => by rw [q.1] at hf; cases hf), if_neg (fun q => by rw [q.1] at hf; cases hf)]
  · rw [if_neg hf, if_neg hf]
theorem sset_wrt (M Z : MSt) (p : Int) : wrt (sset M Z) p = sset (wrt M p) Z := by
  unfold wrt
  rw [sset_n (f := 6) rfl, sset_n (f := 13) rfl, sset_up rfl, sset_cpd, sset_up rfl, sset_up rfl]
theorem sset_evc (M Z : MSt) (p : Int) : evc (sset M Z) p = sset (evc M p) Z := by
  unfold evc
  rw [sset_n (f := 8) rfl]
  split
  · rw [sset_wrt, sset_up rfl]
  · rw [sset_up rfl]
theorem sset_ldp (M Z : MSt) (p : Int) : ldp (sset M Z) p = sset (ldp M p) Z := by
  unfold ldp
  rw [sset_n (f := 3) rfl, sset_cpu, sset_up rfl, sset_up rfl, sset_up rfl]
theorem sset_clk (M Z : MSt) : clk (sset M Z) = sset (clk M) Z := by
  have h : ∀ K : MSt, clk K = up K 10 0 (K 10 0 + 1) := fun K => rfl
  rw [h, h, sset_n (f := 10) rfl, sset_up rfl]
theorem oldN_c {M M' : MSt} (h1 : M 7 = M' 7) (h2 : M 9 = M' 9) : ∀ n, oldN M n = oldN M' n := by
  intro n
  induction n with
  | zero => rfl
  | succ n ih => unfold oldN; rw [ih, h1, h2]
theorem sset_tch (M Z : MSt) (p : Int) : tch (sset M Z) p = sset (tch M p) Z := by
  have e1 : usd (sset M Z) = usd M := by unfold usd; rw [sset_n (f := 7) rfl]
  have e2 : old (sset M Z) 8 = old M 8 := oldN_c (sset_n rfl) (sset_n rfl) _
  have e0 : @tch0 (sset M Z) p (Classical.propDecidable _) = sset (@tch0 M p (Classical.propDecidable _)) Z := by
    unfold tch0
    rw [e1, e2, sset_n (f := 7) rfl, sset_n (f := 0) rfl, sset_clk]
    split
    · rfl
    · split
      · rw [sset_evc, sset_ldp]
      · rw [sset_ldp]
  unfold tch
  rw [e0, sset_n (f := 10) rfl, sset_up rfl]
theorem sset_bcm (M Z : MSt) (a b c d : Int) : bcm (sset M Z) a b c d = sset (bcm M a b c d) Z := by
  unfold bcm
  rw [sset_up rfl, sset_up rfl, sset_up rfl, sset_up rfl]
theorem sset_app (M Z : MSt) (a b c : Int) : app (sset M Z) a b c = sset (app M a b c) Z := by
  unfold app
  rw [sset_n (f := 12) rfl, sset_up rfl, sset_up rfl, sset_up rfl, sset_up rfl, sset_up rfl, sset_up rfl, sset_up rfl, sset_up rfl, sset_up rfl]
theorem sset_und (M Z : MSt) (t u : Int) : s_und (sset M Z) t u = sset (s_und M t u) Z := by
  unfold s_und
  rw [sset_n (f := 12) rfl, sset_n (f := 16) rfl, sset_n (f := 11) rfl, sset_n (f := 18) rfl, sset_n (f := 19) rfl, sset_app, sset_up rfl, sset_up rfl, sset_up rfl, sset_tch, sset_bcm]
theorem sset_upd (M Z : MSt) (t k now v : Int) : s_upd (sset M Z) t k now v = sset (s_upd M t k now v) Z := by
  unfold s_upd
  rw [sset_n (f := 12) rfl, sset_n (f := 11) rfl, sset_app, sset_tch, sset_n (f := 4) rfl, sset_n (f := 5) rfl, sset_up rfl, sset_up rfl, sset_up rfl, sset_up rfl, sset_bcm]
/-! undoing, and what falls -/
def InS (M : MSt) (t u : Int) : Prop := u = t ∨ Abv M t u
noncomputable def undN (t pt : Int) : Nat → MSt → Int × MSt
  | 0, M => (0, M)
  | n + 1, M => @ite _ (pt < M 11 0 + (n : Int) + 1 ∧ Opn M (n : Int) ∧ InS M t (M 15 (n : Int))) (Classical.propDecidable _) ((undN t pt n (s_und M t n)).1 + 1, (undN t pt n (s_und M t n)).2) (undN t pt n M)
theorem undN_t {t pt : Int} {n : Nat} {M : MSt} (h : pt < M 11 0 + (n : Int) + 1 ∧ Opn M (n : Int) ∧ InS M t (M 15 (n : Int))) : undN t pt (n + 1) M = ((undN t pt n (s_und M t n)).1 + 1, (undN t pt n (s_und M t n)).2) := by
  rw [undN, if_pos h]
theorem undN_f {t pt : Int} {n : Nat} {M : MSt} (h : ¬ (pt < M 11 0 + (n : Int) + 1 ∧ Opn M (n : Int) ∧ InS M t (M 15 (n : Int)))) : undN t pt (n + 1) M = undN t pt n M := by
  rw [undN, if_neg h]
noncomputable def undoes (M : MSt) (t pt : Int) : Int × MSt := undN t pt (M 12 0).toNat M
theorem Opn_sset (M Z : MSt) (r : Int) : Opn (sset M Z) r ↔ Opn M r := by
  unfold Opn Und
  rw [sset_n (f := 14) rfl, sset_n (f := 23) rfl, sset_n (f := 15) rfl, sset_n (f := 17) rfl, sset_n (f := 11) rfl, sset_n (f := 12) rfl, top_c (M' := M) (sset_n rfl)]
theorem InS_sset (M Z : MSt) (t u : Int) : InS (sset M Z) t u ↔ InS M t u := by
  unfold InS
  rw [Abv_c (M' := M) (sset_n rfl)]
theorem sset_undN (Z : MSt) (t pt : Int) : ∀ (n : Nat) (M : MSt), undN t pt n (sset M Z) = ((undN t pt n M).1, sset (undN t pt n M).2 Z) := by
  intro n
  induction n with
  | zero => intro M; rfl
  | succ n ih =>
    intro M
    have hc : (pt < sset M Z 11 0 + (n : Int) + 1 ∧ Opn (sset M Z) (n : Int) ∧ InS (sset M Z) t (sset M Z 15 (n : Int))) ↔ (pt < M 11 0 + (n : Int) + 1 ∧ Opn M (n : Int) ∧ InS M t (M 15 (n : Int))) := by
      rw [Opn_sset, InS_sset, sset_n (f := 11) rfl, sset_n (f := 15) rfl]
    by_cases h : pt < M 11 0 + (n : Int) + 1 ∧ Opn M (n : Int) ∧ InS M t (M 15 (n : Int))
    · rw [undN_t (hc.mpr h), undN_t h, sset_und, ih]
    · rw [undN_f (fun q => h (hc.mp q)), undN_f h, ih]
/-- the locks of t gone, of the first k items -/
def ulkN (M : MSt) (t k : Int) (f : Nat) (i : Int) : Int := if f = 26 ∧ 33 * t ≤ i ∧ i < 33 * t + k then 0 else M f i
def ulk (M : MSt) (t : Int) : MSt := ulkN M t 33
theorem ulkN_0 (M : MSt) (t : Int) : ulkN M t 0 = M := by
  funext f i
  unfold ulkN
  rw [if_neg (by omega)]
theorem ulkN_s (M : MSt) (t : Int) {k : Int} (h : 0 ≤ k) : up (ulkN M t k) 26 (33 * t + k) 0 = ulkN M t (k + 1) := by
  funext f i
  unfold up ulkN
  by_cases h1 : f = 26
  · by_cases h2 : i = 33 * t + k
    · rw [if_pos ⟨h1, h2⟩, if_pos ⟨h1, by omega, by omega⟩]
    · rw [if_neg (fun q => h2 q.2)]
      by_cases h3 : 33 * t ≤ i ∧ i < 33 * t + k
      · rw [if_pos ⟨h1, h3⟩, if_pos ⟨h1, by omega, by omega⟩]
      · rw [if_neg (fun q => h3 q.2), if_neg (fun q => h3 ⟨q.2.1, by omega⟩)]
  · rw [if_neg (fun q => h1 q.1), if_neg (fun q => h1 q.1), if_neg (fun q => h1 q.1)]
theorem ulk_o {M : MSt} {t i : Int} {f : Nat} (h : f ≠ 26) : ulk M t f i = M f i := by
  unfold ulk ulkN
  rw [if_neg (fun q => h q.1)]
theorem sset_ulk (M Z : MSt) (t : Int) : ulk (sset M Z) t = sset (ulk M t) Z := by
  funext f i
  unfold ulk ulkN sset
  by_cases hf : scr f = true
  · rw [if_pos hf, if_pos hf, if_neg (fun q => by rw [q.1] at hf; cases hf)]
  · rw [if_neg hf, if_neg hf]
/-- u has fallen -/
def gon (M : MSt) (u : Int) : MSt := ulk (up (app M 5 u 0) 23 u 4) u
noncomputable def abtN (F : Int → Prop) : Nat → MSt → MSt
  | 0, M => M
  | n + 1, M => abtN F n (@ite _ (F (n : Int)) (Classical.propDecidable _) (gon M n) M)
theorem abtN_t {F : Int → Prop} {n : Nat} {M : MSt} (h : F (n : Int)) : abtN F (n + 1) M = abtN F n (gon M n) := by rw [abtN, if_pos h]
theorem abtN_f {F : Int → Prop} {n : Nat} {M : MSt} (h : ¬ F (n : Int)) : abtN F (n + 1) M = abtN F n M := by rw [abtN, if_neg h]
noncomputable def abt (M : MSt) (t : Int) : Int × MSt := ((undoes M t 0).1, abtN (fun u => Liv M u ∧ InS M t u) (M 22 0).toNat (undoes M t 0).2)
theorem sset_gon (M Z : MSt) (u : Int) : gon (sset M Z) u = sset (gon M u) Z := by
  unfold gon
  rw [sset_app, sset_up rfl, sset_ulk]
theorem sset_abtN (F : Int → Prop) (Z : MSt) : ∀ (n : Nat) (M : MSt), abtN F n (sset M Z) = sset (abtN F n M) Z := by
  intro n
  induction n with
  | zero => intro M; rfl
  | succ n ih =>
    intro M
    by_cases h : F (n : Int)
    · rw [abtN_t h, abtN_t h, sset_gon, ih]
    · rw [abtN_f h, abtN_f h, ih]
theorem sset_undoes (M Z : MSt) (t pt : Int) : undoes (sset M Z) t pt = ((undoes M t pt).1, sset (undoes M t pt).2 Z) := by
  unfold undoes
  rw [sset_n (f := 12) rfl, sset_undN]
theorem sset_abt (M Z : MSt) (t : Int) : abt (sset M Z) t = ((abt M t).1, sset (abt M t).2 Z) := by
  have e : (fun u => Liv (sset M Z) u ∧ InS (sset M Z) t u) = (fun u => Liv M u ∧ InS M t u) := by
    funext u
    rw [InS_sset, Liv_c (M' := M) (sset_n rfl)]
  unfold abt
  rw [sset_undoes, e, sset_n (f := 22) rfl]
  show (_, abtN _ _ (sset _ _)) = _
  rw [sset_abtN]
/-- what undoing leaves alone -/
theorem undN_o {f : Nat} (h : pgF f = false) (h2 : lgF f = false) (t pt : Int) : ∀ (n : Nat) (M : MSt), (undN t pt n M).2 f = M f := by
  intro n
  induction n with
  | zero => intro M; rfl
  | succ n ih =>
    intro M
    by_cases hc : pt < M 11 0 + (n : Int) + 1 ∧ Opn M (n : Int) ∧ InS M t (M 15 (n : Int))
    · rw [undN_t hc]
      show (undN t pt n (s_und M t n)).2 f = M f
      rw [ih]
      exact funext fun _ => und_o h h2
    · rw [undN_f hc, ih]
theorem undN_wf (t pt : Int) : ∀ (n : Nat) (M : MSt), WF M → (n : Int) ≤ M 12 0 → 0 ≤ t ∧ t < M 22 0 → WF (undN t pt n M).2 ∧ 0 ≤ (undN t pt n M).1 ∧ (undN t pt n M).1 ≤ n := by
  intro n
  induction n with
  | zero => intro M h _ _; exact ⟨h, Int.le_refl _, Int.le_refl _⟩
  | succ n ih =>
    intro M h hn ht
    by_cases hc : pt < M 11 0 + (n : Int) + 1 ∧ Opn M (n : Int) ∧ InS M t (M 15 (n : Int))
    · rw [undN_t hc]
      have e1 : s_und M t n 12 0 = M 12 0 + 1 := und_n.1
      have e3 : s_und M t n 22 0 = M 22 0 := und_o rfl rfl
      obtain ⟨a, b, c⟩ := ih (s_und M t n) (h.und (by omega) (by omega) hc.2.1 ht) (by omega) (by rw [e3]; exact ht)
      refine ⟨a, ?_, ?_⟩
      · show 0 ≤ (undN t pt n (s_und M t n)).1 + 1
        omega
      · show (undN t pt n (s_und M t n)).1 + 1 ≤ _
        omega
    · rw [undN_f hc]
      obtain ⟨a, b, c⟩ := ih M h (by omega) ht
      exact ⟨a, b, by omega⟩

