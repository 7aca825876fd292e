/-! a page's work rests on the page's fields alone -/
def npg (f : Nat) : Bool := !(pgF f || f == 0)
def mix (M Z : MSt) (f : Nat) (i : Int) : Int := if npg f = true then Z f i else M f i
theorem mix_n {M Z : MSt} {f : Nat} (h : npg f = false) : mix M Z f = M f := by
  funext i
  unfold mix
  rw [if_neg (by rw [h]; decide)]
theorem mix_up {M Z : MSt} {k : Nat} {i z : Int} (h : npg k = false) : up (mix M Z) k i z = mix (up M k i z) Z := by
  funext f j
  unfold up mix
  by_cases hf : npg f = true
  · rw [if_pos hf, if_pos hf, if_neg (fun q => by rw [q.1, h] at hf; cases hf)]
  · rw [if_neg hf, if_neg hf]
theorem mix_sc {M Z : MSt} {k : Nat} {i z : Int} (h : npg k = true) : up (mix M Z) k i z = mix M (up Z k i z) := by
  funext f j
  unfold up mix
  by_cases hf : npg f = true
  · rw [if_pos hf, if_pos hf]
  · rw [if_neg hf, if_neg hf, if_neg (fun q => by rw [q.1] at hf; exact hf h)]
theorem mix_self (M : MSt) : mix M M = M := by
  funext f j
  unfold mix
  split <;> rfl
theorem mix_cpd (M Z : MSt) (a b : Int) : cpd (mix M Z) a b = mix (cpd M a b) Z := by
  funext f j
  unfold cpd
  rw [mix_n (f := 4) rfl, mix_n (f := 5) rfl]
  unfold mix
  by_cases hf : npg f = true
  · rw [if_pos hf, if_pos hf, if_neg (fun q => by rw [q.1] at hf; cases hf), if_neg (fun q => by rw [q.1] at hf; cases hf)]
  · rw [if_neg hf, if_neg hf]
theorem mix_cpu (M Z : MSt) (a b : Int) : cpu (mix M Z) a b = mix (cpu M a b) Z := by
  funext f j
  unfold cpu
  rw [mix_n (f := 1) rfl, mix_n (f := 2) rfl]
  unfold mix
  by_cases hf : npg f = true
  · rw [if_pos hf, if_pos hf, if_neg (fun q => by rw [q.1] at hf; cases hf), if_neg (fun q => by rw [q.1] at hf; cases hf)]
  · rw [if_neg hf, if_neg hf]
theorem mix_wrt (M Z : MSt) (p : Int) : wrt (mix M Z) p = mix (wrt M p) Z := by
  unfold wrt
  rw [mix_n (f := 6) rfl, mix_n (f := 13) rfl, mix_up rfl, mix_cpd, mix_up rfl, mix_up rfl]
theorem mix_evc (M Z : MSt) (p : Int) : evc (mix M Z) p = mix (evc M p) Z := by
  unfold evc
  rw [mix_n (f := 8) rfl]
  split
  · rw [mix_wrt, mix_up rfl]
  · rw [mix_up rfl]
theorem mix_ldp (M Z : MSt) (p : Int) : ldp (mix M Z) p = mix (ldp M p) Z := by
  unfold ldp
  rw [mix_n (f := 3) rfl, mix_cpu, mix_up rfl, mix_up rfl, mix_up rfl]
theorem mix_clk (M Z : MSt) : clk (mix M Z) = mix (clk M) Z := by
  have h : ∀ K : MSt, clk K = up K 10 0 (K 10 0 + 1) := fun K => rfl
  rw [h, h, mix_n (f := 10) rfl, mix_up rfl]
theorem mix_tch (M Z : MSt) (p : Int) : tch (mix M Z) p = mix (tch M p) Z := by
  have e1 : usd (mix M Z) = usd M := by unfold usd; rw [mix_n (f := 7) rfl]
  have e2 : old (mix M Z) 8 = old M 8 := oldN_c (mix_n rfl) (mix_n rfl) _
  have e0 : @tch0 (mix M Z) p (Classical.propDecidable _) = mix (@tch0 M p (Classical.propDecidable _)) Z := by
    unfold tch0
    rw [e1, e2, mix_n (f := 7) rfl, mix_n (f := 0) rfl, mix_clk]
    split
    · rfl
    · split
      · rw [mix_evc, mix_ldp]
      · rw [mix_ldp]
  unfold tch
  rw [e0, mix_n (f := 10) rfl, mix_up rfl]

theorem mix_of {M K : MSt} (h : ∀ f i, npg f = false → K f i = M f i) : K = mix M K := by
  funext f i
  unfold mix
  cases e : npg f
  · rw [if_neg (by decide)]; exact h f i e
  · rw [if_pos rfl]
theorem tch_pg {M K : MSt} {p : Int} (h : ∀ f i, npg f = false → K f i = M f i) {f : Nat} (hf : npg f = false) : tch K p f = tch M p f := by
  rw [mix_of h, mix_tch, mix_n hf]
/-! the store and the model, side by side -/
def LvT (M : MSt) (t : Int) : Prop := Liv M (top M t)
def EntS (N M : MSt) (r : Int) : Prop := (N 20 r = M 11 0 + r + 1 ∧ N 21 r = M 14 r ∧ N 22 r = M 15 r ∧ N 23 r = M 16 r) ∧ (N 24 r = M 18 r ∧ N 25 r = M 19 r ∧ N 26 r = M 20 r) ∧ (M 21 r = if M 20 r = 1 then N 27 r else 0) ∧ (M 18 r = 0 → M 19 r = 0) ∧
  ((M 14 r = 3 ∧ 0 ≤ N 28 r ∧ N 28 r < r ∧ M 17 r = M 11 0 + N 28 r + 1) ∨ (M 14 r ≠ 3 ∧ N 28 r = -1)) ∧ (M 18 r = 0 ∨ M 18 r = 1) ∧ (M 20 r = 0 ∨ M 20 r = 1) ∧ (1 ≤ M 14 r ∧ M 14 r ≤ 5) ∧ (M 14 r = 4 ∨ M 14 r = 5 → M 16 r = 0)
def SimL (N M : MSt) : Prop := (N 4 0 = M 11 0 ∧ N 3 0 = M 12 0 ∧ 0 ≤ M 12 0 ∧ M 12 0 ≤ N 50 0) ∧ ∀ r, 0 ≤ r → r < M 12 0 → EntS N M r
/-- a chain's link: null, or an earlier update of the same one, that passes no open one by -/
def Lnk (N M : MSt) (l t b : Int) : Prop := (l = -1 ∨ (0 ≤ l ∧ l < b ∧ M 14 l = 2 ∧ M 15 l = t)) ∧ ∀ q, 0 ≤ q → q < b → M 14 q = 2 → M 15 q = t → N 29 q = 0 → q ≤ l
def SimU (N M : MSt) : Prop := (∀ r, 0 ≤ r → r < M 12 0 → M 14 r = 2 → LvT M (M 15 r) → N 29 r = b01 (Und M r) ∧ Lnk N M (N 30 r) (M 15 r) r) ∧ ∀ t, 0 ≤ t → t < M 22 0 → LvT M t → Lnk N M (N 36 t) t (M 12 0)
def TrS (N M : MSt) (t : Int) : Prop := (N 31 t = M 24 t ∧ N 32 t = top M t ∧ N 33 t = dep M t ∧ N 34 t = M 25 t ∧ N 35 t = M 23 t) ∧ (∀ i, 0 ≤ i → i < 33 → N 39 (33 * t + i) = M 26 (33 * t + i)) ∧
  ((N 37 t = -1 ∧ ∀ u, 0 ≤ u → u < M 22 0 → M 24 u ≠ t) ∨ (0 ≤ N 37 t ∧ N 37 t < M 22 0 ∧ M 24 (N 37 t) = t ∧ ∀ u, 0 ≤ u → u < M 22 0 → M 24 u = t → u ≤ N 37 t)) ∧
  (0 ≤ M 24 t → (N 38 t = -1 ∧ ∀ u, 0 ≤ u → u < t → M 24 u ≠ M 24 t) ∨ (0 ≤ N 38 t ∧ N 38 t < t ∧ M 24 (N 38 t) = M 24 t ∧ ∀ u, 0 ≤ u → u < t → M 24 u = M 24 t → u ≤ N 38 t)) ∧
  (M 23 t = 2 → N 40 t = M 27 t ∧ N 41 t = M 28 t ∧ (M 27 t = 2 ∨ M 27 t = 4 → N 42 t = M 29 t))
def SimT (N M : MSt) : Prop := (N 8 0 = M 22 0 ∧ N 51 0 = M 22 0) ∧ ∀ t, 0 ≤ t → t < M 22 0 → TrS N M t
def SimC (N M : MSt) : Prop := N 6 0 = opens M ∧ N 7 0 = lives M ∧ N 9 0 = M 38 0
def Sim (N M : MSt) : Prop := SimP N M ∧ SimL N M ∧ SimU N M ∧ SimT N M ∧ SimC N M
theorem Sim.p {N M : MSt} (h : Sim N M) : SimP N M := h.1
theorem Sim.l {N M : MSt} (h : Sim N M) : SimL N M := h.2.1
theorem Sim.u {N M : MSt} (h : Sim N M) : SimU N M := h.2.2.1
theorem Sim.t {N M : MSt} (h : Sim N M) : SimT N M := h.2.2.2.1
theorem Sim.cc {N M : MSt} (h : Sim N M) : SimC N M := h.2.2.2.2
theorem SimT.c {N N' M M' : MSt} (h : SimT N M) (n1 : N' 8 0 = N 8 0) (n2 : N' 51 0 = N 51 0) (n3 : N' 31 = N 31) (n4 : N' 32 = N 32) (n5 : N' 33 = N 33) (n6 : N' 34 = N 34) (n7 : N' 35 = N 35) (n8 : N' 39 = N 39) (n9 : N' 37 = N 37) (n10 : N' 38 = N 38) (n11 : N' 40 = N 40) (n12 : N' 41 = N 41) (n13 : N' 42 = N 42)
    (m1 : M' 22 0 = M 22 0) (m2 : M' 24 = M 24) (m3 : M' 25 = M 25) (m4 : M' 23 = M 23) (m5 : M' 26 = M 26) (m6 : M' 27 = M 27) (m7 : M' 28 = M 28) (m8 : M' 29 = M 29) : SimT N' M' := by
  unfold SimT TrS
  rw [n1, n2, n3, n4, n5, n6, n7, n8, n9, n10, n11, n12, n13, m1, m2, m3, m4, m5, m6, m7, m8]
  refine ⟨h.1, fun t a b => ?_⟩
  rw [top_c m2 t, dep_c m2 t]
  exact h.2 t a b
theorem SimL.c {N N' M M' : MSt} (h : SimL N M) (n1 : N' 4 0 = N 4 0) (n2 : N' 3 0 = N 3 0) (n0 : N' 50 0 = N 50 0) (n3 : N' 20 = N 20) (n4 : N' 21 = N 21) (n5 : N' 22 = N 22) (n6 : N' 23 = N 23) (n7 : N' 24 = N 24) (n8 : N' 25 = N 25) (n9 : N' 26 = N 26) (n10 : N' 27 = N 27) (n11 : N' 28 = N 28)
    (m1 : M' 11 0 = M 11 0) (m2 : M' 12 0 = M 12 0) (m3 : M' 14 = M 14) (m4 : M' 15 = M 15) (m5 : M' 16 = M 16) (m6 : M' 17 = M 17) (m7 : M' 18 = M 18) (m8 : M' 19 = M 19) (m9 : M' 20 = M 20) (m10 : M' 21 = M 21) : SimL N' M' := by
  unfold SimL EntS
  rw [n0, n1, n2, n3, n4, n5, n6, n7, n8, n9, n10, n11, m1, m2, m3, m4, m5, m6, m7, m8, m9, m10]
  exact h
theorem SimU.c {N N' M M' : MSt} (h : SimU N M) (n1 : N' 29 = N 29) (n2 : N' 30 = N 30) (n3 : N' 36 = N 36) (m1 : M' 11 0 = M 11 0) (m2 : M' 12 0 = M 12 0) (m3 : M' 14 = M 14) (m4 : M' 15 = M 15) (m5 : M' 17 = M 17) (m6 : M' 22 0 = M 22 0) (m7 : M' 24 = M 24) (m8 : M' 23 = M 23) : SimU N' M' := by
  unfold SimU Lnk LvT Liv
  rw [n1, n2, n3, m2, m3, m4, m6, m8]
  refine ⟨fun r a b c d => ?_, fun t a b c => ?_⟩
  · rw [top_c m7] at d
    rw [Und_c m3 m5 m1 m2]
    exact h.1 r a b c d
  · rw [top_c m7] at c
    exact h.2 t a b c
theorem SimC.c {N N' M M' : MSt} (h : SimC N M) (n1 : N' 6 0 = N 6 0) (n2 : N' 7 0 = N 7 0) (n3 : N' 9 0 = N 9 0) (m1 : M' 11 0 = M 11 0) (m2 : M' 12 0 = M 12 0) (m3 : M' 14 = M 14) (m4 : M' 15 = M 15) (m5 : M' 17 = M 17) (m6 : M' 22 0 = M 22 0) (m7 : M' 24 = M 24) (m8 : M' 23 = M 23) (m9 : M' 38 0 = M 38 0) : SimC N' M' := by
  unfold SimC
  rw [n1, n2, n3, m9, opens_c m3 m5 m1 m2 m8 m4 m7, lives_c m8 m6]
  exact h
/-- touching a page -/
theorem Sim_tch {N M : MSt} {p : Int} (h : Sim N M) (hp : 0 ≤ p ∧ p < 8) (hf1 : 1 ≤ M 0 0) : Sim (tN N p) (tch M p) := by
  have n : ∀ f : Nat, npF f = false → tN N p f = N f := fun f e => funext fun i => tN_o e
  have m : ∀ f : Nat, pgF f = false → tch M p f = M f := fun f e => funext fun i => tch_o e
  refine ⟨SimP_tch h.p hp hf1, ?_, ?_, ?_, ?_⟩
  · exact h.l.c (congrFun (n _ rfl) 0) (congrFun (n _ rfl) 0) (congrFun (n _ rfl) 0) (n _ rfl) (n _ rfl) (n _ rfl) (n _ rfl) (n _ rfl) (n _ rfl) (n _ rfl) (n _ rfl) (n _ rfl) (congrFun (m _ rfl) 0) (congrFun (m _ rfl) 0) (m _ rfl) (m _ rfl) (m _ rfl) (m _ rfl) (m _ rfl) (m _ rfl) (m _ rfl) (m _ rfl)
  · exact h.u.c (n _ rfl) (n _ rfl) (n _ rfl) (congrFun (m _ rfl) 0) (congrFun (m _ rfl) 0) (m _ rfl) (m _ rfl) (m _ rfl) (congrFun (m _ rfl) 0) (m _ rfl) (m _ rfl)
  · exact h.t.c (congrFun (n _ rfl) 0) (congrFun (n _ rfl) 0) (n _ rfl) (n _ rfl) (n _ rfl) (n _ rfl) (n _ rfl) (n _ rfl) (n _ rfl) (n _ rfl) (n _ rfl) (n _ rfl) (n _ rfl) (congrFun (m _ rfl) 0) (m _ rfl) (m _ rfl) (m _ rfl) (m _ rfl) (m _ rfl) (m _ rfl) (m _ rfl)
  · exact h.cc.c (congrFun (n _ rfl) 0) (congrFun (n _ rfl) 0) (congrFun (n _ rfl) 0) (congrFun (m _ rfl) 0) (congrFun (m _ rfl) 0) (m _ rfl) (m _ rfl) (m _ rfl) (congrFun (m _ rfl) 0) (m _ rfl) (m _ rfl) (congrFun (m _ rfl) 0)

