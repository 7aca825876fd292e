/-! going through the log anew, side by side -/
/-- what is known while the log is gone through -/
def RdS (N K : MSt) : Prop := Sim0 N K ∧ Dead K ∧ ParOk K ∧ DepOk K ∧ RcB K ∧ N 6 0 = 0 ∧ (1 ≤ K 0 0 ∧ K 0 0 ≤ 8)
def UnI (N K : MSt) (i : Int) : Prop := ∀ r, 0 ≤ r → r < i → K 14 r = 2 → N 29 r = b01 (exB (fun q => K 14 q = 3 ∧ K 17 q = K 11 0 + r + 1) (r + 1) i)
theorem SimU_dead {N K : MSt} (hD : Dead K) (hp : ParOk K) (hd : DepOk K) (hb : RcB K) : SimU N K := ⟨fun r a b _ d => absurd d (hD.lvt hp hd (hb r a b).1), fun _ a b c => absurd c (hD.lvt hp hd ⟨a, b⟩)⟩
theorem RdS.un {N K : MSt} (h : RdS N K) (r z : Int) : RdS (up N 29 r z) K := by
  obtain ⟨⟨s1, s2, s3, s4, s5, s6⟩, hD, hp, hd, hb, ho, hf⟩ := h
  have n : ∀ f : Nat, f ≠ 29 → up N 29 r z f = N f := fun f a => funext fun i => up_ne (fun q => a q.1)
  have nn : ∀ f : Nat, f ≠ 29 → ∀ i, up N 29 r z f i = N f i := fun f a i => up_ne (fun q => a q.1)
  refine ⟨⟨?_, ?_, SimU_dead hD hp hd hb, ?_, ?_, ?_⟩, hD, hp, hd, hb, ?_, hf⟩
  · exact s1.c (nn _ (by decide) 0) (nn _ (by decide) 0) (nn _ (by decide) 0) (n _ (by decide)) (n _ (by decide)) (n _ (by decide)) (n _ (by decide)) (n _ (by decide)) (n _ (by decide)) (n _ (by decide)) (n _ (by decide)) rfl rfl rfl rfl rfl rfl rfl rfl rfl rfl rfl rfl
  · exact s2.c (nn _ (by decide) 0) (nn _ (by decide) 0) (nn _ (by decide) 0) (n _ (by decide)) (n _ (by decide)) (n _ (by decide)) (n _ (by decide)) (n _ (by decide)) (n _ (by decide)) (n _ (by decide)) (n _ (by decide)) (n _ (by decide)) rfl rfl rfl rfl rfl rfl rfl rfl rfl rfl
  · exact s4.c (nn _ (by decide) 0) (nn _ (by decide) 0) (n _ (by decide)) (n _ (by decide)) (n _ (by decide)) (n _ (by decide)) (n _ (by decide)) (n _ (by decide)) (n _ (by decide)) (n _ (by decide)) (n _ (by decide)) (n _ (by decide)) (n _ (by decide)) rfl rfl rfl rfl rfl rfl rfl rfl
  · rw [nn _ (by decide)]; exact s5
  · rw [nn _ (by decide)]; exact s6
  · rw [nn _ (by decide)]; exact ho
/-- a change of pages -/
theorem RdS.pgs {N N' K K' : MSt} (h : RdS N K) (hn : ∀ f i, npF f = false → N' f i = N f i) (hk : ∀ f i, pgF f = false → K' f i = K f i) (hs : SimP N' K') : RdS N' K' := by
  obtain ⟨⟨s1, s2, s3, s4, s5, s6⟩, hD, hp, hd, hb, ho, hf⟩ := h
  have n : ∀ f : Nat, npF f = false → N' f = N f := fun f a => funext fun i => hn f i a
  have m : ∀ f : Nat, pgF f = false → K' f = K f := fun f a => funext fun i => hk f i a
  have hD' : Dead K' := fun t ht => by
    rw [m 23 rfl]
    exact hD t ⟨ht.1, by have := ht.2; rw [hk _ _ rfl] at this; exact this⟩
  have hp' : ParOk K' := hp.c (m _ rfl) (hk _ _ rfl)
  have hd' : DepOk K' := hd.c (m _ rfl) (hk _ _ rfl)
  have hb' : RcB K' := by unfold RcB; rw [m 12 rfl, m 15 rfl, m 22 rfl, m 14 rfl, m 16 rfl]; exact hb
  refine ⟨⟨hs, ?_, SimU_dead hD' hp' hd' hb', ?_, ?_, ?_⟩, hD', hp', hd', hb', ?_, ?_⟩
  · exact s2.c (hn _ _ rfl) (hn _ _ rfl) (hn _ _ rfl) (n _ rfl) (n _ rfl) (n _ rfl) (n _ rfl) (n _ rfl) (n _ rfl) (n _ rfl) (n _ rfl) (n _ rfl) (hk _ _ rfl) (hk _ _ rfl) (m _ rfl) (m _ rfl) (m _ rfl) (m _ rfl) (m _ rfl) (m _ rfl) (m _ rfl) (m _ rfl)
  · exact s4.c (hn _ _ rfl) (hn _ _ rfl) (n _ rfl) (n _ rfl) (n _ rfl) (n _ rfl) (n _ rfl) (n _ rfl) (n _ rfl) (n _ rfl) (n _ rfl) (n _ rfl) (n _ rfl) (hk _ _ rfl) (m _ rfl) (m _ rfl) (m _ rfl) (m _ rfl) (m _ rfl) (m _ rfl) (m _ rfl)
  · rw [hn _ _ rfl, s5, lives_c (M := K) (M' := K') (m _ rfl).symm (hk _ _ rfl).symm]
  · rw [hn _ _ rfl, hk _ _ rfl]; exact s6
  · rw [hn _ _ rfl]; exact ho
  · rw [hk _ _ rfl]; exact hf
theorem RdS.xtch {N K : MSt} (h : RdS N K) {p : Int} (hp : 0 ≤ p ∧ p < 8) : RdS (tN N p) (tch K p) := h.pgs (fun _ _ a => tN_o a) (fun _ _ a => tch_o a) (SimP_tch h.1.1 hp h.2.2.2.2.2.2.1)
theorem RdS.set {N K : MSt} (h : RdS N K) {k now v v' l : Int} (hk : 0 ≤ k ∧ k ≤ 31) (hi : K 7 (k / 4) = 1) (hn : now = 0 ∨ now = 1) (hv : now = 1 → v' = v) : RdS (pst N (k / 4) k now v l) (bcm K k now v' l) := h.pgs (fun _ _ a => pst_o a) (fun _ _ a => bcm_o a) (SimP_set h.1.1 hk hi hn hv)
theorem UnI.c {N N' K K' : MSt} {i : Int} (h : UnI N K i) (h1 : N' 29 = N 29) (h2 : K' 14 = K 14) (h3 : K' 17 = K 17) (h4 : K' 11 0 = K 11 0) : UnI N' K' i := by
  unfold UnI
  rw [h1, h2, h3, h4]
  exact h
/-- no undo at i -/
theorem UnI.no {N K : MSt} {i : Int} (h : UnI N K i) (hk : K 14 i ≠ 3) : UnI (up N 29 i 0) K (i + 1) := by
  intro r a b c
  by_cases e : r = i
  · subst e
    rw [up_same, b01_f (exB_nil (by omega))]
  · rw [up_ne (fun z => e z.2), h r a (by omega) c]
    refine b01_c ?_
    rw [exB_step (by omega)]
    exact ⟨Or.inl, fun z => by rcases z with z | z; exact z; exact absurd z.1 hk⟩
theorem UnI.yes {N K : MSt} {i o : Int} (h : UnI N K i) (hk : K 14 i = 3) (ho : K 17 i = K 11 0 + o + 1) (hoi : o < i) : UnI (up (up N 29 i 0) 29 o 1) K (i + 1) := by
  intro r a b c
  by_cases e : r = o
  · rw [e, up_same, b01_t]
    exact ⟨i, by omega, by omega, hk, ho⟩
  · rw [up_ne (fun z => e z.2)]
    by_cases e2 : r = i
    · rw [e2, hk] at c; exact absurd c (by decide)
    · rw [up_ne (fun z => e2 z.2), h r a (by omega) c]
      refine b01_c ?_
      rw [exB_step (by omega)]
      exact ⟨Or.inl, fun z => by rcases z with z | z; exact z; exact absurd (show r = o by have := z.2; omega) e⟩
theorem UnI.fin {N K : MSt} (h : UnI N K (K 12 0)) : FlA2 N K := fun r a b c => h r a b c
theorem rdo_n {K : MSt} {r : Int} (h : ¬ (K 14 r = 2 ∨ K 14 r = 3)) : rdo K r = K := by unfold rdo; rw [if_neg h]
theorem rdo_y {K : MSt} {r : Int} (h : K 14 r = 2 ∨ K 14 r = 3) (h2 : tch K (K 16 r / 4) 6 (K 16 r / 4) < K 11 0 + r + 1) : rdo K r = bcm (tch K (K 16 r / 4)) (K 16 r) (K 20 r) (K 21 r) (K 11 0 + r + 1) := by unfold rdo; rw [if_pos h, if_pos h2]
theorem rdo_t {K : MSt} {r : Int} (h : K 14 r = 2 ∨ K 14 r = 3) (h2 : ¬ tch K (K 16 r / 4) 6 (K 16 r / 4) < K 11 0 + r + 1) : rdo K r = tch K (K 16 r / 4) := by unfold rdo; rw [if_pos h, if_neg h2]
/-- a committed top has its record -/
theorem Cmt_iff {b c : Int} {K : MSt} (h : Inv b c K) {r : Int} (h0 : 0 ≤ r) (h1 : r < K 12 0) (hk : K 14 r = 2) : Cmt K (top K (K 15 r)) ↔ K 23 (top K (K 15 r)) = 3 := by
  have hin := (h.2.2.1.2.2.1 r h0 h1).1
  have hp := top_par h.1.2.1 hin
  constructor
  · rintro ⟨q, q1, q2, q3, q4⟩
    have := h.2.2.1.2.2.2.1 q q1 q2 q3 (by rw [q4]; exact hp)
    rw [q4] at this
    exact this
  · intro z
    obtain ⟨q, q1, q2, q3, q4, q5⟩ := h.2.2.1.2.2.2.2 r h0 h1 hk z
    exact ⟨q, q1, q2, q4, q5⟩
/-- an undo of the crash -/
theorem RdS.und {N K : MSt} {b c : Int} (h : RdS N K) (hA : FlA2 N K) (hI : Inv b c K) {u : Int} (hu : 0 ≤ u ∧ u < K 12 0) (hk : UU K u) : RdS (unN N (top K (K 15 u)) u) (s_und K (top K (K 15 u)) u) ∧ FlA2 (unN N (top K (K 15 u)) u) (s_und K (top K (K 15 u)) u) ∧ Inv b c (s_und K (top K (K 15 u)) u) := by
  obtain ⟨s0, hD, hp, hd, hb, ho, hf⟩ := h
  have ab := (hb u hu.1 hu.2).2 (Or.inl hk.1)
  have hin := (hb u hu.1 hu.2).1
  have ht := (InS_tops hp hd hin).1
  have q := Sim0_und (t := top K (K 15 u)) s0 hf.1 hu hk.1 ab
  have hI' := hI.und hu.1 hu.2 hk ht
  have es : s_und K (top K (K 15 u)) u 23 = K 23 := funext fun _ => und_o rfl rfl
  refine ⟨⟨q.1, fun t z => ?_, hI'.1.1, hI'.1.2.1, hI'.2.2.1.2.2.1, ?_, hI'.2.2.2.1.1⟩, q.2 hA, hI'⟩
  · rw [es]
    exact hD t ⟨z.1, by have := z.2; rw [und_o rfl rfl] at this; exact this⟩
  · rw [unN_o rfl (by decide) (by decide) (by omega) (by simp)]; exact ho
/-- the crash's end -/
theorem RdS.fin {N K : MSt} (h : RdS N K) : Sim (up N 5 0 (N 4 0 + N 3 0)) (up K 13 0 (lst K)) := by
  obtain ⟨⟨s1, s2, s3, s4, s5, s6⟩, hD, hp, hd, hb, ho, hf⟩ := h
  have eL : N 4 0 + N 3 0 = lst K := by unfold lst; rw [s2.1.1, s2.1.2.1]
  rw [eL]
  have n : ∀ f : Nat, f ≠ 5 → up N 5 0 (lst K) f = N f := fun f a => funext fun i => up_ne (fun q => a q.1)
  have nn : ∀ f : Nat, f ≠ 5 → ∀ i, up N 5 0 (lst K) f i = N f i := fun f a i => up_ne (fun q => a q.1)
  have m : ∀ f : Nat, f ≠ 13 → up K 13 0 (lst K) f = K f := fun f a => funext fun i => up_ne (fun q => a q.1)
  have mm : ∀ f : Nat, f ≠ 13 → ∀ i, up K 13 0 (lst K) f i = K f i := fun f a i => up_ne (fun q => a q.1)
  refine ⟨?_, ?_, ?_, ?_, ?_, ?_, ?_⟩
  · refine SimP.mk ?_ ⟨?_, ?_, ?_⟩
    · have := s1.ord
      unfold OrdS usd at this ⊢
      rw [n 1 (by decide), n 2 (by decide), n 10 (by decide), m 7 (by decide), m 0 (by decide), m 9 (by decide), m 10 (by decide)]
      exact this
    · rw [up_same, up_same]
    · rw [n 11 (by decide), n 14 (by decide), n 12 (by decide), m 1 (by decide), m 2 (by decide), m 3 (by decide)]
      exact s1.pg.2.1
    · rw [n 15 (by decide), n 18 (by decide), n 16 (by decide), n 17 (by decide), m 4 (by decide), m 5 (by decide), m 6 (by decide), m 8 (by decide), m 7 (by decide)]
      exact s1.pg.2.2
  · exact s2.c (nn _ (by decide) 0) (nn _ (by decide) 0) (nn _ (by decide) 0) (n _ (by decide)) (n _ (by decide)) (n _ (by decide)) (n _ (by decide)) (n _ (by decide)) (n _ (by decide)) (n _ (by decide)) (n _ (by decide)) (n _ (by decide)) (mm _ (by decide) 0) (mm _ (by decide) 0) (m _ (by decide)) (m _ (by decide)) (m _ (by decide)) (m _ (by decide)) (m _ (by decide)) (m _ (by decide)) (m _ (by decide)) (m _ (by decide))
  · exact s3.c (n _ (by decide)) (n _ (by decide)) (n _ (by decide)) (mm _ (by decide) 0) (mm _ (by decide) 0) (m _ (by decide)) (m _ (by decide)) (m _ (by decide)) (mm _ (by decide) 0) (m _ (by decide)) (m _ (by decide))
  · exact s4.c (nn _ (by decide) 0) (nn _ (by decide) 0) (n _ (by decide)) (n _ (by decide)) (n _ (by decide)) (n _ (by decide)) (n _ (by decide)) (n _ (by decide)) (n _ (by decide)) (n _ (by decide)) (n _ (by decide)) (n _ (by decide)) (n _ (by decide)) (mm _ (by decide) 0) (m _ (by decide)) (m _ (by decide)) (m _ (by decide)) (m _ (by decide)) (m _ (by decide)) (m _ (by decide)) (m _ (by decide))
  · rw [nn _ (by decide), ho, opens_c (M := K) (M' := up K 13 0 (lst K)) (m _ (by decide)).symm (m _ (by decide)).symm (mm _ (by decide) 0).symm (mm _ (by decide) 0).symm (m _ (by decide)).symm (m _ (by decide)).symm (m _ (by decide)).symm |>.symm, hD.opens hp hd hb]
  · rw [nn _ (by decide), s5, lives_c (M := K) (M' := up K 13 0 (lst K)) (m _ (by decide)).symm (mm _ (by decide) 0).symm]
  · rw [nn _ (by decide), mm _ (by decide)]; exact s6

