/-! whom one reaches -/
def RcI (M : MSt) (t n : Int) (all done : Int64) : Prop := (∀ v, lb done v → lb all v) ∧ (∀ v, lb all v ↔ LeadR M t v ∨ ∃ u, lb done u ∧ LeadR M u v) ∧ (∀ v, lb all v → Fw M t v) ∧ cnt (lb done) 64 = n
theorem Fw_in {M : MSt} {t v : Int} (h : Fw M t v) : inM M v := h (inM M) (fun _ z => z.2.1) (fun _ _ _ z => z.2.1)
theorem Fw_one {M : MSt} {t v : Int} (h : LeadR M t v) : Fw M t v := fun _ a _ => a v h
theorem Fw_step {M : MSt} {t u v : Int} (h : Fw M t u) (h1 : LeadR M u v) : Fw M t v := fun S a b => b u v (h S a b) h1
theorem RcI.start {M : MSt} {t : Int} {all : Int64} (h : ∀ v, lb all v ↔ LeadR M t v) : RcI M t 0 all 0 := by
  refine ⟨fun v z => absurd z (lb_0 v), fun v => ?_, fun v z => Fw_one ((h v).mp z), ?_⟩
  · rw [h v]
    exact ⟨Or.inl, fun z => by rcases z with z | ⟨u, z, -⟩; exact z; exact absurd z (lb_0 u)⟩
  · have : ∀ n : Nat, cntN (lb 0) n = 0 := fun n => by
      induction n with
      | zero => rfl
      | succ n ih => unfold cntN; rw [ih, b01_f (lb_0 _)]; rfl
    exact this 64
theorem RcI.step {M : MSt} {t n u : Int} {all done all' done' w : Int64} (h : RcI M t n all done) (hu : lb all u) (hd : ¬ lb done u) (hw : ∀ v, lb w v ↔ LeadR M u v) (h1 : ∀ v, lb done' v ↔ lb done v ∨ v = u) (h2 : ∀ v, lb all' v ↔ lb all v ∨ lb w v) : RcI M t (n + 1) all' done' := by
  obtain ⟨a, b, c, d⟩ := h
  refine ⟨fun v z => ?_, fun v => ?_, fun v z => ?_, ?_⟩
  · rw [h2]
    rcases (h1 v).mp z with z | rfl
    · exact Or.inl (a v z)
    · exact Or.inl hu
  · rw [h2, b, hw]
    constructor
    · rintro ((z | ⟨x, z1, z2⟩) | z)
      · exact Or.inl z
      · exact Or.inr ⟨x, (h1 x).mpr (Or.inl z1), z2⟩
      · exact Or.inr ⟨u, (h1 u).mpr (Or.inr rfl), z⟩
    · rintro (z | ⟨x, z1, z2⟩)
      · exact Or.inl (Or.inl z)
      · rcases (h1 x).mp z1 with z1 | rfl
        · exact Or.inl (Or.inr ⟨x, z1, z2⟩)
        · exact Or.inr z2
  · rcases (h2 v).mp z with z | z
    · exact c v z
    · exact Fw_step (c u hu) ((hw v).mp z)
  · have hu0 := hu.1
    have := cntN_drop (P := lb done') (P' := lb done) (u := u) (fun r => by
      rw [h1 r]
      exact ⟨fun z => ⟨Or.inl z, fun e => hd (e ▸ z)⟩, fun z => by rcases z.1 with q | q; exact q; exact absurd q z.2⟩) ((h1 u).mpr (Or.inr rfl)) hu0.1 64
    rw [if_pos (by omega)] at this
    have e1 : cnt (lb done) 64 = cntN (lb done) 64 := rfl
    have e2 : cnt (lb done') 64 = cntN (lb done') 64 := rfl
    omega
theorem RcI.fin {M : MSt} {t n : Int} {all done : Int64} (h : RcI M t n all done) (e : all = done) : ∀ v, lb all v ↔ Fw M t v := by
  obtain ⟨a, b, c, d⟩ := h
  subst e
  refine fun v => ⟨c v, fun z => z (lb all) (fun x hx => (b x).mpr (Or.inl hx)) (fun u x hu hx => (b x).mpr (Or.inr ⟨u, hu, hx⟩))⟩
theorem RcI.le {M : MSt} {t n : Int} {all done : Int64} (h : RcI M t n all done) (hp : ParOk M) : 0 ≤ n ∧ n ≤ 60 := by
  have h60 := hp.2.1
  have k : ∀ v, lb done v → v < 60 := fun v z => by have := (Fw_in (h.2.2.1 v (h.1 v z))).2; omega
  have e := h.2.2.2
  have b := cnt_bd (P := lb done) (b := 60) (by decide)
  have s1 := cnt_s (P := lb done) (b := 60) (by decide)
  have s2 := cnt_s (P := lb done) (b := 61) (by decide)
  have s3 := cnt_s (P := lb done) (b := 62) (by decide)
  have s4 := cnt_s (P := lb done) (b := 63) (by decide)
  rw [b01_f (fun z => by have := k _ z; omega)] at s1 s2 s3 s4
  simp only [Int.reduceAdd] at s1 s2 s3 s4
  omega
theorem RcI.more {M : MSt} {t n : Int} {all done : Int64} (h : RcI M t n all done) (e : all ≠ done) : (all &&& (done ^^^ (-1))) ≠ 0 := fun z => e (lb_ext fun u => ⟨fun hu => Classical.byContradiction fun q => lb_z.mp z u ((lb_and _ _ _).mpr ⟨hu, (lb_not _ _).mpr ⟨hu.1, q⟩⟩), h.1 u⟩)
/-! one waits, or waits no more -/
theorem Sim.stt {N N' M M' : MSt} {t z : Int} (h : Sim N M) (_ : inM M t) (hl : Liv M t) (hz : z = 1 ∨ z = 2) (hn : ∀ f i, ¬ (f = 35 ∧ i = t) → f ≠ 40 → f ≠ 41 → f ≠ 42 → N' f i = N f i) (hns : N' 35 t = z) (hm : ∀ f i, ¬ (f = 23 ∧ i = t) → f ≠ 27 → f ≠ 28 → f ≠ 29 → M' f i = M f i) (hms : M' 23 t = z)
    (hq : ∀ u, inM M u → M' 23 u = 2 → N' 40 u = M' 27 u ∧ N' 41 u = M' 28 u ∧ (M' 27 u = 2 ∨ M' 27 u = 4 → N' 42 u = M' 29 u)) : Sim N' M' := by
  have n : ∀ f : Nat, f ≠ 35 → f ≠ 40 → f ≠ 41 → f ≠ 42 → N' f = N f := fun f a b c d => funext fun i => hn f i (fun z => a z.1) b c d
  have m : ∀ f : Nat, f ≠ 23 → f ≠ 27 → f ≠ 28 → f ≠ 29 → M' f = M f := fun f a b c d => funext fun i => hm f i (fun z => a z.1) b c d
  have nn : ∀ f : Nat, f ≠ 35 → f ≠ 40 → f ≠ 41 → f ≠ 42 → ∀ i, N' f i = N f i := fun f a b c d i => congrFun (n f a b c d) i
  have mm : ∀ f : Nat, f ≠ 23 → f ≠ 27 → f ≠ 28 → f ≠ 29 → ∀ i, M' f i = M f i := fun f a b c d i => congrFun (m f a b c d) i
  have ms : ∀ u, u ≠ t → M' 23 u = M 23 u := fun u e => hm _ _ (fun z => e z.2) (by decide) (by decide) (by decide)
  have ns : ∀ u, u ≠ t → N' 35 u = N 35 u := fun u e => hn _ _ (fun z => e z.2) (by decide) (by decide) (by decide)
  have lv : ∀ x, Liv M' x ↔ Liv M x := fun x => by
    by_cases e : x = t
    · rw [e]
      exact ⟨fun _ => hl, fun _ => by unfold Liv; rw [hms]; exact hz⟩
    · unfold Liv
      rw [ms x e]
  have s34 : ∀ x, (M' 23 x ≠ 3 ∧ M' 23 x ≠ 4) ↔ (M 23 x ≠ 3 ∧ M 23 x ≠ 4) := fun x => by
    by_cases e : x = t
    · rw [e, hms]
      unfold Liv at hl
      omega
    · rw [ms x e]
  have eP : M' 24 = M 24 := m _ (by decide) (by decide) (by decide) (by decide)
  have lt : ∀ x, LvT M' x ↔ LvT M x := fun x => by
    unfold LvT
    rw [top_c eP, lv]
  have ud : ∀ r, Und M' r ↔ Und M r := fun r => Und_c (m _ (by decide) (by decide) (by decide) (by decide)) (m _ (by decide) (by decide) (by decide) (by decide)) (mm _ (by decide) (by decide) (by decide) (by decide) 0) (mm _ (by decide) (by decide) (by decide) (by decide) 0) r
  refine ⟨?_, ?_, ?_, ⟨⟨?_, ?_⟩, fun u a b => ?_⟩, ?_, ?_, ?_⟩
  · exact h.p.c (nn _ (by decide) (by decide) (by decide) (by decide) 0) (nn _ (by decide) (by decide) (by decide) (by decide) 0) (nn _ (by decide) (by decide) (by decide) (by decide) 0) (n _ (by decide) (by decide) (by decide) (by decide)) (n _ (by decide) (by decide) (by decide) (by decide)) (n _ (by decide) (by decide) (by decide) (by decide)) (n _ (by decide) (by decide) (by decide) (by decide)) (n _ (by decide) (by decide) (by decide) (by decide)) (n _ (by decide) (by decide) (by decide) (by decide)) (n _ (by decide) (by decide) (by decide) (by decide)) (n _ (by decide) (by decide) (by decide) (by decide))
      (mm _ (by decide) (by decide) (by decide) (by decide) 0) (mm _ (by decide) (by decide) (by decide) (by decide) 0) (m _ (by decide) (by decide) (by decide) (by decide)) (m _ (by decide) (by decide) (by decide) (by decide)) (mm _ (by decide) (by decide) (by decide) (by decide) 0) (m _ (by decide) (by decide) (by decide) (by decide)) (m _ (by decide) (by decide) (by decide) (by decide)) (m _ (by decide) (by decide) (by decide) (by decide)) (m _ (by decide) (by decide) (by decide) (by decide)) (m _ (by decide) (by decide) (by decide) (by decide)) (m _ (by decide) (by decide) (by decide) (by decide)) (m _ (by decide) (by decide) (by decide) (by decide))
  · exact h.l.c (nn _ (by decide) (by decide) (by decide) (by decide) 0) (nn _ (by decide) (by decide) (by decide) (by decide) 0) (nn _ (by decide) (by decide) (by decide) (by decide) 0) (n _ (by decide) (by decide) (by decide) (by decide)) (n _ (by decide) (by decide) (by decide) (by decide)) (n _ (by decide) (by decide) (by decide) (by decide)) (n _ (by decide) (by decide) (by decide) (by decide)) (n _ (by decide) (by decide) (by decide) (by decide)) (n _ (by decide) (by decide) (by decide) (by decide)) (n _ (by decide) (by decide) (by decide) (by decide)) (n _ (by decide) (by decide) (by decide) (by decide)) (n _ (by decide) (by decide) (by decide) (by decide))
      (mm _ (by decide) (by decide) (by decide) (by decide) 0) (mm _ (by decide) (by decide) (by decide) (by decide) 0) (m _ (by decide) (by decide) (by decide) (by decide)) (m _ (by decide) (by decide) (by decide) (by decide)) (m _ (by decide) (by decide) (by decide) (by decide)) (m _ (by decide) (by decide) (by decide) (by decide)) (m _ (by decide) (by decide) (by decide) (by decide)) (m _ (by decide) (by decide) (by decide) (by decide)) (m _ (by decide) (by decide) (by decide) (by decide)) (m _ (by decide) (by decide) (by decide) (by decide))
  · have hu := h.u
    unfold SimU Lnk at hu ⊢
    rw [nn 29 (by decide) (by decide) (by decide) (by decide) |> funext, n 30 (by decide) (by decide) (by decide) (by decide), n 36 (by decide) (by decide) (by decide) (by decide), m 12 (by decide) (by decide) (by decide) (by decide), m 14 (by decide) (by decide) (by decide) (by decide), m 15 (by decide) (by decide) (by decide) (by decide), m 22 (by decide) (by decide) (by decide) (by decide)]
    refine ⟨fun r a b c d => ?_, fun u a b c => hu.2 u a b ((lt u).mp c)⟩
    rw [ud r]
    exact hu.1 r a b c ((lt _).mp d)
  · rw [nn _ (by decide) (by decide) (by decide) (by decide), mm _ (by decide) (by decide) (by decide) (by decide)]; exact h.t.1.1
  · rw [nn _ (by decide) (by decide) (by decide) (by decide), mm _ (by decide) (by decide) (by decide) (by decide)]; exact h.t.1.2
  · rw [mm _ (by decide) (by decide) (by decide) (by decide)] at b
    obtain ⟨⟨t1, t2, t3, t4, t5⟩, t6, t7, t8, t9⟩ := h.t.2 u a b
    have hs : N' 35 u = M' 23 u := by
      by_cases e : u = t
      · rw [e, hns, hms]
      · rw [ns u e, ms u e, t5]
    unfold TrS
    rw [hs, n 31 (by decide) (by decide) (by decide) (by decide), n 32 (by decide) (by decide) (by decide) (by decide), n 33 (by decide) (by decide) (by decide) (by decide), n 34 (by decide) (by decide) (by decide) (by decide), n 39 (by decide) (by decide) (by decide) (by decide), n 37 (by decide) (by decide) (by decide) (by decide), n 38 (by decide) (by decide) (by decide) (by decide), eP, top_c eP, dep_c eP, m 25 (by decide) (by decide) (by decide) (by decide), m 26 (by decide) (by decide) (by decide) (by decide), m 22 (by decide) (by decide) (by decide) (by decide)]
    exact ⟨⟨t1, t2, t3, t4, rfl⟩, t6, t7, t8, hq u ⟨a, b⟩⟩
  · rw [nn _ (by decide) (by decide) (by decide) (by decide), h.cc.1]
    unfold opens
    rw [mm 12 (by decide) (by decide) (by decide) (by decide)]
    refine cnt_ext fun r a b => ?_
    have q := s34 (top M (M 15 r))
    unfold Opn
    rw [m 14 (by decide) (by decide) (by decide) (by decide), m 15 (by decide) (by decide) (by decide) (by decide), top_c eP, ud r]
    constructor
    · rintro ⟨x1, x2, x3, x4⟩
      exact ⟨x1, (q.mpr ⟨x2, x3⟩).1, (q.mpr ⟨x2, x3⟩).2, x4⟩
    · rintro ⟨x1, x2, x3, x4⟩
      exact ⟨x1, (q.mp ⟨x2, x3⟩).1, (q.mp ⟨x2, x3⟩).2, x4⟩
  · rw [nn _ (by decide) (by decide) (by decide) (by decide), h.cc.2.1]
    unfold lives
    rw [mm 22 (by decide) (by decide) (by decide) (by decide)]
    exact cnt_ext fun i _ _ => (lv i).symm
  · rw [nn _ (by decide) (by decide) (by decide) (by decide), mm _ (by decide) (by decide) (by decide) (by decide)]; exact h.cc.2.2
/-- a request is made: the store notes it, the model does not -/
def qN (N : MSt) (t w a b : Int) : MSt := up (up (up N 40 t w) 41 t a) 42 t b
theorem qN_o {N : MSt} {t w a b i : Int} {f : Nat} (h : f ≠ 40) (h1 : f ≠ 41) (h2 : f ≠ 42) : qN N t w a b f i = N f i := by
  unfold qN
  rw [up_ne (fun z => h2 z.1), up_ne (fun z => h1 z.1), up_ne (fun z => h z.1)]
theorem qN_u {N : MSt} {t w a b u : Int} (hu : u ≠ t) (f : Nat) : qN N t w a b f u = N f u := by
  unfold qN
  rw [up_ne (fun z => hu z.2), up_ne (fun z => hu z.2), up_ne (fun z => hu z.2)]
theorem qN_t (N : MSt) (t w a b : Int) : qN N t w a b 40 t = w ∧ qN N t w a b 41 t = a ∧ qN N t w a b 42 t = b := by
  unfold qN
  refine ⟨?_, ?_, ?_⟩
  · rw [up_ne (by simp), up_ne (by simp), up_same]
  · rw [up_ne (by simp), up_same]
  · rw [up_same]
/-- t is active, whatever it asked for -/
theorem Sim.act1 {N M : MSt} {t w a b : Int} (h : Sim N M) (ht : inM M t) (hl : Liv M t) : Sim (up (qN N t w a b) 35 t 1) (up M 23 t 1) := by
  refine h.stt ht hl (Or.inl rfl) (fun f i x y z w => ?_) (up_same _ _ _ _) (fun f i x _ _ _ => up_ne x) (up_same _ _ _ _) (fun u hu e => ?_)
  · rw [up_ne x, qN_o y z w]
  · have hne : u ≠ t := fun q => by rw [q, up_same] at e; exact absurd e (by decide)
    rw [up_ne (fun z => hne z.2)] at e
    have q := (h.t.2 u hu.1 hu.2).2.2.2.2 e
    have n1 : ∀ f : Nat, up (qN N t w a b) 35 t 1 f u = N f u := fun f => by rw [up_ne (fun z => hne z.2), qN_u hne]
    have m1 : ∀ f : Nat, up M 23 t 1 f u = M f u := fun f => up_ne (fun z => hne z.2)
    rw [n1, n1, n1, m1, m1, m1]
    exact q
theorem Sim.wai {N M : MSt} {t w a b : Int} (h : Sim N M) (ht : inM M t) (hl : Liv M t) (e1 : N 40 t = w) (e2 : N 41 t = a) (e3 : w = 2 ∨ w = 4 → N 42 t = b) : Sim (up N 35 t 2) (sty0 M t w a b) := by
  have o : ∀ f i, ¬ (f = 23 ∧ i = t) → f ≠ 27 → f ≠ 28 → f ≠ 29 → sty0 M t w a b f i = M f i := fun f i x y z v => by
    unfold sty0
    rw [up_ne (fun q => v q.1), up_ne (fun q => z q.1), up_ne (fun q => y q.1), up_ne x]
  have ou : ∀ f u, u ≠ t → sty0 M t w a b f u = M f u := fun f u x => by
    unfold sty0
    rw [up_ne (fun q => x q.2), up_ne (fun q => x q.2), up_ne (fun q => x q.2), up_ne (fun q => x q.2)]
  refine h.stt ht hl (Or.inr rfl) (fun f i x y z w => up_ne x) (up_same _ _ _ _) o ?_ (fun u hu e => ?_)
  · unfold sty0
    rw [up_ne (by simp), up_ne (by simp), up_ne (by simp), up_same]
  · rw [up_ne (by simp), up_ne (by simp), up_ne (by simp)]
    by_cases hne : u = t
    · subst hne
      have a1 : sty0 M u w a b 27 u = w := by unfold sty0; rw [up_ne (by simp), up_ne (by simp), up_same]
      have a2 : sty0 M u w a b 28 u = a := by unfold sty0; rw [up_ne (by simp), up_same]
      have a3 : sty0 M u w a b 29 u = b := by unfold sty0; rw [up_same]
      rw [a1, a2, a3]
      exact ⟨e1, e2, e3⟩
    · rw [ou _ u hne] at e
      rw [ou _ u hne, ou _ u hne, ou _ u hne]
      exact (h.t.2 u hu.1 hu.2).2.2.2.2 e
theorem Sim.val {N M : MSt} (h : Sim N M) (z : Int) : Sim (up N 9 0 z) (up M 38 0 z) := by
  have n : ∀ f : Nat, f ≠ 9 → up N 9 0 z f = N f := fun f a => funext fun i => up_ne (fun q => a q.1)
  have m : ∀ f : Nat, f ≠ 38 → up M 38 0 z f = M f := fun f a => funext fun i => up_ne (fun q => a q.1)
  have nn : ∀ f : Nat, f ≠ 9 → ∀ i, up N 9 0 z f i = N f i := fun f a i => up_ne (fun q => a q.1)
  have mm : ∀ f : Nat, f ≠ 38 → ∀ i, up M 38 0 z f i = M f i := fun f a i => up_ne (fun q => a q.1)
  refine ⟨?_, ?_, ?_, ?_, ?_, ?_, ?_⟩
  · exact h.p.c (nn _ (by decide) 0) (nn _ (by decide) 0) (nn _ (by decide) 0) (n _ (by decide)) (n _ (by decide)) (n _ (by decide)) (n _ (by decide)) (n _ (by decide)) (n _ (by decide)) (n _ (by decide)) (n _ (by decide))
      (mm _ (by decide) 0) (mm _ (by decide) 0) (m _ (by decide)) (m _ (by decide)) (mm _ (by decide) 0) (m _ (by decide)) (m _ (by decide)) (m _ (by decide)) (m _ (by decide)) (m _ (by decide)) (m _ (by decide)) (m _ (by decide))
  · exact h.l.c (nn _ (by decide) 0) (nn _ (by decide) 0) (nn _ (by decide) 0) (n _ (by decide)) (n _ (by decide)) (n _ (by decide)) (n _ (by decide)) (n _ (by decide)) (n _ (by decide)) (n _ (by decide)) (n _ (by decide)) (n _ (by decide))
      (mm _ (by decide) 0) (mm _ (by decide) 0) (m _ (by decide)) (m _ (by decide)) (m _ (by decide)) (m _ (by decide)) (m _ (by decide)) (m _ (by decide)) (m _ (by decide)) (m _ (by decide))
  · exact h.u.c (n _ (by decide)) (n _ (by decide)) (n _ (by decide)) (mm _ (by decide) 0) (mm _ (by decide) 0) (m _ (by decide)) (m _ (by decide)) (m _ (by decide)) (mm _ (by decide) 0) (m _ (by decide)) (m _ (by decide))
  · exact h.t.c (nn _ (by decide) 0) (nn _ (by decide) 0) (n _ (by decide)) (n _ (by decide)) (n _ (by decide)) (n _ (by decide)) (n _ (by decide)) (n _ (by decide)) (n _ (by decide)) (n _ (by decide)) (n _ (by decide)) (n _ (by decide)) (n _ (by decide)) (mm _ (by decide) 0) (m _ (by decide)) (m _ (by decide)) (m _ (by decide)) (m _ (by decide)) (m _ (by decide)) (m _ (by decide)) (m _ (by decide))
  · rw [nn _ (by decide), opens_c (M' := M) (m _ (by decide)) (m _ (by decide)) (mm _ (by decide) 0) (mm _ (by decide) 0) (m _ (by decide)) (m _ (by decide)) (m _ (by decide))]
    exact h.cc.1
  · rw [nn _ (by decide), lives_c (M' := M) (m _ (by decide)) (mm _ (by decide) 0)]
    exact h.cc.2.1
  · rw [up_same, up_same]

