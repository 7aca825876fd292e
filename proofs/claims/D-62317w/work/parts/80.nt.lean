/-! a new transaction in the heap -/
def NewT (D : GD) (A : ASt) (N : MSt) (q b : Int) (g g' : GSt) : Prop :=
  (∀ (c : Nat) (k : Int) (x : Nat), x ≠ gZ g → x ≠ gZ g + 1 → gI g' c k x = gI g c k x) ∧
  (∀ (c : Nat) (k : Int) (x : Nat), x ≠ gZ g → x ≠ gZ g + 1 → ¬ (c = 15 ∧ k = N 51 0 ∧ x = A 5 0) → ¬ (c = 4 ∧ k = 9 ∧ 0 ≤ q ∧ x = A 11 q) → gR g' c k x = gR g c k x) ∧
  (gR g' 15 (N 51 0) (A 5 0) = some (gZ g) ∧ (0 ≤ q → gR g' 4 9 (A 11 q) = some (gZ g))) ∧
  (∀ x, x ≠ gZ g → x ≠ gZ g + 1 → gK g' x = gK g x ∧ gL g' x = gL g x) ∧ gZ g' = gZ g + 2 ∧
  (gK g' (gZ g) = 4 ∧ gL g' (gZ g) = 0) ∧ (gK g' (gZ g + 1) = 12 ∧ gL g' (gZ g + 1) = 33) ∧
  (gI g' 4 0 (gZ g) = N 51 0 ∧ gI g' 4 3 (gZ g) = nTv N q b 33 ∧ gI g' 4 4 (gZ g) = b) ∧
  (gR g' 4 1 (gZ g) = rfv A 11 q ∧ gR g' 4 2 (gZ g) = (if q < 0 then some (gZ g) else rfv A 11 (N 32 q)) ∧ gR g' 4 5 (gZ g) = some (dQ D 1) ∧ gR g' 4 6 (gZ g) = none ∧ gR g' 4 7 (gZ g) = some (gZ g + 1) ∧ gR g' 4 8 (gZ g) = none ∧ gR g' 4 9 (gZ g) = none ∧ gR g' 4 10 (gZ g) = (if q < 0 then none else rfv A 11 (N 37 q))) ∧
  (∀ z, gI g' 12 z (gZ g + 1) = 0)
theorem Vld_nT {N : MSt} {q b : Int} {tg : Nat} {v : Int} : Vld (nT N q b) tg v ↔ Vld N tg v ∨ ((tg = 11 ∨ tg = 12) ∧ v = N 51 0 ∧ 0 ≤ v) := by
  have e1 : nT N q b 50 0 = N 50 0 := nT_o (by decide) (by simp) (Or.inl (by decide)) (Or.inl (by decide)) (Or.inl (by decide))
  have e2 : nT N q b 51 0 = N 51 0 + 1 := if_pos ⟨rfl, rfl⟩
  by_cases h : tg = 11 ∨ tg = 12
  · have : Vld (nT N q b) tg v ↔ 0 ≤ v ∧ v < N 51 0 + 1 := by rcases h with rfl | rfl <;> (show 0 ≤ v ∧ v < nT N q b 51 0 ↔ _; rw [e2])
    have h2 : Vld N tg v ↔ 0 ≤ v ∧ v < N 51 0 := by rcases h with rfl | rfl <;> exact Iff.rfl
    rw [this, h2]
    omega
  · have : Vld (nT N q b) tg v ↔ Vld N tg v := by
      unfold Vld
      rw [e1, e2]
      split <;> first | rfl | exact absurd (Or.inl rfl) h | exact absurd (Or.inr rfl) h
    rw [this]
    exact ⟨Or.inl, fun z => by rcases z with z | z; exact z; exact absurd z.1 h⟩
theorem tb_11 : ∀ f, fTg f = 11 → f = 31 ∨ f = 32 ∨ f = 33 ∨ f = 34 ∨ f = 35 ∨ f = 36 ∨ f = 37 ∨ f = 38 := by
  intro f h
  have h0 : ∀ f, f < 39 → fTg f = 11 → f = 31 ∨ f = 32 ∨ f = 33 ∨ f = 34 ∨ f = 35 ∨ f = 36 ∨ f = 37 ∨ f = 38 := by decide +kernel
  exact h0 f (tb_f39 f (by rw [h]; decide)) h
theorem Flat.newT {D : GD} {A : ASt} {N : MSt} {g g' : GSt} {H : Heap} {q bo : Int} (h : Flat D A N g) (hR : RelG D g H) (hlt : N 51 0 < 60) (hq : q = -1 ∨ (0 ≤ q ∧ q < N 51 0)) (hn : NewT D A N q bo g g') :
    Flat D (aup (aup A 11 (N 51 0) (gZ g)) 12 (N 51 0) (gZ g + 1)) (nT N q bo) g' := by
  obtain ⟨hS, hQ, hK, hJ, hE, hC, hV, hA⟩ := h
  obtain ⟨w1, w2, ⟨w3, w3'⟩, w4, w5, w6, w7, ⟨w8, w8', w8''⟩, ⟨r1, r2, r5, r6, r7, r8, r9, r10⟩, w10⟩ := hn
  have fr : ∀ (tg : Nat) (v : Int), tg < 13 → Vld N tg v → A tg v ≠ gZ g ∧ A tg v ≠ gZ g + 1 := fun tg v a b => by
    have h1 := (hK tg v a b).1
    have h2 := tK_1 tg a
    have h3 := (hR.2.1 (A tg v) (by omega)).1
    omega
  have frq : ∀ b, gK g b ≠ 0 → b ≠ gZ g ∧ b ≠ gZ g + 1 := fun b z => by
    have h3 := (hR.2.1 b z).1
    omega
  have nt0 := hC.2.1.1
  have eN : nT N q bo 50 0 = N 50 0 := nT_o (by decide) (by simp) (Or.inl (by decide)) (Or.inl (by decide)) (Or.inl (by decide))
  have eT : nT N q bo 51 0 = N 51 0 + 1 := if_pos ⟨rfl, rfl⟩
  have aN : ∀ (tg : Nat) (v : Int), tg ≠ 11 → tg ≠ 12 → aup (aup A 11 (N 51 0) (gZ g)) 12 (N 51 0) (gZ g + 1) tg v = A tg v := fun tg v a c => by
    rw [aup_off (fun z => c z.1), aup_off (fun z => a z.1)]
  have aO : ∀ (tg : Nat) (v : Int), tg < 13 → Vld N tg v → aup (aup A 11 (N 51 0) (gZ g)) 12 (N 51 0) (gZ g + 1) tg v = A tg v := fun tg v a c => by
    have hne : tg = 11 ∨ tg = 12 → v < N 51 0 := fun z => by rcases z with rfl | rfl <;> exact c.2
    rw [aup_off (fun z => by have := hne (Or.inr z.1); omega), aup_off (fun z => by have := hne (Or.inl z.1); omega)]
  have a11 : aup (aup A 11 (N 51 0) (gZ g)) 12 (N 51 0) (gZ g + 1) 11 (N 51 0) = gZ g := by rw [aup_off (fun z => absurd z.1 (by decide)), aup_on]
  have a12 : aup (aup A 11 (N 51 0) (gZ g)) 12 (N 51 0) (gZ g + 1) 12 (N 51 0) = gZ g + 1 := aup_on _ _ _ _
  have oI : ∀ (tg : Nat) (v : Int), tg < 13 → Vld N tg v → ∀ (c : Nat) (k : Int), gI g' c k (A tg v) = gI g c k (A tg v) := fun tg v a d c k => w1 c k _ (fr tg v a d).1 (fr tg v a d).2
  have oR : ∀ (tg : Nat) (v : Int), tg < 13 → Vld N tg v → ∀ (c : Nat) (k : Int), c ≠ 15 → ¬ (c = 4 ∧ k = 9) → gR g' c k (A tg v) = gR g c k (A tg v) := fun tg v a d c k e f => w2 c k _ (fr tg v a d).1 (fr tg v a d).2 (fun z => e z.1) (fun z => f ⟨z.1, z.2.1⟩)
  have v0 : ∀ tg, tg < 6 → Vld N tg 0 := fun tg a => by
    unfold Vld
    rcases (show tg = 0 ∨ tg = 1 ∨ tg = 2 ∨ tg = 3 ∨ tg = 4 ∨ tg = 5 from by omega) with rfl | rfl | rfl | rfl | rfl | rfl <;> rfl
  have v8 : ∀ tg (p : Int), 6 ≤ tg → tg < 10 → 0 ≤ p → p < 8 → Vld N tg p := fun tg p a b c d => by
    unfold Vld
    rcases (show tg = 6 ∨ tg = 7 ∨ tg = 8 ∨ tg = 9 from by omega) with rfl | rfl | rfl | rfl <;> exact ⟨c, d⟩
  have hqlt : q < N 51 0 := by omega
  refine ⟨⟨?_, fun p a b => ?_, fun r a b => ?_, fun t a b => ?_, fun t a b => ?_⟩, fun t a b => ?_, fun tg v a b => ?_, fun tg tg' v v' a b c d e => ?_, ?_, ?_, fun f v a b => ?_, fun f v z a b c d => ?_⟩
  · rw [aN 0 _ (by decide) (by decide), aN 1 _ (by decide) (by decide), aN 2 _ (by decide) (by decide), aN 3 _ (by decide) (by decide), aN 4 _ (by decide) (by decide), aN 5 _ (by decide) (by decide)]
    have o := oR 0 0 (by decide) (v0 0 (by decide))
    rw [o _ _ (by decide) (by decide), o _ _ (by decide) (by decide), o _ _ (by decide) (by decide), o _ _ (by decide) (by decide), o _ _ (by decide) (by decide)]
    exact hS.1
  · rw [aN 1 _ (by decide) (by decide), aN 2 _ (by decide) (by decide), aN 6 _ (by decide) (by decide), aN 7 _ (by decide) (by decide), aN 8 _ (by decide) (by decide), aN 9 _ (by decide) (by decide)]
    rw [oR 1 0 (by decide) (v0 1 (by decide)) _ _ (by decide) (by simp), oR 2 0 (by decide) (v0 2 (by decide)) _ _ (by decide) (by simp), oR 6 p (by decide) (v8 6 p (by decide) (by decide) a b) _ _ (by decide) (by decide), oR 8 p (by decide) (v8 8 p (by decide) (by decide) a b) _ _ (by decide) (by decide), oI 6 p (by decide) (v8 6 p (by decide) (by decide) a b), oI 8 p (by decide) (v8 8 p (by decide) (by decide) a b)]
    exact hS.2.1 p a b
  · rw [aN 4 _ (by decide) (by decide), aN 10 _ (by decide) (by decide), eN, oR 4 0 (by decide) (v0 4 (by decide)) _ _ (by decide) (by simp)]
    exact hS.2.2.1 r a b
  · rw [aN 5 _ (by decide) (by decide), eT]
    by_cases e : t = N 51 0
    · rw [e, w3, if_pos (by omega), a11]
    · have f5 := fr 5 0 (by decide) (v0 5 (by decide))
      rw [w2 15 t _ f5.1 f5.2 (fun z => e z.2.1) (fun z => absurd z.1 (by decide)), hS.2.2.2.1 t a b]
      by_cases z : t < N 51 0
      · rw [if_pos z, if_pos (by omega), aO 11 t (by decide) ⟨a, z⟩]
      · rw [if_neg z, if_neg (by omega)]
  · rw [eT] at b
    by_cases e : t = N 51 0
    · rw [e, a11, a12, r7]
      exact ⟨rfl, w8⟩
    · have hv : Vld N 11 t := ⟨a, by omega⟩
      rw [aO 11 t (by decide) hv, aO 12 t (by decide) hv, oR 11 t (by decide) hv _ _ (by decide) (by decide), oI 11 t (by decide) hv]
      exact hS.2.2.2.2 t a (by omega)
  · rw [eT] at b
    by_cases e : t = N 51 0
    · refine Or.inl ⟨?_, ?_⟩
      · rw [e]
        unfold nT
        rw [if_neg (by simp), if_neg (by simp), if_neg (fun z => absurd z.1 (by decide)), if_neg (by simp), if_pos ⟨rfl, rfl⟩]
      · rw [e, a11, r6]
    · have hv : Vld N 11 t := ⟨a, by omega⟩
      rw [nT_o (f := 40) (by decide) (by simp) (Or.inl (by decide)) (Or.inl (by decide)) (Or.inr e), nT_o (f := 41) (by decide) (by simp) (Or.inl (by decide)) (Or.inl (by decide)) (Or.inl (by decide)), nT_o (f := 42) (by decide) (by simp) (Or.inl (by decide)) (Or.inl (by decide)) (Or.inl (by decide)), aN 13 _ (by decide) (by decide), aO 11 t (by decide) hv, oR 11 t (by decide) hv _ _ (by decide) (by decide)]
      rcases hQ t a (by omega) with z | ⟨q1, q2, q3, q4, q5⟩
      · exact Or.inl z
      · have fq := frq (A 13 t) (by rw [q3]; omega)
        refine Or.inr ⟨q1, q2, ?_, ?_, fun z => ?_⟩
        · rw [(w4 _ fq.1 fq.2).1]; exact q3
        · rw [w1 _ _ _ fq.1 fq.2]; exact q4
        · rw [w1 _ _ _ fq.1 fq.2]; exact q5 z
  · rcases Vld_nT.mp b with b | ⟨rfl | rfl, rfl, b⟩
    · rw [aO tg v a b, (w4 _ (fr tg v a b).1 (fr tg v a b).2).1, (w4 _ (fr tg v a b).1 (fr tg v a b).2).2]
      exact hK tg v a b
    · rw [a11]; exact w6
    · rw [a12]; exact w7
  · rcases Vld_nT.mp c with c | ⟨rfl | rfl, rfl, c⟩
    · rw [aO tg v a c] at e
      rcases Vld_nT.mp d with d | ⟨rfl | rfl, rfl, d⟩
      · rw [aO tg' v' b d] at e
        exact hJ tg tg' v v' a b c d e
      · rw [a11] at e; exact absurd e (fr tg v a c).1
      · rw [a12] at e; exact absurd e (fr tg v a c).2
    · rw [a11] at e
      rcases Vld_nT.mp d with d | ⟨rfl | rfl, rfl, d⟩
      · rw [aO tg' v' b d] at e; exact absurd e.symm (fr tg' v' b d).1
      · exact ⟨rfl, rfl⟩
      · rw [a12] at e; exact absurd e (by omega)
    · rw [a12] at e
      rcases Vld_nT.mp d with d | ⟨rfl | rfl, rfl, d⟩
      · rw [aO tg' v' b d] at e; exact absurd e.symm (fr tg' v' b d).2
      · rw [a11] at e; exact absurd e (by omega)
      · exact ⟨rfl, rfl⟩
  · exact ⟨fun i x y => by rw [aN 20 _ (by decide) (by decide)]; exact hE.1 i x y, fun i x y => by rw [aN 21 _ (by decide) (by decide)]; exact hE.2 i x y⟩
  · unfold FlC
    rw [eN, eT, nT_o (f := 52) (by decide) (by simp) (Or.inl (by decide)) (Or.inl (by decide)) (Or.inl (by decide)), w5]
    obtain ⟨c1, c2, c3, c4⟩ := hC
    exact ⟨c1, by omega, c3, by omega⟩
  · have tb := tb_tg f a
    have st := tb_st f a
    rcases Vld_nT.mp b with bb | ⟨h1, rfl, bb⟩
    · have hv := hV f v a bb
      have hne : fTg f ≠ 11 ∨ v ≠ N 51 0 := by
        by_cases e : fTg f = 11
        · rw [e] at bb
          have bb : 0 ≤ v ∧ v < N 51 0 := bb
          exact Or.inr (by omega)
        · exact Or.inl e
      have nl : f ≠ 39 := fun e => a (by rw [e]; decide)
      have na : f ≠ 40 := fun e => a (by rw [e]; decide)
      have rc : ∀ z, Rok N (fRt f) z → rfv (aup (aup A 11 (N 51 0) (gZ g)) 12 (N 51 0) (gZ g + 1)) (fRt f) z = rfv A (fRt f) z := fun z hz => rfv_c fun z0 => by
        rcases hz with hz | hz
        · omega
        · have h22 : ∀ f, f < 39 → fRt f < 13 ∨ fRt f = 20 ∨ fRt f = 21 := by decide +kernel
          rcases h22 f (tb_f39 f a) with h | h | h
          · exact aO _ z h hz
          · exact aN _ z (by omega) (by omega)
          · exact aN _ z (by omega) (by omega)
      rw [aO _ v tb.1 bb, oI _ v tb.1 bb]
      by_cases e : f = 37 ∧ v = q
      · obtain ⟨rfl, rfl⟩ := e
        have hv0 : 0 ≤ v ∧ v < N 51 0 := bb
        have en : nT N v bo 37 v = N 51 0 := by
          unfold nT
          rw [if_neg (by simp), if_pos ⟨rfl, rfl, hv0.1⟩]
        rw [en]
        refine ⟨fun z => absurd z (by decide), fun _ => ⟨?_, Or.inr (Vld_nT.mpr (Or.inr ⟨Or.inl rfl, rfl, nt0⟩))⟩⟩
        show gR g' 4 9 (A 11 v) = rfv _ 11 (N 51 0)
        rw [w3' hv0.1, rfv_s nt0, a11]
      · have n1 : nT N q bo f v = N f v := nT_o tb.2.2.1 e hne (Or.inl nl) (Or.inl na)
        rw [n1]
        refine ⟨hv.1, fun z => ?_⟩
        have hv2 := hv.2 z
        rw [w2 _ _ _ (fr _ v tb.1 bb).1 (fr _ v tb.1 bb).2 (fun y => by have := y.1; omega) (fun y => e ?_), rc _ hv2.2]
        · exact ⟨hv2.1, by rcases hv2.2 with y | y; exact Or.inl y; exact Or.inr (Vld_nT.mpr (Or.inl y))⟩
        · obtain ⟨y1, y2, y3, y4⟩ := y
          have j := hJ _ 11 v q tb.1 (by decide) bb ⟨y3, hqlt⟩ y4
          exact ⟨tb_fj f 37 a (by decide) j.1 (by have : fSl 37 = 9 := rfl; omega), j.2⟩
    · have h1' : fTg f = 11 := by
        rcases h1 with h1 | h1
        · exact h1
        · exact absurd h1 (by
            have h22 : ∀ f, f < 39 → fTg f ≠ 12 := by decide +kernel
            exact h22 f (tb_f39 f a))
      rw [nT_v h1' hqlt, h1', a11]
      have rq11 : ∀ z : Int, z < N 51 0 → rfv (aup (aup A 11 (N 51 0) (gZ g)) 12 (N 51 0) (gZ g + 1)) 11 z = rfv A 11 z := fun z hz => rfv_c fun z0 => aO 11 z (by decide) ⟨z0, hz⟩
      have hold : ∀ (f : Nat) (x : Int), fTg f = 11 → fRt f = 11 → 0 ≤ x → x < N 51 0 → N f x < N 51 0 ∧ Rok (nT N q bo) 11 (N f x) := fun f x e1 e2 e3 e4 => by
        have e5 : fTg f ≠ 99 := by rw [e1]; decide
        have hv := ((hV f x e5 (by rw [e1]; exact ⟨e3, e4⟩)).2 (by rw [e2]; decide)).2
        rw [e2] at hv
        rcases hv with y | y
        · exact ⟨by omega, Or.inl y⟩
        · exact ⟨y.2, Or.inr (Vld_nT.mpr (Or.inl y))⟩
      rcases tb_11 f h1' with rfl | rfl | rfl | rfl | rfl | rfl | rfl | rfl
      · refine ⟨fun z => absurd z (by decide), fun _ => ⟨?_, ?_⟩⟩
        · show gR g' 4 1 (gZ g) = rfv _ 11 q
          rw [r1, rq11 q hqlt]
        · show Rok _ 11 q
          rcases hq with z | z
          · exact Or.inl z
          · exact Or.inr (Vld_nT.mpr (Or.inl z))
      · refine ⟨fun z => absurd z (by decide), fun _ => ?_⟩
        show gR g' 4 2 (gZ g) = rfv _ 11 (if q < 0 then N 51 0 else N 32 q) ∧ Rok _ 11 (if q < 0 then N 51 0 else N 32 q)
        rw [r2]
        by_cases z : q < 0
        · rw [if_pos z, if_pos z, rfv_s nt0, a11]
          exact ⟨rfl, Or.inr (Vld_nT.mpr (Or.inr ⟨Or.inl rfl, rfl, nt0⟩))⟩
        · rw [if_neg z, if_neg z]
          have y := hold 32 q rfl rfl (by omega) hqlt
          rw [rq11 _ y.1]
          exact ⟨rfl, y.2⟩
      · exact ⟨fun _ => w8', fun z => absurd rfl z⟩
      · exact ⟨fun _ => w8'', fun z => absurd rfl z⟩
      · refine ⟨fun z => absurd z (by decide), fun _ => ⟨?_, Or.inr (show (1 : Int) ≤ 1 ∧ (1 : Int) < 5 by decide)⟩⟩
        show gR g' 4 5 (gZ g) = rfv _ 20 1
        rw [r5, rfv_s (by decide), aN 20 _ (by decide) (by decide), hE.1 1 (by decide) (by decide)]
        rfl
      · refine ⟨fun z => absurd z (by decide), fun _ => ⟨?_, Or.inl rfl⟩⟩
        show gR g' 4 8 (gZ g) = rfv _ 10 (-1)
        rw [r8, rfv_n (by decide)]
      · refine ⟨fun z => absurd z (by decide), fun _ => ⟨?_, Or.inl rfl⟩⟩
        show gR g' 4 9 (gZ g) = rfv _ 11 (-1)
        rw [r9, rfv_n (by decide)]
      · refine ⟨fun z => absurd z (by decide), fun _ => ?_⟩
        show gR g' 4 10 (gZ g) = rfv _ 11 (if q < 0 then -1 else N 37 q) ∧ Rok _ 11 (if q < 0 then -1 else N 37 q)
        rw [r10]
        by_cases z : q < 0
        · rw [if_pos z, if_pos z, rfv_n (by decide)]
          exact ⟨rfl, Or.inl rfl⟩
        · rw [if_neg z, if_neg z]
          have y := hold 37 q rfl rfl (by omega) hqlt
          rw [rq11 _ y.1]
          exact ⟨rfl, y.2⟩
  · have tb := tb_at f a
    have z0 := c
    rcases Vld_nT.mp b with b | ⟨h1, rfl, b⟩
    · rw [aO _ v tb.1 b, oI _ v tb.1 b]
      have nn : nT N q bo f ((aLn f : Int) * v + z) = N f ((aLn f : Int) * v + z) := by
        refine nT_o tb.2.2.1 (fun y => a (by rw [y.1]; decide)) (Or.inl (by rw [tb.2.2.2.2.2.2.2.2.2.1]; decide)) ?_ (Or.inl tb.2.2.2.2.1)
        by_cases e : f = 39
        · subst e
          have b : 0 ≤ v ∧ v < N 51 0 := b
          have d : z < (33 : Int) := d
          refine Or.inr (Or.inl ?_)
          show (33 : Int) * v + z < _
          omega
        · exact Or.inl e
      rw [nn]
      exact hA f v z a b c d
    · have ef : f = 39 := by
        have h22 : ∀ f, f < 40 → aTg f = 11 ∨ aTg f = 12 → f = 39 := by decide +kernel
        exact h22 f (tb_a40 f a) h1
      subst ef
      show gI g' 12 z (aup _ 12 _ _ 12 (N 51 0)) = nT N q bo 39 (33 * N 51 0 + z)
      have d : z < (33 : Int) := d
      rw [a12, w10]
      unfold nT
      rw [if_neg (by simp), if_neg (by simp), if_neg (fun y => absurd y.1 (by decide)), if_pos ⟨rfl, by omega, by omega⟩]

/-! the constructor's end is one -/
theorem newT_n {D : GD} {A : ASt} {N : MSt} {g : GSt} {H : Heap} {bo : Int} (h : Flat D A N g) (hR : RelG D g H) : NewT D A N (-1) bo g (uR (tIn D (gnw g 4 0) (gZ g) (N 51 0) bo) 15 (N 51 0) (A 5 0) (some (gZ g))) := by
  have h5 : A 5 0 ≠ gZ g ∧ A 5 0 ≠ gZ g + 1 := by
    have h1 := (h.2.2.1 5 0 (by decide) rfl).1
    have h1 : gK g (A 5 0) = 15 := h1
    have h3 := (hR.2.1 (A 5 0) (by omega)).1
    omega
  have ez : gZ (gnw g 4 0) = gZ g + 1 := rfl
  have n1 : ¬ gZ g = gZ g + 1 := by omega
  refine ⟨fun c k x a b => ?_, fun c k x a b p q => ?_, ⟨?_, fun q => absurd q (by decide)⟩, fun x a b => ⟨?_, ?_⟩, ?_, ⟨?_, ?_⟩, ⟨?_, ?_⟩, ⟨?_, ?_, ?_⟩, ⟨?_, ?_, ?_, ?_, ?_, ?_, ?_, ?_⟩, fun z => ?_⟩
  all_goals (unfold tIn tI0; simp only [gI, gR, gK, gL, gZ, uI, uR, gnw] at *)
  · simp [a, b]
  · simp [a, b, p]
  · simp
  · simp [a, b]
  · simp [a, b]
  · simp
  · simp
  · simp
  · simp
  · simp
  · simp; rfl
  · simp
  · rw [rfv_n (by decide)]; simp
  · simp
  · simp
  · simp
  · simp
  · simp
  · simp
  · simp
  · simp
theorem newT_p {D : GD} {A : ASt} {N : MSt} {g : GSt} {H : Heap} {q bo : Int} (h : Flat D A N g) (hR : RelG D g H) (hq : 0 ≤ q ∧ q < N 51 0) : NewT D A N q bo g (uR (tIp D (gnw g 4 0) (gZ g) (A 11 q) (N 51 0) bo) 15 (N 51 0) (A 5 0) (some (gZ g))) := by
  have h5 : A 5 0 ≠ gZ g ∧ A 5 0 ≠ gZ g + 1 := by
    have h1 := (h.2.2.1 5 0 (by decide) rfl).1
    have h1 : gK g (A 5 0) = 15 := h1
    have h3 := (hR.2.1 (A 5 0) (by omega)).1
    omega
  have h11 : A 11 q ≠ gZ g ∧ A 11 q ≠ gZ g + 1 := by
    have h1 := (h.2.2.1 11 q (by decide) hq).1
    have h1 : gK g (A 11 q) = 4 := h1
    have h3 := (hR.2.1 (A 11 q) (by omega)).1
    omega
  have e1 : gI g 4 3 (A 11 q) = N 33 q := (h.2.2.2.2.2.2.1 33 q (by decide) hq).1 rfl
  have e2 : gR g 4 2 (A 11 q) = rfv A 11 (N 32 q) := ((h.2.2.2.2.2.2.1 32 q (by decide) hq).2 (by decide)).1
  have e3 : gR g 4 9 (A 11 q) = rfv A 11 (N 37 q) := ((h.2.2.2.2.2.2.1 37 q (by decide) hq).2 (by decide)).1
  have q0 : ¬ q < 0 := by omega
  have n1 : nTv N q bo 33 = N 33 q + 1 := if_neg q0
  have g1 : ¬ gZ g = A 11 q := fun e => h11.1 e.symm
  have g2 : ¬ gZ g + 1 = A 11 q := fun e => h11.2 e.symm
  have hq1 := h11.1
  have hq2 := h11.2
  refine ⟨fun c k x a b => ?_, fun c k x a b p w => ?_, ⟨?_, fun _ => ?_⟩, fun x a b => ⟨?_, ?_⟩, ?_, ⟨?_, ?_⟩, ⟨?_, ?_⟩, ⟨?_, ?_, ?_⟩, ⟨?_, ?_, ?_, ?_, ?_, ?_, ?_, ?_⟩, fun z => ?_⟩
  all_goals (unfold tIp tJ2 tJ1 tJ0; simp only [gI, gR, gK, gL, gZ, uI, uR, gnw] at *)
  · simp [a, b]
  · have w2 : ¬ (c = 4 ∧ k = 9 ∧ x = A 11 q) := fun z => w ⟨z.1, z.2.1, hq.1, z.2.2⟩
    simp [a, b, p, w2]
  · simp
  · simp
  · simp [a, b]
  · simp [a, b]
  · simp
  · simp
  · simp
  · simp
  · simp
  · rw [n1, ← e1]; simp [hq1, hq2]
  · simp
  · rw [rfv_s hq.1]; simp [g1]
  · rw [if_neg q0, ← e2]; simp [hq1, hq2, g1]
  · simp [g1]
  · simp [g1]
  · simp [g1]
  · simp [g1]
  · simp [g1]
  · rw [if_neg q0, ← e3]; simp [hq1, hq2, g1]
  · simp [g2]

