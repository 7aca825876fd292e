/-! new entries -/
def aup (A : ASt) (tg : Nat) (i : Int) (a : Nat) : ASt := fun tg' i' => if tg' = tg ∧ i' = i then a else A tg' i'
theorem aup_on (A : ASt) (tg : Nat) (i : Int) (a : Nat) : aup A tg i a tg i = a := if_pos ⟨rfl, rfl⟩
theorem aup_off {A : ASt} {tg tg' : Nat} {i i' : Int} {a : Nat} (h : ¬ (tg' = tg ∧ i' = i)) : aup A tg i a tg' i' = A tg' i' := if_neg h
def Ext (N : MSt) (A A1 : ASt) : Prop := ∀ (tg : Nat) (v : Int), (tg = 10 → v < N 50 0) → (tg = 11 ∨ tg = 12 → v < N 51 0) → tg ≠ 13 → A1 tg v = A tg v
theorem Ext.rf (N : MSt) (A : ASt) : Ext N A A := fun _ _ _ _ _ => rfl
theorem Ext.tr {N N1 : MSt} {A A1 A2 : ASt} (h : Ext N A A1) (h1 : Ext N1 A1 A2) (he : N 50 0 ≤ N1 50 0) (ht : N 51 0 ≤ N1 51 0) : Ext N A A2 := fun tg v a b c => by
  rw [h1 tg v (fun e => by have := a e; omega) (fun e => by have := b e; omega) c]
  exact h tg v a b c
theorem rfv_c {A A1 : ASt} {tg : Nat} {v : Int} (h : 0 ≤ v → A1 tg v = A tg v) : rfv A1 tg v = rfv A tg v := by
  by_cases e : v < 0
  · rw [rfv_n e, rfv_n e]
  · rw [rfv_s (by omega), rfv_s (by omega), h (by omega)]
theorem Ext.q {N : MSt} {A A1 : ASt} (h : Ext N A A1) {tg : Nat} {v : Int} (a : tg = 10 → v < N 50 0) (b : tg = 11 ∨ tg = 12 → v < N 51 0) (c : tg ≠ 13) : rq A1 tg v = rq A tg v := by
  show va_rf (rfv A1 tg v) = va_rf (rfv A tg v)
  rw [rfv_c (fun _ => h tg v a b c)]
theorem Ext.t {N : MSt} {A A1 : ASt} (h : Ext N A A1) {v : Int} (b : v < N 51 0) : rq A1 11 v = rq A 11 v := h.q (fun e => absurd e (by decide)) (fun _ => b) (by decide)
theorem Ext.e {N : MSt} {A A1 : ASt} (h : Ext N A A1) {v : Int} (b : v < N 50 0) : rq A1 10 v = rq A 10 v := h.q (fun _ => b) (fun e => by rcases e with e | e <;> exact absurd e (by decide)) (by decide)
theorem Ext.o {N : MSt} {A A1 : ASt} (h : Ext N A A1) {tg : Nat} {v : Int} (b : tg ≠ 10 ∧ tg ≠ 11 ∧ tg ≠ 12 ∧ tg ≠ 13) : rq A1 tg v = rq A tg v := h.q (fun e => absurd e b.1) (fun e => by rcases e with e | e; exact absurd e b.2.1; exact absurd e b.2.2.1) b.2.2.2
def nE (N : MSt) (f : Nat) (i : Int) : Int := if f = 50 ∧ i = 0 then N 50 0 + 1 else if fTg f = 10 ∧ i = N 50 0 then (if fRt f = 0 then 0 else -1) else N f i
theorem nE_o {N : MSt} {f : Nat} {i : Int} (h1 : f ≠ 50) (h2 : fTg f ≠ 10 ∨ i ≠ N 50 0) : nE N f i = N f i := by
  unfold nE
  rw [if_neg (fun z => h1 z.1), if_neg (fun z => by rcases h2 with h | h; exact h z.1; exact h z.2)]
theorem Vld_nE {N : MSt} {tg : Nat} {v : Int} : Vld (nE N) tg v ↔ Vld N tg v ∨ (tg = 10 ∧ v = N 50 0 ∧ 0 ≤ v) := by
  have e1 : nE N 50 0 = N 50 0 + 1 := if_pos ⟨rfl, rfl⟩
  have e2 : nE N 51 0 = N 51 0 := nE_o (by decide) (Or.inl (by decide))
  by_cases h : tg = 10
  · subst h
    show 0 ≤ v ∧ v < nE N 50 0 ↔ (0 ≤ v ∧ v < N 50 0) ∨ (10 = 10 ∧ v = N 50 0 ∧ 0 ≤ v)
    rw [e1]
    omega
  · have : Vld (nE N) tg v ↔ Vld N tg v := by
      unfold Vld
      rw [e1, e2]
      split <;> first | rfl | exact absurd rfl h
    rw [this]
    exact ⟨Or.inl, fun z => by rcases z with z | z; exact z; exact absurd z.1 h⟩
theorem tK_1 : ∀ tg, tg < 13 → 1 ≤ tK tg := by decide +kernel
theorem Flat.newE {D : GD} {A : ASt} {N : MSt} {g : GSt} {H : Heap} (h : Flat D A N g) (hR : RelG D g H) (hlt : N 50 0 < 301) :
    Flat D (aup A 10 (N 50 0) (gZ g)) (nE N) (uR (gnw g 3 0) 14 (N 50 0) (A 4 0) (some (gZ g))) := by
  obtain ⟨hS, hQ, hK, hJ, hE, hC, hV, hA⟩ := h
  have fr : ∀ (tg : Nat) (v : Int), tg < 13 → Vld N tg v → A tg v ≠ gZ g := fun tg v a b e => by
    have h1 := (hK tg v a b).1
    have h2 := tK_1 tg a
    have h3 := (hR.2.1 (A tg v) (by omega)).1
    omega
  have frq : ∀ b, gK g b ≠ 0 → b ≠ gZ g := fun b z e => by
    have h3 := (hR.2.1 b z).1
    omega
  have ne0 := hC.1.1
  have eN : nE N 50 0 = N 50 0 + 1 := if_pos ⟨rfl, rfl⟩
  have eT : nE N 51 0 = N 51 0 := nE_o (by decide) (Or.inl (by decide))
  have aO : ∀ (tg : Nat) (v : Int), tg < 13 → Vld N tg v → aup A 10 (N 50 0) (gZ g) tg v = A tg v := fun tg v a b => aup_off (fun z => by
    obtain ⟨rfl, rfl⟩ := z
    have b : 0 ≤ N 50 0 ∧ N 50 0 < N 50 0 := b
    omega)
  have aN : ∀ (tg : Nat) (v : Int), tg ≠ 10 → aup A 10 (N 50 0) (gZ g) tg v = A tg v := fun tg v a => aup_off (fun z => a z.1)
  have oI : ∀ (c : Nat) (k : Int) (b : Nat), b ≠ gZ g → gI (uR (gnw g 3 0) 14 (N 50 0) (A 4 0) (some (gZ g))) c k b = gI g c k b := fun c k b q => gnw_I (c := 3) (m := 0) q
  have oR : ∀ (c : Nat) (k : Int) (b : Nat), b ≠ gZ g → c ≠ 14 → gR (uR (gnw g 3 0) 14 (N 50 0) (A 4 0) (some (gZ g))) c k b = gR g c k b := fun c k b q z => by
    rw [uR_off (fun y => z y.1), gnw_R q]
  have v0 : ∀ tg, tg < 6 → Vld N tg 0 := fun tg a => by
    unfold Vld
    rcases (show tg = 0 ∨ tg = 1 ∨ tg = 2 ∨ tg = 3 ∨ tg = 4 ∨ tg = 5 from by omega) with rfl | rfl | rfl | rfl | rfl | rfl <;> rfl
  have v8 : ∀ tg (p : Int), 6 ≤ tg → tg < 10 → 0 ≤ p → p < 8 → Vld N tg p := fun tg p a b c d => by
    unfold Vld
    rcases (show tg = 6 ∨ tg = 7 ∨ tg = 8 ∨ tg = 9 from by omega) with rfl | rfl | rfl | rfl <;> exact ⟨c, d⟩
  refine ⟨⟨?_, fun p a b => ?_, fun r a b => ?_, fun t a b => ?_, fun t a b => ?_⟩, fun t a b => ?_, fun tg v a b => ?_, fun tg tg' v v' a b c d e => ?_, ?_, ?_, fun f v a b => ?_, fun f v z a b c d => ?_⟩
  · rw [aN 0 _ (by decide), aN 1 _ (by decide), aN 2 _ (by decide), aN 3 _ (by decide), aN 4 _ (by decide), aN 5 _ (by decide)]
    have f0 := fr 0 0 (by decide) (v0 0 (by decide))
    rw [oR _ _ _ f0 (by decide), oR _ _ _ f0 (by decide), oR _ _ _ f0 (by decide), oR _ _ _ f0 (by decide), oR _ _ _ f0 (by decide)]
    exact hS.1
  · rw [aN 1 _ (by decide), aN 2 _ (by decide), aN 6 _ (by decide), aN 7 _ (by decide), aN 8 _ (by decide), aN 9 _ (by decide)]
    rw [oR _ _ _ (fr 1 0 (by decide) (v0 1 (by decide))) (by decide), oR _ _ _ (fr 2 0 (by decide) (v0 2 (by decide))) (by decide), oR _ _ _ (fr 6 p (by decide) (v8 6 p (by decide) (by decide) a b)) (by decide), oR _ _ _ (fr 8 p (by decide) (v8 8 p (by decide) (by decide) a b)) (by decide), oI _ _ _ (fr 6 p (by decide) (v8 6 p (by decide) (by decide) a b)), oI _ _ _ (fr 8 p (by decide) (v8 8 p (by decide) (by decide) a b))]
    exact hS.2.1 p a b
  · rw [aN 4 _ (by decide), eN]
    by_cases e : r = N 50 0
    · rw [e, uR_on, if_pos (by omega), aup_on]
    · rw [uR_off (fun z => e z.2.1), gnw_R (fr 4 0 (by decide) (v0 4 (by decide))), aup_off (fun z => e z.2), hS.2.2.1 r a b]
      by_cases z : r < N 50 0
      · rw [if_pos z, if_pos (by omega)]
      · rw [if_neg z, if_neg (by omega)]
  · rw [aN 5 _ (by decide), aN 11 _ (by decide), eT, oR _ _ _ (fr 5 0 (by decide) (v0 5 (by decide))) (by decide)]
    exact hS.2.2.2.1 t a b
  · rw [eT] at b
    rw [aN 11 _ (by decide), aN 12 _ (by decide), oR _ _ _ (fr 11 t (by decide) ⟨a, b⟩) (by decide), oI _ _ _ (fr 11 t (by decide) ⟨a, b⟩)]
    exact hS.2.2.2.2 t a b
  · rw [eT] at b
    rw [nE_o (f := 40) (by decide) (Or.inl (by decide)), nE_o (f := 41) (by decide) (Or.inl (by decide)), nE_o (f := 42) (by decide) (Or.inl (by decide)), aN 11 _ (by decide), aN 13 _ (by decide), oR _ _ _ (fr 11 t (by decide) ⟨a, b⟩) (by decide)]
    rcases hQ t a b with q | ⟨q1, q2, q3, q4, q5⟩
    · exact Or.inl q
    · have fq := frq (A 13 t) (by rw [q3]; omega)
      refine Or.inr ⟨q1, q2, ?_, ?_, fun z => ?_⟩
      · exact (gnw_K (c := 3) (m := 0) fq).trans q3
      · rw [oI _ _ _ fq]; exact q4
      · rw [oI _ _ _ fq]; exact q5 z
  · rcases Vld_nE.mp b with b | ⟨rfl, rfl, b⟩
    · rw [aO tg v a b]
      have := hK tg v a b
      exact ⟨(gnw_K (c := 3) (m := 0) (fr tg v a b)).trans this.1, (gnw_L (c := 3) (m := 0) (fr tg v a b)).trans this.2⟩
    · rw [aup_on]
      exact ⟨gnw_K0 (c := 3) (m := 0), gnw_L0 (c := 3) (m := 0)⟩
  · rcases Vld_nE.mp c with c | ⟨rfl, rfl, c⟩
    · rcases Vld_nE.mp d with d | ⟨rfl, rfl, d⟩
      · rw [aO tg v a c, aO tg' v' b d] at e
        exact hJ tg tg' v v' a b c d e
      · rw [aO tg v a c, aup_on] at e
        exact absurd e (fr tg v a c)
    · rcases Vld_nE.mp d with d | ⟨rfl, rfl, d⟩
      · rw [aO tg' v' b d, aup_on] at e
        exact absurd e.symm (fr tg' v' b d)
      · exact ⟨rfl, rfl⟩
  · exact ⟨fun i x y => by rw [aN 20 _ (by decide)]; exact hE.1 i x y, fun i x y => by rw [aN 21 _ (by decide)]; exact hE.2 i x y⟩
  · unfold FlC
    rw [eN, eT, nE_o (f := 52) (by decide) (Or.inl (by decide))]
    obtain ⟨c1, c2, c3, c4⟩ := hC
    refine ⟨by omega, c2, c3, ?_⟩
    show ((gZ g + 1 : Nat) : Int) + _ + _ + _ ≤ _
    omega
  · have tb := tb_tg f a
    rcases Vld_nE.mp b with b | ⟨h1, rfl, b⟩
    · have hv := hV f v a b
      have n1 : nE N f v = N f v := by
        refine nE_o tb.2.1 ?_
        by_cases e : fTg f = 10
        · refine Or.inr (fun z => ?_)
          rw [e, z] at b
          have b : 0 ≤ N 50 0 ∧ N 50 0 < N 50 0 := b
          omega
        · exact Or.inl e
      rw [n1, aO _ v tb.1 b, oI _ _ _ (fr _ v tb.1 b), oR _ _ _ (fr _ v tb.1 b) (by have := tb.2.2.2.2.2.2.2.1; omega)]
      refine ⟨hv.1, fun z => ?_⟩
      have hv2 := hv.2 z
      refine ⟨?_, ?_⟩
      · rw [hv2.1]
        refine (rfv_c fun zz => ?_).symm
        rcases hv2.2 with q | q
        · omega
        · refine aup_off (fun y => ?_)
          obtain ⟨y1, y2⟩ := y
          rw [y1, y2] at q
          have q : 0 ≤ N 50 0 ∧ N 50 0 < N 50 0 := q
          omega
      · rcases hv2.2 with q | q
        · exact Or.inl q
        · exact Or.inr (Vld_nE.mpr (Or.inl q))
    · have n1 : nE N f (N 50 0) = if fRt f = 0 then 0 else -1 := by
        unfold nE
        rw [if_neg (fun z => tb.2.1 z.1), if_pos ⟨h1, rfl⟩]
      rw [h1, aup_on, n1]
      refine ⟨fun z => ?_, fun z => ⟨?_, ?_⟩⟩
      · rw [if_pos z]; exact gnw_I0 (c := 3) (m := 0)
      · rw [if_neg z, rfv_n (by omega), uR_off (fun y => absurd y.1 (by decide))]; exact gnw_R0 (c := 3) (m := 0)
      · rw [if_neg z]; exact Or.inl rfl
  · have tb := tb_at f a
    have b' : Vld N (aTg f) v := by
      rcases Vld_nE.mp b with b | ⟨h1, -, -⟩
      · exact b
      · exact absurd h1 (by
          intro e
          unfold aTg at e
          split at e <;> exact absurd e (by decide))
    rw [nE_o tb.2.1 (Or.inl (by rw [tb.2.2.2.2.2.2.2.2.2.1]; decide)), aO _ v tb.1 b', oI _ _ _ (fr _ v tb.1 b')]
    exact hA f v z a b' c d
theorem Ext.ft {N : MSt} {A A1 : ASt} (h : Ext N A A1) {v : Int} (b : v < N 51 0) : rfv A1 11 v = rfv A 11 v := rfv_c (fun _ => h 11 v (fun e => absurd e (by decide)) (fun _ => b) (by decide))
theorem Ext.fe {N : MSt} {A A1 : ASt} (h : Ext N A A1) {v : Int} (b : v < N 50 0) : rfv A1 10 v = rfv A 10 v := rfv_c (fun _ => h 10 v (fun _ => b) (fun e => by rcases e with e | e <;> exact absurd e (by decide)) (by decide))
theorem Ext.fo {N : MSt} {A A1 : ASt} (h : Ext N A A1) {tg : Nat} {v : Int} (b : tg ≠ 10 ∧ tg ≠ 11 ∧ tg ≠ 12 ∧ tg ≠ 13) : rfv A1 tg v = rfv A tg v := rfv_c (fun _ => h tg v (fun e => absurd e b.1) (fun e => by rcases e with e | e; exact absurd e b.2.1; exact absurd e b.2.2.1) b.2.2.2)
theorem n_inrV {X : Cx} {D : GD} {A : ASt} {N : MSt} {pc : Nat} {L : List (Nat × Value)} {G : List (Nat × Int64)} {st : List Value} (k : (∀ i, 0 ≤ i → i < 32 → InR (N 18 i)) → V X (RelN D A N) pc L G st) : V X (RelN D A N) pc L G st :=
  n_get (fun g H hR hF i a b => by
    have e := hF.2.2.2.2.2.2.2 18 (i / 4) (i % 4) (by decide) (show 0 ≤ i / 4 ∧ i / 4 < 8 from by omega) (by omega) (show i % 4 < (4 : Int) from by omega)
    have e2 : ((aLn 18 : Nat) : Int) * (i / 4) + i % 4 = i := by show (4 : Int) * (i / 4) + i % 4 = i; omega
    rw [e2] at e
    rw [← e]
    exact hR.2.2.2.1 _ _ _) k

