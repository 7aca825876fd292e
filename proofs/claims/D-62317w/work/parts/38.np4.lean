theorem tch_help {N M N2 M2 : MSt} {i p : Int} (h : OrdS N M) (hp : 0 ≤ p ∧ p < 8) (ho : N2 10 = N 10) (hfz : N2 2 0 = N 2 0) (hfm : M2 0 0 = M 0 0)
    (hfr : (N2 1 0 = N 1 0 ∧ 0 ≤ i ∧ i < N 1 0) ∨ (N2 1 0 = N 1 0 + 1 ∧ i = N 1 0 ∧ 0 ≤ N 1 0))
    (hin : ∀ q, M2 7 q = if q = p then 1 else if i < N 1 0 ∧ q = N 10 i then 0 else M 7 q)
    (hne : ∀ j, 0 ≤ j → j < N 1 0 → j ≠ i → N 10 j ≠ p) (hus : N2 1 0 = usd M2) (htc : ∀ q, M2 9 q = if q = p then M 10 0 + 1 else M 9 q) (hck : M2 10 0 = M 10 0 + 1) (hpg : PgS N2 M2) : SimP (tfin N2 i p) M2 := by
  have inj : ∀ j k, 0 ≤ j → j < N 1 0 → 0 ≤ k → k < N 1 0 → N 10 j = N 10 k → j = k := by
    intro j k a b c d e
    rcases Int.lt_trichotomy j k with z | z | z
    · have := h.2.2.1 j k a z d; rw [e] at this; omega
    · exact z
    · have := h.2.2.1 k j c z b; rw [e] at this; omega
  have tord := tfin_ord (N := N2) (i := i) (p := p)
  rw [ho] at tord
  have g := ord_gen (ord := N 10) (ord' := tfin N2 i p 10) (fr := N 1 0) (fr' := N2 1 0) (i := i) (p := p) (inF' := M2 7) (tc := M 9) (tc' := M2 9) hfr hp
    (fun j a b => (h.2.1 j a b).1)
    (fun j a b c => by rw [hin, if_neg (hne j a b c), if_neg (fun z => c (inj j i a b (by omega) z.1 z.2))]; exact (h.2.1 j a b).2)
    (by rw [hin, if_pos rfl]) h.2.2.1 hne (fun q e => by rw [htc, if_neg e])
    (fun j a b => by
      rw [htc, if_pos rfl]
      have := ((h.2.2.2 _ (h.2.1 j a b).1.1 (h.2.1 j a b).1.2).2 (h.2.1 j a b).2).2
      omega)
    (fun q a b c => by
      by_cases e : q = p
      · exact Or.inl e
      · refine Or.inr ?_
        rw [hin, if_neg e] at c
        by_cases z : i < N 1 0 ∧ q = N 10 i
        · rw [if_pos z] at c; exact absurd c (by decide)
        · rw [if_neg z] at c
          obtain ⟨j, j0, j1, j2⟩ := ((h.2.2.2 q a b).2 c).1
          exact ⟨j, j0, j1, fun x => z ⟨by omega, by rw [← j2, x]⟩, j2⟩)
    tord.1 tord.2
  have ef : tfin N2 i p 1 0 = N2 1 0 := tfin_o (by decide)
  refine SimP.mk ⟨⟨ef.trans hus, by rw [tfin_o (by decide), hfz, hfm]; exact h.1.2⟩, ?_, ?_, fun q a b => ⟨?_, fun c => ⟨?_, ?_⟩⟩⟩ ?_
  · rw [ef]; exact g.1
  · rw [ef]; exact g.2.1
  · rw [hin]
    split
    · exact Or.inr rfl
    · split
      · exact Or.inl rfl
      · exact (h.2.2.2 q a b).1
  · rw [ef]; exact g.2.2 q a b c
  · rw [htc, hck]
    by_cases e : q = p
    · rw [if_pos e]; omega
    · rw [if_neg e]
      rw [hin, if_neg e] at c
      by_cases z : i < N 1 0 ∧ q = N 10 i
      · rw [if_pos z] at c; exact absurd c (by decide)
      · rw [if_neg z] at c
        have := ((h.2.2.2 q a b).2 c).2
        omega
  · have t : ∀ f : Nat, f ≠ 10 → tfin N2 i p f = N2 f := fun f e => funext fun j => tfin_o e
    exact PgS.c hpg (congrFun (t _ (by decide)) 0) (t _ (by decide)) (t _ (by decide)) (t _ (by decide)) (t _ (by decide)) (t _ (by decide)) (t _ (by decide)) (t _ (by decide)) rfl rfl rfl rfl rfl rfl rfl rfl (fun _ _ _ z => z)
theorem brg_o {N : MSt} {q i : Int} {f : Nat} (h : f ≠ 5) (h1 : f ≠ 11) (h2 : f ≠ 12) (h3 : f ≠ 14) (h4 : f ≠ 17) : brg N q f i = N f i := by
  unfold brg
  rw [up_ne (fun z => h4 z.1), cD_o h1 h2 h3, up_ne (fun z => h z.1)]
theorem ldN_o {N : MSt} {q i : Int} {f : Nat} (h1 : f ≠ 15) (h2 : f ≠ 16) (h3 : f ≠ 18) (h4 : f ≠ 17) : ldN N q f i = N f i := by
  unfold ldN
  rw [up_ne (fun z => h4 z.1), cR_o h1 h2 h3]
theorem ldp_g {M : MSt} {q i : Int} {f : Nat} (a : f ≠ 4) (b : f ≠ 5) (c : f ≠ 6) (d : f ≠ 8) (e : f ≠ 7) : ldp M q f i = M f i := by
  unfold ldp
  rw [up_ne (fun z => e z.1), up_ne (fun z => d z.1), up_ne (fun z => c z.1)]
  unfold cpu
  rw [if_neg (fun z => a z.1), if_neg (fun z => b z.1)]
theorem ldp_if {M : MSt} {q i : Int} : ldp M q 7 i = if i = q then 1 else M 7 i := by simp [ldp, up, cpu]
theorem evc_if {M : MSt} {q i : Int} : evc M q 7 i = if i = q then 0 else M 7 i := by
  unfold evc
  by_cases e : i = q
  · rw [if_pos e, e, up_same]
  · rw [if_neg e, up_ne (fun z => e z.2)]
    split
    · exact wrt_g (by decide) (by decide) (by decide) (by decide) (by decide)
    · rfl
theorem evc_g {M : MSt} {q i : Int} {f : Nat} (h1 : f ≠ 13) (h2 : f ≠ 1) (h3 : f ≠ 2) (h4 : f ≠ 3) (h5 : f ≠ 8) (h6 : f ≠ 7) : evc M q f i = M f i := by
  unfold evc
  rw [up_ne (fun z => h6 z.1)]
  split
  · exact wrt_g h1 h2 h3 h4 h5
  · rfl
theorem PgS.clk {N M : MSt} (h : PgS N M) : PgS N (clk M) := PgS.c h rfl rfl rfl rfl rfl rfl rfl rfl rfl rfl rfl rfl rfl rfl rfl rfl (fun _ _ _ z => z)
theorem PgS.tcd {N M : MSt} {i z : Int} (h : PgS N M) : PgS N (up M 9 i z) := PgS.c h rfl rfl rfl rfl rfl rfl rfl rfl rfl rfl rfl rfl rfl rfl rfl rfl (fun _ _ _ z => z)
theorem PgS.frm {N M : MSt} {z : Int} (h : PgS N M) : PgS (up N 1 0 z) M := PgS.c h rfl rfl rfl rfl rfl rfl rfl rfl rfl rfl rfl rfl rfl rfl rfl rfl (fun _ _ _ z => z)
theorem PgS.ev {N M : MSt} {q : Int} (h : PgS N M) (hq : 0 ≤ q ∧ q < 8) (hi : M 7 q = 1) : PgS (if N 17 q = 1 then brg N q else N) (evc M q) := by
  have hd := (h.2.2 q hq.1 hq.2 hi).2
  have hs : ∀ K : MSt, (∀ p, 0 ≤ p → p < 8 → up K 7 q 0 7 p = 1 → K 7 p = 1) := fun K p _ _ c => by
    by_cases e : p = q
    · rw [e, up_same] at c; exact absurd c (by decide)
    · rw [up_ne (fun z => e z.2)] at c; exact c
  unfold evc
  rw [hd]
  split
  · exact PgS.c (PgS_brg h hq hi) rfl rfl rfl rfl rfl rfl rfl rfl rfl rfl rfl rfl rfl rfl rfl rfl (hs _)
  · exact PgS.c h rfl rfl rfl rfl rfl rfl rfl rfl rfl rfl rfl rfl rfl rfl rfl rfl (hs _)
theorem SimP_tch {N M : MSt} {p : Int} (h : SimP N M) (hp : 0 ≤ p ∧ p < 8) (hf1 : 1 ≤ M 0 0) : SimP (tN N p) (tch M p) := by
  have hord := h.ord
  have hfr := h.fr
  rcases h.pl hp.1 hp.2 with ⟨h1, h2⟩ | ⟨h1, h2⟩
  · have hn : ¬ M 7 p = 1 := by omega
    have hne : ∀ j, 0 ≤ j → j < N 1 0 → N 10 j ≠ p := fun j a b e => by
      have := (h.2.1 j a b).2
      rw [e] at this
      omega
    unfold tN
    rw [pick_f (by omega)]
    by_cases hu : usd M = M 0 0
    · have ho := hord.old (by rw [h.1.1]; omega)
      have h00 := h.2.1 0 (by omega) (by rw [h.1.1]; omega)
      rw [pick_t (by rw [h.1.1, h.1.2.1]; exact hu), tch_ev hn hu, ho]
      have e1 : ∀ (f : Nat) (j : Int), f ≠ 5 → f ≠ 11 → f ≠ 12 → f ≠ 14 → f ≠ 17 → (if N 17 (N 10 0) = 1 then brg N (N 10 0) else N) f j = N f j := fun f j a b c d e => by
        split
        · exact brg_o a b c d e
        · rfl
      refine tch_help hord hp (funext fun j => ?_) ?_ ?_ (Or.inl ⟨?_, by omega, by rw [h.1.1]; omega⟩) (fun q => ?_) (fun j a b _ => hne j a b) ?_ (fun q => ?_) ?_ ?_
      · rw [ldN_o (by decide) (by decide) (by decide) (by decide), e1 _ _ (by decide) (by decide) (by decide) (by decide) (by decide)]
      · rw [ldN_o (by decide) (by decide) (by decide) (by decide), e1 _ _ (by decide) (by decide) (by decide) (by decide) (by decide)]
      · rw [up_ne (by simp), ldp_g (by decide) (by decide) (by decide) (by decide) (by decide), evc_g (by decide) (by decide) (by decide) (by decide) (by decide) (by decide)]; rfl
      · rw [ldN_o (by decide) (by decide) (by decide) (by decide), e1 _ _ (by decide) (by decide) (by decide) (by decide) (by decide)]
      · rw [up_ne (by simp), ldp_if, evc_if]
        by_cases e : q = p
        · rw [if_pos e, if_pos e]
        · rw [if_neg e, if_neg e]
          by_cases z : q = N 10 0
          · rw [if_pos z, if_pos ⟨by rw [h.1.1]; omega, z⟩]
          · rw [if_neg z, if_neg (fun y => z y.2)]; rfl
      · rw [ldN_o (by decide) (by decide) (by decide) (by decide), e1 _ _ (by decide) (by decide) (by decide) (by decide) (by decide), h.1.1]
        have u1 := usd_sub (M := clk M) (M' := evc (clk M) (N 10 0)) h00.1 h00.2 (fun q => evc_if)
        have u2 := usd_add (M := evc (clk M) (N 10 0)) (M' := up (ldp (evc (clk M) (N 10 0)) p) 9 p (M 10 0 + 1)) hp (by
          rw [evc_if]
          split
          · decide
          · exact hn) (fun q => by rw [up_ne (by simp), ldp_if])
        rw [u2, u1, usd_c (M := M) (M' := clk M) rfl]
        omega
      · by_cases e : q = p
        · rw [if_pos e, e, up_same]
        · rw [if_neg e, up_ne (fun z => e z.2), ldp_g (by decide) (by decide) (by decide) (by decide) (by decide), evc_g (by decide) (by decide) (by decide) (by decide) (by decide) (by decide)]; rfl
      · rw [up_ne (by simp), ldp_g (by decide) (by decide) (by decide) (by decide) (by decide), evc_g (by decide) (by decide) (by decide) (by decide) (by decide) (by decide)]; rfl
      · exact (((PgS.clk h.pg).ev h00.1 h00.2).ld hp).tcd
    · rw [pick_f (by rw [h.1.1, h.1.2.1]; exact hu), tch_nw hn hu]
      refine tch_help hord hp (funext fun j => ?_) ?_ ?_ (Or.inr ⟨?_, rfl, hfr.1⟩) (fun q => ?_) (fun j a b _ => hne j a b) ?_ (fun q => ?_) ?_ ?_
      · rw [ldN_o (by decide) (by decide) (by decide) (by decide)]; rfl
      · rw [ldN_o (by decide) (by decide) (by decide) (by decide)]; rfl
      · rw [up_ne (by simp), ldp_g (by decide) (by decide) (by decide) (by decide) (by decide)]; rfl
      · rw [ldN_o (by decide) (by decide) (by decide) (by decide)]; rfl
      · rw [up_ne (by simp), ldp_if, if_neg (c := N 1 0 < N 1 0 ∧ _) (by omega)]; rfl
      · rw [ldN_o (by decide) (by decide) (by decide) (by decide), up_same, h.1.1]
        have u2 := usd_add (M := clk M) (M' := up (ldp (clk M) p) 9 p (M 10 0 + 1)) hp hn (fun q => by rw [up_ne (by simp), ldp_if])
        rw [u2, usd_c (M := M) (M' := clk M) rfl]
      · by_cases e : q = p
        · rw [if_pos e, e, up_same]
        · rw [if_neg e, up_ne (fun z => e z.2), ldp_g (by decide) (by decide) (by decide) (by decide) (by decide)]; rfl
      · rw [up_ne (by simp), ldp_g (by decide) (by decide) (by decide) (by decide) (by decide)]; rfl
      · exact (((PgS.clk h.pg).frm).ld hp).tcd
  · unfold tN
    rw [pick_t (by omega), tch_in h2]
    refine tch_help hord hp rfl rfl rfl (Or.inl ⟨rfl, by omega, by omega⟩) (fun q => ?_) (fun j a b c e => ?_) ?_ (fun q => ?_) rfl ((PgS.clk h.pg).tcd)
    · by_cases e : q = p
      · rw [if_pos e, e]; exact h2
      · rw [if_neg e, if_neg (fun z => e (z.2.trans h1.2.2))]; rfl
    · rcases Int.lt_trichotomy j (pl N p) with z | z | z
      · have := h.2.2.1 j (pl N p) a z h1.2.1; rw [e, h1.2.2] at this; omega
      · exact c z
      · have := h.2.2.1 (pl N p) j h1.1 z b; rw [e, h1.2.2] at this; omega
    · rw [h.1.1]
      exact (usd_c rfl).symm
    · by_cases e : q = p
      · rw [if_pos e, e, up_same]
      · rw [if_neg e, up_ne (fun z => e z.2)]; rfl
/-- fields of the flat store that no page's work changes -/
def npF (f : Nat) : Bool := f == 1 || f == 5 || f == 10 || f == 11 || f == 12 || f == 13 || f == 14 || f == 15 || f == 16 || f == 17 || f == 18
theorem tN_o {N : MSt} {p i : Int} {f : Nat} (h : npF f = false) : tN N p f i = N f i := by
  simp only [npF, Bool.or_eq_false_iff, beq_eq_false_iff_ne, ne_eq] at h
  obtain ⟨⟨⟨⟨⟨⟨⟨⟨⟨⟨h1, h2⟩, h3⟩, h4⟩, h5⟩, h6⟩, h7⟩, h8⟩, h9⟩, h10⟩, h11⟩ := h
  unfold tN
  by_cases c : 0 ≤ pl N p
  · rw [pick_t c, tfin_o h3]
  · rw [pick_f c]
    by_cases d : N 1 0 = N 2 0
    · rw [pick_t d, tfin_o h3, ldN_o h8 h9 h11 h10]
      split
      · exact brg_o h2 h4 h5 h7 h10
      · rfl
    · rw [pick_f d, tfin_o h3, ldN_o h8 h9 h11 h10, up_ne (fun z => h1 z.1)]

