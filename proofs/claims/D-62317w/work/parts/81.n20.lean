theorem c_S_lastG (D : GD) (g : GSt) (s : Nat) (a b : Int) (hK : gK g s = 1) (h1 : gI g 1 7 s = a) (h2 : gI g 1 6 s = b) : GCon D y_S_last (wsOf y_S_last b_S_last 1 (some .int)) 1 [.ref s] g (fun r g1 => r = some (J (a + b)) ∧ g1 = g) := by
  refine GCon.of (by decide) (by intro v hv; simp at hv; subst hv; rfl) (Nat.le_of_ble_eq_true rfl) (fun X o _ => ?_)
  show V X (RelG D g) 0 [(0, .ref s)] [] []
  refine v_aload_n (i := 0) o.ok d_S_last_0 rfl rfl ?_
  refine g_geti o 1 7 7 rfl (by decide) (by decide) lf_S_99 hK rfl d_S_last_1 (fun i1 => ?_)
  refine v_aload_n (i := 0) o.ok d_S_last_4 rfl rfl ?_
  refine g_geti o 1 6 6 rfl (by decide) (by decide) lf_S_95 hK rfl d_S_last_5 (fun i5 => ?_)
  refine v_iadd o.ok d_S_last_8 ?_
  rw [h1, h2]
  exact g_iret o d_S_last_9 ⟨rfl, rfl⟩
theorem tJ1_dep {D : GD} {g : GSt} {a p : Nat} {num born : Int} (h1 : p ≠ gZ g) : gI (tJ1 D g a p num born) 4 3 p = gI g 4 3 p := by
  unfold tJ1 tJ0
  simp only [gI, gR, gK, gL, gZ, uI, uR, gnw] at *
  simp [h1]
set_option maxHeartbeats 4000000 in
set_option maxRecDepth 20000 in
theorem c_S_begin (D : GD) (A : ASt) (p : Int) (N M : MSt) (h : Sim N M) (hi : IvM M) (hz : LkZ M) (hp : InR p) : NX D y_S_begin (wsOf y_S_begin b_S_begin 4 (some .int)) (3) [rq A 0 (0), J (p)] A N (fun x A1 N1 => x = J (r_begin M p).1 ∧ Fwd N A N1 A1 ∧ Sim N1 (r_begin M p).2) := by
  refine NCon.of (by decide) (by simp [cat_rf, J_cat]) (Nat.le_of_ble_eq_true rfl) ?_
  intro X g0 o
  show V X (RelN D A N) 0 [(0, rq A 0 (0)), (1, J (p))] [] []
  obtain ⟨hw, hd, hs, hl, hv⟩ := hi
  have hn := h.nums hw
  have ent : N 51 0 = M 22 0 := h.t.1.2
  have enm : N 8 0 = M 22 0 := h.t.1.1
  have e8 : N 8 0 = N 51 0 := by rw [ent, enm]
  have hm := hw.many
  have eb : BgOk M p → M 22 0 < 60 → ¬ ((p ≠ -1 ∧ ¬ Act M p) ∨ M 22 0 = 60 ∨ (p ≠ -1 ∧ 4 ≤ dep M p)) := by
    intro hb h60
    rintro (⟨a, b⟩ | b | ⟨a, b⟩)
    · rcases hb with z | z
      · exact a z
      · exact b ⟨z.1, z.2.1⟩
    · omega
    · rcases hb with z | z
      · exact a z
      · have := z.2.2; omega
  have k82 : ∀ (A1 : ASt), BgOk M p → M 22 0 < 60 → ¬ Ful M → Ext N A A1 → V X (RelN D A1 (nT N p (N 4 0 + N 3 0 + 1))) 82 [(0, rq A1 0 0), (1, J p)] [] [] := by
    intro A1 hb h60 hF hx
    have er : r_begin M p = (M 22 0, bgn M p) := by
      unfold r_begin
      rw [pick_f (eb hb h60), pick_f hF]
    have oo : ∀ f : Nat, f ≠ 51 → f ≠ 37 → fTg f ≠ 11 → f ≠ 39 → f ≠ 40 → ∀ i, nT N p (N 4 0 + N 3 0 + 1) f i = N f i := fun f a1 a2 a3 a4 a5 i => nT_o a1 (fun z => a2 z.1) (Or.inl a3) (Or.inl a4) (Or.inl a5)
    have n1 : nT N p (N 4 0 + N 3 0 + 1) 8 0 = N 51 0 := by rw [oo _ (by decide) (by decide) (by decide) (by decide) (by decide), e8]
    have n2 : nT N p (N 4 0 + N 3 0 + 1) 51 0 = N 51 0 + 1 := if_pos ⟨rfl, rfl⟩
    have n3 : nT N p (N 4 0 + N 3 0 + 1) 3 0 = N 3 0 := oo _ (by decide) (by decide) (by decide) (by decide) (by decide) 0
    have n4 : nT N p (N 4 0 + N 3 0 + 1) 4 0 = N 4 0 := oo _ (by decide) (by decide) (by decide) (by decide) (by decide) 0
    have n5 : nT N p (N 4 0 + N 3 0 + 1) 50 0 = N 50 0 := oo _ (by decide) (by decide) (by decide) (by decide) (by decide) 0
    have n6 : nT N p (N 4 0 + N 3 0 + 1) 52 0 = N 52 0 := oo _ (by decide) (by decide) (by decide) (by decide) (by decide) 0
    have n7 : nT N p (N 4 0 + N 3 0 + 1) 7 0 = N 7 0 := oo _ (by decide) (by decide) (by decide) (by decide) (by decide) 0
    have hne := ntN_e (N := nT N p (N 4 0 + N 3 0 + 1)) (kd := 1) (t := N 51 0) (k := 0) (by rw [n3, n5]; exact hn.2.2.2.2)
    have m1 : ∀ f, f ≠ 3 → f ≠ 50 → ¬ (20 ≤ f ∧ f ≤ 30) → ntN (nT N p (N 4 0 + N 3 0 + 1)) 1 (N 51 0) 0 f 0 = nT N p (N 4 0 + N 3 0 + 1) f 0 := fun f a b c => ntN_o a b (fun z => c ⟨z.1, z.2.1⟩)
    have hgr : 0 ≤ N 3 0 ∧ N 3 0 ≤ 300 := hn.1
    have g1 : up (ntN (nT N p (N 4 0 + N 3 0 + 1)) 1 (N 51 0) 0) 23 (N 3 0) p 8 0 = N 8 0 := by
      rw [up_ne (by simp), m1 _ (by decide) (by decide) (by decide), n1, e8]
    have g2 : up (up (ntN (nT N p (N 4 0 + N 3 0 + 1)) 1 (N 51 0) 0) 23 (N 3 0) p) 8 0 (N 8 0 + 1) 7 0 = N 7 0 := by
      rw [up_ne (by simp), up_ne (by simp), m1 _ (by decide) (by decide) (by decide), n7]
    have g3 : up (up (up (ntN (nT N p (N 4 0 + N 3 0 + 1)) 1 (N 51 0) 0) 23 (N 3 0) p) 8 0 (N 8 0 + 1)) 7 0 (N 7 0 + 1) 8 0 = N 8 0 + 1 := by
      rw [up_ne (by simp), up_same]
    have hlv := hn.2.2.1
    refine v_aload_nq (i := 0) o.ok d_S_begin_82 rfl rfl ?_
    refine n_getK o 1 (by decide) ls_S_256 d_S_begin_83 ?_
    refine v_aload_nq (i := 0) o.ok d_S_begin_86 rfl rfl ?_
    refine n_s5 o lf_S_30 d_S_begin_87 ?_
    refine v_aload_nq (i := 0) o.ok d_S_begin_90 rfl rfl ?_
    refine n_geti o 8 rfl rfl rfl lf_S_50 (by first | rfl | exact ⟨by omega, by omega⟩) d_S_begin_91 (fun i91 => ?_)
    rw [n1] at i91 ⊢
    refine n_aT o (by first | omega | (rw [n2]; omega)) (by first | omega | (rw [n2]; omega)) d_S_begin_94 ?_
    refine v_iconst o.ok d_S_begin_95 ?_
    refine n_cV o 1 (tg := 0) rfl (by decide) (by decide) (by first | rfl | exact ⟨by omega, by omega⟩) (c_S_note D A1 1 (N 51 0) 0 (nT N p (N 4 0 + N 3 0 + 1)) (by decide) ⟨by omega, by rw [n2]; omega⟩ (by decide) (by rw [n3]; exact hn.1) (by rw [n3, n5]; exact hn.2.2.2.2) (by rw [n4]; exact hn.2.2.2.1)) q_S_note lm_S_124 d_S_begin_96 (by decide) rfl (by first | exact Nat.le_of_ble_eq_true rfl | (simp only [List.map_cons, List.map_nil, cat_rf, J_cat, List.sum_cons, List.sum_nil, cat_lg, cat_rr]; decide)) rfl (n_x (fun x96 A96 N96 h96 => ?_))
    obtain ⟨hx2, rfl, rfl⟩ := h96
    (try simp only [rq])
    rw [← hx2.fo (tg := 0) (v := 0) (by decide), n3]
    refine v_astore_nq (i := 3) (L' := [(0, _), (1, _), (3, _)]) (G' := []) o.ok d_S_begin_99 rfl (o.lt (by decide)) rfl rfl ?_
    refine v_aload_nq (i := 3) o.ok d_S_begin_100 rfl rfl ?_
    refine v_iload_n (i := 1) o.ok d_S_begin_101 rfl rfl ?_
    refine n_puti o 23 rfl rfl rfl rfl lf_S_154 (by first | rfl | exact ⟨by omega, by omega⟩) (by exact hp) d_S_begin_102 ?_
    refine v_aload_nq (i := 0) o.ok d_S_begin_105 rfl rfl ?_
    refine v_dup o.ok d_S_begin_106 (cat_rf _) ?_
    refine n_geti o 8 rfl rfl rfl lf_S_50 (by first | rfl | exact ⟨by omega, by omega⟩) d_S_begin_107 (fun i107 => ?_)
    rw [g1] at i107 ⊢
    refine v_iconst o.ok d_S_begin_110 ?_
    refine v_iadd o.ok d_S_begin_111 ?_
    refine n_puti o 8 rfl rfl rfl rfl lf_S_50 (by first | rfl | exact ⟨by omega, by omega⟩) (by omega) d_S_begin_112 ?_
    refine v_aload_nq (i := 0) o.ok d_S_begin_115 rfl rfl ?_
    refine v_dup o.ok d_S_begin_116 (cat_rf _) ?_
    refine n_geti o 7 rfl rfl rfl lf_S_109 (by first | rfl | exact ⟨by omega, by omega⟩) d_S_begin_117 (fun i117 => ?_)
    rw [g2] at i117 ⊢
    refine v_iconst o.ok d_S_begin_120 ?_
    refine v_iadd o.ok d_S_begin_121 ?_
    refine n_puti o 7 rfl rfl rfl rfl lf_S_109 (by first | rfl | exact ⟨by omega, by omega⟩) (by omega) d_S_begin_122 ?_
    refine v_aload_nq (i := 0) o.ok d_S_begin_125 rfl rfl ?_
    refine n_geti o 8 rfl rfl rfl lf_S_50 (by first | rfl | exact ⟨by omega, by omega⟩) d_S_begin_126 (fun i126 => ?_)
    rw [g3] at i126 ⊢
    refine v_iconst o.ok d_S_begin_129 ?_
    refine v_isub o.ok d_S_begin_130 ?_
    refine n_iret o d_S_begin_131 ⟨by rw [er]; show J _ = J _; congr 1; omega, ⟨hx.tr hx2 (by omega) (by omega), by show N 50 0 ≤ bgN N p 50 0; unfold bgN; rw [up_ne (by simp), up_ne (by simp), up_ne (by simp)]; omega, by show N 51 0 ≤ bgN N p 51 0; unfold bgN; rw [up_ne (by simp), up_ne (by simp), up_ne (by simp), m1 _ (by decide) (by decide) (by decide)]; omega, by show bgN N p 52 0 = _; unfold bgN; rw [up_ne (by simp), up_ne (by simp), up_ne (by simp), m1 _ (by decide) (by decide) (by decide)]; exact n6⟩, by rw [er]; exact Sim_bgn h hw hz hb⟩
  have k55 : BgOk M p → M 22 0 < 60 → ¬ Ful M → V X (RelN D A N) 55 [(0, rq A 0 0), (1, J p), (2, rq A 11 p)] [] [] := by
    intro hb h60 hF0
    refine v_aload_nq (i := 0) o.ok d_S_begin_55 rfl rfl ?_
    refine n_s5 o lf_S_30 d_S_begin_56 ?_
    refine v_aload_nq (i := 0) o.ok d_S_begin_59 rfl rfl ?_
    refine n_geti o 8 rfl rfl rfl lf_S_50 (by rfl) d_S_begin_60 (fun i60 => ?_)
    rw [e8] at i60 ⊢
    refine n_in fun g hF => ?_
    have hC := hF.2.2.2.2.2.1
    have h0 := hF.2.2.1 0 0 (by decide) rfl
    have h0a : gK g (A 0 0) = 1 := h0.1
    have h5 := hF.2.2.1 5 0 (by decide) rfl
    have h5a : gK g (A 5 0) = 15 := h5.1
    have h5b : gL g (A 5 0) = 60 := h5.2
    refine V.get (fun H hR => (⟨fun q g' => hF.newT (g' := g') (q := q) (bo := N 4 0 + N 3 0 + 1) hR, newT_n (bo := N 4 0 + N 3 0 + 1) hF hR, fun q hq => newT_p (q := q) (bo := N 4 0 + N 3 0 + 1) hF hR hq, fun b z => by have := (hR.2.1 b z).1; omega⟩ : (∀ (q : Int) (g' : GSt), N 51 0 < 60 → (q = -1 ∨ (0 ≤ q ∧ q < N 51 0)) → NewT D A N q (N 4 0 + N 3 0 + 1) g g' → Flat D (aup (aup A 11 (N 51 0) (gZ g)) 12 (N 51 0) (gZ g + 1)) (nT N q (N 4 0 + N 3 0 + 1)) g') ∧ NewT D A N (-1) (N 4 0 + N 3 0 + 1) g (uR (tIn D (gnw g 4 0) (gZ g) (N 51 0) (N 4 0 + N 3 0 + 1)) 15 (N 51 0) (A 5 0) (some (gZ g))) ∧ (∀ q, (0 ≤ q ∧ q < N 51 0) → NewT D A N q (N 4 0 + N 3 0 + 1) g (uR (tIp D (gnw g 4 0) (gZ g) (A 11 q) (N 51 0) (N 4 0 + N 3 0 + 1)) 15 (N 51 0) (A 5 0) (some (gZ g)))) ∧ ∀ b, gK g b ≠ 0 → b ≠ gZ g ∧ b ≠ gZ g + 1)) fun ⟨hE1, hE2, hE3, hE4⟩ => ?_
    have z0 := hE4 (A 0 0) (by omega)
    have z5 := hE4 (A 5 0) (by omega)
    have k0 : gK (gnw g 4 0) (A 0 0) = 1 := (gnw_K z0.1).trans h0a
    have m12 : gI (gnw g 4 0) 1 12 (A 0 0) = N 51 0 := (gnw_I z0.1).trans (((hF.2.2.2.2.2.2.1 8 0 (by decide) rfl).1 rfl).trans e8)
    have m7 : gI (gnw g 4 0) 1 7 (A 0 0) = N 4 0 := (gnw_I z0.1).trans ((hF.2.2.2.2.2.2.1 4 0 (by decide) rfl).1 rfl)
    have m6 : gI (gnw g 4 0) 1 6 (A 0 0) = N 3 0 := (gnw_I z0.1).trans ((hF.2.2.2.2.2.2.1 3 0 (by decide) rfl).1 rfl)
    have hzz : gZ (gnw g 4 0) = gZ g + 1 := rfl
    have hgr := hn.1
    have hgg := hn.2.2.2.1
    have hA : Ext N A (aup (aup A 11 (N 51 0) (gZ g)) 12 (N 51 0) (gZ g + 1)) := fun tg v a b c => by rw [aup_off (fun z => by have := b (Or.inr z.1); omega), aup_off (fun z => by have := b (Or.inl z.1); omega)]
    have kA : ∀ g1 : GSt, Flat D (aup (aup A 11 (N 51 0) (gZ g)) 12 (N 51 0) (gZ g + 1)) (nT N p (N 4 0 + N 3 0 + 1)) g1 → V X (RelG D g1) 82 [(0, .ref (A 0 0)), (1, J p), (2, rq A 11 p)] [] [] := by
      intro g1 hF1
      refine n_out hF1 ?_
      refine v_sel [0, 1] [] rfl rfl ?_
      have q := k82 (aup (aup A 11 (N 51 0) (gZ g)) 12 (N 51 0) (gZ g + 1)) hb h60 hF0 hA
      rw [rq_s (by omega), hA 0 0 (fun e => absurd e (by decide)) (fun e => by omega) (by decide)] at q
      exact q
    rw [rq_s (A := A) (tg := 0) (v := 0) (by omega), rq_s (A := A) (tg := 5) (v := 0) (by omega)]
    refine g_new o 4 (by decide) jc_S_28 ji_T in_T (by have := hC.2.2.2; have := hC.2.2.1; have := hC.1; omega) d_S_begin_63 ?_
    refine v_dup o.ok d_S_begin_66 rfl ?_
    refine v_aload_n (i := 0) o.ok d_S_begin_67 rfl rfl ?_
    refine g_geti o 1 12 12 rfl (by decide) (by decide) lf_S_50 k0 rfl d_S_begin_68 (fun i68 => ?_)
    rw [m12] at i68 ⊢
    refine v_aload_nq (i := 2) o.ok d_S_begin_71 rfl rfl ?_
    refine v_aload_n (i := 0) o.ok d_S_begin_72 rfl rfl ?_
    refine g_cV o 1 (by decide) k0 (c_S_lastG D (gnw g 4 0) (A 0 0) (N 4 0) (N 3 0) k0 m7 m6) q_S_last lm_S_250 d_S_begin_73 (by decide) rfl (by first | exact Nat.le_of_ble_eq_true rfl | (simp only [List.map_cons, List.map_nil, cat_rf, J_cat, List.sum_cons, List.sum_nil, cat_lg, cat_rr]; decide)) rfl (fun r g1 hh => ?_)
    obtain ⟨rfl, rfl⟩ := hh
    show V X (RelG D (gnw g 4 0)) 76 _ _ (J (N 4 0 + N 3 0) :: rq A 11 p :: J (N 51 0) :: .ref (gZ g) :: .ref (gZ g) :: J (N 51 0) :: .ref (A 5 0) :: [])
    refine v_iconst o.ok d_S_begin_76 ?_
    refine v_iadd o.ok d_S_begin_77 ?_
    have ka : gK (gnw g 4 0) (gZ g) = 4 := gnw_K0
    rcases hb with rfl | hb1
    · rw [rq_n (A := A) (tg := 11) (v := -1) (by decide)] at kA ⊢
      refine g_cI o (c_T_initN D (gnw g 4 0) (gZ g) (N 51 0) (N 4 0 + N 3 0 + 1) ka (by rw [hzz]; omega) i68 (by omega) (by have := hC.2.2.2; have := hC.2.2.1; have := hC.1; omega)) q_T_init lm_S_253 d_S_begin_78 (by decide) rfl (by first | exact Nat.le_of_ble_eq_true rfl | (simp only [List.map_cons, List.map_nil, cat_rf, J_cat, List.sum_cons, List.sum_nil, cat_lg, cat_rr]; decide)) rfl (fun r g1 hh => ?_)
      obtain ⟨rfl, rfl⟩ := hh
      show V X (RelG D (tIn D (gnw g 4 0) (gZ g) (N 51 0) (N 4 0 + N 3 0 + 1))) 81 _ _ (.ref (gZ g) :: J (N 51 0) :: .ref (A 5 0) :: [])
      refine g_aast o 15 60 (by decide) ?_ ?_ ⟨by omega, by omega⟩ ?_ d_S_begin_81 (kA _ (hE1 (-1) _ (by omega) (Or.inl rfl) hE2))
      · have := (hE2.2.2.2.1 (A 5 0) z5.1 z5.2).1
        exact this.trans h5a
      · have := (hE2.2.2.2.1 (A 5 0) z5.1 z5.2).2
        rw [show gL (tIn D (gnw g 4 0) (gZ g) (N 51 0) (N 4 0 + N 3 0 + 1)) (A 5 0) = 60 from this.trans h5b]
        rfl
      · exact hE2.2.2.2.2.2.1.1
    · have hpv : 0 ≤ p ∧ p < N 51 0 := by rw [ent]; exact hb1.1
      have h11 := hF.2.2.1 11 p (by decide) hpv
      have h11a : gK g (A 11 p) = 4 := h11.1
      have z11 := hE4 (A 11 p) (by omega)
      have hdp := (h.t.2 p hb1.1.1 hb1.1.2).1.2.2.1
      have hdd := dep_le (hd p hb1.1.1 hb1.1.2) hb1.1.1
      have ed : gI (gnw g 4 0) 4 3 (A 11 p) = N 33 p := (gnw_I z11.1).trans ((hF.2.2.2.2.2.2.1 33 p (by decide) hpv).1 rfl)
      have hE3p := hE3 p hpv
      rw [rq_s (A := A) (tg := 11) (v := p) hpv.1] at kA ⊢
      refine g_cI o (c_T_initP D (gnw g 4 0) (gZ g) (N 51 0) (N 4 0 + N 3 0 + 1) (A 11 p) ka ((gnw_K z11.1).trans h11a) (by rw [hzz]; exact z11.2) (by rw [tJ1_dep (by rw [hzz]; exact z11.2), ed, hdp]; omega) (by rw [hzz]; omega) i68 (by omega) (by have := hC.2.2.2; have := hC.2.2.1; have := hC.1; omega)) q_T_init lm_S_253 d_S_begin_78 (by decide) rfl (by first | exact Nat.le_of_ble_eq_true rfl | (simp only [List.map_cons, List.map_nil, cat_rf, J_cat, List.sum_cons, List.sum_nil, cat_lg, cat_rr]; decide)) rfl (fun r g1 hh => ?_)
      obtain ⟨rfl, rfl⟩ := hh
      show V X (RelG D (tIp D (gnw g 4 0) (gZ g) (A 11 p) (N 51 0) (N 4 0 + N 3 0 + 1))) 81 _ _ (.ref (gZ g) :: J (N 51 0) :: .ref (A 5 0) :: [])
      refine g_aast o 15 60 (by decide) ?_ ?_ ⟨by omega, by omega⟩ ?_ d_S_begin_81 (kA _ (hE1 p _ (by omega) (Or.inr hpv) hE3p))
      · have := (hE3p.2.2.2.1 (A 5 0) z5.1 z5.2).1
        exact this.trans h5a
      · have := (hE3p.2.2.2.1 (A 5 0) z5.1 z5.2).2
        rw [show gL (tIp D (gnw g 4 0) (gZ g) (A 11 p) (N 51 0) (N 4 0 + N 3 0 + 1)) (A 5 0) = 60 from this.trans h5b]
        rfl
      · exact hE3p.2.2.2.2.2.1.1
  have k33 : BgOk M p → V X (RelN D A N) 33 [(0, rq A 0 0), (1, J p), (2, rq A 11 p)] [] [] := by
    intro hb
    have hful := h.ful
    refine v_aload_nq (i := 0) o.ok d_S_begin_33 rfl rfl ?_
    refine n_geti o 8 rfl rfl rfl lf_S_50 (by first | rfl | assumption | exact And.intro (by omega) (by omega)) d_S_begin_34 (fun i34 => ?_)
    rw [enm] at i34 ⊢
    refine v_bipush o.ok d_S_begin_37 rfl ?_
    refine v_icmp_lt o.ok (by omega) (by omega) d_S_begin_39 (fun c39 => ?_) (fun c39 => ?_)
    · refine v_aload_nq (i := 0) o.ok d_S_begin_44 rfl rfl ?_
      refine v_iconst o.ok d_S_begin_45 ?_
      refine n_cV o 1 (tg := 0) rfl (by decide) (by decide) (by first | rfl | assumption | exact And.intro (by omega) (by omega)) (c_S_lacks D A 2 N hn.1 hn.2.1 hn.2.2.1 (by omega)) q_S_lacks lm_S_112 d_S_begin_46 (by decide) rfl (by first | exact Nat.le_of_ble_eq_true rfl | (simp only [List.map_cons, List.map_nil, cat_rf, J_cat, List.sum_cons, List.sum_nil, cat_lg, cat_rr]; decide)) rfl (n_f ?_)
      first | refine v_ifeq_b o.ok d_S_begin_49 (fun c49 => ?_) (fun c49 => ?_) | refine v_if_eq o.ok (by omega) d_S_begin_49 (fun c49 => ?_) (fun c49 => ?_)
      · exact k55 hb (by omega) (fun z => by have := hful.mpr z; contradiction)
      · refine v_bipush o.ok d_S_begin_52 rfl ?_
        refine n_iret o d_S_begin_54 ⟨by unfold r_begin; rw [pick_f (eb hb (by omega)), pick_t (hful.mp (by assumption))], Fwd.rf N A, by unfold r_begin; rw [pick_f (eb hb (by omega)), pick_t (hful.mp (by assumption))]; exact h⟩
    · refine v_iconst o.ok d_S_begin_42 ?_
      refine n_iret o d_S_begin_43 ⟨by unfold r_begin; rw [pick_t (Or.inr (Or.inl (by omega)))], Fwd.rf N A, by unfold r_begin; rw [pick_t (Or.inr (Or.inl (by omega)))]; exact h⟩
  by_cases hm1 : p = -1
  · subst hm1
    refine v_aload_nq (i := 0) o.ok d_S_begin_0 rfl rfl ?_
    refine v_iload_n (i := 1) o.ok d_S_begin_1 rfl rfl ?_
    refine n_cV o 1 (tg := 0) rfl (by decide) (by decide) (by first | rfl | assumption | exact And.intro (by omega) (by omega)) (c_S_findN D A (-1) N M h.t hw.par (fun z => by have := z.1; omega) (by decide)) q_S_find lm_S_240 d_S_begin_2 (by decide) rfl (by first | exact Nat.le_of_ble_eq_true rfl | (simp only [List.map_cons, List.map_nil, cat_rf, J_cat, List.sum_cons, List.sum_nil, cat_lg, cat_rr]; decide)) rfl (n_f ?_)
    refine v_astore_nq (i := 2) (L' := [(0, _), (1, _), (2, _)]) (G' := []) o.ok d_S_begin_5 rfl (o.lt (by decide)) rfl rfl ?_
    refine v_iload_n (i := 1) o.ok d_S_begin_6 rfl rfl ?_
    refine v_iconst o.ok d_S_begin_7 ?_
    refine v_icmp_eq o.ok (by omega) (by omega) d_S_begin_8 (fun c8 => ?_) (fun c8 => ?_)
    · exact k33 (Or.inl rfl)
    · exact absurd rfl c8
  · by_cases hin : inM M p
    · have q := h.t.2 p hin.1 hin.2
      have eS := q.1.2.2.2.2
      have eD := q.1.2.2.1
      have hst := hs p hin.1 hin.2
      have hvt : 0 ≤ p ∧ p < N 51 0 := (by rw [ent]; exact hin)
      have hvs : Vld N 20 (N 35 p) := (by rw [eS]; exact hst)
      have hdd := dep_le (hd p hin.1 hin.2) hin.1
      refine v_aload_nq (i := 0) o.ok d_S_begin_0 rfl rfl ?_
      refine v_iload_n (i := 1) o.ok d_S_begin_1 rfl rfl ?_
      refine n_cV o 1 (tg := 0) rfl (by decide) (by decide) (by first | rfl | exact hvs | exact hvt) (c_S_findI D A p N M h.t hw.par hin) q_S_find lm_S_240 d_S_begin_2 (by decide) rfl (by first | exact Nat.le_of_ble_eq_true rfl | (simp only [List.map_cons, List.map_nil, cat_rf, J_cat, List.sum_cons, List.sum_nil, cat_lg, cat_rr]; decide)) rfl (n_f ?_)
      refine v_astore_nq (i := 2) (L' := [(0, _), (1, _), (2, _)]) (G' := []) o.ok d_S_begin_5 rfl (o.lt (by decide)) rfl rfl ?_
      refine v_iload_n (i := 1) o.ok d_S_begin_6 rfl rfl ?_
      refine v_iconst o.ok d_S_begin_7 ?_
      refine v_icmp_eq o.ok (by omega) (by omega) d_S_begin_8 (fun c8 => ?_) (fun c8 => ?_)
      · exact absurd c8 hm1
      · refine v_aload_nq (i := 2) o.ok d_S_begin_11 rfl rfl ?_
        refine n_ifnull o.ok d_S_begin_12 (fun c12 => ?_) (fun c12 => ?_)
        · exfalso; have := hin.1; omega
        · refine v_aload_nq (i := 2) o.ok d_S_begin_15 rfl rfl ?_
          refine n_getr o 35 20 rfl rfl rfl (by decide) lf_S_182 (by first | rfl | exact hvs | exact hvt) d_S_begin_16 (fun r16 => ?_)
          refine n_getQ o 1 (by decide) ls_S_244 d_S_begin_19 ?_
          refine n_injQ o (fun j22 => ?_)
          refine n_acmp_ne o.ok j22 (by first | exact Or.inr hvs | exact Or.inr (show (1 : Int) ≤ _ ∧ _ < (5 : Int) by decide)) (by first | exact Or.inr hvs | exact Or.inr (show (1 : Int) ≤ _ ∧ _ < (5 : Int) by decide)) d_S_begin_22 (fun c22 => ?_) (fun c22 => ?_)
          · refine v_iconst o.ok d_S_begin_42 ?_
            refine n_iret o d_S_begin_43 ?_
            have er : r_begin M p = (-1, M) := (by
            unfold r_begin
            rw [pick_t]
            first
              | exact Or.inr (Or.inr ⟨hm1, by omega⟩)
              | exact Or.inl ⟨hm1, fun z => absurd (show N 35 p = 1 by rw [eS]; exact z.2) (by assumption)⟩)
            rw [er]
            exact ⟨rfl, Fwd.rf N A, h⟩
          · refine v_aload_nq (i := 2) o.ok d_S_begin_25 rfl rfl ?_
            refine n_geti o 33 rfl rfl rfl lf_S_247 (by first | rfl | exact hvs | exact hvt) d_S_begin_26 (fun i26 => ?_)
            rw [eD] at i26 ⊢
            refine v_iconst o.ok d_S_begin_29 ?_
            refine v_icmp_ge o.ok (by omega) (by omega) d_S_begin_30 (fun c30 => ?_) (fun c30 => ?_)
            · refine v_iconst o.ok d_S_begin_42 ?_
              refine n_iret o d_S_begin_43 ?_
              have er : r_begin M p = (-1, M) := (by
              unfold r_begin
              rw [pick_t]
              first
                | exact Or.inr (Or.inr ⟨hm1, by omega⟩)
                | exact Or.inl ⟨hm1, fun z => absurd (show N 35 p = 1 by rw [eS]; exact z.2) (by assumption)⟩)
              rw [er]
              exact ⟨rfl, Fwd.rf N A, h⟩
            · exact k33 (Or.inr ⟨hin, by rw [← eS]; assumption, by omega⟩)
    · have er : r_begin M p = (-1, M) := (by unfold r_begin; rw [pick_t]; exact Or.inl ⟨hm1, fun z => hin z.1⟩)
      refine v_aload_nq (i := 0) o.ok d_S_begin_0 rfl rfl ?_
      refine v_iload_n (i := 1) o.ok d_S_begin_1 rfl rfl ?_
      refine n_cV o 1 (tg := 0) rfl (by decide) (by decide) (by first | rfl | assumption | exact And.intro (by omega) (by omega)) (c_S_findN D A p N M h.t hw.par hin hp) q_S_find lm_S_240 d_S_begin_2 (by decide) rfl (by first | exact Nat.le_of_ble_eq_true rfl | (simp only [List.map_cons, List.map_nil, cat_rf, J_cat, List.sum_cons, List.sum_nil, cat_lg, cat_rr]; decide)) rfl (n_f ?_)
      refine v_astore_nq (i := 2) (L' := [(0, _), (1, _), (2, _)]) (G' := []) o.ok d_S_begin_5 rfl (o.lt (by decide)) rfl rfl ?_
      refine v_iload_n (i := 1) o.ok d_S_begin_6 rfl rfl ?_
      refine v_iconst o.ok d_S_begin_7 ?_
      refine v_icmp_eq o.ok (by omega) (by omega) d_S_begin_8 (fun c8 => ?_) (fun c8 => ?_)
      · exact absurd c8 hm1
      · refine v_aload_nq (i := 2) o.ok d_S_begin_11 rfl rfl ?_
        refine n_ifnull o.ok d_S_begin_12 (fun c12 => ?_) (fun c12 => ?_)
        · refine v_iconst o.ok d_S_begin_42 ?_
          refine n_iret o d_S_begin_43 (by rw [er]; exact ⟨rfl, Fwd.rf N A, h⟩)
        · exfalso; omega

