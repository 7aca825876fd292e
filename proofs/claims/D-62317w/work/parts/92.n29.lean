/-! after a crash -/
/-- the same but for pages and what is undone -/
def EqU (N N1 : MSt) : Prop := ∀ f i, npF f = false → f ≠ 29 → N1 f i = N f i
theorem EqU.rf (N : MSt) : EqU N N := fun _ _ _ _ => rfl
theorem EqU.tr {N N1 N2 : MSt} (h : EqU N N1) (h1 : EqU N1 N2) : EqU N N2 := fun f i a b => (h1 f i a b).trans (h f i a b)
theorem EqU.un {N N1 : MSt} (h : EqU N N1) (r z : Int) : EqU N (up N1 29 r z) := fun f i a b => (up_ne (fun q => b q.1)).trans (h f i a b)
theorem EqU.pg {N N1 N2 : MSt} (h : EqU N N1) (h1 : ∀ f i, npF f = false → N2 f i = N1 f i) : EqU N N2 := fun f i a b => (h1 f i a).trans (h f i a b)
set_option maxHeartbeats 4000000 in
set_option maxRecDepth 20000 in
theorem c_S_redo (D : GD) (A : ASt) (b c : Int) (N K : MSt) (h : RdS N K) (hI : Inv b c K) (hb : b ≤ 300) (hba : K 11 0 ≤ 1000000) : NU D y_S_redo (wsOf y_S_redo b_S_redo 4 none) (4) [rq A 0 (0)] A N (fun A1 N1 => A1 = A ∧ EqU N N1 ∧ RdS N1 (rdN K (K 12 0).toNat) ∧ FlA2 N1 (rdN K (K 12 0).toNat)) := by
  refine NCon.of (by decide) (by simp [cat_rf, J_cat]) (Nat.le_of_ble_eq_true rfl) ?_
  intro X g0 o
  show V X (RelN D A N) 0 [(0, rq A 0 (0))] [] []
  have hrc := hI.recs
  have hb0 := hI.2.2.1.2.1
  have hnr : N 3 0 = K 12 0 := h.1.2.1.1.2.1
  have hne := h.1.2.1.1.2.2.2
  have ent : N 51 0 = K 22 0 := h.1.2.2.2.1.1.2
  have lp : ∀ (n i : Nat) (N' : MSt), i + n = (K 12 0).toNat → EqU N N' → RdS N' (rdN K i) → UnI N' (rdN K i) i → V X (RelN D A N') 2 [(0, rq A 0 0), (1, J (i : Int))] [] [] := by
    intro n
    induction n with
    | zero =>
      intro i N' hi he hR hU
      have e3 : N' 3 0 = K 12 0 := (he _ _ rfl (by decide)).trans hnr
      have ei : i = (K 12 0).toNat := by omega
      refine v_iload_n (i := 1) o.ok d_S_redo_2 rfl rfl ?_
      refine v_aload_nq (i := 0) o.ok d_S_redo_3 rfl rfl ?_
      refine n_geti o 3 rfl rfl rfl lf_S_95 (by first | rfl | assumption | exact And.intro (by omega) (by omega)) d_S_redo_4 (fun i4 => ?_)
      rw [e3] at i4 ⊢
      refine v_icmp_ge o.ok (by omega) (by omega) d_S_redo_7 (fun c7 => ?_) (fun c7 => ?_)
      · refine n_vret o d_S_redo_111 ⟨rfl, he, by rw [← ei]; exact hR, by rw [← ei]; refine UnI.fin ?_; rw [rdN_o rfl, show K 12 0 = (i : Int) from by omega]; exact hU⟩
      · exfalso; omega
    | succ n ih =>
      intro i N' hi he hR hU
      have e3 : N' 3 0 = K 12 0 := (he _ _ rfl (by decide)).trans hnr
      have hir : (i : Int) < K 12 0 := by omega
      have hi0 : (0 : Int) ≤ i := by omega
      have kc : ∀ f, pgF f = false → ∀ j, rdN K i f j = K f j := fun f e j => congrFun (rdN_o e i) j
      have hE := hR.1.2.1.2 (i : Int) hi0 (by rw [kc _ rfl]; exact hir)
      obtain ⟨⟨en1, en2, en3, en4⟩, ⟨en5, en6, en7⟩, en8, en9, en10, en11, en12, en13, en14⟩ := hE
      rw [kc _ rfl] at en2
      rw [kc _ rfl] at en4
      rw [kc _ rfl] at en1
      have hne' : N' 50 0 = N 50 0 := he _ _ rfl (by decide)
      have hv10 : 0 ≤ (i : Int) ∧ (i : Int) < N' 50 0 := ⟨hi0, by omega⟩
      have hkd : 1 ≤ K 14 (i : Int) ∧ K 14 (i : Int) ≤ 5 := by rw [← kc 14 rfl]; exact en13
      have hvk : Vld N' 21 (N' 21 i) := by rw [en2]; exact ⟨hkd.1, by omega⟩
      have rs : rdN K (i + 1) = rdo (rdN K i) i := rfl
      have k63 : ∀ (N1 : MSt), EqU N N1 → RdS N1 (rdN K i) → UnI N1 (rdN K i) ((i : Int) + 1) → (K 14 (i : Int) = 2 ∨ K 14 (i : Int) = 3) → V X (RelN D A N1) 63 [(0, rq A 0 0), (1, J (i : Int)), (2, rq A 10 (i : Int))] [] [] := by
        intro N1 he1 hR1 hU1 hk23
        have hab : 0 ≤ K 16 (i : Int) ∧ K 16 (i : Int) ≤ 31 := (hI.2.2.1.2.2.1 i hi0 hir).2 hk23
        have hp8 : 0 ≤ K 16 (i : Int) / 4 ∧ K 16 (i : Int) / 4 < 8 := by omega
        have hR2 := hR1.xtch hp8
        have n2 : ∀ f j, npF f = false → tN N1 (K 16 (i : Int) / 4) f j = N1 f j := fun f j e => tN_o e
        have q2 : ∀ f j, npF f = false → f ≠ 29 → tN N1 (K 16 (i : Int) / 4) f j = N' f j := fun f j e e2 => (n2 f j e).trans ((he1 f j e e2).trans (he f j e e2).symm)
        have ek1 : N1 23 i = K 16 (i : Int) := (he1 _ _ rfl (by decide)).trans ((he _ _ rfl (by decide)).symm.trans en4)
        have ek2 : tN N1 (K 16 (i : Int) / 4) 23 i = K 16 (i : Int) := (q2 _ _ rfl (by decide)).trans en4
        have el2 : tN N1 (K 16 (i : Int) / 4) 20 i = K 11 0 + i + 1 := (q2 _ _ rfl (by decide)).trans en1
        have ei2 : tN N1 (K 16 (i : Int) / 4) 26 i = rdN K i 20 i := (q2 _ _ rfl (by decide)).trans en7
        have ea2 : tN N1 (K 16 (i : Int) / 4) 27 i = N' 27 i := q2 _ _ rfl (by decide)
        have hv1 : 0 ≤ (i : Int) ∧ (i : Int) < N1 50 0 := ⟨hi0, by rw [he1 _ _ rfl (by decide)]; omega⟩
        have hv2 : 0 ≤ (i : Int) ∧ (i : Int) < tN N1 (K 16 (i : Int) / 4) 50 0 := ⟨hi0, by rw [n2 _ _ rfl]; exact hv1.2⟩
        have ab' : rdN K i 16 i = K 16 (i : Int) := kc _ rfl _
        have hin : tch (rdN K i) (K 16 (i : Int) / 4) 7 (K 16 (i : Int) / 4) = 1 := tch_self (hR1.1.1.2.2.2.1 _ hp8.1 hp8.2).1
        have hpg := hR2.1.1.2.2.2.2.2 _ hp8.1 hp8.2 hin
        have hls : tN N1 (K 16 (i : Int) / 4) 16 (K 16 (i : Int) / 4) = tch (rdN K i) (K 16 (i : Int) / 4) 6 (K 16 (i : Int) / 4) := hpg.1.2.1
        have hth := hpg.1.1
        have hk23' : rdN K i 14 i = 2 ∨ rdN K i 14 i = 3 := by rw [kc _ rfl]; exact hk23
        have hb' : rdN K i 11 0 = K 11 0 := kc _ rfl _
        have hf1 : 1 ≤ rdN K i 0 0 := hR1.2.2.2.2.2.2.1
        have k105 : ∀ N3 : MSt, EqU N N3 → RdS N3 (rdN K (i + 1)) → UnI N3 (rdN K (i + 1)) ((i : Int) + 1) → V X (RelN D A N3) 2 [(0, rq A 0 0), (1, J ((i : Int) + 1))] [] [] := fun N3 a1 a2 a3 => by
          have q := ih (i + 1) N3 (by omega) a1 a2 (by rw [show ((i + 1 : Nat) : Int) = (i : Int) + 1 from by omega]; exact a3)
          rw [show ((i + 1 : Nat) : Int) = (i : Int) + 1 from by omega] at q
          exact q
        refine v_aload_nq (i := 0) o.ok d_S_redo_63 rfl rfl ?_
        refine v_aload_nq (i := 2) o.ok d_S_redo_64 rfl rfl ?_
        refine n_geti o 23 rfl rfl rfl lf_S_154 (by first | rfl | exact hv1 | exact hv2 | exact hp8) d_S_redo_65 (fun i65 => ?_)
        rw [ek1] at i65 ⊢
        refine v_iconst o.ok d_S_redo_68 ?_
        refine v_idiv o.ok d_S_redo_69 (by omega) (by omega) ?_
        refine n_cV o 1 (tg := 0) rfl (by decide) (by decide) (by first | rfl | exact hv1 | exact hv2 | exact hp8) (c_S_touch D A (K 16 (i : Int) / 4) N1 (rdN K i) hR1.1.1 hp8 hf1) q_S_touch lm_S_115 d_S_redo_70 (by decide) rfl (by first | exact Nat.le_of_ble_eq_true rfl | (simp only [List.map_cons, List.map_nil, cat_rf, J_cat, List.sum_cons, List.sum_nil, cat_lg, cat_rr]; decide)) rfl (n_f ?_)
        refine v_astore_nq (i := 3) (L' := [(0, _), (1, _), (2, _), (3, _)]) (G' := []) o.ok d_S_redo_73 rfl (o.lt (by decide)) rfl rfl ?_
        refine v_aload_nq (i := 3) o.ok d_S_redo_74 rfl rfl ?_
        refine n_geti o 16 rfl rfl rfl lf_S_78 (by first | rfl | exact hv1 | exact hv2 | exact hp8) d_S_redo_75 (fun i75 => ?_)
        refine v_aload_nq (i := 2) o.ok d_S_redo_78 rfl rfl ?_
        refine n_geti o 20 rfl rfl rfl lf_S_150 (by first | rfl | exact hv1 | exact hv2 | exact hp8) d_S_redo_79 (fun i79 => ?_)
        rw [hls] at i75 ⊢
        rw [el2] at i79 ⊢
        refine v_icmp_ge o.ok (by omega) (by omega) d_S_redo_82 (fun c82 => ?_) (fun c82 => ?_)
        · refine v_iinc (i := 1) (L' := [(0, _), (1, _), (2, _), (3, _)]) (G' := []) o.ok d_S_redo_105 rfl (o.lt (by decide)) rfl rfl ?_
          refine v_goto o.ok d_S_redo_108 ?_
          refine v_sel [0, 1] [] rfl rfl ?_
          first
            | (have ec : tch (rdN K i) (rdN K i 16 i / 4) 6 (rdN K i 16 i / 4) < rdN K i 11 0 + i + 1 := (by rw [ab', hb']; assumption)
               have er : rdN K (i + 1) = bcm (tch (rdN K i) (K 16 (i : Int) / 4)) (K 16 (i : Int)) (rdN K i 20 i) (rdN K i 21 i) (K 11 0 + i + 1) := (by rw [rs, rdo_y hk23' ec, ab', hb'])
               refine k105 _ (he1.pg (fun f j e => (pst_o e).trans (n2 f j e))) (by rw [er]; exact hR2.set hab hin en12 (fun z => by rw [en8, if_pos z])) ?_
               exact hU1.c (funext fun j => (pst_o rfl).trans (n2 _ j rfl)) (by rw [rdN_o rfl, rdN_o rfl]) (by rw [rdN_o rfl, rdN_o rfl]) (by rw [rdN_o rfl, rdN_o rfl]))
            | (have ec : ¬ tch (rdN K i) (rdN K i 16 i / 4) 6 (rdN K i 16 i / 4) < rdN K i 11 0 + i + 1 := (by rw [ab', hb']; omega)
               have er : rdN K (i + 1) = tch (rdN K i) (K 16 (i : Int) / 4) := (by rw [rs, rdo_t hk23' ec, ab'])
               refine k105 _ (he1.pg (fun f j e => n2 f j e)) (by rw [er]; exact hR2) ?_
               exact hU1.c (funext fun j => n2 _ j rfl) (by rw [rdN_o rfl, rdN_o rfl]) (by rw [rdN_o rfl, rdN_o rfl]) (by rw [rdN_o rfl, rdN_o rfl]))
        · refine v_aload_nq (i := 3) o.ok d_S_redo_85 rfl rfl ?_
          refine v_aload_nq (i := 2) o.ok d_S_redo_86 rfl rfl ?_
          refine n_geti o 23 rfl rfl rfl lf_S_154 (by first | rfl | exact hv1 | exact hv2 | exact hp8) d_S_redo_87 (fun i87 => ?_)
          rw [ek2] at i87 ⊢
          refine v_aload_nq (i := 2) o.ok d_S_redo_90 rfl rfl ?_
          refine n_getz o 26 rfl rfl rfl lf_S_137 (by first | rfl | exact hv1 | exact hv2 | exact hp8) d_S_redo_91 (fun i91 => ?_)
          rw [ei2] at i91 ⊢
          refine v_aload_nq (i := 2) o.ok d_S_redo_94 rfl rfl ?_
          refine n_geti o 27 rfl rfl rfl lf_S_140 (by first | rfl | exact hv1 | exact hv2 | exact hp8) d_S_redo_95 (fun i95 => ?_)
          rw [ea2] at i95 ⊢
          refine v_aload_nq (i := 2) o.ok d_S_redo_98 rfl rfl ?_
          refine n_geti o 20 rfl rfl rfl lf_S_150 (by first | rfl | exact hv1 | exact hv2 | exact hp8) d_S_redo_99 (fun i99 => ?_)
          rw [el2] at i99 ⊢
          refine n_cV o 2 (tg := 8) rfl (by decide) (by decide) (by first | rfl | exact hv1 | exact hv2 | exact hp8) (c_P_set D A (K 16 (i : Int) / 4) (K 16 (i : Int)) (rdN K i 20 i) (N' 27 i) (K 11 0 + i + 1) (tN N1 (K 16 (i : Int) / 4)) hp8 hab en12 i95 i99 hth) q_P_set lm_S_151 d_S_redo_102 (by decide) rfl (by first | exact Nat.le_of_ble_eq_true rfl | (simp only [List.map_cons, List.map_nil, cat_rf, J_cat, List.sum_cons, List.sum_nil, cat_lg, cat_rr]; decide)) rfl (n_e ?_)
          refine v_iinc (i := 1) (L' := [(0, _), (1, _), (2, _), (3, _)]) (G' := []) o.ok d_S_redo_105 rfl (o.lt (by decide)) rfl rfl ?_
          refine v_goto o.ok d_S_redo_108 ?_
          refine v_sel [0, 1] [] rfl rfl ?_
          first
            | (have ec : tch (rdN K i) (rdN K i 16 i / 4) 6 (rdN K i 16 i / 4) < rdN K i 11 0 + i + 1 := (by rw [ab', hb']; assumption)
               have er : rdN K (i + 1) = bcm (tch (rdN K i) (K 16 (i : Int) / 4)) (K 16 (i : Int)) (rdN K i 20 i) (rdN K i 21 i) (K 11 0 + i + 1) := (by rw [rs, rdo_y hk23' ec, ab', hb'])
               refine k105 _ (he1.pg (fun f j e => (pst_o e).trans (n2 f j e))) (by rw [er]; exact hR2.set hab hin en12 (fun z => by rw [en8, if_pos z])) ?_
               exact hU1.c (funext fun j => (pst_o rfl).trans (n2 _ j rfl)) (by rw [rdN_o rfl, rdN_o rfl]) (by rw [rdN_o rfl, rdN_o rfl]) (by rw [rdN_o rfl, rdN_o rfl]))
            | (have ec : ¬ tch (rdN K i) (rdN K i 16 i / 4) 6 (rdN K i 16 i / 4) < rdN K i 11 0 + i + 1 := (by rw [ab', hb']; omega)
               have er : rdN K (i + 1) = tch (rdN K i) (K 16 (i : Int) / 4) := (by rw [rs, rdo_t hk23' ec, ab'])
               refine k105 _ (he1.pg (fun f j e => n2 f j e)) (by rw [er]; exact hR2) ?_
               exact hU1.c (funext fun j => n2 _ j rfl) (by rw [rdN_o rfl, rdN_o rfl]) (by rw [rdN_o rfl, rdN_o rfl]) (by rw [rdN_o rfl, rdN_o rfl]))
      have u1 : ∀ f, f ≠ 29 → ∀ j, up N' 29 (i : Int) 0 f j = N' f j := fun f e j => up_ne (fun q => e q.1)
      have hv1 : 0 ≤ (i : Int) ∧ (i : Int) < up N' 29 (i : Int) 0 50 0 := by rw [u1 _ (by decide)]; exact hv10
      have hk1 : up N' 29 (i : Int) 0 21 i = K 14 (i : Int) := by rw [u1 _ (by decide)]; exact en2
      have hvk1 : Vld (up N' 29 (i : Int) 0) 21 (up N' 29 (i : Int) 0 21 i) := by rw [hk1]; exact ⟨hkd.1, by omega⟩
      have hc3 : ∀ j : Int, 1 ≤ j → j < 6 → Rok (up N' 29 (i : Int) 0) 21 j := fun j a b => Or.inr ⟨a, b⟩
      by_cases h2 : K 14 (i : Int) = 2
      · skip
        refine v_iload_n (i := 1) o.ok d_S_redo_2 rfl rfl ?_
        refine v_aload_nq (i := 0) o.ok d_S_redo_3 rfl rfl ?_
        refine n_geti o 3 rfl rfl rfl lf_S_95 (by first | rfl | exact hv10 | exact hv1) d_S_redo_4 (fun i4 => ?_)
        rw [e3] at i4 ⊢
        refine v_icmp_ge o.ok (by omega) (by omega) d_S_redo_7 (fun c7 => ?_) (fun c7 => ?_)
        · exfalso; omega
        · refine v_aload_nq (i := 0) o.ok d_S_redo_10 rfl rfl ?_
          refine n_s4 o lf_S_24 d_S_redo_11 ?_
          refine v_iload_n (i := 1) o.ok d_S_redo_14 rfl rfl ?_
          refine n_aE o (by omega) (by omega) d_S_redo_15 ?_
          refine v_astore_nq (i := 2) (L' := [(0, _), (1, _), (2, _)]) (G' := []) o.ok d_S_redo_16 rfl (o.lt (by decide)) rfl rfl ?_
          refine v_aload_nq (i := 2) o.ok d_S_redo_17 rfl rfl ?_
          refine v_iconst o.ok d_S_redo_18 ?_
          refine n_putz o 29 rfl rfl rfl rfl lf_S_163 (by first | rfl | exact hv10 | exact hv1) (by omega) d_S_redo_19 ?_
          refine v_aload_nq (i := 2) o.ok d_S_redo_22 rfl rfl ?_
          refine n_getr o 21 21 rfl rfl rfl (by decide) lf_S_315 (by first | rfl | exact hv10 | exact hv1) d_S_redo_23 (fun r23 => ?_)
          refine n_getK o 2 (by decide) ls_S_118 d_S_redo_26 ?_
          refine n_injK o (fun j29 => ?_)
          refine n_acmp_eq o.ok j29 (by first | exact Or.inr hvk1 | exact hc3 _ (by decide) (by decide)) (by first | exact Or.inr hvk1 | exact hc3 _ (by decide) (by decide)) d_S_redo_29 (fun c29 => ?_) (fun c29 => ?_)
          · refine v_aload_nq (i := 2) o.ok d_S_redo_45 rfl rfl ?_
            refine n_getr o 21 21 rfl rfl rfl (by decide) lf_S_315 (by first | rfl | exact hv10 | exact hv1) d_S_redo_46 (fun r46 => ?_)
            refine n_getK o 3 (by decide) ls_S_157 d_S_redo_49 ?_
            refine n_injK o (fun j52 => ?_)
            refine n_acmp_ne o.ok j52 (by first | exact Or.inr hvk1 | exact hc3 _ (by decide) (by decide)) (by first | exact Or.inr hvk1 | exact hc3 _ (by decide) (by decide)) d_S_redo_52 (fun c52 => ?_) (fun c52 => ?_)
            · exact k63 _ (he.un _ _) (hR.un _ _) (hU.no (by rw [kc _ rfl]; omega)) (Or.inl h2)
            · exfalso; have q : up N' 29 (i : Int) 0 21 i = 3 := (by assumption); omega
          · exact absurd (hk1.trans h2) (by assumption)
      · by_cases h3 : K 14 (i : Int) = 3
        · have hof : 0 ≤ N' 28 i ∧ N' 28 i < i ∧ K 17 (i : Int) = K 11 0 + N' 28 i + 1 := by
            rcases en10 with z | z
            · rw [kc _ rfl, kc _ rfl, kc _ rfl] at z; exact z.2
            · rw [kc _ rfl] at z; exact absurd h3 z.1
          have hvo : 0 ≤ N' 28 i ∧ N' 28 i < up N' 29 (i : Int) 0 50 0 := ⟨hof.1, by rw [u1 _ (by decide)]; omega⟩
          have eo : up N' 29 (i : Int) 0 28 i = N' 28 i := u1 _ (by decide) _
          have hun := hU.yes (o := N' 28 i) (by rw [kc _ rfl]; exact h3) (by rw [kc _ rfl, kc _ rfl]; exact hof.2.2) hof.2.1
          refine v_iload_n (i := 1) o.ok d_S_redo_2 rfl rfl ?_
          refine v_aload_nq (i := 0) o.ok d_S_redo_3 rfl rfl ?_
          refine n_geti o 3 rfl rfl rfl lf_S_95 (by first | rfl | exact hv10 | exact hv1 | exact hvo) d_S_redo_4 (fun i4 => ?_)
          rw [e3] at i4 ⊢
          refine v_icmp_ge o.ok (by omega) (by omega) d_S_redo_7 (fun c7 => ?_) (fun c7 => ?_)
          · exfalso; omega
          · refine v_aload_nq (i := 0) o.ok d_S_redo_10 rfl rfl ?_
            refine n_s4 o lf_S_24 d_S_redo_11 ?_
            refine v_iload_n (i := 1) o.ok d_S_redo_14 rfl rfl ?_
            refine n_aE o (by omega) (by omega) d_S_redo_15 ?_
            refine v_astore_nq (i := 2) (L' := [(0, _), (1, _), (2, _)]) (G' := []) o.ok d_S_redo_16 rfl (o.lt (by decide)) rfl rfl ?_
            refine v_aload_nq (i := 2) o.ok d_S_redo_17 rfl rfl ?_
            refine v_iconst o.ok d_S_redo_18 ?_
            refine n_putz o 29 rfl rfl rfl rfl lf_S_163 (by first | rfl | exact hv10 | exact hv1 | exact hvo) (by omega) d_S_redo_19 ?_
            refine v_aload_nq (i := 2) o.ok d_S_redo_22 rfl rfl ?_
            refine n_getr o 21 21 rfl rfl rfl (by decide) lf_S_315 (by first | rfl | exact hv10 | exact hv1 | exact hvo) d_S_redo_23 (fun r23 => ?_)
            refine n_getK o 2 (by decide) ls_S_118 d_S_redo_26 ?_
            refine n_injK o (fun j29 => ?_)
            refine n_acmp_eq o.ok j29 (by first | exact Or.inr hvk1 | exact hc3 _ (by decide) (by decide)) (by first | exact Or.inr hvk1 | exact hc3 _ (by decide) (by decide)) d_S_redo_29 (fun c29 => ?_) (fun c29 => ?_)
            · exfalso; have q : up N' 29 (i : Int) 0 21 i = 2 := (by assumption); omega
            · refine v_aload_nq (i := 2) o.ok d_S_redo_32 rfl rfl ?_
              refine n_getr o 21 21 rfl rfl rfl (by decide) lf_S_315 (by first | rfl | exact hv10 | exact hv1 | exact hvo) d_S_redo_33 (fun r33 => ?_)
              refine n_getK o 3 (by decide) ls_S_157 d_S_redo_36 ?_
              refine n_injK o (fun j39 => ?_)
              refine n_acmp_eq o.ok j39 (by first | exact Or.inr hvk1 | exact hc3 _ (by decide) (by decide)) (by first | exact Or.inr hvk1 | exact hc3 _ (by decide) (by decide)) d_S_redo_39 (fun c39 => ?_) (fun c39 => ?_)
              · refine v_aload_nq (i := 2) o.ok d_S_redo_45 rfl rfl ?_
                refine n_getr o 21 21 rfl rfl rfl (by decide) lf_S_315 (by first | rfl | exact hv10 | exact hv1 | exact hvo) d_S_redo_46 (fun r46 => ?_)
                refine n_getK o 3 (by decide) ls_S_157 d_S_redo_49 ?_
                refine n_injK o (fun j52 => ?_)
                refine n_acmp_ne o.ok j52 (by first | exact Or.inr hvk1 | exact hc3 _ (by decide) (by decide)) (by first | exact Or.inr hvk1 | exact hc3 _ (by decide) (by decide)) d_S_redo_52 (fun c52 => ?_) (fun c52 => ?_)
                · exact absurd (hk1.trans h3) (by assumption)
                · refine v_aload_nq (i := 2) o.ok d_S_redo_55 rfl rfl ?_
                  refine n_getr o 28 10 rfl rfl rfl (by decide) lf_S_160 (by first | rfl | exact hv10 | exact hv1 | exact hvo) d_S_redo_56 (fun r56 => ?_)
                  rw [eo] at r56 ⊢
                  refine v_iconst o.ok d_S_redo_59 ?_
                  refine n_putz o 29 rfl rfl rfl rfl lf_S_163 (by first | rfl | exact hv10 | exact hv1 | exact hvo) (by omega) d_S_redo_60 ?_
                  exact k63 _ ((he.un _ _).un _ _) ((hR.un _ _).un _ _) hun (Or.inr h3)
              · exact absurd (hk1.trans h3) (by assumption)
        · skip
          refine v_iload_n (i := 1) o.ok d_S_redo_2 rfl rfl ?_
          refine v_aload_nq (i := 0) o.ok d_S_redo_3 rfl rfl ?_
          refine n_geti o 3 rfl rfl rfl lf_S_95 (by first | rfl | exact hv10 | exact hv1) d_S_redo_4 (fun i4 => ?_)
          rw [e3] at i4 ⊢
          refine v_icmp_ge o.ok (by omega) (by omega) d_S_redo_7 (fun c7 => ?_) (fun c7 => ?_)
          · exfalso; omega
          · refine v_aload_nq (i := 0) o.ok d_S_redo_10 rfl rfl ?_
            refine n_s4 o lf_S_24 d_S_redo_11 ?_
            refine v_iload_n (i := 1) o.ok d_S_redo_14 rfl rfl ?_
            refine n_aE o (by omega) (by omega) d_S_redo_15 ?_
            refine v_astore_nq (i := 2) (L' := [(0, _), (1, _), (2, _)]) (G' := []) o.ok d_S_redo_16 rfl (o.lt (by decide)) rfl rfl ?_
            refine v_aload_nq (i := 2) o.ok d_S_redo_17 rfl rfl ?_
            refine v_iconst o.ok d_S_redo_18 ?_
            refine n_putz o 29 rfl rfl rfl rfl lf_S_163 (by first | rfl | exact hv10 | exact hv1) (by omega) d_S_redo_19 ?_
            refine v_aload_nq (i := 2) o.ok d_S_redo_22 rfl rfl ?_
            refine n_getr o 21 21 rfl rfl rfl (by decide) lf_S_315 (by first | rfl | exact hv10 | exact hv1) d_S_redo_23 (fun r23 => ?_)
            refine n_getK o 2 (by decide) ls_S_118 d_S_redo_26 ?_
            refine n_injK o (fun j29 => ?_)
            refine n_acmp_eq o.ok j29 (by first | exact Or.inr hvk1 | exact hc3 _ (by decide) (by decide)) (by first | exact Or.inr hvk1 | exact hc3 _ (by decide) (by decide)) d_S_redo_29 (fun c29 => ?_) (fun c29 => ?_)
            · exfalso; have q : up N' 29 (i : Int) 0 21 i = 2 := (by assumption); omega
            · refine v_aload_nq (i := 2) o.ok d_S_redo_32 rfl rfl ?_
              refine n_getr o 21 21 rfl rfl rfl (by decide) lf_S_315 (by first | rfl | exact hv10 | exact hv1) d_S_redo_33 (fun r33 => ?_)
              refine n_getK o 3 (by decide) ls_S_157 d_S_redo_36 ?_
              refine n_injK o (fun j39 => ?_)
              refine n_acmp_eq o.ok j39 (by first | exact Or.inr hvk1 | exact hc3 _ (by decide) (by decide)) (by first | exact Or.inr hvk1 | exact hc3 _ (by decide) (by decide)) d_S_redo_39 (fun c39 => ?_) (fun c39 => ?_)
              · exfalso; have q : up N' 29 (i : Int) 0 21 i = 3 := (by assumption); omega
              · refine v_goto o.ok d_S_redo_42 ?_
                refine v_iinc (i := 1) (L' := [(0, _), (1, _), (2, _)]) (G' := []) o.ok d_S_redo_105 rfl (o.lt (by decide)) rfl rfl ?_
                refine v_goto o.ok d_S_redo_108 ?_
                refine v_sel [0, 1] [] rfl rfl ?_
                have er : rdN K (i + 1) = rdN K i := (by rw [rs]; exact rdo_n (by rw [kc _ rfl]; omega))
                have q := ih (i + 1) (up N' 29 (i : Int) 0) (by omega) (he.un _ _) (by rw [er]; exact hR.un _ _) (by rw [er, show ((i + 1 : Nat) : Int) = (i : Int) + 1 from by omega]; exact hU.no (by rw [kc _ rfl]; exact h3))
                rw [show ((i + 1 : Nat) : Int) = (i : Int) + 1 from by omega] at q
                exact q
  refine v_iconst o.ok d_S_redo_0 ?_
  refine v_istore_n (i := 1) (L' := [(0, _), (1, _)]) (G' := []) o.ok d_S_redo_1 rfl (o.lt (by decide)) rfl rfl ?_
  exact lp (K 12 0).toNat 0 N (by omega) (EqU.rf N) h (fun r a b => by omega)

