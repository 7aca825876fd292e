theorem Sim.ful {N M : MSt} (h : Sim N M) : (300 < N 3 0 + N 6 0 + N 7 0 + 2) ↔ Ful M := by
  unfold Ful
  rw [h.l.1.2.1, h.cc.1, h.cc.2.1]
theorem Sim.nums {N M : MSt} (h : Sim N M) (hw : WF M) : (0 ≤ N 3 0 ∧ N 3 0 ≤ 300) ∧ (0 ≤ N 6 0 ∧ N 6 0 ≤ 300) ∧ (0 ≤ N 7 0 ∧ N 7 0 ≤ 60) ∧ (0 ≤ N 4 0 ∧ N 4 0 ≤ 1000000) ∧ N 3 0 ≤ N 50 0 := by
  have h1 := hw.recs
  have h2 := hw.ob
  have h3 := opens_bd h1.1
  have h4 := lives_bd hw.many.1
  have h5 := hw.many
  have h6 := hw.base
  rw [h.l.1.2.1, h.cc.1, h.cc.2.1, h.l.1.1]
  exact ⟨h1, by omega, by omega, h6, h.l.1.2.2.2⟩
set_option maxHeartbeats 4000000 in
set_option maxRecDepth 20000 in
theorem c_S_updateF (D : GD) (A : ASt) (t k now v : Int) (N M : MSt) (h : Sim N M) (hw : WF M) (hf : Ful M) : NF D y_S_update (wsOf y_S_update b_S_update 7 (some .boolean)) (4) [rq A 0 (0), rq A 11 (t), J (k), J (now), J (v)] A N (J 0) (N) := by
  refine NCon.of (by decide) (by simp [cat_rf, J_cat]) (Nat.le_of_ble_eq_true rfl) ?_
  intro X g0 o
  show V X (RelN D A N) 0 [(0, rq A 0 (0)), (1, rq A 11 (t)), (2, J (k)), (3, J (now)), (4, J (v))] [] []
  have hn := h.nums hw
  refine v_aload_nq (i := 0) o.ok d_S_update_0 rfl rfl ?_
  refine v_iconst o.ok d_S_update_1 ?_
  refine n_cV o 1 (tg := 0) rfl (by decide) (by decide) (by first | rfl | assumption | exact And.intro (by omega) (by omega)) (c_S_lacks D A 2 N hn.1 hn.2.1 hn.2.2.1 (by omega)) q_S_lacks lm_S_112 d_S_update_2 (by decide) rfl (by first | exact Nat.le_of_ble_eq_true rfl | (simp only [List.map_cons, List.map_nil, cat_rf, J_cat, List.sum_cons, List.sum_nil, cat_lg, cat_rr]; decide)) rfl (n_f ?_)
  first | refine v_ifeq_b o.ok d_S_update_5 (fun c5 => ?_) (fun c5 => ?_) | refine v_if_eq o.ok (by omega) d_S_update_5 (fun c5 => ?_) (fun c5 => ?_)
  · exact absurd (h.ful.mpr hf) (by assumption)
  · refine v_iconst o.ok d_S_update_8 ?_
    refine n_zret o (by first | exact b01_or _ | omega | simp) d_S_update_9 ⟨rfl, rfl, rfl⟩
set_option maxHeartbeats 4000000 in
set_option maxRecDepth 20000 in
theorem c_S_update (D : GD) (A : ASt) (t k now v : Int) (N M : MSt) (h : Sim N M) (hw : WF M) (hf : ¬ Ful M) (hk : 0 ≤ k ∧ k ≤ 31) (hnw : now = 0 ∨ now = 1) (hv : InR v) (ht : 0 ≤ t ∧ t < M 22 0) : NX D y_S_update (wsOf y_S_update b_S_update 7 (some .boolean)) (4) [rq A 0 (0), rq A 11 (t), J (k), J (now), J (v)] A N (fun x A1 N1 => x = J 1 ∧ Ext N A A1 ∧ N1 = updN N t k now v) := by
  refine NCon.of (by decide) (by simp [cat_rf, J_cat]) (Nat.le_of_ble_eq_true rfl) ?_
  intro X g0 o
  show V X (RelN D A N) 0 [(0, rq A 0 (0)), (1, rq A 11 (t)), (2, J (k)), (3, J (now)), (4, J (v))] [] []
  have hn := h.nums hw
  have hp : 0 ≤ k / 4 ∧ k / 4 < 8 := by omega
  have hf1 := hw.frm.1
  have hP := SimP_tch h.p hp hf1
  have hin := tch_self (M := M) (p := k / 4) ((h.p.2.2.2.1 (k / 4) hp.1 hp.2).1)
  have hth := (hP.2.2.2.2.2 (k / 4) hp.1 hp.2 hin).1.1
  have er : tN N (k / 4) 3 0 = N 3 0 := tN_o rfl
  have eg : tN N (k / 4) 4 0 = N 4 0 := tN_o rfl
  have ee : tN N (k / 4) 50 0 = N 50 0 := tN_o rfl
  have et : tN N (k / 4) 51 0 = N 51 0 := tN_o rfl
  have hnt : N 51 0 = M 22 0 := h.t.1.2
  have no : ∀ (f : Nat) (i : Int), f ≠ 3 → f ≠ 50 → ¬ (20 ≤ f ∧ f ≤ 30 ∧ i = N 3 0) → ntN (tN N (k / 4)) 2 t k f i = tN N (k / 4) f i := fun f i a b c => ntN_o a b (by rw [er]; exact c)
  have hvr : 0 ≤ N 3 0 ∧ N 3 0 < ntN (tN N (k / 4)) 2 t k 50 0 := by
    have := (ntN_e (N := tN N (k / 4)) (kd := 2) (t := t) (k := k) (by omega)).2
    omega
  have hvt : 0 ≤ t ∧ t < ntN (tN N (k / 4)) 2 t k 51 0 := by
    rw [no _ _ (by decide) (by decide) (by omega), et, hnt]; exact ht
  have eT : ntN (tN N (k / 4)) 2 t k 15 (k / 4) = tN N (k / 4) 15 (k / 4) := no _ _ (by decide) (by decide) (by omega)
  have eV : ntN (tN N (k / 4)) 2 t k 18 (4 * (k / 4) + k % 4) = tN N (k / 4) 18 (4 * (k / 4) + k % 4) := no _ _ (by decide) (by decide) (by omega)
  have eL : ntN (tN N (k / 4)) 2 t k 36 t = N 36 t := (no _ _ (by decide) (by decide) (by omega)).trans (tN_o rfl)
  have eO : ntN (tN N (k / 4)) 2 t k 6 0 = N 6 0 := (no _ _ (by decide) (by decide) (by omega)).trans (tN_o rfl)
  have eN : ntN (tN N (k / 4)) 2 t k 20 (N 3 0) = N 4 0 + (N 3 0 + 1) := by
    have := (ntN_n (tN N (k / 4)) 2 t k).2.1
    rw [er, eg] at this
    exact this
  refine v_aload_nq (i := 0) o.ok d_S_update_0 rfl rfl ?_
  refine v_iconst o.ok d_S_update_1 ?_
  refine n_cV o 1 (tg := 0) rfl (by decide) (by decide) (by first | rfl | exact hvr | exact hvt | exact hp | assumption | exact And.intro (by omega) (by omega)) (c_S_lacks D A 2 N hn.1 hn.2.1 hn.2.2.1 (by omega)) q_S_lacks lm_S_112 d_S_update_2 (by decide) rfl (by first | exact Nat.le_of_ble_eq_true rfl | (simp only [List.map_cons, List.map_nil, cat_rf, J_cat, List.sum_cons, List.sum_nil, cat_lg, cat_rr]; decide)) rfl (n_f ?_)
  first | refine v_ifeq_b o.ok d_S_update_5 (fun c5 => ?_) (fun c5 => ?_) | refine v_if_eq o.ok (by omega) d_S_update_5 (fun c5 => ?_) (fun c5 => ?_)
  · refine v_aload_nq (i := 0) o.ok d_S_update_10 rfl rfl ?_
    refine v_iload_n (i := 2) o.ok d_S_update_11 rfl rfl ?_
    refine v_iconst o.ok d_S_update_12 ?_
    refine v_idiv o.ok d_S_update_13 (by omega) (by omega) ?_
    refine n_cV o 1 (tg := 0) rfl (by decide) (by decide) (by first | rfl | exact hvr | exact hvt | exact hp | assumption | exact And.intro (by omega) (by omega)) (c_S_touch D A (k / 4) N M h.p hp hf1) q_S_touch lm_S_115 d_S_update_14 (by decide) rfl (by first | exact Nat.le_of_ble_eq_true rfl | (simp only [List.map_cons, List.map_nil, cat_rf, J_cat, List.sum_cons, List.sum_nil, cat_lg, cat_rr]; decide)) rfl (n_f ?_)
    refine n_inrV (fun hv18 => ?_)
    refine v_astoreq (i := 5) (L' := [(0, _), (1, _), (2, _), (3, _), (4, _), (5, _)]) (G' := []) o.ok d_S_update_17 (o.lt (by decide)) rfl rfl ?_
    refine v_aload_nq (i := 0) o.ok d_S_update_19 rfl rfl ?_
    refine n_getK o 2 (by decide) ls_S_118 d_S_update_20 ?_
    refine v_aload_nq (i := 1) o.ok d_S_update_23 rfl rfl ?_
    refine v_iload_n (i := 2) o.ok d_S_update_24 rfl rfl ?_
    refine n_cV o 1 (tg := 0) rfl (by decide) (by decide) (by first | rfl | exact hvr | exact hvt | exact hp | assumption | exact And.intro (by omega) (by omega)) (c_S_note D A 2 t k (tN N (k / 4)) (by omega) (by omega) (by omega) (by omega) (by omega) (by omega)) q_S_note lm_S_124 d_S_update_25 (by decide) rfl (by first | exact Nat.le_of_ble_eq_true rfl | (simp only [List.map_cons, List.map_nil, cat_rf, J_cat, List.sum_cons, List.sum_nil, cat_lg, cat_rr]; decide)) rfl (n_x (fun x25 A25 N25 h25 => ?_))
    obtain ⟨hx, rfl, rfl⟩ := h25
    rw [er]
    have hx : Ext N A A25 := fun tg v a b c => hx tg v (by rw [ee]; exact a) (by rw [et]; exact b) c
    (try simp only [rq])
    rw [← hx.fo (tg := 0) (v := 0) (by decide), ← hx.fo (tg := 8) (v := k / 4) (by decide), ← hx.ft (v := t) (by omega)]
    refine v_astoreq (i := 6) (L' := [(0, _), (1, _), (2, _), (3, _), (4, _), (5, _), (6, _)]) (G' := []) o.ok d_S_update_28 (o.lt (by decide)) rfl rfl ?_
    refine v_aloadq (i := 6) o.ok d_S_update_30 rfl ?_
    refine v_aloadq (i := 5) o.ok d_S_update_32 rfl ?_
    refine v_iload_n (i := 2) o.ok d_S_update_34 rfl rfl ?_
    refine n_cV o 2 (tg := 8) rfl (by decide) (by decide) (by first | rfl | exact hvr | exact hvt | exact hp | assumption | exact And.intro (by omega) (by omega)) (by have q := c_P_has8 D A25 (k / 4) k (ntN (tN N (k / 4)) 2 t k) hp hk (by rw [eT]; exact hth); rw [eT] at q; exact q) q_P_has lm_S_68 d_S_update_35 (by decide) rfl (by first | exact Nat.le_of_ble_eq_true rfl | (simp only [List.map_cons, List.map_nil, cat_rf, J_cat, List.sum_cons, List.sum_nil, cat_lg, cat_rr]; decide)) rfl (n_f ?_)
    refine n_putz o 24 rfl rfl rfl rfl lf_S_128 (by first | rfl | exact hvr | exact hvt | exact hp | assumption | exact And.intro (by omega) (by omega)) (by exact b01_or _) d_S_update_38 ?_
    refine v_aloadq (i := 6) o.ok d_S_update_41 rfl ?_
    refine v_aloadq (i := 5) o.ok d_S_update_43 rfl ?_
    refine v_iload_n (i := 2) o.ok d_S_update_45 rfl rfl ?_
    refine n_cV o 2 (tg := 8) rfl (by decide) (by decide) (by first | rfl | exact hvr | exact hvt | exact hp | assumption | exact And.intro (by omega) (by omega)) (by have q := c_P_value8 D A25 (k / 4) k (up (ntN (tN N (k / 4)) 2 t k) 24 (N 3 0) (b01 (bt (tN N (k / 4) 15 (k / 4)) k))) hp hk (by rw [up_ne (by simp), eT]; exact hth); rw [up_ne (by simp), up_ne (by simp), eT, eV] at q; exact q) q_P_value lm_S_131 d_S_update_46 (by decide) rfl (by first | exact Nat.le_of_ble_eq_true rfl | (simp only [List.map_cons, List.map_nil, cat_rf, J_cat, List.sum_cons, List.sum_nil, cat_lg, cat_rr]; decide)) rfl (n_f ?_)
    refine n_puti o 25 rfl rfl rfl rfl lf_S_134 (by first | rfl | exact hvr | exact hvt | exact hp | assumption | exact And.intro (by omega) (by omega)) (by first | (have := hv18 (4 * (k / 4) + k % 4) (by omega) (by omega); by_cases c : bt (tN N (k / 4) 15 (k / 4)) k; rw [pick_t c]; exact this; rw [pick_f c]; omega)) d_S_update_49 ?_
    refine v_aloadq (i := 6) o.ok d_S_update_52 rfl ?_
    refine v_iload_n (i := 3) o.ok d_S_update_54 rfl rfl ?_
    refine n_putz o 26 rfl rfl rfl rfl lf_S_137 (by first | rfl | exact hvr | exact hvt | exact hp | assumption | exact And.intro (by omega) (by omega)) (by omega) d_S_update_55 ?_
    refine v_aloadq (i := 6) o.ok d_S_update_58 rfl ?_
    refine v_iload (i := 4) o.ok d_S_update_60 rfl ?_
    refine n_puti o 27 rfl rfl rfl rfl lf_S_140 (by first | rfl | exact hvr | exact hvt | exact hp | assumption | exact And.intro (by omega) (by omega)) (by omega) d_S_update_62 ?_
    refine v_aloadq (i := 6) o.ok d_S_update_65 rfl ?_
    refine v_aload_nq (i := 1) o.ok d_S_update_67 rfl rfl ?_
    refine n_getr o 36 10 rfl rfl rfl (by decide) lf_S_143 (by first | rfl | exact hvr | exact hvt | exact hp | assumption | exact And.intro (by omega) (by omega)) d_S_update_68 (fun r68 => ?_)
    simp only [up, Nat.reduceEqDiff, false_and, if_false, eL] at r68 ⊢
    refine n_putr o 30 10 rfl rfl rfl (by decide) rfl lf_S_147 (by first | rfl | exact hvr | exact hvt | exact hp | assumption | exact And.intro (by omega) (by omega)) (by assumption) d_S_update_71 ?_
    refine v_aload_nq (i := 1) o.ok d_S_update_74 rfl rfl ?_
    refine v_aloadq (i := 6) o.ok d_S_update_75 rfl ?_
    refine n_putr o 36 10 rfl rfl rfl (by decide) rfl lf_S_143 (by first | rfl | exact hvr | exact hvt | exact hp | assumption | exact And.intro (by omega) (by omega)) (by exact Or.inr hvr) d_S_update_77 ?_
    refine v_aloadq (i := 5) o.ok d_S_update_80 rfl ?_
    refine v_iload_n (i := 2) o.ok d_S_update_82 rfl rfl ?_
    refine v_iload_n (i := 3) o.ok d_S_update_83 rfl rfl ?_
    refine v_iload (i := 4) o.ok d_S_update_84 rfl ?_
    refine v_aloadq (i := 6) o.ok d_S_update_86 rfl ?_
    refine n_geti o 20 rfl rfl rfl lf_S_150 (by first | rfl | exact hvr | exact hvt | exact hp | assumption | exact And.intro (by omega) (by omega)) d_S_update_88 (fun i88 => ?_)
    simp only [up, Nat.reduceEqDiff, false_and, if_false, eN]
    refine n_cV o 2 (tg := 8) rfl (by decide) (by decide) (by first | rfl | exact hvr | exact hvt | exact hp | assumption | exact And.intro (by omega) (by omega)) (c_P_set D A25 (k / 4) k now v (N 4 0 + (N 3 0 + 1)) _ hp hk hnw hv (by omega) (by simp only [up, Nat.reduceEqDiff, false_and, if_false, eT]; exact hth)) q_P_set lm_S_151 d_S_update_91 (by decide) rfl (by first | exact Nat.le_of_ble_eq_true rfl | (simp only [List.map_cons, List.map_nil, cat_rf, J_cat, List.sum_cons, List.sum_nil, cat_lg, cat_rr]; decide)) rfl (n_e ?_)
    refine v_aload_nq (i := 0) o.ok d_S_update_94 rfl rfl ?_
    refine v_dup o.ok d_S_update_95 (cat_rf _) ?_
    refine n_geti o 6 rfl rfl rfl lf_S_106 (by first | rfl | exact hvr | exact hvt | exact hp | assumption | exact And.intro (by omega) (by omega)) d_S_update_96 (fun i96 => ?_)
    simp only [up, Nat.reduceEqDiff, false_and, if_false, eO]
    refine v_iconst o.ok d_S_update_99 ?_
    refine v_iadd o.ok d_S_update_100 ?_
    refine n_puti o 6 rfl rfl rfl rfl lf_S_106 (by first | rfl | exact hvr | exact hvt | exact hp | assumption | exact And.intro (by omega) (by omega)) (by omega) d_S_update_101 ?_
    refine v_iconst o.ok d_S_update_104 ?_
    refine n_zret o (by first | exact b01_or _ | omega | simp) d_S_update_105 ⟨rfl, hx, rfl⟩
  · exact absurd (h.ful.mp (by assumption)) hf

