set_option maxHeartbeats 4000000 in
set_option maxRecDepth 20000 in
theorem c_S_undo (D : GD) (A : ASt) (t u : Int) (N M : MSt) (h : Sim0 N M) (hf1 : 1 ≤ M 0 0) (hu : 0 ≤ u ∧ u < M 12 0) (hk : 0 ≤ M 16 u ∧ M 16 u ≤ 31) (ht : 0 ≤ t ∧ t < M 22 0) (hr3 : M 12 0 ≤ 300) (hg : 0 ≤ N 4 0 ∧ N 4 0 ≤ 1000000) : NU D y_S_undo (wsOf y_S_undo b_S_undo 5 none) (4) [rq A 0 (0), rq A 10 (u), rq A 11 (t)] A N (fun A1 N1 => Ext N A A1 ∧ N1 = unN N t u) := by
  refine NCon.of (by decide) (by simp [cat_rf, J_cat]) (Nat.le_of_ble_eq_true rfl) ?_
  intro X g0 o
  show V X (RelN D A N) 0 [(0, rq A 0 (0)), (1, rq A 10 (u)), (2, rq A 11 (t))] [] []
  obtain ⟨hSP, hSL, hSU, hST, hlv, hvl⟩ := h
  obtain ⟨⟨u1, u2, u3, u4⟩, ⟨u5, u6, u7⟩, u8, u9, u10, u11, u12, -⟩ := hSL.2 u hu.1 hu.2
  have hr : N 3 0 = M 12 0 := hSL.1.2.1
  have hr0 := hSL.1.2.2.1
  have hne := hSL.1.2.2.2
  have hp : 0 ≤ N 23 u / 4 ∧ N 23 u / 4 < 8 := by omega
  have hP := SimP_tch hSP hp hf1
  have hin := tch_self (M := M) (p := N 23 u / 4) ((hSP.2.2.2.1 _ hp.1 hp.2).1)
  have hth := (hP.2.2.2.2.2 _ hp.1 hp.2 hin).1.1
  have er : tN N (N 23 u / 4) 3 0 = N 3 0 := tN_o rfl
  have eg : tN N (N 23 u / 4) 4 0 = N 4 0 := tN_o rfl
  have ee : tN N (N 23 u / 4) 50 0 = N 50 0 := tN_o rfl
  have et : tN N (N 23 u / 4) 51 0 = N 51 0 := tN_o rfl
  have ek : tN N (N 23 u / 4) 23 u = N 23 u := tN_o rfl
  have hnt : N 51 0 = M 22 0 := hST.1.2
  have no : ∀ (f : Nat) (i : Int), f ≠ 3 → f ≠ 50 → ¬ (20 ≤ f ∧ f ≤ 30 ∧ i = N 3 0) → ntN (tN N (N 23 u / 4)) 3 t (N 23 u) f i = tN N (N 23 u / 4) f i := fun f i a b c => ntN_o a b (by rw [er]; exact c)
  have hvr : 0 ≤ N 3 0 ∧ N 3 0 < ntN (tN N (N 23 u / 4)) 3 t (N 23 u) 50 0 := by
    have := (ntN_e (N := tN N (N 23 u / 4)) (kd := 3) (t := t) (k := N 23 u) (by omega)).2
    omega
  have hvu : 0 ≤ u ∧ u < ntN (tN N (N 23 u / 4)) 3 t (N 23 u) 50 0 := by omega
  have hvu0 : 0 ≤ u ∧ u < N 50 0 := by omega
  have hvu1 : 0 ≤ u ∧ u < tN N (N 23 u / 4) 50 0 := by omega
  have eW : ntN (tN N (N 23 u / 4)) 3 t (N 23 u) 24 u = N 24 u := (no _ _ (by decide) (by decide) (by omega)).trans (tN_o rfl)
  have eB : ntN (tN N (N 23 u / 4)) 3 t (N 23 u) 25 u = N 25 u := (no _ _ (by decide) (by decide) (by omega)).trans (tN_o rfl)
  have eT : ntN (tN N (N 23 u / 4)) 3 t (N 23 u) 15 (N 23 u / 4) = tN N (N 23 u / 4) 15 (N 23 u / 4) := no _ _ (by decide) (by decide) (by omega)
  have qn := ntN_n (tN N (N 23 u / 4)) 3 t (N 23 u)
  rw [er, eg] at qn
  have eN := qn.2.1
  have eK := qn.2.2.2.2.1
  refine v_aload_nq (i := 0) o.ok d_S_undo_0 rfl rfl ?_
  refine v_aload_nq (i := 1) o.ok d_S_undo_1 rfl rfl ?_
  refine n_geti o 23 rfl rfl rfl lf_S_154 (by first | rfl | exact hvr | exact hvu | exact hvu0 | exact hvu1 | exact hp | assumption | exact And.intro (by omega) (by omega)) d_S_undo_2 (fun i2 => ?_)
  refine v_iconst o.ok d_S_undo_5 ?_
  refine v_idiv o.ok d_S_undo_6 (by omega) (by omega) ?_
  refine n_cV o 1 (tg := 0) rfl (by decide) (by decide) (by first | rfl | exact hvr | exact hvu | exact hvu0 | exact hvu1 | exact hp | assumption | exact And.intro (by omega) (by omega)) (c_S_touch D A (N 23 u / 4) N M hSP hp hf1) q_S_touch lm_S_115 d_S_undo_7 (by decide) rfl (by first | exact Nat.le_of_ble_eq_true rfl | (simp only [List.map_cons, List.map_nil, cat_rf, J_cat, List.sum_cons, List.sum_nil, cat_lg, cat_rr]; decide)) rfl (n_f ?_)
  refine v_astore_nq (i := 3) (L' := [(0, _), (1, _), (2, _), (3, _)]) (G' := []) o.ok d_S_undo_10 rfl (o.lt (by decide)) rfl rfl ?_
  refine v_aload_nq (i := 0) o.ok d_S_undo_11 rfl rfl ?_
  refine n_getK o 3 (by decide) ls_S_157 d_S_undo_12 ?_
  refine v_aload_nq (i := 2) o.ok d_S_undo_15 rfl rfl ?_
  refine v_aload_nq (i := 1) o.ok d_S_undo_16 rfl rfl ?_
  refine n_geti o 23 rfl rfl rfl lf_S_154 (by first | rfl | exact hvr | exact hvu | exact hvu0 | exact hvu1 | exact hp | assumption | exact And.intro (by omega) (by omega)) d_S_undo_17 (fun i17 => ?_)
  rw [ek]
  refine n_cV o 1 (tg := 0) rfl (by decide) (by decide) (by first | rfl | exact hvr | exact hvu | exact hvu0 | exact hvu1 | exact hp | assumption | exact And.intro (by omega) (by omega)) (c_S_note D A 3 t (N 23 u) (tN N (N 23 u / 4)) (by omega) (by omega) (by omega) (by omega) (by omega) (by omega)) q_S_note lm_S_124 d_S_undo_20 (by decide) rfl (by first | exact Nat.le_of_ble_eq_true rfl | (simp only [List.map_cons, List.map_nil, cat_rf, J_cat, List.sum_cons, List.sum_nil, cat_lg, cat_rr]; decide)) rfl (n_x (fun x20 A20 N20 h20 => ?_))
  obtain ⟨hx, rfl, rfl⟩ := h20
  rw [er]
  have hx : Ext N A A20 := fun tg v a b c => hx tg v (by rw [ee]; exact a) (by rw [et]; exact b) c
  (try simp only [rq])
  rw [← hx.fo (tg := 0) (v := 0) (by decide), ← hx.fo (tg := 8) (v := N 23 u / 4) (by decide), ← hx.ft (v := t) (by omega), ← hx.fe (v := u) (by omega)]
  refine v_astoreq (i := 4) (L' := [(0, _), (1, _), (2, _), (3, _), (4, _)]) (G' := []) o.ok d_S_undo_23 (o.lt (by decide)) rfl rfl ?_
  refine v_aloadq (i := 4) o.ok d_S_undo_25 rfl ?_
  refine v_aload_nq (i := 1) o.ok d_S_undo_27 rfl rfl ?_
  refine n_getz o 24 rfl rfl rfl lf_S_128 (by first | rfl | exact hvr | exact hvu | exact hvu0 | exact hvu1 | exact hp | assumption | exact And.intro (by omega) (by omega)) d_S_undo_28 (fun i28 => ?_)
  rw [eW]
  refine n_putz o 26 rfl rfl rfl rfl lf_S_137 (by first | rfl | exact hvr | exact hvu | exact hvu0 | exact hvu1 | exact hp | assumption | exact And.intro (by omega) (by omega)) (by rw [eW] at i28; exact i28) d_S_undo_31 ?_
  refine v_aloadq (i := 4) o.ok d_S_undo_34 rfl ?_
  refine v_aload_nq (i := 1) o.ok d_S_undo_36 rfl rfl ?_
  refine n_geti o 25 rfl rfl rfl lf_S_134 (by first | rfl | exact hvr | exact hvu | exact hvu0 | exact hvu1 | exact hp | assumption | exact And.intro (by omega) (by omega)) d_S_undo_37 (fun i37 => ?_)
  simp only [up, Nat.reduceEqDiff, false_and, if_false, eB] at i37 ⊢
  refine n_puti o 27 rfl rfl rfl rfl lf_S_140 (by first | rfl | exact hvr | exact hvu | exact hvu0 | exact hvu1 | exact hp | assumption | exact And.intro (by omega) (by omega)) (by exact i37) d_S_undo_40 ?_
  refine v_aloadq (i := 4) o.ok d_S_undo_43 rfl ?_
  refine v_aload_nq (i := 1) o.ok d_S_undo_45 rfl rfl ?_
  refine n_putr o 28 10 rfl rfl rfl (by decide) rfl lf_S_160 (by first | rfl | exact hvr | exact hvu | exact hvu0 | exact hvu1 | exact hp | assumption | exact And.intro (by omega) (by omega)) (by exact Or.inr hvu) d_S_undo_46 ?_
  refine v_aload_nq (i := 1) o.ok d_S_undo_49 rfl rfl ?_
  refine v_iconst o.ok d_S_undo_50 ?_
  refine n_putz o 29 rfl rfl rfl rfl lf_S_163 (by first | rfl | exact hvr | exact hvu | exact hvu0 | exact hvu1 | exact hp | assumption | exact And.intro (by omega) (by omega)) (by omega) d_S_undo_51 ?_
  refine v_aload_nq (i := 3) o.ok d_S_undo_54 rfl rfl ?_
  refine v_aloadq (i := 4) o.ok d_S_undo_55 rfl ?_
  refine n_geti o 23 rfl rfl rfl lf_S_154 (by first | rfl | exact hvr | exact hvu | exact hvu0 | exact hvu1 | exact hp | assumption | exact And.intro (by omega) (by omega)) d_S_undo_57 (fun i57 => ?_)
  simp only [up, Nat.reduceEqDiff, false_and, if_false, eK] at i57 ⊢
  refine v_aloadq (i := 4) o.ok d_S_undo_60 rfl ?_
  refine n_getz o 26 rfl rfl rfl lf_S_137 (by first | rfl | exact hvr | exact hvu | exact hvu0 | exact hvu1 | exact hp | assumption | exact And.intro (by omega) (by omega)) d_S_undo_62 (fun i62 => ?_)
  simp only [up, Nat.reduceEqDiff, false_and, if_false, and_self, if_true] at i62 ⊢
  refine v_aloadq (i := 4) o.ok d_S_undo_65 rfl ?_
  refine n_geti o 27 rfl rfl rfl lf_S_140 (by first | rfl | exact hvr | exact hvu | exact hvu0 | exact hvu1 | exact hp | assumption | exact And.intro (by omega) (by omega)) d_S_undo_67 (fun i67 => ?_)
  simp only [up, Nat.reduceEqDiff, false_and, if_false, and_self, if_true] at i67 ⊢
  refine v_aloadq (i := 4) o.ok d_S_undo_70 rfl ?_
  refine n_geti o 20 rfl rfl rfl lf_S_150 (by first | rfl | exact hvr | exact hvu | exact hvu0 | exact hvu1 | exact hp | assumption | exact And.intro (by omega) (by omega)) d_S_undo_72 (fun i72 => ?_)
  simp only [up, Nat.reduceEqDiff, false_and, if_false, eN] at i72 ⊢
  refine n_cV o 2 (tg := 8) rfl (by decide) (by decide) (by first | rfl | exact hvr | exact hvu | exact hvu0 | exact hvu1 | exact hp | assumption | exact And.intro (by omega) (by omega)) (c_P_set D A20 (N 23 u / 4) (N 23 u) (N 24 u) (N 25 u) (N 4 0 + (N 3 0 + 1)) _ hp (by omega) (by omega) (by omega) (by omega) (by simp only [up, Nat.reduceEqDiff, false_and, if_false, eT]; exact hth)) q_P_set lm_S_151 d_S_undo_75 (by decide) rfl (by first | exact Nat.le_of_ble_eq_true rfl | (simp only [List.map_cons, List.map_nil, cat_rf, J_cat, List.sum_cons, List.sum_nil, cat_lg, cat_rr]; decide)) rfl (n_e ?_)
  refine n_vret o d_S_undo_78 ⟨hx, rfl⟩

