def IvM (M : MSt) : Prop := WF M ∧ DepOk M ∧ StOk M ∧ LkOk M ∧ ∀ t, inM M t → Liv M t → LvT M t
theorem c_S_findI (D : GD) (A : ASt) (t : Int) (N M : MSt) (h : SimT N M) (hp : ParOk M) (ht : inM M t) : NF D y_S_find (wsOf y_S_find b_S_find 2 (some (.object "NestedStore$Transaction"))) 1 [rq A 0 0, J t] A N (rq A 11 t) N := by
  have h1 := ht.1
  have h2 := ht.2
  have h3 := hp.2.1
  have q := c_S_find D A t N M h ⟨hp.1, hp.2.1⟩ (by omega)
  rw [show fnd M t = t from if_pos ht] at q
  exact q
theorem c_S_findN (D : GD) (A : ASt) (t : Int) (N M : MSt) (h : SimT N M) (hp : ParOk M) (ht : ¬ inM M t) (hr : InR t) : NF D y_S_find (wsOf y_S_find b_S_find 2 (some (.object "NestedStore$Transaction"))) 1 [rq A 0 0, J t] A N (rq A 11 (-1)) N := by
  have q := c_S_find D A t N M h ⟨hp.1, hp.2.1⟩ hr
  rw [show fnd M t = -1 from if_neg ht] at q
  exact q
set_option maxHeartbeats 4000000 in
set_option maxRecDepth 20000 in
theorem c_S_abort (D : GD) (A : ASt) (t : Int) (N M : MSt) (h : Sim N M) (hi : IvM M) (hr : InR t) : NX D y_S_abort (wsOf y_S_abort b_S_abort 3 (some .int)) (7) [rq A 0 (0), J (t)] A N (fun x A1 N1 => x = J (r_abort M t).1 ∧ Fwd N A N1 A1 ∧ Sim N1 (r_abort M t).2) := by
  refine NCon.of (by decide) (by simp [cat_rf, J_cat]) (Nat.le_of_ble_eq_true rfl) ?_
  intro X g0 o
  show V X (RelN D A N) 0 [(0, rq A 0 (0)), (1, J (t))] [] []
  obtain ⟨hw, hd, hs, hl, hv⟩ := hi
  by_cases hm : inM M t
  · have eS := (h.t.2 t hm.1 hm.2).1.2.2.2.2
    have hst := hs t hm.1 hm.2
    have ent : N 51 0 = M 22 0 := h.t.1.2
    have hvt : 0 ≤ t ∧ t < N 51 0 := (by rw [ent]; exact hm)
    have hvs : Vld N 20 (N 35 t) := (by rw [eS]; exact hst)
    refine v_aload_nq (i := 0) o.ok d_S_abort_0 rfl rfl ?_
    refine v_iload_n (i := 1) o.ok d_S_abort_1 rfl rfl ?_
    refine n_cV o 1 (tg := 0) rfl (by decide) (by decide) (by first | rfl | exact hvs | exact hvt) (c_S_findI D A t N M h.t hw.par hm) q_S_find lm_S_240 d_S_abort_2 (by decide) rfl (by first | exact Nat.le_of_ble_eq_true rfl | (simp only [List.map_cons, List.map_nil, cat_rf, J_cat, List.sum_cons, List.sum_nil, cat_lg, cat_rr]; decide)) rfl (n_f ?_)
    refine v_astore_nq (i := 2) (L' := [(0, _), (1, _), (2, _)]) (G' := []) o.ok d_S_abort_5 rfl (o.lt (by decide)) rfl rfl ?_
    refine v_aload_nq (i := 2) o.ok d_S_abort_6 rfl rfl ?_
    refine n_ifnull o.ok d_S_abort_7 (fun c7 => ?_) (fun c7 => ?_)
    · exfalso; have := hm.1; omega
    · refine v_aload_nq (i := 2) o.ok d_S_abort_10 rfl rfl ?_
      refine n_getr o 35 20 rfl rfl rfl (by decide) lf_S_182 (by first | rfl | exact hvs | exact hvt) d_S_abort_11 (fun r11 => ?_)
      refine n_cQ o (by first | rfl | exact hvs | exact hvt) (c_Q_live D A (N 35 t) N (by rw [eS]; exact hst)) q_Q_live lm_S_186 d_S_abort_14 (by decide) rfl (by first | exact Nat.le_of_ble_eq_true rfl | (simp only [List.map_cons, List.map_nil, cat_rf, J_cat, List.sum_cons, List.sum_nil, cat_lg, cat_rr]; decide)) rfl (n_f ?_)
      first | refine v_ifne_b o.ok d_S_abort_17 (fun c17 => ?_) (fun c17 => ?_) | refine v_if_ne o.ok (by omega) d_S_abort_17 (fun c17 => ?_) (fun c17 => ?_)
      · have hL : Liv M t := (by unfold Liv; rw [← eS]; exact c17)
        have er : r_abort M t = abt M t := pick_t ⟨hm, hL⟩
        refine v_aload_nq (i := 0) o.ok d_S_abort_24 rfl rfl ?_
        refine v_aload_nq (i := 2) o.ok d_S_abort_25 rfl rfl ?_
        refine n_cV o 1 (tg := 0) rfl (by decide) (by decide) (by first | rfl | exact hvs | exact hvt) (c_S_fall D A t N M h hw hd hs hm (hv t hm hL)) q_S_fall lm_S_224 d_S_abort_26 (by decide) rfl (by first | exact Nat.le_of_ble_eq_true rfl | (simp only [List.map_cons, List.map_nil, cat_rf, J_cat, List.sum_cons, List.sum_nil, cat_lg, cat_rr]; decide)) rfl (n_x (fun x26 A26 N26 h26 => ?_))
        obtain ⟨rfl, q1, q2⟩ := h26
        refine n_iret o d_S_abort_29 (by first | exact ⟨by rw [er], q1, by rw [er]; exact q2⟩ | exact ⟨by rw [er], Fwd.rf N A, by rw [er]; exact h⟩)
      · have er : r_abort M t = (-1, M) := pick_f (fun q => c17 (by have := q.2; unfold Liv at this; rw [← eS] at this; exact this))
        refine v_iconst o.ok d_S_abort_20 ?_
        refine v_goto o.ok d_S_abort_21 ?_
        refine n_iret o d_S_abort_29 (by first | exact ⟨by rw [er], q1, by rw [er]; exact q2⟩ | exact ⟨by rw [er], Fwd.rf N A, by rw [er]; exact h⟩)
  · have er : r_abort M t = (-1, M) := pick_f (fun q => hm q.1)
    refine v_aload_nq (i := 0) o.ok d_S_abort_0 rfl rfl ?_
    refine v_iload_n (i := 1) o.ok d_S_abort_1 rfl rfl ?_
    refine n_cV o 1 (tg := 0) rfl (by decide) (by decide) (by first | rfl | assumption | exact And.intro (by omega) (by omega)) (c_S_findN D A t N M h.t hw.par hm hr) q_S_find lm_S_240 d_S_abort_2 (by decide) rfl (by first | exact Nat.le_of_ble_eq_true rfl | (simp only [List.map_cons, List.map_nil, cat_rf, J_cat, List.sum_cons, List.sum_nil, cat_lg, cat_rr]; decide)) rfl (n_f ?_)
    refine v_astore_nq (i := 2) (L' := [(0, _), (1, _), (2, _)]) (G' := []) o.ok d_S_abort_5 rfl (o.lt (by decide)) rfl rfl ?_
    refine v_aload_nq (i := 2) o.ok d_S_abort_6 rfl rfl ?_
    refine n_ifnull o.ok d_S_abort_7 (fun c7 => ?_) (fun c7 => ?_)
    · refine v_iconst o.ok d_S_abort_20 ?_
      refine v_goto o.ok d_S_abort_21 ?_
      refine n_iret o d_S_abort_29 ⟨by rw [er], Fwd.rf N A, by rw [er]; exact h⟩
    · exfalso; omega
set_option maxHeartbeats 4000000 in
set_option maxRecDepth 20000 in
theorem c_S_save (D : GD) (A : ASt) (t : Int) (N M : MSt) (h : Sim N M) (hi : IvM M) (hr : InR t) : NF D y_S_save (wsOf y_S_save b_S_save 3 (some .int)) (3) [rq A 0 (0), J (t)] A N (J (pick (bar M t = 0) (lst M) (bar M t))) (N) := by
  refine NCon.of (by decide) (by simp [cat_rf, J_cat]) (Nat.le_of_ble_eq_true rfl) ?_
  intro X g0 o
  show V X (RelN D A N) 0 [(0, rq A 0 (0)), (1, J (t))] [] []
  obtain ⟨hw, hd, hs, hl, hv⟩ := hi
  have hn := h.nums hw
  have hb : InR (bar M t) := (by
    unfold bar
    by_cases c : Act M t
    · rw [pick_t c]
      by_cases d : Bsy M t
      · rw [pick_t d]; decide
      · rw [pick_f d]; decide
    · rw [pick_f c]; decide)
  have el : N 4 0 + N 3 0 = lst M := (by unfold lst; rw [h.l.1.1, h.l.1.2.1])
  by_cases hm : inM M t
  · skip
    refine v_aload_nq (i := 0) o.ok d_S_save_0 rfl rfl ?_
    refine v_iload_n (i := 1) o.ok d_S_save_1 rfl rfl ?_
    refine n_cV o 1 (tg := 0) rfl (by decide) (by decide) (by first | rfl | assumption | exact And.intro (by omega) (by omega)) (c_S_findI D A t N M h.t hw.par hm) q_S_find lm_S_240 d_S_save_2 (by decide) rfl (by first | exact Nat.le_of_ble_eq_true rfl | (simp only [List.map_cons, List.map_nil, cat_rf, J_cat, List.sum_cons, List.sum_nil, cat_lg, cat_rr]; decide)) rfl (n_f ?_)
    refine n_cS o (c_S_bar D A t N M h.t hw.par hs hm) q_S_bar lm_S_267 d_S_save_5 (by decide) rfl (by first | exact Nat.le_of_ble_eq_true rfl | (simp only [List.map_cons, List.map_nil, cat_rf, J_cat, List.sum_cons, List.sum_nil, cat_lg, cat_rr]; decide)) rfl (n_f ?_)
    refine v_istore_n (i := 2) (L' := [(0, _), (1, _), (2, _)]) (G' := []) o.ok d_S_save_8 rfl (o.lt (by decide)) rfl rfl ?_
    refine v_iload_n (i := 2) o.ok d_S_save_9 rfl rfl ?_
    refine v_if_eq o.ok (by omega) d_S_save_10 (fun c10 => ?_) (fun c10 => ?_)
    · refine v_aload_nq (i := 0) o.ok d_S_save_17 rfl rfl ?_
      refine n_cV o 1 (tg := 0) rfl (by decide) (by decide) (by first | rfl | assumption | exact And.intro (by omega) (by omega)) (c_S_last D A N hn.1 hn.2.2.2.1) q_S_last lm_S_250 d_S_save_18 (by decide) rfl (by first | exact Nat.le_of_ble_eq_true rfl | (simp only [List.map_cons, List.map_nil, cat_rf, J_cat, List.sum_cons, List.sum_nil, cat_lg, cat_rr]; decide)) rfl (n_f ?_)
      refine n_iret o d_S_save_21 ⟨congrArg J (by first | exact (pick_f (by assumption)).symm | (rw [pick_t (by assumption)]; exact el)), rfl, rfl⟩
    · refine v_iload_n (i := 2) o.ok d_S_save_13 rfl rfl ?_
      refine v_goto o.ok d_S_save_14 ?_
      refine n_iret o d_S_save_21 ⟨congrArg J (by first | exact (pick_f (by assumption)).symm | (rw [pick_t (by assumption)]; exact el)), rfl, rfl⟩
  · have eb : bar M t = -1 := pick_f (fun q => hm q.1)
    refine v_aload_nq (i := 0) o.ok d_S_save_0 rfl rfl ?_
    refine v_iload_n (i := 1) o.ok d_S_save_1 rfl rfl ?_
    refine n_cV o 1 (tg := 0) rfl (by decide) (by decide) (by first | rfl | assumption | exact And.intro (by omega) (by omega)) (c_S_findN D A t N M h.t hw.par hm hr) q_S_find lm_S_240 d_S_save_2 (by decide) rfl (by first | exact Nat.le_of_ble_eq_true rfl | (simp only [List.map_cons, List.map_nil, cat_rf, J_cat, List.sum_cons, List.sum_nil, cat_lg, cat_rr]; decide)) rfl (n_f ?_)
    refine n_cS o (c_S_barN D A N) q_S_bar lm_S_267 d_S_save_5 (by decide) rfl (by first | exact Nat.le_of_ble_eq_true rfl | (simp only [List.map_cons, List.map_nil, cat_rf, J_cat, List.sum_cons, List.sum_nil, cat_lg, cat_rr]; decide)) rfl (n_f ?_)
    refine v_istore_n (i := 2) (L' := [(0, _), (1, _), (2, _)]) (G' := []) o.ok d_S_save_8 rfl (o.lt (by decide)) rfl rfl ?_
    refine v_iload_n (i := 2) o.ok d_S_save_9 rfl rfl ?_
    refine v_if_eq o.ok (by omega) d_S_save_10 (fun c10 => ?_) (fun c10 => ?_)
    · exfalso; omega
    · refine v_iload_n (i := 2) o.ok d_S_save_13 rfl rfl ?_
      refine v_goto o.ok d_S_save_14 ?_
      refine n_iret o d_S_save_21 ⟨congrArg J (by rw [pick_f (by omega), eb]), rfl, rfl⟩
set_option maxHeartbeats 4000000 in
set_option maxRecDepth 20000 in
theorem c_S_rollback (D : GD) (A : ASt) (t pt : Int) (N M : MSt) (h : Sim N M) (hi : IvM M) (hr : InR t) (hpt : InR pt) : NX D y_S_rollback (wsOf y_S_rollback b_S_rollback 5 (some .int)) (6) [rq A 0 (0), J (t), J (pt)] A N (fun x A1 N1 => x = J (r_rollback M t pt).1 ∧ Fwd N A N1 A1 ∧ Sim N1 (r_rollback M t pt).2) := by
  refine NCon.of (by decide) (by simp [cat_rf, J_cat]) (Nat.le_of_ble_eq_true rfl) ?_
  intro X g0 o
  show V X (RelN D A N) 0 [(0, rq A 0 (0)), (1, J (t)), (2, J (pt))] [] []
  obtain ⟨hw, hd, hs, hl, hv⟩ := hi
  have hn := h.nums hw
  have hb : InR (bar M t) := (by
    unfold bar
    by_cases c : Act M t
    · rw [pick_t c]
      by_cases d : Bsy M t
      · rw [pick_t d]; decide
      · rw [pick_f d]; decide
    · rw [pick_f c]; decide)
  have el : N 4 0 + N 3 0 = lst M := (by unfold lst; rw [h.l.1.1, h.l.1.2.1])
  have hn1 := hn.1
  have hn2 := hn.2.2.2.1
  by_cases hm : inM M t
  · have eB := (h.t.2 t hm.1 hm.2).1.2.2.2.1
    have ent : N 51 0 = M 22 0 := h.t.1.2
    have hvt : 0 ≤ t ∧ t < N 51 0 := (by rw [ent]; exact hm)
    have er1 : ¬ (M 25 t ≤ pt ∧ pt ≤ lst M) → r_rollback M t pt = (-1, M) := fun q => pick_f (fun z => q z.2)
    have er2 : bar M t ≠ 0 → (M 25 t ≤ pt ∧ pt ≤ lst M) → r_rollback M t pt = (bar M t, M) := (by
      intro q z
      unfold bar at q ⊢
      by_cases c : Act M t
      · rw [pick_t c] at q ⊢
        by_cases d : Bsy M t
        · rw [pick_t d]; unfold r_rollback; rw [pick_t ⟨c, z⟩, pick_t d]
        · rw [pick_f d] at q; exact absurd rfl q
      · rw [pick_f c]; exact pick_f (fun y => c y.1))
    have er3 : bar M t = 0 → (M 25 t ≤ pt ∧ pt ≤ lst M) → r_rollback M t pt = undoes M t pt ∧ Act M t := (by
      intro q z
      unfold bar at q
      by_cases c : Act M t
      · rw [pick_t c] at q
        by_cases d : Bsy M t
        · rw [pick_t d] at q; exact absurd q (by decide)
        · exact ⟨by unfold r_rollback; rw [pick_t ⟨c, z⟩, pick_f d], c⟩
      · rw [pick_f c] at q; exact absurd q (by decide))
    refine v_aload_nq (i := 0) o.ok d_S_rollback_0 rfl rfl ?_
    refine v_iload_n (i := 1) o.ok d_S_rollback_1 rfl rfl ?_
    refine n_cV o 1 (tg := 0) rfl (by decide) (by decide) (by first | rfl | exact hvt) (c_S_findI D A t N M h.t hw.par hm) q_S_find lm_S_240 d_S_rollback_2 (by decide) rfl (by first | exact Nat.le_of_ble_eq_true rfl | (simp only [List.map_cons, List.map_nil, cat_rf, J_cat, List.sum_cons, List.sum_nil, cat_lg, cat_rr]; decide)) rfl (n_f ?_)
    refine v_astore_nq (i := 3) (L' := [(0, _), (1, _), (2, _), (3, _)]) (G' := []) o.ok d_S_rollback_5 rfl (o.lt (by decide)) rfl rfl ?_
    refine v_aload_nq (i := 3) o.ok d_S_rollback_6 rfl rfl ?_
    refine n_ifnull o.ok d_S_rollback_7 (fun c7 => ?_) (fun c7 => ?_)
    · exfalso; have := hm.1; omega
    · refine v_iload_n (i := 2) o.ok d_S_rollback_10 rfl rfl ?_
      refine v_aload_nq (i := 3) o.ok d_S_rollback_11 rfl rfl ?_
      refine n_geti o 34 rfl rfl rfl lf_S_303 (by first | rfl | exact hvt) d_S_rollback_12 (fun i12 => ?_)
      refine v_aload_nq (i := 0) o.ok d_S_rollback_15 rfl rfl ?_
      refine n_cV o 1 (tg := 0) rfl (by decide) (by decide) (by first | rfl | exact hvt) (c_S_last D A N hn.1 hn.2.2.2.1) q_S_last lm_S_250 d_S_rollback_16 (by decide) rfl (by first | exact Nat.le_of_ble_eq_true rfl | (simp only [List.map_cons, List.map_nil, cat_rf, J_cat, List.sum_cons, List.sum_nil, cat_lg, cat_rr]; decide)) rfl (n_f ?_)
      refine n_cS o (c_S_outside D A pt (N 34 t) (N 4 0 + N 3 0) N hpt (by omega) (by omega)) q_S_outside lm_S_53 d_S_rollback_19 (by decide) rfl (by first | exact Nat.le_of_ble_eq_true rfl | (simp only [List.map_cons, List.map_nil, cat_rf, J_cat, List.sum_cons, List.sum_nil, cat_lg, cat_rr]; decide)) rfl (n_f ?_)
      first | refine v_ifeq_b o.ok d_S_rollback_22 (fun c22 => ?_) (fun c22 => ?_) | refine v_if_eq o.ok (by omega) d_S_rollback_22 (fun c22 => ?_) (fun c22 => ?_)
      · have hz : M 25 t ≤ pt ∧ pt ≤ lst M := (by rw [← eB, ← el]; omega)
        refine v_aload_nq (i := 3) o.ok d_S_rollback_29 rfl rfl ?_
        refine n_cS o (c_S_bar D A t N M h.t hw.par hs hm) q_S_bar lm_S_267 d_S_rollback_30 (by decide) rfl (by first | exact Nat.le_of_ble_eq_true rfl | (simp only [List.map_cons, List.map_nil, cat_rf, J_cat, List.sum_cons, List.sum_nil, cat_lg, cat_rr]; decide)) rfl (n_f ?_)
        refine v_istore (i := 4) (L' := [(0, _), (1, _), (2, _), (3, _), (4, _)]) (G' := []) o.ok d_S_rollback_33 (o.lt (by decide)) rfl rfl ?_
        refine v_iload (i := 4) o.ok d_S_rollback_35 rfl ?_
        refine v_if_eq o.ok (by omega) d_S_rollback_37 (fun c37 => ?_) (fun c37 => ?_)
        · have er := (er3 c37 hz).1
          have hA := (er3 c37 hz).2
          refine v_aload_nq (i := 0) o.ok d_S_rollback_45 rfl rfl ?_
          refine v_aload_nq (i := 3) o.ok d_S_rollback_46 rfl rfl ?_
          refine v_iload_n (i := 2) o.ok d_S_rollback_47 rfl rfl ?_
          refine n_cV o 1 (tg := 0) rfl (by decide) (by decide) (by first | rfl | exact hvt) (c_S_back D A t pt N M h hw hd hm (hv t hm (Or.inl hA.2)) hpt) q_S_back lm_S_228 d_S_rollback_48 (by decide) rfl (by first | exact Nat.le_of_ble_eq_true rfl | (simp only [List.map_cons, List.map_nil, cat_rf, J_cat, List.sum_cons, List.sum_nil, cat_lg, cat_rr]; decide)) rfl (n_x (fun x48 A48 N48 h48 => ?_))
          obtain ⟨rfl, q1, q2, -⟩ := h48
          refine n_iret o d_S_rollback_51 (by first | exact ⟨by rw [er], q1, by rw [er]; exact q2⟩ | exact ⟨by rw [er], Fwd.rf N A, by rw [er]; exact h⟩)
        · have er := er2 c37 hz
          refine v_iload (i := 4) o.ok d_S_rollback_40 rfl ?_
          refine v_goto o.ok d_S_rollback_42 ?_
          refine n_iret o d_S_rollback_51 (by first | exact ⟨by rw [er], q1, by rw [er]; exact q2⟩ | exact ⟨by rw [er], Fwd.rf N A, by rw [er]; exact h⟩)
      · have er := er1 (by rw [← eB, ← el]; omega)
        refine v_iconst o.ok d_S_rollback_25 ?_
        refine v_goto o.ok d_S_rollback_26 ?_
        refine v_istore (i := 4) (L' := [(0, _), (1, _), (2, _), (3, _), (4, _)]) (G' := []) o.ok d_S_rollback_33 (o.lt (by decide)) rfl rfl ?_
        refine v_iload (i := 4) o.ok d_S_rollback_35 rfl ?_
        refine v_if_eq o.ok (by omega) d_S_rollback_37 (fun c37 => ?_) (fun c37 => ?_)
        · exfalso; omega
        · refine v_iload (i := 4) o.ok d_S_rollback_40 rfl ?_
          refine v_goto o.ok d_S_rollback_42 ?_
          refine n_iret o d_S_rollback_51 (by first | exact ⟨by rw [er], q1, by rw [er]; exact q2⟩ | exact ⟨by rw [er], Fwd.rf N A, by rw [er]; exact h⟩)
  · have er : r_rollback M t pt = (-1, M) := pick_f (fun q => hm q.1.1)
    refine v_aload_nq (i := 0) o.ok d_S_rollback_0 rfl rfl ?_
    refine v_iload_n (i := 1) o.ok d_S_rollback_1 rfl rfl ?_
    refine n_cV o 1 (tg := 0) rfl (by decide) (by decide) (by first | rfl | assumption | exact And.intro (by omega) (by omega)) (c_S_findN D A t N M h.t hw.par hm hr) q_S_find lm_S_240 d_S_rollback_2 (by decide) rfl (by first | exact Nat.le_of_ble_eq_true rfl | (simp only [List.map_cons, List.map_nil, cat_rf, J_cat, List.sum_cons, List.sum_nil, cat_lg, cat_rr]; decide)) rfl (n_f ?_)
    refine v_astore_nq (i := 3) (L' := [(0, _), (1, _), (2, _), (3, _)]) (G' := []) o.ok d_S_rollback_5 rfl (o.lt (by decide)) rfl rfl ?_
    refine v_aload_nq (i := 3) o.ok d_S_rollback_6 rfl rfl ?_
    refine n_ifnull o.ok d_S_rollback_7 (fun c7 => ?_) (fun c7 => ?_)
    · refine v_iconst o.ok d_S_rollback_25 ?_
      refine v_goto o.ok d_S_rollback_26 ?_
      refine v_istore (i := 4) (L' := [(0, _), (1, _), (2, _), (3, _), (4, _)]) (G' := []) o.ok d_S_rollback_33 (o.lt (by decide)) rfl rfl ?_
      refine v_iload (i := 4) o.ok d_S_rollback_35 rfl ?_
      refine v_if_eq o.ok (by omega) d_S_rollback_37 (fun c37 => ?_) (fun c37 => ?_)
      · exfalso; omega
      · refine v_iload (i := 4) o.ok d_S_rollback_40 rfl ?_
        refine v_goto o.ok d_S_rollback_42 ?_
        refine n_iret o d_S_rollback_51 ⟨by rw [er], Fwd.rf N A, by rw [er]; exact h⟩
    · exfalso; omega
set_option maxHeartbeats 4000000 in
set_option maxRecDepth 20000 in
theorem c_S_value (D : GD) (A : ASt) (N M : MSt) (h : Sim N M) : NF D y_S_value (wsOf y_S_value b_S_value 1 (some .int)) (0) [rq A 0 (0)] A N (J (M 38 0)) (N) := by
  refine NCon.of (by decide) (by simp [cat_rf, J_cat]) (Nat.le_of_ble_eq_true rfl) ?_
  intro X g0 o
  show V X (RelN D A N) 0 [(0, rq A 0 (0))] [] []
  refine v_aload_nq (i := 0) o.ok d_S_value_0 rfl rfl ?_
  refine n_geti o 9 rfl rfl rfl lf_S_288 (by first | rfl | assumption | exact And.intro (by omega) (by omega)) d_S_value_1 (fun i1 => ?_)
  refine n_iret o d_S_value_4 ⟨congrArg J h.cc.2.2, rfl, rfl⟩

