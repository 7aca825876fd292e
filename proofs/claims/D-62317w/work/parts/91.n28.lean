set_option maxHeartbeats 4000000 in
set_option maxRecDepth 20000 in
theorem c_S_put (D : GD) (A : ASt) (t k v mb mc : Int) (N M : MSt) (h : Sim N M) (hI : Inv mb mc M) (hb : mb ≤ 300) (hc : mc ≤ 900000) (hba : M 11 0 ≤ 1000000) (hr : InR t) (hk : InR k) (hvv : InR v) (hbud : 1 ≤ N 52 0) : NX D y_S_put (wsOf y_S_put b_S_put 6 (some .int)) (9) [rq A 0 (0), J (t), J (k), J (v)] A N (fun x A1 N1 => x = J (r_ask M (0 ≤ k ∧ k ≤ 31) t 2 k v).1 ∧ FwB N A N1 A1 ∧ Sim N1 (r_ask M (0 ≤ k ∧ k ≤ 31) t 2 k v).2) := by
  refine NCon.of (by decide) (by simp [cat_rf, J_cat]) (Nat.le_of_ble_eq_true rfl) ?_
  intro X g0 o
  show V X (RelN D A N) 0 [(0, rq A 0 (0)), (1, J (t)), (2, J (k)), (3, J (v))] [] []
  have hi := hI.iv hb hc hba
  obtain ⟨hw, hd, hs, hl, hv⟩ := hi
  have hbi := bar_in M t
  have rA : bar M t ≠ 0 → (0 ≤ k ∧ k ≤ 31) → J (bar M t) = J (r_ask M (0 ≤ k ∧ k ≤ 31) t 2 k v).1 ∧ FwB N A N A ∧ Sim N (r_ask M (0 ≤ k ∧ k ≤ 31) t 2 k v).2 := fun h1 h2 => by
    rw [ask_bar h2, pick_f h1]
    exact ⟨rfl, FwB.of (Fwd.rf N A), h⟩
  have rB : ¬ (0 ≤ k ∧ k ≤ 31) → J (-1) = J (r_ask M (0 ≤ k ∧ k ≤ 31) t 2 k v).1 ∧ FwB N A N A ∧ Sim N (r_ask M (0 ≤ k ∧ k ≤ 31) t 2 k v).2 := fun h2 => by
    rw [ask_no h2]
    exact ⟨rfl, FwB.of (Fwd.rf N A), h⟩
  have k38 : ∀ z4 : Int, (0 ≤ k ∧ k ≤ 31) → bar M t = 0 → V X (RelN D A N) 38 [(0, rq A 0 0), (1, J t), (2, J k), (3, J v), (4, rq A 11 t), (5, J z4)] [] [] := by
    intro z4 hk1 hbz
    have ha := bar_act hbz
    have htn : 0 ≤ t ∧ t < N 51 0 := by rw [h.t.1.2]; exact ha.1
    have er : r_ask M (0 ≤ k ∧ k ≤ 31) t 2 k v = req M t 2 k v := by rw [ask_bar hk1, pick_t hbz]
    refine v_aload_nq (i := 0) o.ok d_S_put_38 rfl rfl ?_
    refine v_aloadq (i := 4) o.ok d_S_put_39 rfl ?_
    refine n_in fun g hF => ?_
    have hC := hF.2.2.2.2.2.1
    have h0a : gK g (A 0 0) = 1 := (hF.2.2.1 0 0 (by decide) rfl).1
    refine V.get (fun H hR => (⟨newQ_2 hF hR hbud 6 k v, fun b z => by have := (hR.2.1 b z).1; omega⟩ : Flat D A (up N 52 0 (N 52 0 - 1)) (uI (uI (gnw g 6 0) 6 0 (gZ g) k) 6 1 (gZ g) v) ∧ ∀ b, gK g b ≠ 0 → b ≠ gZ g)) fun ⟨hE1, hE2⟩ => ?_
    refine g_new o 6 (by decide) jc_S_277 ji_RP in_RP (by have := hC.2.2.2; have := hC.2.1; have := hC.1; omega) d_S_put_41 ?_
    refine v_dup o.ok d_S_put_44 rfl ?_
    refine v_iload_n (i := 2) o.ok d_S_put_45 rfl rfl ?_
    refine v_iload_n (i := 3) o.ok d_S_put_46 rfl rfl ?_
    (try simp only [rq])
    rw [rfv_s (A := A) (tg := 0) (v := 0) (by omega), rfv_s (A := A) (tg := 11) (v := t) htn.1]
    refine g_cIN o (c_RP_init D (gnw g 6 0) (gZ g) k v gnw_K0 hk hvv) q_RP_init ln_S_279 d_S_put_47 (by decide) rfl (by first | exact Nat.le_of_ble_eq_true rfl | (simp only [List.map_cons, List.map_nil, cat_rf, J_cat, List.sum_cons, List.sum_nil, cat_lg, cat_rr]; decide)) rfl (fun r g1 hh => ?_)
    obtain ⟨rfl, rfl⟩ := hh
    show V X (RelG D (uI (uI (gnw g 6 0) 6 0 (gZ g) k) 6 1 (gZ g) v)) 50 _ _ (.ref (gZ g) :: .ref (A 11 t) :: .ref (A 0 0) :: [])
    have hmk := c_S_make D A t 2 k v mb mc (up N 52 0 (N 52 0 - 1)) M (h.bud _) hI hb hc hba ha.1 (Or.inl ha.2) (by exact Or.inl ⟨by omega, hk1⟩) _ (gZ g) hE1 (QOb_2 g 6 k v (by decide))
    refine g_cV o 1 (by decide) ((gnw_K (hE2 (A 0 0) (by omega))).trans h0a) hmk q_S_make lm_S_273 d_S_put_50 (by decide) rfl (by first | exact Nat.le_of_ble_eq_true rfl | (simp only [List.map_cons, List.map_nil, cat_rf, J_cat, List.sum_cons, List.sum_nil, cat_lg, cat_rr]; decide)) rfl (fun r g3 hh => ?_)
    obtain ⟨A1, N1, hF3, x, rfl, rfl, hfw, hsm⟩ := hh
    refine n_out hF3 ?_
    exact n_iret o d_S_put_53 ⟨by rw [er], FwB.bud hfw, by rw [er]; exact hsm⟩
  by_cases hm : inM M t
  · skip
    refine v_aload_nq (i := 0) o.ok d_S_put_0 rfl rfl ?_
    refine v_iload_n (i := 1) o.ok d_S_put_1 rfl rfl ?_
    refine n_cV o 1 (tg := 0) rfl (by decide) (by decide) (by first | rfl | assumption | exact And.intro (by omega) (by omega)) (c_S_findI D A t N M h.t hw.par hm) q_S_find lm_S_240 d_S_put_2 (by decide) rfl (by first | exact Nat.le_of_ble_eq_true rfl | (simp only [List.map_cons, List.map_nil, cat_rf, J_cat, List.sum_cons, List.sum_nil, cat_lg, cat_rr]; decide)) rfl (n_f ?_)
    refine v_astoreq (i := 4) (L' := [(0, _), (1, _), (2, _), (3, _), (4, _)]) (G' := []) o.ok d_S_put_5 (o.lt (by decide)) rfl rfl ?_
    refine v_iload_n (i := 2) o.ok d_S_put_7 rfl rfl ?_
    refine v_iconst o.ok d_S_put_8 ?_
    refine v_bipush o.ok d_S_put_9 rfl ?_
    refine n_cS o (c_S_outside D A k 0 31 N hk (by omega) (by omega)) q_S_outside lm_S_53 d_S_put_11 (by decide) rfl (by first | exact Nat.le_of_ble_eq_true rfl | (simp only [List.map_cons, List.map_nil, cat_rf, J_cat, List.sum_cons, List.sum_nil, cat_lg, cat_rr]; decide)) rfl (n_f ?_)
    first | refine v_ifeq_b o.ok d_S_put_14 (fun c14 => ?_) (fun c14 => ?_) | refine v_if_eq o.ok (by omega) d_S_put_14 (fun c14 => ?_) (fun c14 => ?_)
    · refine v_aloadq (i := 4) o.ok d_S_put_21 rfl ?_
      refine n_cS o (c_S_bar D A t N M h.t hw.par hs hm) q_S_bar lm_S_267 d_S_put_23 (by decide) rfl (by first | exact Nat.le_of_ble_eq_true rfl | (simp only [List.map_cons, List.map_nil, cat_rf, J_cat, List.sum_cons, List.sum_nil, cat_lg, cat_rr]; decide)) rfl (n_f ?_)
      refine v_istore (i := 5) (L' := [(0, _), (1, _), (2, _), (3, _), (4, _), (5, _)]) (G' := []) o.ok d_S_put_26 (o.lt (by decide)) rfl rfl ?_
      refine v_iload (i := 5) o.ok d_S_put_28 rfl ?_
      refine v_if_eq o.ok (by omega) d_S_put_30 (fun c30 => ?_) (fun c30 => ?_)
      · first | (exfalso; omega) | exact k38 _ (by omega) (by assumption)
      · refine v_iload (i := 5) o.ok d_S_put_33 rfl ?_
        refine v_goto o.ok d_S_put_35 ?_
        refine n_iret o d_S_put_53 (by first | exact rA (by assumption) (by omega) | exact rB (by omega))
    · refine v_iconst o.ok d_S_put_17 ?_
      refine v_goto o.ok d_S_put_18 ?_
      refine v_istore (i := 5) (L' := [(0, _), (1, _), (2, _), (3, _), (4, _), (5, _)]) (G' := []) o.ok d_S_put_26 (o.lt (by decide)) rfl rfl ?_
      refine v_iload (i := 5) o.ok d_S_put_28 rfl ?_
      refine v_if_eq o.ok (by omega) d_S_put_30 (fun c30 => ?_) (fun c30 => ?_)
      · first | (exfalso; omega) | exact k38 _ (by omega) (by assumption)
      · refine v_iload (i := 5) o.ok d_S_put_33 rfl ?_
        refine v_goto o.ok d_S_put_35 ?_
        refine n_iret o d_S_put_53 (by first | exact rA (by assumption) (by omega) | exact rB (by omega))
  · have eb : bar M t = -1 := pick_f (fun q => hm q.1)
    have er : r_ask M (0 ≤ k ∧ k ≤ 31) t 2 k v = (-1, M) := by unfold r_ask; rw [pick_f (fun z => hm z.1.1)]
    refine v_aload_nq (i := 0) o.ok d_S_put_0 rfl rfl ?_
    refine v_iload_n (i := 1) o.ok d_S_put_1 rfl rfl ?_
    refine n_cV o 1 (tg := 0) rfl (by decide) (by decide) (by first | rfl | assumption | exact And.intro (by omega) (by omega)) (c_S_findN D A t N M h.t hw.par hm hr) q_S_find lm_S_240 d_S_put_2 (by decide) rfl (by first | exact Nat.le_of_ble_eq_true rfl | (simp only [List.map_cons, List.map_nil, cat_rf, J_cat, List.sum_cons, List.sum_nil, cat_lg, cat_rr]; decide)) rfl (n_f ?_)
    refine v_astoreq (i := 4) (L' := [(0, _), (1, _), (2, _), (3, _), (4, _)]) (G' := []) o.ok d_S_put_5 (o.lt (by decide)) rfl rfl ?_
    refine v_iload_n (i := 2) o.ok d_S_put_7 rfl rfl ?_
    refine v_iconst o.ok d_S_put_8 ?_
    refine v_bipush o.ok d_S_put_9 rfl ?_
    refine n_cS o (c_S_outside D A k 0 31 N hk (by omega) (by omega)) q_S_outside lm_S_53 d_S_put_11 (by decide) rfl (by first | exact Nat.le_of_ble_eq_true rfl | (simp only [List.map_cons, List.map_nil, cat_rf, J_cat, List.sum_cons, List.sum_nil, cat_lg, cat_rr]; decide)) rfl (n_f ?_)
    first | refine v_ifeq_b o.ok d_S_put_14 (fun c14 => ?_) (fun c14 => ?_) | refine v_if_eq o.ok (by omega) d_S_put_14 (fun c14 => ?_) (fun c14 => ?_)
    · refine v_aloadq (i := 4) o.ok d_S_put_21 rfl ?_
      refine n_cS o (c_S_barN D A N) q_S_bar lm_S_267 d_S_put_23 (by decide) rfl (by first | exact Nat.le_of_ble_eq_true rfl | (simp only [List.map_cons, List.map_nil, cat_rf, J_cat, List.sum_cons, List.sum_nil, cat_lg, cat_rr]; decide)) rfl (n_f ?_)
      refine v_istore (i := 5) (L' := [(0, _), (1, _), (2, _), (3, _), (4, _), (5, _)]) (G' := []) o.ok d_S_put_26 (o.lt (by decide)) rfl rfl ?_
      refine v_iload (i := 5) o.ok d_S_put_28 rfl ?_
      refine v_if_eq o.ok (by omega) d_S_put_30 (fun c30 => ?_) (fun c30 => ?_)
      · exfalso; omega
      · refine v_iload (i := 5) o.ok d_S_put_33 rfl ?_
        refine v_goto o.ok d_S_put_35 ?_
        refine n_iret o d_S_put_53 (by rw [er]; exact ⟨rfl, FwB.of (Fwd.rf N A), h⟩)
    · refine v_iconst o.ok d_S_put_17 ?_
      refine v_goto o.ok d_S_put_18 ?_
      refine v_istore (i := 5) (L' := [(0, _), (1, _), (2, _), (3, _), (4, _), (5, _)]) (G' := []) o.ok d_S_put_26 (o.lt (by decide)) rfl rfl ?_
      refine v_iload (i := 5) o.ok d_S_put_28 rfl ?_
      refine v_if_eq o.ok (by omega) d_S_put_30 (fun c30 => ?_) (fun c30 => ?_)
      · exfalso; omega
      · refine v_iload (i := 5) o.ok d_S_put_33 rfl ?_
        refine v_goto o.ok d_S_put_35 ?_
        refine n_iret o d_S_put_53 (by rw [er]; exact ⟨rfl, FwB.of (Fwd.rf N A), h⟩)
set_option maxHeartbeats 4000000 in
set_option maxRecDepth 20000 in
theorem c_S_scan (D : GD) (A : ASt) (t k v mb mc : Int) (N M : MSt) (h : Sim N M) (hI : Inv mb mc M) (hb : mb ≤ 300) (hc : mc ≤ 900000) (hba : M 11 0 ≤ 1000000) (hr : InR t) (hk : InR k) (hvv : InR v) (hbud : 1 ≤ N 52 0) : NX D y_S_scan (wsOf y_S_scan b_S_scan 6 (some .int)) (9) [rq A 0 (0), J (t), J (k), J (v)] A N (fun x A1 N1 => x = J (r_ask M (0 ≤ k ∧ k ≤ v ∧ v ≤ 31) t 4 k v).1 ∧ FwB N A N1 A1 ∧ Sim N1 (r_ask M (0 ≤ k ∧ k ≤ v ∧ v ≤ 31) t 4 k v).2) := by
  refine NCon.of (by decide) (by simp [cat_rf, J_cat]) (Nat.le_of_ble_eq_true rfl) ?_
  intro X g0 o
  show V X (RelN D A N) 0 [(0, rq A 0 (0)), (1, J (t)), (2, J (k)), (3, J (v))] [] []
  have hi := hI.iv hb hc hba
  obtain ⟨hw, hd, hs, hl, hv⟩ := hi
  have hbi := bar_in M t
  have rA : bar M t ≠ 0 → (0 ≤ k ∧ k ≤ v ∧ v ≤ 31) → J (bar M t) = J (r_ask M (0 ≤ k ∧ k ≤ v ∧ v ≤ 31) t 4 k v).1 ∧ FwB N A N A ∧ Sim N (r_ask M (0 ≤ k ∧ k ≤ v ∧ v ≤ 31) t 4 k v).2 := fun h1 h2 => by
    rw [ask_bar h2, pick_f h1]
    exact ⟨rfl, FwB.of (Fwd.rf N A), h⟩
  have rB : ¬ (0 ≤ k ∧ k ≤ v ∧ v ≤ 31) → J (-1) = J (r_ask M (0 ≤ k ∧ k ≤ v ∧ v ≤ 31) t 4 k v).1 ∧ FwB N A N A ∧ Sim N (r_ask M (0 ≤ k ∧ k ≤ v ∧ v ≤ 31) t 4 k v).2 := fun h2 => by
    rw [ask_no h2]
    exact ⟨rfl, FwB.of (Fwd.rf N A), h⟩
  have k48 : ∀ z4 : Int, (0 ≤ k ∧ k ≤ v ∧ v ≤ 31) → bar M t = 0 → V X (RelN D A N) 48 [(0, rq A 0 0), (1, J t), (2, J k), (3, J v), (4, rq A 11 t), (5, J z4)] [] [] := by
    intro z4 hk1 hbz
    have ha := bar_act hbz
    have htn : 0 ≤ t ∧ t < N 51 0 := by rw [h.t.1.2]; exact ha.1
    have er : r_ask M (0 ≤ k ∧ k ≤ v ∧ v ≤ 31) t 4 k v = req M t 4 k v := by rw [ask_bar hk1, pick_t hbz]
    refine v_aload_nq (i := 0) o.ok d_S_scan_48 rfl rfl ?_
    refine v_aloadq (i := 4) o.ok d_S_scan_49 rfl ?_
    refine n_in fun g hF => ?_
    have hC := hF.2.2.2.2.2.1
    have h0a : gK g (A 0 0) = 1 := (hF.2.2.1 0 0 (by decide) rfl).1
    refine V.get (fun H hR => (⟨newQ_2 hF hR hbud 8 k v, fun b z => by have := (hR.2.1 b z).1; omega⟩ : Flat D A (up N 52 0 (N 52 0 - 1)) (uI (uI (gnw g 8 0) 8 0 (gZ g) k) 8 1 (gZ g) v) ∧ ∀ b, gK g b ≠ 0 → b ≠ gZ g)) fun ⟨hE1, hE2⟩ => ?_
    refine g_new o 8 (by decide) jc_S_285 ji_RS in_RS (by have := hC.2.2.2; have := hC.2.1; have := hC.1; omega) d_S_scan_51 ?_
    refine v_dup o.ok d_S_scan_54 rfl ?_
    refine v_iload_n (i := 2) o.ok d_S_scan_55 rfl rfl ?_
    refine v_iload_n (i := 3) o.ok d_S_scan_56 rfl rfl ?_
    (try simp only [rq])
    rw [rfv_s (A := A) (tg := 0) (v := 0) (by omega), rfv_s (A := A) (tg := 11) (v := t) htn.1]
    refine g_cIN o (c_RS_init D (gnw g 8 0) (gZ g) k v gnw_K0 hk hvv) q_RS_init ln_S_287 d_S_scan_57 (by decide) rfl (by first | exact Nat.le_of_ble_eq_true rfl | (simp only [List.map_cons, List.map_nil, cat_rf, J_cat, List.sum_cons, List.sum_nil, cat_lg, cat_rr]; decide)) rfl (fun r g1 hh => ?_)
    obtain ⟨rfl, rfl⟩ := hh
    show V X (RelG D (uI (uI (gnw g 8 0) 8 0 (gZ g) k) 8 1 (gZ g) v)) 60 _ _ (.ref (gZ g) :: .ref (A 11 t) :: .ref (A 0 0) :: [])
    have hmk := c_S_make D A t 4 k v mb mc (up N 52 0 (N 52 0 - 1)) M (h.bud _) hI hb hc hba ha.1 (Or.inl ha.2) (by exact Or.inr ⟨rfl, hk1⟩) _ (gZ g) hE1 (QOb_2 g 8 k v (by decide))
    refine g_cV o 1 (by decide) ((gnw_K (hE2 (A 0 0) (by omega))).trans h0a) hmk q_S_make lm_S_273 d_S_scan_60 (by decide) rfl (by first | exact Nat.le_of_ble_eq_true rfl | (simp only [List.map_cons, List.map_nil, cat_rf, J_cat, List.sum_cons, List.sum_nil, cat_lg, cat_rr]; decide)) rfl (fun r g3 hh => ?_)
    obtain ⟨A1, N1, hF3, x, rfl, rfl, hfw, hsm⟩ := hh
    refine n_out hF3 ?_
    exact n_iret o d_S_scan_63 ⟨by rw [er], FwB.bud hfw, by rw [er]; exact hsm⟩
  by_cases hm : inM M t
  · skip
    refine v_aload_nq (i := 0) o.ok d_S_scan_0 rfl rfl ?_
    refine v_iload_n (i := 1) o.ok d_S_scan_1 rfl rfl ?_
    refine n_cV o 1 (tg := 0) rfl (by decide) (by decide) (by first | rfl | assumption | exact And.intro (by omega) (by omega)) (c_S_findI D A t N M h.t hw.par hm) q_S_find lm_S_240 d_S_scan_2 (by decide) rfl (by first | exact Nat.le_of_ble_eq_true rfl | (simp only [List.map_cons, List.map_nil, cat_rf, J_cat, List.sum_cons, List.sum_nil, cat_lg, cat_rr]; decide)) rfl (n_f ?_)
    refine v_astoreq (i := 4) (L' := [(0, _), (1, _), (2, _), (3, _), (4, _)]) (G' := []) o.ok d_S_scan_5 (o.lt (by decide)) rfl rfl ?_
    refine v_iload_n (i := 2) o.ok d_S_scan_7 rfl rfl ?_
    refine v_iconst o.ok d_S_scan_8 ?_
    refine v_bipush o.ok d_S_scan_9 rfl ?_
    refine n_cS o (c_S_outside D A k 0 31 N hk (by omega) (by omega)) q_S_outside lm_S_53 d_S_scan_11 (by decide) rfl (by first | exact Nat.le_of_ble_eq_true rfl | (simp only [List.map_cons, List.map_nil, cat_rf, J_cat, List.sum_cons, List.sum_nil, cat_lg, cat_rr]; decide)) rfl (n_f ?_)
    first | refine v_ifne_b o.ok d_S_scan_14 (fun c14 => ?_) (fun c14 => ?_) | refine v_if_ne o.ok (by omega) d_S_scan_14 (fun c14 => ?_) (fun c14 => ?_)
    · refine v_iconst o.ok d_S_scan_27 ?_
      refine v_goto o.ok d_S_scan_28 ?_
      refine v_istore (i := 5) (L' := [(0, _), (1, _), (2, _), (3, _), (4, _), (5, _)]) (G' := []) o.ok d_S_scan_36 (o.lt (by decide)) rfl rfl ?_
      refine v_iload (i := 5) o.ok d_S_scan_38 rfl ?_
      refine v_if_eq o.ok (by omega) d_S_scan_40 (fun c40 => ?_) (fun c40 => ?_)
      · first | (exfalso; omega) | exact k48 _ (by omega) (by assumption)
      · refine v_iload (i := 5) o.ok d_S_scan_43 rfl ?_
        refine v_goto o.ok d_S_scan_45 ?_
        refine n_iret o d_S_scan_63 (by first | exact rA (by assumption) (by omega) | exact rB (by omega))
    · refine v_iload_n (i := 3) o.ok d_S_scan_17 rfl rfl ?_
      refine v_iload_n (i := 2) o.ok d_S_scan_18 rfl rfl ?_
      refine v_bipush o.ok d_S_scan_19 rfl ?_
      refine n_cS o (c_S_outside D A v k 31 N hvv hk (by omega)) q_S_outside lm_S_53 d_S_scan_21 (by decide) rfl (by first | exact Nat.le_of_ble_eq_true rfl | (simp only [List.map_cons, List.map_nil, cat_rf, J_cat, List.sum_cons, List.sum_nil, cat_lg, cat_rr]; decide)) rfl (n_f ?_)
      first | refine v_ifeq_b o.ok d_S_scan_24 (fun c24 => ?_) (fun c24 => ?_) | refine v_if_eq o.ok (by omega) d_S_scan_24 (fun c24 => ?_) (fun c24 => ?_)
      · refine v_aloadq (i := 4) o.ok d_S_scan_31 rfl ?_
        refine n_cS o (c_S_bar D A t N M h.t hw.par hs hm) q_S_bar lm_S_267 d_S_scan_33 (by decide) rfl (by first | exact Nat.le_of_ble_eq_true rfl | (simp only [List.map_cons, List.map_nil, cat_rf, J_cat, List.sum_cons, List.sum_nil, cat_lg, cat_rr]; decide)) rfl (n_f ?_)
        refine v_istore (i := 5) (L' := [(0, _), (1, _), (2, _), (3, _), (4, _), (5, _)]) (G' := []) o.ok d_S_scan_36 (o.lt (by decide)) rfl rfl ?_
        refine v_iload (i := 5) o.ok d_S_scan_38 rfl ?_
        refine v_if_eq o.ok (by omega) d_S_scan_40 (fun c40 => ?_) (fun c40 => ?_)
        · first | (exfalso; omega) | exact k48 _ (by omega) (by assumption)
        · refine v_iload (i := 5) o.ok d_S_scan_43 rfl ?_
          refine v_goto o.ok d_S_scan_45 ?_
          refine n_iret o d_S_scan_63 (by first | exact rA (by assumption) (by omega) | exact rB (by omega))
      · refine v_iconst o.ok d_S_scan_27 ?_
        refine v_goto o.ok d_S_scan_28 ?_
        refine v_istore (i := 5) (L' := [(0, _), (1, _), (2, _), (3, _), (4, _), (5, _)]) (G' := []) o.ok d_S_scan_36 (o.lt (by decide)) rfl rfl ?_
        refine v_iload (i := 5) o.ok d_S_scan_38 rfl ?_
        refine v_if_eq o.ok (by omega) d_S_scan_40 (fun c40 => ?_) (fun c40 => ?_)
        · first | (exfalso; omega) | exact k48 _ (by omega) (by assumption)
        · refine v_iload (i := 5) o.ok d_S_scan_43 rfl ?_
          refine v_goto o.ok d_S_scan_45 ?_
          refine n_iret o d_S_scan_63 (by first | exact rA (by assumption) (by omega) | exact rB (by omega))
  · have eb : bar M t = -1 := pick_f (fun q => hm q.1)
    have er : r_ask M (0 ≤ k ∧ k ≤ v ∧ v ≤ 31) t 4 k v = (-1, M) := by unfold r_ask; rw [pick_f (fun z => hm z.1.1)]
    refine v_aload_nq (i := 0) o.ok d_S_scan_0 rfl rfl ?_
    refine v_iload_n (i := 1) o.ok d_S_scan_1 rfl rfl ?_
    refine n_cV o 1 (tg := 0) rfl (by decide) (by decide) (by first | rfl | assumption | exact And.intro (by omega) (by omega)) (c_S_findN D A t N M h.t hw.par hm hr) q_S_find lm_S_240 d_S_scan_2 (by decide) rfl (by first | exact Nat.le_of_ble_eq_true rfl | (simp only [List.map_cons, List.map_nil, cat_rf, J_cat, List.sum_cons, List.sum_nil, cat_lg, cat_rr]; decide)) rfl (n_f ?_)
    refine v_astoreq (i := 4) (L' := [(0, _), (1, _), (2, _), (3, _), (4, _)]) (G' := []) o.ok d_S_scan_5 (o.lt (by decide)) rfl rfl ?_
    refine v_iload_n (i := 2) o.ok d_S_scan_7 rfl rfl ?_
    refine v_iconst o.ok d_S_scan_8 ?_
    refine v_bipush o.ok d_S_scan_9 rfl ?_
    refine n_cS o (c_S_outside D A k 0 31 N hk (by omega) (by omega)) q_S_outside lm_S_53 d_S_scan_11 (by decide) rfl (by first | exact Nat.le_of_ble_eq_true rfl | (simp only [List.map_cons, List.map_nil, cat_rf, J_cat, List.sum_cons, List.sum_nil, cat_lg, cat_rr]; decide)) rfl (n_f ?_)
    first | refine v_ifne_b o.ok d_S_scan_14 (fun c14 => ?_) (fun c14 => ?_) | refine v_if_ne o.ok (by omega) d_S_scan_14 (fun c14 => ?_) (fun c14 => ?_)
    · refine v_iconst o.ok d_S_scan_27 ?_
      refine v_goto o.ok d_S_scan_28 ?_
      refine v_istore (i := 5) (L' := [(0, _), (1, _), (2, _), (3, _), (4, _), (5, _)]) (G' := []) o.ok d_S_scan_36 (o.lt (by decide)) rfl rfl ?_
      refine v_iload (i := 5) o.ok d_S_scan_38 rfl ?_
      refine v_if_eq o.ok (by omega) d_S_scan_40 (fun c40 => ?_) (fun c40 => ?_)
      · exfalso; omega
      · refine v_iload (i := 5) o.ok d_S_scan_43 rfl ?_
        refine v_goto o.ok d_S_scan_45 ?_
        refine n_iret o d_S_scan_63 (by rw [er]; exact ⟨rfl, FwB.of (Fwd.rf N A), h⟩)
    · refine v_iload_n (i := 3) o.ok d_S_scan_17 rfl rfl ?_
      refine v_iload_n (i := 2) o.ok d_S_scan_18 rfl rfl ?_
      refine v_bipush o.ok d_S_scan_19 rfl ?_
      refine n_cS o (c_S_outside D A v k 31 N hvv hk (by omega)) q_S_outside lm_S_53 d_S_scan_21 (by decide) rfl (by first | exact Nat.le_of_ble_eq_true rfl | (simp only [List.map_cons, List.map_nil, cat_rf, J_cat, List.sum_cons, List.sum_nil, cat_lg, cat_rr]; decide)) rfl (n_f ?_)
      first | refine v_ifeq_b o.ok d_S_scan_24 (fun c24 => ?_) (fun c24 => ?_) | refine v_if_eq o.ok (by omega) d_S_scan_24 (fun c24 => ?_) (fun c24 => ?_)
      · refine v_aloadq (i := 4) o.ok d_S_scan_31 rfl ?_
        refine n_cS o (c_S_barN D A N) q_S_bar lm_S_267 d_S_scan_33 (by decide) rfl (by first | exact Nat.le_of_ble_eq_true rfl | (simp only [List.map_cons, List.map_nil, cat_rf, J_cat, List.sum_cons, List.sum_nil, cat_lg, cat_rr]; decide)) rfl (n_f ?_)
        refine v_istore (i := 5) (L' := [(0, _), (1, _), (2, _), (3, _), (4, _), (5, _)]) (G' := []) o.ok d_S_scan_36 (o.lt (by decide)) rfl rfl ?_
        refine v_iload (i := 5) o.ok d_S_scan_38 rfl ?_
        refine v_if_eq o.ok (by omega) d_S_scan_40 (fun c40 => ?_) (fun c40 => ?_)
        · exfalso; omega
        · refine v_iload (i := 5) o.ok d_S_scan_43 rfl ?_
          refine v_goto o.ok d_S_scan_45 ?_
          refine n_iret o d_S_scan_63 (by rw [er]; exact ⟨rfl, FwB.of (Fwd.rf N A), h⟩)
      · refine v_iconst o.ok d_S_scan_27 ?_
        refine v_goto o.ok d_S_scan_28 ?_
        refine v_istore (i := 5) (L' := [(0, _), (1, _), (2, _), (3, _), (4, _), (5, _)]) (G' := []) o.ok d_S_scan_36 (o.lt (by decide)) rfl rfl ?_
        refine v_iload (i := 5) o.ok d_S_scan_38 rfl ?_
        refine v_if_eq o.ok (by omega) d_S_scan_40 (fun c40 => ?_) (fun c40 => ?_)
        · exfalso; omega
        · refine v_iload (i := 5) o.ok d_S_scan_43 rfl ?_
          refine v_goto o.ok d_S_scan_45 ?_
          refine n_iret o d_S_scan_63 (by rw [er]; exact ⟨rfl, FwB.of (Fwd.rf N A), h⟩)
set_option maxHeartbeats 4000000 in
set_option maxRecDepth 20000 in
theorem c_S_resume (D : GD) (A : ASt) (t mb mc : Int) (N M : MSt) (h : Sim N M) (hI : Inv mb mc M) (hb : mb ≤ 300) (hc : mc ≤ 900000) (hba : M 11 0 ≤ 1000000) (hr : InR t) : NX D y_S_resume (wsOf y_S_resume b_S_resume 3 (some .int)) (9) [rq A 0 (0), J (t)] A N (fun x A1 N1 => x = J (r_resume M t).1 ∧ FwB N A N1 A1 ∧ Sim N1 (r_resume M t).2) := by
  refine NCon.of (by decide) (by simp [cat_rf, J_cat]) (Nat.le_of_ble_eq_true rfl) ?_
  intro X g0 o
  show V X (RelN D A N) 0 [(0, rq A 0 (0)), (1, J (t))] [] []
  have hi := hI.iv hb hc hba
  obtain ⟨hw, hd, hs, hl, hv⟩ := hi
  by_cases hm : inM M t
  · have eS := h.liv hm
    have hst := hs t hm.1 hm.2
    have hvt : 0 ≤ t ∧ t < N 51 0 := (by rw [h.t.1.2]; exact hm)
    have hvs : Vld N 20 (N 35 t) := (by rw [eS]; exact hst)
    have k24 : M 23 t = 2 → V X (RelN D A N) 24 [(0, rq A 0 0), (1, J t), (2, rq A 11 t)] [] [] := by
      intro hs2
      have er : r_resume M t = req M t (M 27 t) (M 28 t) (M 29 t) := by unfold r_resume; rw [pick_t ⟨hm, hs2⟩]
      have hrq := hI.1.2.2.2.2 t hm.1 hm.2 hs2
      obtain ⟨q1, q2, q3⟩ := (h.t.2 t hm.1 hm.2).2.2.2.2 hs2
      have hw4 := hrq.w
      refine v_aload_nq (i := 0) o.ok d_S_resume_24 rfl rfl ?_
      refine v_aload_nq (i := 2) o.ok d_S_resume_25 rfl rfl ?_
      refine v_aload_nq (i := 2) o.ok d_S_resume_26 rfl rfl ?_
      refine n_req o hvt (by omega) lf_S_198 d_S_resume_27 ?_
      refine n_in fun g hF => ?_
      have h0a : gK g (A 0 0) = 1 := (hF.2.2.1 0 0 (by decide) rfl).1
      have hQ := (hF.2.1.ob hvt (by omega)).2
      have hQ2 : QOb g (A 13 t) (M 27 t) (M 28 t) (M 29 t) := by
        obtain ⟨z1, z2, z3, z4⟩ := hQ
        rw [q1] at z1 z2 z3 z4
        rw [q2] at z3
        exact ⟨z1, z2, z3, fun y => (z4 y).trans (q3 y)⟩
      (try simp only [rq])
      rw [rfv_s (A := A) (tg := 0) (v := 0) (by omega), rfv_s (A := A) (tg := 11) (v := t) hvt.1, rfv_s (A := A) (tg := 13) (v := t) hvt.1]
      have hmk := c_S_make D A t (M 27 t) (M 28 t) (M 29 t) mb mc N M h hI hb hc hba hm (Or.inr hs2) hrq g (A 13 t) hF hQ2
      refine g_cV o 1 (by decide) h0a hmk q_S_make lm_S_273 d_S_resume_30 (by decide) rfl (by first | exact Nat.le_of_ble_eq_true rfl | (simp only [List.map_cons, List.map_nil, cat_rf, J_cat, List.sum_cons, List.sum_nil, cat_lg, cat_rr]; decide)) rfl (fun r g3 hh => ?_)
      obtain ⟨A1, N1, hF3, x, rfl, rfl, hfw, hsm⟩ := hh
      refine n_out hF3 ?_
      exact n_iret o d_S_resume_33 ⟨by rw [er], FwB.of hfw, by rw [er]; exact hsm⟩
    refine v_aload_nq (i := 0) o.ok d_S_resume_0 rfl rfl ?_
    refine v_iload_n (i := 1) o.ok d_S_resume_1 rfl rfl ?_
    refine n_cV o 1 (tg := 0) rfl (by decide) (by decide) (by first | rfl | exact hvs | exact hvt) (c_S_findI D A t N M h.t hw.par hm) q_S_find lm_S_240 d_S_resume_2 (by decide) rfl (by first | exact Nat.le_of_ble_eq_true rfl | (simp only [List.map_cons, List.map_nil, cat_rf, J_cat, List.sum_cons, List.sum_nil, cat_lg, cat_rr]; decide)) rfl (n_f ?_)
    refine v_astore_nq (i := 2) (L' := [(0, _), (1, _), (2, _)]) (G' := []) o.ok d_S_resume_5 rfl (o.lt (by decide)) rfl rfl ?_
    refine v_aload_nq (i := 2) o.ok d_S_resume_6 rfl rfl ?_
    refine n_ifnull o.ok d_S_resume_7 (fun c7 => ?_) (fun c7 => ?_)
    · exfalso; have := hm.1; omega
    · refine v_aload_nq (i := 2) o.ok d_S_resume_10 rfl rfl ?_
      refine n_getr o 35 20 rfl rfl rfl (by decide) lf_S_182 (by first | rfl | exact hvs | exact hvt) d_S_resume_11 (fun r11 => ?_)
      refine n_getQ o 2 (by decide) ls_S_195 d_S_resume_14 ?_
      refine n_injQ o (fun j17 => ?_)
      refine n_acmp_eq o.ok j17 (by first | exact Or.inr hvs | exact Or.inr (show (1 : Int) ≤ _ ∧ _ < (5 : Int) by decide)) (by first | exact Or.inr hvs | exact Or.inr (show (1 : Int) ≤ _ ∧ _ < (5 : Int) by decide)) d_S_resume_17 (fun c17 => ?_) (fun c17 => ?_)
      · exact k24 (by rw [← eS]; assumption)
      · have er : r_resume M t = (-1, M) := (by unfold r_resume; rw [pick_f (fun z => absurd (show N 35 t = 2 by rw [eS]; exact z.2) (by assumption))])
        refine v_iconst o.ok d_S_resume_20 ?_
        refine v_goto o.ok d_S_resume_21 ?_
        exact n_iret o d_S_resume_33 ⟨by rw [er], FwB.of (Fwd.rf N A), by rw [er]; exact h⟩
  · have er : r_resume M t = (-1, M) := pick_f (fun q => hm q.1)
    refine v_aload_nq (i := 0) o.ok d_S_resume_0 rfl rfl ?_
    refine v_iload_n (i := 1) o.ok d_S_resume_1 rfl rfl ?_
    refine n_cV o 1 (tg := 0) rfl (by decide) (by decide) (by first | rfl | assumption | exact And.intro (by omega) (by omega)) (c_S_findN D A t N M h.t hw.par hm hr) q_S_find lm_S_240 d_S_resume_2 (by decide) rfl (by first | exact Nat.le_of_ble_eq_true rfl | (simp only [List.map_cons, List.map_nil, cat_rf, J_cat, List.sum_cons, List.sum_nil, cat_lg, cat_rr]; decide)) rfl (n_f ?_)
    refine v_astore_nq (i := 2) (L' := [(0, _), (1, _), (2, _)]) (G' := []) o.ok d_S_resume_5 rfl (o.lt (by decide)) rfl rfl ?_
    refine v_aload_nq (i := 2) o.ok d_S_resume_6 rfl rfl ?_
    refine n_ifnull o.ok d_S_resume_7 (fun c7 => ?_) (fun c7 => ?_)
    · refine v_iconst o.ok d_S_resume_20 ?_
      refine v_goto o.ok d_S_resume_21 ?_
      refine n_iret o d_S_resume_33 ⟨by rw [er], FwB.of (Fwd.rf N A), by rw [er]; exact h⟩
    · exfalso; omega
set_option maxHeartbeats 4000000 in
set_option maxRecDepth 20000 in
theorem c_S_waits (D : GD) (A : ASt) (t u : Int) (N M : MSt) (h : Sim N M) (hi : IvM M) (hr : InR t) (hu : InR u) : NF D y_S_waits (wsOf y_S_waits b_S_waits 4 (some .boolean)) (5) [rq A 0 (0), J (t), J (u)] A N (J (b01 (Wts M t u))) (N) := by
  refine NCon.of (by decide) (by simp [cat_rf, J_cat]) (Nat.le_of_ble_eq_true rfl) ?_
  intro X g0 o
  show V X (RelN D A N) 0 [(0, rq A 0 (0)), (1, J (t)), (2, J (u))] [] []
  obtain ⟨hw, hd, hs, hl, hv⟩ := hi
  have hreq : ReqA M := hw.req
  have hA : AskOk N M := ⟨h, hw.par, hd, hl⟩
  have hm60 := hw.par.2.1
  by_cases hm : inM M t
  · have eS := h.liv hm
    have hst := hs t hm.1 hm.2
    have hvt : 0 ≤ t ∧ t < N 51 0 := (by rw [h.t.1.2]; exact hm)
    have hvs : Vld N 20 (N 35 t) := (by rw [eS]; exact hst)
    have k30 : M 23 t = 2 → inM M u → V X (RelN D A N) 30 [(0, rq A 0 0), (1, J t), (2, J u), (3, rq A 11 t)] [] [] := by
      intro hs2 hun
      have hq := (req_w h.t hreq hm hs2).1
      have hw4 := hq.w
      have hu1 := hun.1
      have hu2 := hun.2
      refine v_aload_nq (i := 3) o.ok d_S_waits_30 rfl rfl ?_
      refine n_req o hvt (by omega) lf_S_198 d_S_waits_31 ?_
      refine v_aload_nq (i := 0) o.ok d_S_waits_34 rfl rfl ?_
      refine v_aload_nq (i := 3) o.ok d_S_waits_35 rfl rfl ?_
      refine v_iconst o.ok d_S_waits_36 ?_
      refine n_askc o hA hm hq (Or.inl rfl) d_S_waits_37 (by decide) (by first | exact Nat.le_of_ble_eq_true rfl | (simp only [List.map_cons, List.map_nil, cat_rf, J_cat, List.sum_cons, List.sum_nil, cat_lg, cat_rr]; decide)) (fun w2 N2 hAr => ?_)
      obtain ⟨rfl, hbt⟩ := ask_0 h.t hreq hm hs2 hAr
      have hW : Wts M t u ↔ lb w2 u := by
        rw [hbt u]
        unfold Wts
        exact ⟨fun z => ⟨z.2.2.2.1, hun, z.2.2.2.2⟩, fun z => ⟨hm, hun, hs2, z.1, z.2.2⟩⟩
      refine v_iload_n (i := 2) o.ok d_S_waits_42 rfl rfl ?_
      refine v_lshr o.ok d_S_waits_43 ?_
      refine v_lconst o.ok d_S_waits_44 rfl ?_
      refine v_land o.ok d_S_waits_45 ?_
      refine v_lconst o.ok d_S_waits_46 rfl ?_
      refine v_lcmp o.ok d_S_waits_47 ?_
      rw [lcm_e]
      refine v_if_ne o.ok (by exact cmI_r _ _) d_S_waits_48 (fun c48 => ?_) (fun c48 => ?_)
      · refine v_iconst o.ok d_S_waits_55 ?_
        refine n_zret o (by first | exact b01_or _ | omega | simp) d_S_waits_56 ⟨congrArg J (by first | exact (b01_t (hW.mpr ((lb_sr (by omega)).mp (cmI_0.mp (by assumption))))).symm | exact (b01_f (fun z => absurd (cmI_0.mpr ((lb_sr (by omega)).mpr (hW.mp z))) (by assumption))).symm), rfl, rfl⟩
      · refine v_iconst o.ok d_S_waits_51 ?_
        refine v_goto o.ok d_S_waits_52 ?_
        refine n_zret o (by first | exact b01_or _ | omega | simp) d_S_waits_56 ⟨congrArg J (by first | exact (b01_t (hW.mpr ((lb_sr (by omega)).mp (cmI_0.mp (by assumption))))).symm | exact (b01_f (fun z => absurd (cmI_0.mpr ((lb_sr (by omega)).mpr (hW.mp z))) (by assumption))).symm), rfl, rfl⟩
    have z28 : ¬ Wts M t u → V X (RelN D A N) 28 [(0, rq A 0 0), (1, J t), (2, J u), (3, rq A 11 t)] [] [] := by
      intro hz
      refine v_iconst o.ok d_S_waits_28 ?_
      refine n_zret o (by first | exact b01_or _ | omega | simp) d_S_waits_29 ⟨congrArg J (b01_f hz).symm, rfl, rfl⟩
    by_cases hun : inM M u
    · have hu1 := hun.1
      refine v_aload_nq (i := 0) o.ok d_S_waits_0 rfl rfl ?_
      refine v_iload_n (i := 1) o.ok d_S_waits_1 rfl rfl ?_
      refine n_cV o 1 (tg := 0) rfl (by decide) (by decide) (by first | rfl | exact hvs | exact hvt) (c_S_findI D A t N M h.t hw.par hm) q_S_find lm_S_240 d_S_waits_2 (by decide) rfl (by first | exact Nat.le_of_ble_eq_true rfl | (simp only [List.map_cons, List.map_nil, cat_rf, J_cat, List.sum_cons, List.sum_nil, cat_lg, cat_rr]; decide)) rfl (n_f ?_)
      refine v_astore_nq (i := 3) (L' := [(0, _), (1, _), (2, _), (3, _)]) (G' := []) o.ok d_S_waits_5 rfl (o.lt (by decide)) rfl rfl ?_
      refine v_aload_nq (i := 3) o.ok d_S_waits_6 rfl rfl ?_
      refine n_ifnull o.ok d_S_waits_7 (fun c7 => ?_) (fun c7 => ?_)
      · exfalso; have := hm.1; omega
      · refine v_aload_nq (i := 3) o.ok d_S_waits_10 rfl rfl ?_
        refine n_getr o 35 20 rfl rfl rfl (by decide) lf_S_182 (by first | rfl | exact hvs | exact hvt) d_S_waits_11 (fun r11 => ?_)
        refine n_getQ o 2 (by decide) ls_S_195 d_S_waits_14 ?_
        refine n_injQ o (fun j17 => ?_)
        refine n_acmp_ne o.ok j17 (by first | exact Or.inr hvs | exact Or.inr (show (1 : Int) ≤ _ ∧ _ < (5 : Int) by decide)) (by first | exact Or.inr hvs | exact Or.inr (show (1 : Int) ≤ _ ∧ _ < (5 : Int) by decide)) d_S_waits_17 (fun c17 => ?_) (fun c17 => ?_)
        · exact z28 (fun z => absurd (show N 35 t = 2 by rw [eS]; exact z.2.2.1) (by assumption))
        · refine v_aload_nq (i := 0) o.ok d_S_waits_20 rfl rfl ?_
          refine v_iload_n (i := 2) o.ok d_S_waits_21 rfl rfl ?_
          refine n_cV o 1 (tg := 0) rfl (by decide) (by decide) (by first | rfl | exact hvs | exact hvt) (c_S_findI D A u N M h.t hw.par hun) q_S_find lm_S_240 d_S_waits_22 (by decide) rfl (by first | exact Nat.le_of_ble_eq_true rfl | (simp only [List.map_cons, List.map_nil, cat_rf, J_cat, List.sum_cons, List.sum_nil, cat_lg, cat_rr]; decide)) rfl (n_f ?_)
          refine n_ifnonnull o.ok d_S_waits_25 (fun c25 => ?_) (fun c25 => ?_)
          · exact k30 (by rw [← eS]; assumption) hun
          · exfalso; omega
    · skip
      refine v_aload_nq (i := 0) o.ok d_S_waits_0 rfl rfl ?_
      refine v_iload_n (i := 1) o.ok d_S_waits_1 rfl rfl ?_
      refine n_cV o 1 (tg := 0) rfl (by decide) (by decide) (by first | rfl | exact hvs | exact hvt) (c_S_findI D A t N M h.t hw.par hm) q_S_find lm_S_240 d_S_waits_2 (by decide) rfl (by first | exact Nat.le_of_ble_eq_true rfl | (simp only [List.map_cons, List.map_nil, cat_rf, J_cat, List.sum_cons, List.sum_nil, cat_lg, cat_rr]; decide)) rfl (n_f ?_)
      refine v_astore_nq (i := 3) (L' := [(0, _), (1, _), (2, _), (3, _)]) (G' := []) o.ok d_S_waits_5 rfl (o.lt (by decide)) rfl rfl ?_
      refine v_aload_nq (i := 3) o.ok d_S_waits_6 rfl rfl ?_
      refine n_ifnull o.ok d_S_waits_7 (fun c7 => ?_) (fun c7 => ?_)
      · exfalso; have := hm.1; omega
      · refine v_aload_nq (i := 3) o.ok d_S_waits_10 rfl rfl ?_
        refine n_getr o 35 20 rfl rfl rfl (by decide) lf_S_182 (by first | rfl | exact hvs | exact hvt) d_S_waits_11 (fun r11 => ?_)
        refine n_getQ o 2 (by decide) ls_S_195 d_S_waits_14 ?_
        refine n_injQ o (fun j17 => ?_)
        refine n_acmp_ne o.ok j17 (by first | exact Or.inr hvs | exact Or.inr (show (1 : Int) ≤ _ ∧ _ < (5 : Int) by decide)) (by first | exact Or.inr hvs | exact Or.inr (show (1 : Int) ≤ _ ∧ _ < (5 : Int) by decide)) d_S_waits_17 (fun c17 => ?_) (fun c17 => ?_)
        · exact z28 (fun z => hun z.2.1)
        · refine v_aload_nq (i := 0) o.ok d_S_waits_20 rfl rfl ?_
          refine v_iload_n (i := 2) o.ok d_S_waits_21 rfl rfl ?_
          refine n_cV o 1 (tg := 0) rfl (by decide) (by decide) (by first | rfl | exact hvs | exact hvt) (c_S_findN D A u N M h.t hw.par hun hu) q_S_find lm_S_240 d_S_waits_22 (by decide) rfl (by first | exact Nat.le_of_ble_eq_true rfl | (simp only [List.map_cons, List.map_nil, cat_rf, J_cat, List.sum_cons, List.sum_nil, cat_lg, cat_rr]; decide)) rfl (n_f ?_)
          refine n_ifnonnull o.ok d_S_waits_25 (fun c25 => ?_) (fun c25 => ?_)
          · exfalso; omega
          · exact z28 (fun z => hun z.2.1)
  · skip
    refine v_aload_nq (i := 0) o.ok d_S_waits_0 rfl rfl ?_
    refine v_iload_n (i := 1) o.ok d_S_waits_1 rfl rfl ?_
    refine n_cV o 1 (tg := 0) rfl (by decide) (by decide) (by first | rfl | assumption | exact And.intro (by omega) (by omega)) (c_S_findN D A t N M h.t hw.par hm hr) q_S_find lm_S_240 d_S_waits_2 (by decide) rfl (by first | exact Nat.le_of_ble_eq_true rfl | (simp only [List.map_cons, List.map_nil, cat_rf, J_cat, List.sum_cons, List.sum_nil, cat_lg, cat_rr]; decide)) rfl (n_f ?_)
    refine v_astore_nq (i := 3) (L' := [(0, _), (1, _), (2, _), (3, _)]) (G' := []) o.ok d_S_waits_5 rfl (o.lt (by decide)) rfl rfl ?_
    refine v_aload_nq (i := 3) o.ok d_S_waits_6 rfl rfl ?_
    refine n_ifnull o.ok d_S_waits_7 (fun c7 => ?_) (fun c7 => ?_)
    · refine v_iconst o.ok d_S_waits_28 ?_
      refine n_zret o (by first | exact b01_or _ | omega | simp) d_S_waits_29 ⟨congrArg J (b01_f (fun z => hm z.1)).symm, rfl, rfl⟩
    · exfalso; omega

