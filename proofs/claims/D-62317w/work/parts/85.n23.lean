/-! doing what was asked for -/
theorem act_1 (M : MSt) (t a b : Int) : act M t 1 a b = (thr (tch M (a / 4)) a, up (tch M (a / 4)) 38 0 (vlw (tch M (a / 4)) a)) := by unfold act; rw [if_pos rfl]
theorem act_4 (M : MSt) (t a b : Int) : act M t 4 a b = scn M a b := by unfold act; rw [if_neg (by decide), if_pos rfl]
theorem act_2t {M : MSt} {t a b : Int} (h : Ful M) : act M t 2 a b = (-5, M) := by unfold act; rw [if_neg (by decide), if_neg (by decide), if_neg (by omega), pick_t h]
theorem act_2f {M : MSt} {t a b : Int} (h : ¬ Ful M) : act M t 2 a b = (0, s_upd M t a 1 b) := by unfold act; rw [if_neg (by decide), if_neg (by decide), if_neg (by omega), pick_f h]; rfl
theorem act_3n {M : MSt} {t a b : Int} (h : thr M a = 0) : act M t 3 a b = (0, M) := by unfold act; rw [if_neg (by decide), if_neg (by decide), if_pos ⟨rfl, h⟩]
theorem act_3t {M : MSt} {t a b : Int} (h1 : thr M a ≠ 0) (h : Ful M) : act M t 3 a b = (-5, M) := by unfold act; rw [if_neg (by decide), if_neg (by decide), if_neg (fun z => h1 z.2), pick_t h]
theorem act_3f {M : MSt} {t a b : Int} (h1 : thr M a ≠ 0) (h : ¬ Ful M) : act M t 3 a b = (1, s_upd M t a 0 b) := by unfold act; rw [if_neg (by decide), if_neg (by decide), if_neg (fun z => h1 z.2), pick_f h]; rfl
theorem s_upd_0 (M : MSt) (t k v v' : Int) : s_upd M t k 0 v = s_upd M t k 0 v' := by
  unfold s_upd bcm
  rw [if_pos rfl, if_pos rfl]
theorem Fwd.pg {N N1 : MSt} (A : ASt) (h : ∀ f i, npF f = false → f ≠ 9 → N1 f i = N f i) : Fwd N A N1 A := ⟨Ext.rf N A, by rw [h 50 0 rfl (by decide)]; exact Int.le_refl _, by rw [h 51 0 rfl (by decide)]; exact Int.le_refl _, h 52 0 rfl (by decide)⟩
theorem thr_val (M : MSt) (z k : Int) : thr (up M 38 0 z) k = thr M k := rfl
theorem Fwd.upd {N : MSt} {A A1 : ASt} {t k now v : Int} (hx : Ext N A A1) (hr : N 3 0 ≤ N 50 0) : Fwd N A (updN N t k now v) A1 := by
  refine ⟨hx, ?_, ?_, ?_⟩
  · unfold updN
    rw [up_ne (by simp), pst_o rfl, up_ne (by simp), up_ne (by simp), up_ne (by simp), up_ne (by simp), up_ne (by simp), up_ne (by simp)]
    have q := ntN_e (N := tN N (k / 4)) (kd := 2) (t := t) (k := k) (by rw [tN_o rfl, tN_o rfl]; exact hr)
    rw [tN_o rfl] at q
    exact q.1
  · rw [updN_o rfl (by decide) (by decide) (by decide) (by omega) (by simp)]; exact Int.le_refl _
  · rw [updN_o rfl (by decide) (by decide) (by decide) (by omega) (by simp)]
set_option maxHeartbeats 4000000 in
set_option maxRecDepth 20000 in
theorem c_RG_act (D : GD) (A : ASt) (t : Int) (N M : MSt) (h : Sim N M) (hw : WF M) (ht : inM M t) (hq : N 40 t = 1) (hk : 0 ≤ N 41 t ∧ N 41 t ≤ 31) : NX D y_RG_act (wsOf y_RG_act b_RG_act 3 (some .int)) (4) [rq A 13 (t), rq A 0 (0), rq A 11 (t)] A N (fun x A1 N1 => x = J (act M t (N 40 t) (N 41 t) (N 42 t)).1 ∧ Fwd N A N1 A1 ∧ Sim N1 (act M t (N 40 t) (N 41 t) (N 42 t)).2) := by
  refine NCon.of (by decide) (by simp [cat_rf, J_cat]) (Nat.le_of_ble_eq_true rfl) ?_
  intro X g0 o
  show V X (RelN D A N) 0 [(0, rq A 13 (t)), (1, rq A 0 (0)), (2, rq A 11 (t))] [] []
  have htn : 0 ≤ t ∧ t < N 51 0 := by rw [h.t.1.2]; exact ht
  rw [hq, act_1] at o
  have hp8 : 0 ≤ N 41 t / 4 ∧ N 41 t / 4 < 8 := by omega
  have h2 := Sim_tch h hp8 hw.frm.1
  have n2 : ∀ (f : Nat) (i : Int), npF f = false → tN N (N 41 t / 4) f i = N f i := fun f i e => tN_o e
  have htn2 : 0 ≤ t ∧ t < tN N (N 41 t / 4) 51 0 := by rw [n2 _ _ rfl]; exact htn
  have hq2 : tN N (N 41 t / 4) 40 t = 1 := by rw [n2 _ _ rfl]; exact hq
  have hf2 : tN N (N 41 t / 4) 41 t = N 41 t := n2 _ _ rfl
  have hin := tch_self (M := M) (p := N 41 t / 4) (h.p.2.2.2.1 (N 41 t / 4) hp8.1 hp8.2).1
  have hpl : 0 ≤ pl (tN N (N 41 t / 4)) (N 41 t / 4) ∧ pl (tN N (N 41 t / 4)) (N 41 t / 4) < 8 := by
    have hfr := h2.p.fr
    rcases h2.p.pl (p := N 41 t / 4) hp8.1 hp8.2 with ⟨q1, q2⟩ | ⟨q1, q2⟩
    · omega
    · omega
  have ev := vlw_R h2.p hk hin
  have hth := ((h2.p.2.2.2.2.2 (N 41 t / 4) hp8.1 hp8.2 hin).1).1
  have t01 := thr_01 h2.p hk
  have h3 := h2.val (vlw (tch M (N 41 t / 4)) (N 41 t))
  have htn3 : 0 ≤ t ∧ t < up (tN N (N 41 t / 4)) 9 0 (vlw (tch M (N 41 t / 4)) (N 41 t)) 51 0 := htn2
  have hq3 : up (tN N (N 41 t / 4)) 9 0 (vlw (tch M (N 41 t / 4)) (N 41 t)) 40 t = 1 := hq2
  have hf3 : up (tN N (N 41 t / 4)) 9 0 (vlw (tch M (N 41 t / 4)) (N 41 t)) 41 t = N 41 t := hf2
  refine v_aload_nq (i := 1) o.ok d_RG_act_0 rfl rfl ?_
  refine v_aload_nq (i := 0) o.ok d_RG_act_1 rfl rfl ?_
  refine n_q1 o 5 (by decide) (by first | rfl | exact htn | exact hq | exact htn2 | exact hq2 | exact htn3 | exact hq3 | exact hp8) (by first | rfl | exact htn | exact hq | exact htn2 | exact hq2 | exact htn3 | exact hq3 | exact hp8) lf_RG_9 (by decide) rfl d_RG_act_2 (fun i2 => ?_)
  refine v_iconst o.ok d_RG_act_5 ?_
  refine v_idiv o.ok d_RG_act_6 (by omega) (by omega) ?_
  refine n_cVN o 1 (tg := 0) rfl (by decide) (by decide) (by first | rfl | exact htn | exact hq | exact htn2 | exact hq2 | exact htn3 | exact hq3 | exact hp8) (c_S_touch D A (N 41 t / 4) N M h.p hp8 hw.frm.1) q_S_touch ln_RG_27 d_RG_act_7 (by decide) rfl (by first | exact Nat.le_of_ble_eq_true rfl | (simp only [List.map_cons, List.map_nil, cat_rf, J_cat, List.sum_cons, List.sum_nil, cat_lg, cat_rr]; decide)) rfl (n_f ?_)
  refine v_pop o.ok d_RG_act_10 (cat_rf _) ?_
  refine v_aload_nq (i := 1) o.ok d_RG_act_11 rfl rfl ?_
  refine v_aload_nq (i := 1) o.ok d_RG_act_12 rfl rfl ?_
  refine v_aload_nq (i := 0) o.ok d_RG_act_13 rfl rfl ?_
  refine n_q1 o 5 (by decide) (by first | rfl | exact htn | exact hq | exact htn2 | exact hq2 | exact htn3 | exact hq3 | exact hp8) (by first | rfl | exact htn | exact hq | exact htn2 | exact hq2 | exact htn3 | exact hq3 | exact hp8) lf_RG_9 (by decide) rfl d_RG_act_14 (fun i14 => ?_)
  rw [hf2] at i14 ⊢
  refine v_iconst o.ok d_RG_act_17 ?_
  refine v_idiv o.ok d_RG_act_18 (by omega) (by omega) ?_
  refine n_cVN o 1 (tg := 0) rfl (by decide) (by decide) (by first | rfl | exact htn | exact hq | exact htn2 | exact hq2 | exact htn3 | exact hq3 | exact hp8) (c_S_at8 D A (N 41 t / 4) (tN N (N 41 t / 4)) hp8 h2.p.fr hpl) q_S_at ln_RG_31 d_RG_act_19 (by decide) rfl (by first | exact Nat.le_of_ble_eq_true rfl | (simp only [List.map_cons, List.map_nil, cat_rf, J_cat, List.sum_cons, List.sum_nil, cat_lg, cat_rr]; decide)) rfl (n_f ?_)
  refine v_aload_nq (i := 0) o.ok d_RG_act_22 rfl rfl ?_
  refine n_q1 o 5 (by decide) (by first | rfl | exact htn | exact hq | exact htn2 | exact hq2 | exact htn3 | exact hq3 | exact hp8) (by first | rfl | exact htn | exact hq | exact htn2 | exact hq2 | exact htn3 | exact hq3 | exact hp8) lf_RG_9 (by decide) rfl d_RG_act_23 (fun i23 => ?_)
  rw [hf2] at i23 ⊢
  refine n_cV o 2 (tg := 8) rfl (by decide) (by decide) (by first | rfl | exact htn | exact hq | exact htn2 | exact hq2 | exact htn3 | exact hq3 | exact hp8) (c_P_value8 D A (N 41 t / 4) (N 41 t) (tN N (N 41 t / 4)) hp8 hk hth) q_P_value lm_RG_34 d_RG_act_26 (by decide) rfl (by first | exact Nat.le_of_ble_eq_true rfl | (simp only [List.map_cons, List.map_nil, cat_rf, J_cat, List.sum_cons, List.sum_nil, cat_lg, cat_rr]; decide)) rfl (n_f ?_)
  refine n_inrV (fun iV => ?_)
  rw [← ev]
  have hiv : InR (vlw (tch M (N 41 t / 4)) (N 41 t)) := (by
    rw [ev]
    unfold pick
    split
    · exact iV _ (by omega) (by omega)
    · decide)
  refine n_putV o nf_RG_39 (by exact hiv) d_RG_act_29 ?_
  refine v_aload_nq (i := 1) o.ok d_RG_act_32 rfl rfl ?_
  refine v_aload_nq (i := 0) o.ok d_RG_act_33 rfl rfl ?_
  refine n_q1 o 5 (by decide) (by first | rfl | exact htn | exact hq | exact htn2 | exact hq2 | exact htn3 | exact hq3 | exact hp8) (by first | rfl | exact htn | exact hq | exact htn2 | exact hq2 | exact htn3 | exact hq3 | exact hp8) lf_RG_9 (by decide) rfl d_RG_act_34 (fun i34 => ?_)
  rw [hf3] at i34 ⊢
  refine n_cVN o 1 (tg := 0) rfl (by decide) (by decide) (by first | rfl | exact htn | exact hq | exact htn2 | exact hq2 | exact htn3 | exact hq3 | exact hp8) (c_S_there D A (N 41 t) (up (tN N (N 41 t / 4)) 9 0 (vlw (tch M (N 41 t / 4)) (N 41 t))) (up (tch M (N 41 t / 4)) 38 0 (vlw (tch M (N 41 t / 4)) (N 41 t))) h3.p hk) q_S_there ln_RG_15 d_RG_act_37 (by decide) rfl (by first | exact Nat.le_of_ble_eq_true rfl | (simp only [List.map_cons, List.map_nil, cat_rf, J_cat, List.sum_cons, List.sum_nil, cat_lg, cat_rr]; decide)) rfl (n_f ?_)
  rw [thr_val]
  refine v_if_eq o.ok (by omega) d_RG_act_40 (fun c40 => ?_) (fun c40 => ?_)
  · refine v_iconst o.ok d_RG_act_47 ?_
    refine n_iret o d_RG_act_48 ⟨congrArg J (by show _ = thr (tch M (N 41 t / 4)) (N 41 t); omega), Fwd.pg A (fun f i e e2 => (up_ne (fun z => e2 z.1)).trans (n2 f i e)), h3⟩
  · refine v_iconst o.ok d_RG_act_43 ?_
    refine v_goto o.ok d_RG_act_44 ?_
    refine n_iret o d_RG_act_48 ⟨congrArg J (by show _ = thr (tch M (N 41 t / 4)) (N 41 t); omega), Fwd.pg A (fun f i e e2 => (up_ne (fun z => e2 z.1)).trans (n2 f i e)), h3⟩
set_option maxHeartbeats 4000000 in
set_option maxRecDepth 20000 in
theorem c_RP_act (D : GD) (A : ASt) (t : Int) (N M : MSt) (h : Sim N M) (hw : WF M) (ht : inM M t) (hlv : LvT M t) (hq : N 40 t = 2) (hk : 0 ≤ N 41 t ∧ N 41 t ≤ 31) : NX D y_RP_act (wsOf y_RP_act b_RP_act 3 (some .int)) (5) [rq A 13 (t), rq A 0 (0), rq A 11 (t)] A N (fun x A1 N1 => x = J (act M t (N 40 t) (N 41 t) (N 42 t)).1 ∧ Fwd N A N1 A1 ∧ Sim N1 (act M t (N 40 t) (N 41 t) (N 42 t)).2) := by
  refine NCon.of (by decide) (by simp [cat_rf, J_cat]) (Nat.le_of_ble_eq_true rfl) ?_
  intro X g0 o
  show V X (RelN D A N) 0 [(0, rq A 13 (t)), (1, rq A 0 (0)), (2, rq A 11 (t))] [] []
  have htn : 0 ≤ t ∧ t < N 51 0 := by rw [h.t.1.2]; exact ht
  rw [hq] at o
  by_cases hf : Ful M
  · rw [act_2t hf] at o
    refine v_aload_nq (i := 1) o.ok d_RP_act_0 rfl rfl ?_
    refine v_aload_nq (i := 2) o.ok d_RP_act_1 rfl rfl ?_
    refine v_aload_nq (i := 0) o.ok d_RP_act_2 rfl rfl ?_
    refine n_q1 o 6 (by decide) (by first | rfl | exact htn | exact hq) (by first | rfl | exact htn | exact hq) lf_RP_9 (by decide) rfl d_RP_act_3 (fun i3 => ?_)
    refine v_iconst o.ok d_RP_act_6 ?_
    refine v_aload_nq (i := 0) o.ok d_RP_act_7 rfl rfl ?_
    refine n_q2 o 6 (by decide) (by first | rfl | exact htn | exact hq) (by first | rfl | exact htn | exact hq) lf_RP_15 (by decide) rfl d_RP_act_8 (fun i8 => ?_)
    refine n_cVN o 1 (tg := 0) rfl (by decide) (by decide) (by first | rfl | exact htn | exact hq) (c_S_updateF D A t (N 41 t) 1 (N 42 t) N M h hw hf) q_S_update ln_RP_30 d_RP_act_11 (by decide) rfl (by first | exact Nat.le_of_ble_eq_true rfl | (simp only [List.map_cons, List.map_nil, cat_rf, J_cat, List.sum_cons, List.sum_nil, cat_lg, cat_rr]; decide)) rfl (n_f ?_)
    refine v_if_eq o.ok (by omega) d_RP_act_14 (fun c14 => ?_) (fun c14 => ?_)
    · refine v_bipush o.ok d_RP_act_21 rfl ?_
      refine n_iret o d_RP_act_23 ⟨rfl, Fwd.rf N A, h⟩
    · exfalso; omega
  · rw [act_2f hf] at o
    refine v_aload_nq (i := 1) o.ok d_RP_act_0 rfl rfl ?_
    refine v_aload_nq (i := 2) o.ok d_RP_act_1 rfl rfl ?_
    refine v_aload_nq (i := 0) o.ok d_RP_act_2 rfl rfl ?_
    refine n_q1 o 6 (by decide) (by first | rfl | exact htn | exact hq) (by first | rfl | exact htn | exact hq) lf_RP_9 (by decide) rfl d_RP_act_3 (fun i3 => ?_)
    refine v_iconst o.ok d_RP_act_6 ?_
    refine v_aload_nq (i := 0) o.ok d_RP_act_7 rfl rfl ?_
    refine n_q2 o 6 (by decide) (by first | rfl | exact htn | exact hq) (by first | rfl | exact htn | exact hq) lf_RP_15 (by decide) rfl d_RP_act_8 (fun i8 => ?_)
    refine n_cVN o 1 (tg := 0) rfl (by decide) (by decide) (by first | rfl | exact htn | exact hq) (c_S_update D A t (N 41 t) 1 (N 42 t) N M h hw hf hk (Or.inr rfl) i8 ht) q_S_update ln_RP_30 d_RP_act_11 (by decide) rfl (by first | exact Nat.le_of_ble_eq_true rfl | (simp only [List.map_cons, List.map_nil, cat_rf, J_cat, List.sum_cons, List.sum_nil, cat_lg, cat_rr]; decide)) rfl (n_x (fun x11 A11 N11 h11 => ?_))
    obtain ⟨rfl, hx, rfl⟩ := h11
    refine v_if_eq o.ok (by omega) d_RP_act_14 (fun c14 => ?_) (fun c14 => ?_)
    · exfalso; omega
    · refine v_iconst o.ok d_RP_act_17 ?_
      refine v_goto o.ok d_RP_act_18 ?_
      refine n_iret o d_RP_act_23 ⟨rfl, Fwd.upd hx (h.nums hw).2.2.2.2, Sim_upd h hw.frm.1 hk (Or.inr rfl) ht hlv⟩
set_option maxHeartbeats 4000000 in
set_option maxRecDepth 20000 in
theorem c_RD_act (D : GD) (A : ASt) (t : Int) (N M : MSt) (h : Sim N M) (hw : WF M) (ht : inM M t) (hlv : LvT M t) (hq : N 40 t = 3) (hk : 0 ≤ N 41 t ∧ N 41 t ≤ 31) : NX D y_RD_act (wsOf y_RD_act b_RD_act 3 (some .int)) (5) [rq A 13 (t), rq A 0 (0), rq A 11 (t)] A N (fun x A1 N1 => x = J (act M t (N 40 t) (N 41 t) (N 42 t)).1 ∧ Fwd N A N1 A1 ∧ Sim N1 (act M t (N 40 t) (N 41 t) (N 42 t)).2) := by
  refine NCon.of (by decide) (by simp [cat_rf, J_cat]) (Nat.le_of_ble_eq_true rfl) ?_
  intro X g0 o
  show V X (RelN D A N) 0 [(0, rq A 13 (t)), (1, rq A 0 (0)), (2, rq A 11 (t))] [] []
  have htn : 0 ≤ t ∧ t < N 51 0 := by rw [h.t.1.2]; exact ht
  have t01 := thr_01 h.p hk
  rw [hq] at o
  by_cases h0 : thr M (N 41 t) = 0
  · rw [act_3n h0] at o
    refine v_aload_nq (i := 1) o.ok d_RD_act_0 rfl rfl ?_
    refine v_aload_nq (i := 0) o.ok d_RD_act_1 rfl rfl ?_
    refine n_q1 o 7 (by decide) (by first | rfl | exact htn | exact hq) (by first | rfl | exact htn | exact hq) lf_RD_9 (by decide) rfl d_RD_act_2 (fun i2 => ?_)
    refine n_cVN o 1 (tg := 0) rfl (by decide) (by decide) (by first | rfl | exact htn | exact hq) (c_S_there D A (N 41 t) N M h.p hk) q_S_there ln_RD_15 d_RD_act_5 (by decide) rfl (by first | exact Nat.le_of_ble_eq_true rfl | (simp only [List.map_cons, List.map_nil, cat_rf, J_cat, List.sum_cons, List.sum_nil, cat_lg, cat_rr]; decide)) rfl (n_f ?_)
    refine v_if_ne o.ok (by omega) d_RD_act_8 (fun c8 => ?_) (fun c8 => ?_)
    · exact absurd h0 (by assumption)
    · refine v_iconst o.ok d_RD_act_11 ?_
      refine n_iret o d_RD_act_12 ⟨rfl, Fwd.rf N A, h⟩
  · by_cases hf : Ful M
    · rw [act_3t h0 hf] at o
      refine v_aload_nq (i := 1) o.ok d_RD_act_0 rfl rfl ?_
      refine v_aload_nq (i := 0) o.ok d_RD_act_1 rfl rfl ?_
      refine n_q1 o 7 (by decide) (by first | rfl | exact htn | exact hq) (by first | rfl | exact htn | exact hq) lf_RD_9 (by decide) rfl d_RD_act_2 (fun i2 => ?_)
      refine n_cVN o 1 (tg := 0) rfl (by decide) (by decide) (by first | rfl | exact htn | exact hq) (c_S_there D A (N 41 t) N M h.p hk) q_S_there ln_RD_15 d_RD_act_5 (by decide) rfl (by first | exact Nat.le_of_ble_eq_true rfl | (simp only [List.map_cons, List.map_nil, cat_rf, J_cat, List.sum_cons, List.sum_nil, cat_lg, cat_rr]; decide)) rfl (n_f ?_)
      refine v_if_ne o.ok (by omega) d_RD_act_8 (fun c8 => ?_) (fun c8 => ?_)
      · refine v_aload_nq (i := 1) o.ok d_RD_act_13 rfl rfl ?_
        refine v_aload_nq (i := 2) o.ok d_RD_act_14 rfl rfl ?_
        refine v_aload_nq (i := 0) o.ok d_RD_act_15 rfl rfl ?_
        refine n_q1 o 7 (by decide) (by first | rfl | exact htn | exact hq) (by first | rfl | exact htn | exact hq) lf_RD_9 (by decide) rfl d_RD_act_16 (fun i16 => ?_)
        refine v_iconst o.ok d_RD_act_19 ?_
        refine v_iconst o.ok d_RD_act_20 ?_
        refine n_cVN o 1 (tg := 0) rfl (by decide) (by decide) (by first | rfl | exact htn | exact hq) (c_S_updateF D A t (N 41 t) 0 0 N M h hw hf) q_S_update ln_RD_27 d_RD_act_21 (by decide) rfl (by first | exact Nat.le_of_ble_eq_true rfl | (simp only [List.map_cons, List.map_nil, cat_rf, J_cat, List.sum_cons, List.sum_nil, cat_lg, cat_rr]; decide)) rfl (n_f ?_)
        refine v_if_eq o.ok (by omega) d_RD_act_24 (fun c24 => ?_) (fun c24 => ?_)
        · refine v_bipush o.ok d_RD_act_31 rfl ?_
          refine n_iret o d_RD_act_33 ⟨rfl, Fwd.rf N A, h⟩
        · exfalso; omega
      · exact absurd (by assumption) h0
    · rw [act_3f h0 hf] at o
      refine v_aload_nq (i := 1) o.ok d_RD_act_0 rfl rfl ?_
      refine v_aload_nq (i := 0) o.ok d_RD_act_1 rfl rfl ?_
      refine n_q1 o 7 (by decide) (by first | rfl | exact htn | exact hq) (by first | rfl | exact htn | exact hq) lf_RD_9 (by decide) rfl d_RD_act_2 (fun i2 => ?_)
      refine n_cVN o 1 (tg := 0) rfl (by decide) (by decide) (by first | rfl | exact htn | exact hq) (c_S_there D A (N 41 t) N M h.p hk) q_S_there ln_RD_15 d_RD_act_5 (by decide) rfl (by first | exact Nat.le_of_ble_eq_true rfl | (simp only [List.map_cons, List.map_nil, cat_rf, J_cat, List.sum_cons, List.sum_nil, cat_lg, cat_rr]; decide)) rfl (n_f ?_)
      refine v_if_ne o.ok (by omega) d_RD_act_8 (fun c8 => ?_) (fun c8 => ?_)
      · refine v_aload_nq (i := 1) o.ok d_RD_act_13 rfl rfl ?_
        refine v_aload_nq (i := 2) o.ok d_RD_act_14 rfl rfl ?_
        refine v_aload_nq (i := 0) o.ok d_RD_act_15 rfl rfl ?_
        refine n_q1 o 7 (by decide) (by first | rfl | exact htn | exact hq) (by first | rfl | exact htn | exact hq) lf_RD_9 (by decide) rfl d_RD_act_16 (fun i16 => ?_)
        refine v_iconst o.ok d_RD_act_19 ?_
        refine v_iconst o.ok d_RD_act_20 ?_
        refine n_cVN o 1 (tg := 0) rfl (by decide) (by decide) (by first | rfl | exact htn | exact hq) (c_S_update D A t (N 41 t) 0 0 N M h hw hf hk (Or.inl rfl) (by decide) ht) q_S_update ln_RD_27 d_RD_act_21 (by decide) rfl (by first | exact Nat.le_of_ble_eq_true rfl | (simp only [List.map_cons, List.map_nil, cat_rf, J_cat, List.sum_cons, List.sum_nil, cat_lg, cat_rr]; decide)) rfl (n_x (fun x21 A21 N21 h21 => ?_))
        obtain ⟨rfl, hx, rfl⟩ := h21
        refine v_if_eq o.ok (by omega) d_RD_act_24 (fun c24 => ?_) (fun c24 => ?_)
        · exfalso; omega
        · refine v_iconst o.ok d_RD_act_27 ?_
          refine v_goto o.ok d_RD_act_28 ?_
          refine n_iret o d_RD_act_33 ⟨rfl, Fwd.upd hx (h.nums hw).2.2.2.2, by rw [s_upd_0 M t (N 41 t) (N 42 t) 0]; exact Sim_upd h hw.frm.1 hk (Or.inl rfl) ht hlv⟩
      · exact absurd (by assumption) h0
set_option maxHeartbeats 4000000 in
set_option maxRecDepth 20000 in
theorem c_RS_act (D : GD) (A : ASt) (t : Int) (N M : MSt) (h : Sim N M) (hw : WF M) (ht : inM M t) (hq : N 40 t = 4) (hk : 0 ≤ N 41 t ∧ N 41 t ≤ N 42 t ∧ N 42 t ≤ 31) : NX D y_RS_act (wsOf y_RS_act b_RS_act 6 (some .int)) (4) [rq A 13 (t), rq A 0 (0), rq A 11 (t)] A N (fun x A1 N1 => x = J (act M t (N 40 t) (N 41 t) (N 42 t)).1 ∧ Fwd N A N1 A1 ∧ Sim N1 (act M t (N 40 t) (N 41 t) (N 42 t)).2) := by
  refine NCon.of (by decide) (by simp [cat_rf, J_cat]) (Nat.le_of_ble_eq_true rfl) ?_
  intro X g0 o
  show V X (RelN D A N) 0 [(0, rq A 13 (t)), (1, rq A 0 (0)), (2, rq A 11 (t))] [] []
  have htn : 0 ≤ t ∧ t < N 51 0 := by rw [h.t.1.2]; exact ht
  rw [hq, act_4] at o
  have lp2 : ∀ (N1 : MSt), Sim N1 (scn1 M (N 41 t) (N 42 t)) → (∀ f i, npF f = false → N1 f i = N f i) → ∀ (n : Nat) (k s1 s2 : Int), N 41 t ≤ k → k + n = N 42 t + 1 → s1 = sumA (thr (scn1 M (N 41 t) (N 42 t))) (N 41 t) (k - N 41 t).toNat → s2 = sumA (vlw (scn1 M (N 41 t) (N 42 t))) (N 41 t) (k - N 41 t).toNat → V X (RelN D A N1) 43 [(0, rq A 13 t), (1, rq A 0 0), (2, rq A 11 t), (3, J s1), (4, J s2), (5, J k)] [] [] := by
    intro N1 h1 e1 n
    have htn1 : 0 ≤ t ∧ t < N1 51 0 := by rw [e1 _ _ rfl]; exact htn
    have hq1 : N1 40 t = 4 := by rw [e1 _ _ rfl]; exact hq
    have hs1 : N1 42 t = N 42 t := e1 _ _ rfl
    induction n with
    | zero =>
      intro k s1 s2 a b c d
      have ek : (k - N 41 t).toNat = (N 42 t - N 41 t + 1).toNat := by omega
      rw [ek] at c d
      refine v_iload (i := 5) o.ok d_RS_act_43 rfl ?_
      refine v_aload_nq (i := 0) o.ok d_RS_act_45 rfl rfl ?_
      refine n_q2 o 8 (by decide) (by first | rfl | exact htn1 | exact hq1) (by first | rfl | exact htn1 | exact hq1) lf_RS_15 (by decide) rfl d_RS_act_46 (fun i46 => ?_)
      rw [hs1] at i46 ⊢
      refine v_icmp_gt o.ok (by omega) (by omega) d_RS_act_49 (fun c49 => ?_) (fun c49 => ?_)
      · refine v_aload_nq (i := 1) o.ok d_RS_act_93 rfl rfl ?_
        refine v_iload (i := 4) o.ok d_RS_act_94 rfl ?_
        rw [J_wr s2]
        refine n_putV o nf_RS_42 (by exact wr_in s2) d_RS_act_96 ?_
        refine v_iload_n (i := 3) o.ok d_RS_act_99 rfl rfl ?_
        refine n_iret o d_RS_act_100 ⟨by rw [c]; rfl, Fwd.pg A (fun f i e e2 => (up_ne (fun z => e2 z.1)).trans (e1 f i e)), by rw [d]; exact h1.val _⟩
      · exfalso; omega
    | succ n ih =>
      intro k s1 s2 a b c d
      have hk8 : 0 ≤ k ∧ k ≤ 31 := by omega
      have hp8 : 0 ≤ k / 4 ∧ k / 4 < 8 := by omega
      have t01 := thr_01 h1.p hk8
      have ek : (k + 1 - N 41 t).toNat = (k - N 41 t).toNat + 1 := by omega
      have ek2 : N 41 t + ((k - N 41 t).toNat : Int) = k := by omega
      have sc : ∀ z, z = thr (scn1 M (N 41 t) (N 42 t)) k → s1 + z = sumA (thr (scn1 M (N 41 t) (N 42 t))) (N 41 t) (k + 1 - N 41 t).toNat := fun z hz => by
        rw [ek]
        show _ = sumA _ _ _ + thr _ (N 41 t + ((k - N 41 t).toNat : Int))
        rw [ek2, ← c, hz]
      have sd : s2 + vlw (scn1 M (N 41 t) (N 42 t)) k = sumA (vlw (scn1 M (N 41 t) (N 42 t))) (N 41 t) (k + 1 - N 41 t).toNat := by
        rw [ek]
        show _ = sumA _ _ _ + vlw _ (N 41 t + ((k - N 41 t).toNat : Int))
        rw [ek2, ← d]
      rcases h1.p.pl (p := k / 4) hp8.1 hp8.2 with ⟨q1, q2⟩ | ⟨q1, q2⟩
      · have ev := vlw_D h1.p hk8 q2
        have hth := (h1.p.2.2.2.2.1 (k / 4) hp8.1 hp8.2).1
        refine v_iload (i := 5) o.ok d_RS_act_43 rfl ?_
        refine v_aload_nq (i := 0) o.ok d_RS_act_45 rfl rfl ?_
        refine n_q2 o 8 (by decide) (by first | rfl | exact htn1 | exact hq1 | exact hp8) (by first | rfl | exact htn1 | exact hq1 | exact hp8) lf_RS_15 (by decide) rfl d_RS_act_46 (fun i46 => ?_)
        rw [hs1] at i46 ⊢
        refine v_icmp_gt o.ok (by omega) (by omega) d_RS_act_49 (fun c49 => ?_) (fun c49 => ?_)
        · exfalso; omega
        · refine v_iload_n (i := 3) o.ok d_RS_act_52 rfl rfl ?_
          refine v_aload_nq (i := 1) o.ok d_RS_act_53 rfl rfl ?_
          refine v_iload (i := 5) o.ok d_RS_act_54 rfl ?_
          refine n_cVN o 1 (tg := 0) rfl (by decide) (by decide) (by first | rfl | exact htn1 | exact hq1 | exact hp8) (c_S_there D A k N1 (scn1 M (N 41 t) (N 42 t)) h1.p hk8) q_S_there ln_RS_18 d_RS_act_56 (by decide) rfl (by first | exact Nat.le_of_ble_eq_true rfl | (simp only [List.map_cons, List.map_nil, cat_rf, J_cat, List.sum_cons, List.sum_nil, cat_lg, cat_rr]; decide)) rfl (n_f ?_)
          refine v_if_eq o.ok (by omega) d_RS_act_59 (fun c59 => ?_) (fun c59 => ?_)
          · refine v_iconst o.ok d_RS_act_66 ?_
            refine v_iadd o.ok d_RS_act_67 ?_
            refine v_istore_n (i := 3) (L' := [(0, _), (1, _), (2, _), (3, _), (4, _), (5, _)]) (G' := []) o.ok d_RS_act_68 rfl (o.lt (by decide)) rfl rfl ?_
            refine v_iload (i := 4) o.ok d_RS_act_69 rfl ?_
            refine v_aload_nq (i := 1) o.ok d_RS_act_71 rfl rfl ?_
            refine v_iload (i := 5) o.ok d_RS_act_72 rfl ?_
            refine v_iconst o.ok d_RS_act_74 ?_
            refine v_idiv o.ok d_RS_act_75 (by omega) (by omega) ?_
            refine n_cVN o 1 (tg := 0) rfl (by decide) (by decide) (by first | rfl | exact htn1 | exact hq1 | exact hp8) (c_S_at6 D A (k / 4) N1 hp8 h1.p.fr q1) q_S_at ln_RS_34 d_RS_act_76 (by decide) rfl (by first | exact Nat.le_of_ble_eq_true rfl | (simp only [List.map_cons, List.map_nil, cat_rf, J_cat, List.sum_cons, List.sum_nil, cat_lg, cat_rr]; decide)) rfl (n_f ?_)
            refine v_iload (i := 5) o.ok d_RS_act_79 rfl ?_
            refine n_cV o 2 (tg := 6) rfl (by decide) (by decide) (by first | rfl | exact htn1 | exact hq1 | exact hp8) (c_P_value6 D A (k / 4) k N1 hp8 hk8 hth) q_P_value lm_RS_37 d_RS_act_81 (by decide) rfl (by first | exact Nat.le_of_ble_eq_true rfl | (simp only [List.map_cons, List.map_nil, cat_rf, J_cat, List.sum_cons, List.sum_nil, cat_lg, cat_rr]; decide)) rfl (n_f ?_)
            rw [← ev]
            refine v_iadd o.ok d_RS_act_84 ?_
            refine v_istore (i := 4) (L' := [(0, _), (1, _), (2, _), (3, _), (4, _), (5, _)]) (G' := []) o.ok d_RS_act_85 (o.lt (by decide)) rfl rfl ?_
            refine v_iinc (i := 5) (L' := [(0, _), (1, _), (2, _), (3, _), (4, _), (5, _)]) (G' := []) o.ok d_RS_act_87 rfl (o.lt (by decide)) rfl rfl ?_
            refine v_goto o.ok d_RS_act_90 ?_
            exact ih (k + 1) _ _ (by omega) (by omega) (sc _ (by omega)) sd
          · refine v_iconst o.ok d_RS_act_62 ?_
            refine v_goto o.ok d_RS_act_63 ?_
            refine v_iadd o.ok d_RS_act_67 ?_
            refine v_istore_n (i := 3) (L' := [(0, _), (1, _), (2, _), (3, _), (4, _), (5, _)]) (G' := []) o.ok d_RS_act_68 rfl (o.lt (by decide)) rfl rfl ?_
            refine v_iload (i := 4) o.ok d_RS_act_69 rfl ?_
            refine v_aload_nq (i := 1) o.ok d_RS_act_71 rfl rfl ?_
            refine v_iload (i := 5) o.ok d_RS_act_72 rfl ?_
            refine v_iconst o.ok d_RS_act_74 ?_
            refine v_idiv o.ok d_RS_act_75 (by omega) (by omega) ?_
            refine n_cVN o 1 (tg := 0) rfl (by decide) (by decide) (by first | rfl | exact htn1 | exact hq1 | exact hp8) (c_S_at6 D A (k / 4) N1 hp8 h1.p.fr q1) q_S_at ln_RS_34 d_RS_act_76 (by decide) rfl (by first | exact Nat.le_of_ble_eq_true rfl | (simp only [List.map_cons, List.map_nil, cat_rf, J_cat, List.sum_cons, List.sum_nil, cat_lg, cat_rr]; decide)) rfl (n_f ?_)
            refine v_iload (i := 5) o.ok d_RS_act_79 rfl ?_
            refine n_cV o 2 (tg := 6) rfl (by decide) (by decide) (by first | rfl | exact htn1 | exact hq1 | exact hp8) (c_P_value6 D A (k / 4) k N1 hp8 hk8 hth) q_P_value lm_RS_37 d_RS_act_81 (by decide) rfl (by first | exact Nat.le_of_ble_eq_true rfl | (simp only [List.map_cons, List.map_nil, cat_rf, J_cat, List.sum_cons, List.sum_nil, cat_lg, cat_rr]; decide)) rfl (n_f ?_)
            rw [← ev]
            refine v_iadd o.ok d_RS_act_84 ?_
            refine v_istore (i := 4) (L' := [(0, _), (1, _), (2, _), (3, _), (4, _), (5, _)]) (G' := []) o.ok d_RS_act_85 (o.lt (by decide)) rfl rfl ?_
            refine v_iinc (i := 5) (L' := [(0, _), (1, _), (2, _), (3, _), (4, _), (5, _)]) (G' := []) o.ok d_RS_act_87 rfl (o.lt (by decide)) rfl rfl ?_
            refine v_goto o.ok d_RS_act_90 ?_
            exact ih (k + 1) _ _ (by omega) (by omega) (sc _ (by omega)) sd
      · have ev := vlw_R h1.p hk8 q2
        have hth := ((h1.p.2.2.2.2.2 (k / 4) hp8.1 hp8.2 q2).1).1
        have hfr := h1.p.fr
        refine v_iload (i := 5) o.ok d_RS_act_43 rfl ?_
        refine v_aload_nq (i := 0) o.ok d_RS_act_45 rfl rfl ?_
        refine n_q2 o 8 (by decide) (by first | rfl | exact htn1 | exact hq1 | exact hp8) (by first | rfl | exact htn1 | exact hq1 | exact hp8) lf_RS_15 (by decide) rfl d_RS_act_46 (fun i46 => ?_)
        rw [hs1] at i46 ⊢
        refine v_icmp_gt o.ok (by omega) (by omega) d_RS_act_49 (fun c49 => ?_) (fun c49 => ?_)
        · exfalso; omega
        · refine v_iload_n (i := 3) o.ok d_RS_act_52 rfl rfl ?_
          refine v_aload_nq (i := 1) o.ok d_RS_act_53 rfl rfl ?_
          refine v_iload (i := 5) o.ok d_RS_act_54 rfl ?_
          refine n_cVN o 1 (tg := 0) rfl (by decide) (by decide) (by first | rfl | exact htn1 | exact hq1 | exact hp8) (c_S_there D A k N1 (scn1 M (N 41 t) (N 42 t)) h1.p hk8) q_S_there ln_RS_18 d_RS_act_56 (by decide) rfl (by first | exact Nat.le_of_ble_eq_true rfl | (simp only [List.map_cons, List.map_nil, cat_rf, J_cat, List.sum_cons, List.sum_nil, cat_lg, cat_rr]; decide)) rfl (n_f ?_)
          refine v_if_eq o.ok (by omega) d_RS_act_59 (fun c59 => ?_) (fun c59 => ?_)
          · refine v_iconst o.ok d_RS_act_66 ?_
            refine v_iadd o.ok d_RS_act_67 ?_
            refine v_istore_n (i := 3) (L' := [(0, _), (1, _), (2, _), (3, _), (4, _), (5, _)]) (G' := []) o.ok d_RS_act_68 rfl (o.lt (by decide)) rfl rfl ?_
            refine v_iload (i := 4) o.ok d_RS_act_69 rfl ?_
            refine v_aload_nq (i := 1) o.ok d_RS_act_71 rfl rfl ?_
            refine v_iload (i := 5) o.ok d_RS_act_72 rfl ?_
            refine v_iconst o.ok d_RS_act_74 ?_
            refine v_idiv o.ok d_RS_act_75 (by omega) (by omega) ?_
            refine n_cVN o 1 (tg := 0) rfl (by decide) (by decide) (by first | rfl | exact htn1 | exact hq1 | exact hp8) (c_S_at8 D A (k / 4) N1 hp8 h1.p.fr ⟨q1.1, by omega⟩) q_S_at ln_RS_34 d_RS_act_76 (by decide) rfl (by first | exact Nat.le_of_ble_eq_true rfl | (simp only [List.map_cons, List.map_nil, cat_rf, J_cat, List.sum_cons, List.sum_nil, cat_lg, cat_rr]; decide)) rfl (n_f ?_)
            refine v_iload (i := 5) o.ok d_RS_act_79 rfl ?_
            refine n_cV o 2 (tg := 8) rfl (by decide) (by decide) (by first | rfl | exact htn1 | exact hq1 | exact hp8) (c_P_value8 D A (k / 4) k N1 hp8 hk8 hth) q_P_value lm_RS_37 d_RS_act_81 (by decide) rfl (by first | exact Nat.le_of_ble_eq_true rfl | (simp only [List.map_cons, List.map_nil, cat_rf, J_cat, List.sum_cons, List.sum_nil, cat_lg, cat_rr]; decide)) rfl (n_f ?_)
            rw [← ev]
            refine v_iadd o.ok d_RS_act_84 ?_
            refine v_istore (i := 4) (L' := [(0, _), (1, _), (2, _), (3, _), (4, _), (5, _)]) (G' := []) o.ok d_RS_act_85 (o.lt (by decide)) rfl rfl ?_
            refine v_iinc (i := 5) (L' := [(0, _), (1, _), (2, _), (3, _), (4, _), (5, _)]) (G' := []) o.ok d_RS_act_87 rfl (o.lt (by decide)) rfl rfl ?_
            refine v_goto o.ok d_RS_act_90 ?_
            exact ih (k + 1) _ _ (by omega) (by omega) (sc _ (by omega)) sd
          · refine v_iconst o.ok d_RS_act_62 ?_
            refine v_goto o.ok d_RS_act_63 ?_
            refine v_iadd o.ok d_RS_act_67 ?_
            refine v_istore_n (i := 3) (L' := [(0, _), (1, _), (2, _), (3, _), (4, _), (5, _)]) (G' := []) o.ok d_RS_act_68 rfl (o.lt (by decide)) rfl rfl ?_
            refine v_iload (i := 4) o.ok d_RS_act_69 rfl ?_
            refine v_aload_nq (i := 1) o.ok d_RS_act_71 rfl rfl ?_
            refine v_iload (i := 5) o.ok d_RS_act_72 rfl ?_
            refine v_iconst o.ok d_RS_act_74 ?_
            refine v_idiv o.ok d_RS_act_75 (by omega) (by omega) ?_
            refine n_cVN o 1 (tg := 0) rfl (by decide) (by decide) (by first | rfl | exact htn1 | exact hq1 | exact hp8) (c_S_at8 D A (k / 4) N1 hp8 h1.p.fr ⟨q1.1, by omega⟩) q_S_at ln_RS_34 d_RS_act_76 (by decide) rfl (by first | exact Nat.le_of_ble_eq_true rfl | (simp only [List.map_cons, List.map_nil, cat_rf, J_cat, List.sum_cons, List.sum_nil, cat_lg, cat_rr]; decide)) rfl (n_f ?_)
            refine v_iload (i := 5) o.ok d_RS_act_79 rfl ?_
            refine n_cV o 2 (tg := 8) rfl (by decide) (by decide) (by first | rfl | exact htn1 | exact hq1 | exact hp8) (c_P_value8 D A (k / 4) k N1 hp8 hk8 hth) q_P_value lm_RS_37 d_RS_act_81 (by decide) rfl (by first | exact Nat.le_of_ble_eq_true rfl | (simp only [List.map_cons, List.map_nil, cat_rf, J_cat, List.sum_cons, List.sum_nil, cat_lg, cat_rr]; decide)) rfl (n_f ?_)
            rw [← ev]
            refine v_iadd o.ok d_RS_act_84 ?_
            refine v_istore (i := 4) (L' := [(0, _), (1, _), (2, _), (3, _), (4, _), (5, _)]) (G' := []) o.ok d_RS_act_85 (o.lt (by decide)) rfl rfl ?_
            refine v_iinc (i := 5) (L' := [(0, _), (1, _), (2, _), (3, _), (4, _), (5, _)]) (G' := []) o.ok d_RS_act_87 rfl (o.lt (by decide)) rfl rfl ?_
            refine v_goto o.ok d_RS_act_90 ?_
            exact ih (k + 1) _ _ (by omega) (by omega) (sc _ (by omega)) sd
  have lp1 : ∀ (n : Nat) (p : Int) (N' M' : MSt), Sim N' M' → 1 ≤ M' 0 0 → (∀ f i, npF f = false → N' f i = N f i) → 0 ≤ p → p + n = N 42 t / 4 + 1 → tcs n p M' = scn1 M (N 41 t) (N 42 t) → V X (RelN D A N') 13 [(0, rq A 13 t), (1, rq A 0 0), (2, rq A 11 t), (3, J 0), (4, J 0), (5, J p)] [] [] := by
    intro n
    induction n with
    | zero =>
      intro p N' M' h' hf he h0 h1 hC
      have htn1 : 0 ≤ t ∧ t < N' 51 0 := by rw [he _ _ rfl]; exact htn
      have hq1 : N' 40 t = 4 := by rw [he _ _ rfl]; exact hq
      have hs1 : N' 42 t = N 42 t := he _ _ rfl
      have hf1 : N' 41 t = N 41 t := he _ _ rfl
      have hC : M' = _ := hC
      subst hC
      refine v_iload (i := 5) o.ok d_RS_act_13 rfl ?_
      refine v_aload_nq (i := 0) o.ok d_RS_act_15 rfl rfl ?_
      refine n_q2 o 8 (by decide) (by first | rfl | exact htn1 | exact hq1) (by first | rfl | exact htn1 | exact hq1) lf_RS_15 (by decide) rfl d_RS_act_16 (fun i16 => ?_)
      rw [hs1] at i16 ⊢
      refine v_iconst o.ok d_RS_act_19 ?_
      refine v_idiv o.ok d_RS_act_20 (by omega) (by omega) ?_
      refine v_icmp_gt o.ok (by omega) (by omega) d_RS_act_21 (fun c21 => ?_) (fun c21 => ?_)
      · refine v_aload_nq (i := 0) o.ok d_RS_act_37 rfl rfl ?_
        refine n_q1 o 8 (by decide) (by first | rfl | exact htn1 | exact hq1) (by first | rfl | exact htn1 | exact hq1) lf_RS_9 (by decide) rfl d_RS_act_38 (fun i38 => ?_)
        rw [hf1] at i38 ⊢
        refine v_istore (i := 5) (L' := [(0, _), (1, _), (2, _), (3, _), (4, _), (5, _)]) (G' := []) o.ok d_RS_act_41 (o.lt (by decide)) rfl rfl ?_
        exact lp2 N' h' he (N 42 t - N 41 t + 1).toNat (N 41 t) 0 0 (by omega) (by omega) (by rw [show (N 41 t - N 41 t).toNat = 0 from by omega]; rfl) (by rw [show (N 41 t - N 41 t).toNat = 0 from by omega]; rfl)
      · exfalso; omega
    | succ n ih =>
      intro p N' M' h' hf he h0 h1 hC
      have htn1 : 0 ≤ t ∧ t < N' 51 0 := by rw [he _ _ rfl]; exact htn
      have hq1 : N' 40 t = 4 := by rw [he _ _ rfl]; exact hq
      have hs1 : N' 42 t = N 42 t := he _ _ rfl
      have hp8 : 0 ≤ p ∧ p < 8 := by omega
      refine v_iload (i := 5) o.ok d_RS_act_13 rfl ?_
      refine v_aload_nq (i := 0) o.ok d_RS_act_15 rfl rfl ?_
      refine n_q2 o 8 (by decide) (by first | rfl | exact htn1 | exact hq1) (by first | rfl | exact htn1 | exact hq1) lf_RS_15 (by decide) rfl d_RS_act_16 (fun i16 => ?_)
      rw [hs1] at i16 ⊢
      refine v_iconst o.ok d_RS_act_19 ?_
      refine v_idiv o.ok d_RS_act_20 (by omega) (by omega) ?_
      refine v_icmp_gt o.ok (by omega) (by omega) d_RS_act_21 (fun c21 => ?_) (fun c21 => ?_)
      · exfalso; omega
      · refine v_aload_nq (i := 1) o.ok d_RS_act_24 rfl rfl ?_
        refine v_iload (i := 5) o.ok d_RS_act_25 rfl ?_
        refine n_cVN o 1 (tg := 0) rfl (by decide) (by decide) (by first | rfl | exact htn1 | exact hq1) (c_S_touch D A p N' M' h'.p hp8 hf) q_S_touch ln_RS_30 d_RS_act_27 (by decide) rfl (by first | exact Nat.le_of_ble_eq_true rfl | (simp only [List.map_cons, List.map_nil, cat_rf, J_cat, List.sum_cons, List.sum_nil, cat_lg, cat_rr]; decide)) rfl (n_f ?_)
        refine v_pop o.ok d_RS_act_30 (cat_rf _) ?_
        refine v_iinc (i := 5) (L' := [(0, _), (1, _), (2, _), (3, _), (4, _), (5, _)]) (G' := []) o.ok d_RS_act_31 rfl (o.lt (by decide)) rfl rfl ?_
        refine v_goto o.ok d_RS_act_34 ?_
        exact ih (p + 1) (tN N' p) (tch M' p) (Sim_tch h' hp8 hf) (by rw [tch_o rfl]; exact hf) (fun f i e => (tN_o e).trans (he f i e)) (by omega) (by omega) hC
  refine v_iconst o.ok d_RS_act_0 ?_
  refine v_istore_n (i := 3) (L' := [(0, _), (1, _), (2, _), (3, _)]) (G' := []) o.ok d_RS_act_1 rfl (o.lt (by decide)) rfl rfl ?_
  refine v_iconst o.ok d_RS_act_2 ?_
  refine v_istore (i := 4) (L' := [(0, _), (1, _), (2, _), (3, _), (4, _)]) (G' := []) o.ok d_RS_act_3 (o.lt (by decide)) rfl rfl ?_
  refine v_aload_nq (i := 0) o.ok d_RS_act_5 rfl rfl ?_
  refine n_q1 o 8 (by decide) (by first | rfl | exact htn | exact hq) (by first | rfl | exact htn | exact hq) lf_RS_9 (by decide) rfl d_RS_act_6 (fun i6 => ?_)
  refine v_iconst o.ok d_RS_act_9 ?_
  refine v_idiv o.ok d_RS_act_10 (by omega) (by omega) ?_
  refine v_istore (i := 5) (L' := [(0, _), (1, _), (2, _), (3, _), (4, _), (5, _)]) (G' := []) o.ok d_RS_act_11 (o.lt (by decide)) rfl rfl ?_
  exact lp1 (N 42 t / 4 - N 41 t / 4 + 1).toNat (N 41 t / 4) N M h hw.frm.1 (fun _ _ _ => rfl) (by omega) (by omega) rfl

