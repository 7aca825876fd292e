theorem vlw_D {N M : MSt} (h : SimP N M) {k : Int} (h0 : 0 ≤ k ∧ k ≤ 31) (hf : M 7 (k / 4) = 0) : vlw M k = pick (bt (N 11 (k / 4)) k) (N 14 (4 * (k / 4) + k % 4)) 0 := by
  have q := (h.2.2.2.2.1 (k / 4) (by omega) (by omega)).2.2 k (by omega) (by omega)
  unfold vlw
  rw [if_neg (by omega), q.2, q.1, show 4 * (k / 4) + k % 4 = k from by omega]
  by_cases c : bt (N 11 (k / 4)) k
  · rw [pick_t c, b01_t c, if_pos rfl]
  · rw [pick_f c, b01_f c, if_neg (by decide)]
theorem vlw_R {N M : MSt} (h : SimP N M) {k : Int} (h0 : 0 ≤ k ∧ k ≤ 31) (hf : M 7 (k / 4) = 1) : vlw M k = pick (bt (N 15 (k / 4)) k) (N 18 (4 * (k / 4) + k % 4)) 0 := by
  have q := (h.2.2.2.2.2 (k / 4) (by omega) (by omega) hf).1.2.2 k (by omega) (by omega)
  unfold vlw
  rw [if_pos hf, q.2, q.1, show 4 * (k / 4) + k % 4 = k from by omega]
  by_cases c : bt (N 15 (k / 4)) k
  · rw [pick_t c, b01_t c, if_pos rfl]
  · rw [pick_f c, b01_f c, if_neg (by decide)]
theorem dsk_D {N M : MSt} (h : SimP N M) {k : Int} (h0 : 0 ≤ k ∧ k ≤ 31) : M 1 k = b01 (bt (N 11 (k / 4)) k) ∧ M 2 k = pick (bt (N 11 (k / 4)) k) (N 14 (4 * (k / 4) + k % 4)) 0 := by
  have q := (h.2.2.2.2.1 (k / 4) (by omega) (by omega)).2.2 k (by omega) (by omega)
  refine ⟨q.1, ?_⟩
  rw [q.2, q.1, show 4 * (k / 4) + k % 4 = k from by omega]
  by_cases c : bt (N 11 (k / 4)) k
  · rw [pick_t c, b01_t c, if_pos rfl]
  · rw [pick_f c, b01_f c, if_neg (by decide)]
set_option maxHeartbeats 4000000 in
set_option maxRecDepth 20000 in
theorem c_S_key (D : GD) (A : ASt) (k w : Int) (N M : MSt) (h : Sim N M) (hr : InR k) (hrw : InR w) : NF D y_S_key (wsOf y_S_key b_S_key 3 (some .int)) (3) [rq A 0 (0), J (k), J (w)] A N (J (o_key M k w)) (N) := by
  refine NCon.of (by decide) (by simp [cat_rf, J_cat]) (Nat.le_of_ble_eq_true rfl) ?_
  intro X g0 o
  show V X (RelN D A N) 0 [(0, rq A 0 (0)), (1, J (k)), (2, J (w))] [] []
  have hfr := h.p.fr
  by_cases hk : 0 ≤ k ∧ k ≤ 31
  · have eo : 0 ≤ w ∧ w ≤ 3 → o_key M k w = (if w = 0 then thr M k else if w = 1 then vlw M k else if w = 2 then M 1 k else M 2 k) := fun q => if_pos ⟨hk, q⟩
    have eoN : ¬ (0 ≤ w ∧ w ≤ 3) → o_key M k w = -1 := fun q => if_neg (fun z => q z.2)
    have hdk := dsk_D h.p hk
    have hdt := (h.p.2.2.2.2.1 (k / 4) (by omega) (by omega)).1
    have t01 := thr_01 h.p hk
    have hq4 : 0 ≤ k / 4 ∧ k / 4 < 8 := (by omega)
    rcases h.p.pl (p := k / 4) (by omega) (by omega) with ⟨h1, h2⟩ | ⟨h1, h2⟩
    · have ev := vlw_D h.p hk h2
      refine v_iload_n (i := 1) o.ok d_S_key_0 rfl rfl ?_
      refine v_iconst o.ok d_S_key_1 ?_
      refine v_bipush o.ok d_S_key_2 rfl ?_
      refine n_cS o (c_S_outside D A k 0 31 N hr (by omega) (by omega)) q_S_outside lm_S_53 d_S_key_4 (by decide) rfl (by first | exact Nat.le_of_ble_eq_true rfl | (simp only [List.map_cons, List.map_nil, cat_rf, J_cat, List.sum_cons, List.sum_nil, cat_lg, cat_rr]; decide)) rfl (n_f ?_)
      first | refine v_ifeq_b o.ok d_S_key_7 (fun c7 => ?_) (fun c7 => ?_) | refine v_if_eq o.ok (by omega) d_S_key_7 (fun c7 => ?_) (fun c7 => ?_)
      · refine v_iload_n (i := 2) o.ok d_S_key_12 rfl rfl ?_
        by_cases w13 : w < 0 ∨ 3 < w
        · refine v_tabOut (tgt := 104) o.ok (by omega) d_S_key_13 w13 (by decide) ?_
          refine v_iconst o.ok d_S_key_104 ?_
          refine n_iret o d_S_key_105 ⟨congrArg J (by first | (rw [eoN (by omega)]) | (rw [eo (by omega), w13]; first | (show _ = thr M k; omega) | exact ev.symm | (show _ = M 1 k; rw [hdk.1]; first | exact (b01_t (by assumption)).symm | exact (b01_f (by assumption)).symm) | exact hdk.2.symm)), rfl, rfl⟩
        · rcases (show w = 0 ∨ w = 1 ∨ w = 2 ∨ w = 3 from by omega) with w13 | w13 | w13 | w13
          · refine v_tabIn (tgt := 44) o.ok (by omega) d_S_key_13 (by omega) (by omega) (off := 31) (by rw [w13]; rfl) (by decide) ?_
            refine v_aload_nq (i := 0) o.ok d_S_key_44 rfl rfl ?_
            refine v_iload_n (i := 1) o.ok d_S_key_45 rfl rfl ?_
            refine n_cV o 1 (tg := 0) rfl (by decide) (by decide) (by first | rfl | assumption | exact And.intro (by omega) (by omega)) (c_S_there D A k N M h.p hk) q_S_there lm_S_72 d_S_key_46 (by decide) rfl (by first | exact Nat.le_of_ble_eq_true rfl | (simp only [List.map_cons, List.map_nil, cat_rf, J_cat, List.sum_cons, List.sum_nil, cat_lg, cat_rr]; decide)) rfl (n_f ?_)
            first | refine v_ifeq_b o.ok d_S_key_49 (fun c49 => ?_) (fun c49 => ?_) | refine v_if_eq o.ok (by omega) d_S_key_49 (fun c49 => ?_) (fun c49 => ?_)
            · refine v_iconst o.ok d_S_key_56 ?_
              refine n_iret o d_S_key_57 ⟨congrArg J (by first | (rw [eoN (by omega)]) | (rw [eo (by omega), w13]; first | (show _ = thr M k; omega) | exact ev.symm | (show _ = M 1 k; rw [hdk.1]; first | exact (b01_t (by assumption)).symm | exact (b01_f (by assumption)).symm) | exact hdk.2.symm)), rfl, rfl⟩
            · refine v_iconst o.ok d_S_key_52 ?_
              refine v_goto o.ok d_S_key_53 ?_
              refine n_iret o d_S_key_57 ⟨congrArg J (by first | (rw [eoN (by omega)]) | (rw [eo (by omega), w13]; first | (show _ = thr M k; omega) | exact ev.symm | (show _ = M 1 k; rw [hdk.1]; first | exact (b01_t (by assumption)).symm | exact (b01_f (by assumption)).symm) | exact hdk.2.symm)), rfl, rfl⟩
          · refine v_tabIn (tgt := 58) o.ok (by omega) d_S_key_13 (by omega) (by omega) (off := 45) (by rw [w13]; rfl) (by decide) ?_
            refine v_aload_nq (i := 0) o.ok d_S_key_58 rfl rfl ?_
            refine v_iload_n (i := 1) o.ok d_S_key_59 rfl rfl ?_
            refine v_iconst o.ok d_S_key_60 ?_
            refine v_idiv o.ok d_S_key_61 (by omega) (by omega) ?_
            refine n_cV o 1 (tg := 0) rfl (by decide) (by decide) (by first | rfl | assumption | exact And.intro (by omega) (by omega)) (c_S_at6 D A (k / 4) N hq4 h.p.fr h1) q_S_at lm_S_64 d_S_key_62 (by decide) rfl (by first | exact Nat.le_of_ble_eq_true rfl | (simp only [List.map_cons, List.map_nil, cat_rf, J_cat, List.sum_cons, List.sum_nil, cat_lg, cat_rr]; decide)) rfl (n_f ?_)
            refine v_iload_n (i := 1) o.ok d_S_key_65 rfl rfl ?_
            refine n_cV o 2 (tg := 6) rfl (by decide) (by decide) (by first | rfl | assumption | exact And.intro (by omega) (by omega)) (c_P_value6 D A (k / 4) k N hq4 hk hdt) q_P_value lm_S_131 d_S_key_66 (by decide) rfl (by first | exact Nat.le_of_ble_eq_true rfl | (simp only [List.map_cons, List.map_nil, cat_rf, J_cat, List.sum_cons, List.sum_nil, cat_lg, cat_rr]; decide)) rfl (n_f ?_)
            refine n_iret o d_S_key_69 ⟨congrArg J (by first | (rw [eoN (by omega)]) | (rw [eo (by omega), w13]; first | (show _ = thr M k; omega) | exact ev.symm | (show _ = M 1 k; rw [hdk.1]; first | exact (b01_t (by assumption)).symm | exact (b01_f (by assumption)).symm) | exact hdk.2.symm)), rfl, rfl⟩
          · refine v_tabIn (tgt := 70) o.ok (by omega) d_S_key_13 (by omega) (by omega) (off := 57) (by rw [w13]; rfl) (by decide) ?_
            refine v_aload_nq (i := 0) o.ok d_S_key_70 rfl rfl ?_
            refine n_s1 o lf_S_11 d_S_key_71 ?_
            refine v_iload_n (i := 1) o.ok d_S_key_74 rfl rfl ?_
            refine v_iconst o.ok d_S_key_75 ?_
            refine v_idiv o.ok d_S_key_76 (by omega) (by omega) ?_
            refine n_aD o (by omega) d_S_key_77 ?_
            refine v_iload_n (i := 1) o.ok d_S_key_78 rfl rfl ?_
            refine n_cV o 2 (tg := 6) rfl (by decide) (by decide) (by first | rfl | assumption | exact And.intro (by omega) (by omega)) (c_P_has6 D A (k / 4) k N hq4 hk hdt) q_P_has lm_S_68 d_S_key_79 (by decide) rfl (by first | exact Nat.le_of_ble_eq_true rfl | (simp only [List.map_cons, List.map_nil, cat_rf, J_cat, List.sum_cons, List.sum_nil, cat_lg, cat_rr]; decide)) rfl (n_f ?_)
            first | refine v_ifeq_b o.ok d_S_key_82 (fun c82 => ?_) (fun c82 => ?_) | refine v_if_eq o.ok (by omega) d_S_key_82 (fun c82 => ?_) (fun c82 => ?_)
            · refine v_iconst o.ok d_S_key_89 ?_
              refine n_iret o d_S_key_90 ⟨congrArg J (by first | (rw [eoN (by omega)]) | (rw [eo (by omega), w13]; first | (show _ = thr M k; omega) | exact ev.symm | (show _ = M 1 k; rw [hdk.1]; first | exact (b01_t (by assumption)).symm | exact (b01_f (by assumption)).symm) | exact hdk.2.symm)), rfl, rfl⟩
            · refine v_iconst o.ok d_S_key_85 ?_
              refine v_goto o.ok d_S_key_86 ?_
              refine n_iret o d_S_key_90 ⟨congrArg J (by first | (rw [eoN (by omega)]) | (rw [eo (by omega), w13]; first | (show _ = thr M k; omega) | exact ev.symm | (show _ = M 1 k; rw [hdk.1]; first | exact (b01_t (by assumption)).symm | exact (b01_f (by assumption)).symm) | exact hdk.2.symm)), rfl, rfl⟩
          · refine v_tabIn (tgt := 91) o.ok (by omega) d_S_key_13 (by omega) (by omega) (off := 78) (by rw [w13]; rfl) (by decide) ?_
            refine v_aload_nq (i := 0) o.ok d_S_key_91 rfl rfl ?_
            refine n_s1 o lf_S_11 d_S_key_92 ?_
            refine v_iload_n (i := 1) o.ok d_S_key_95 rfl rfl ?_
            refine v_iconst o.ok d_S_key_96 ?_
            refine v_idiv o.ok d_S_key_97 (by omega) (by omega) ?_
            refine n_aD o (by omega) d_S_key_98 ?_
            refine v_iload_n (i := 1) o.ok d_S_key_99 rfl rfl ?_
            refine n_cV o 2 (tg := 6) rfl (by decide) (by decide) (by first | rfl | assumption | exact And.intro (by omega) (by omega)) (c_P_value6 D A (k / 4) k N hq4 hk hdt) q_P_value lm_S_131 d_S_key_100 (by decide) rfl (by first | exact Nat.le_of_ble_eq_true rfl | (simp only [List.map_cons, List.map_nil, cat_rf, J_cat, List.sum_cons, List.sum_nil, cat_lg, cat_rr]; decide)) rfl (n_f ?_)
            refine n_iret o d_S_key_103 ⟨congrArg J (by first | (rw [eoN (by omega)]) | (rw [eo (by omega), w13]; first | (show _ = thr M k; omega) | exact ev.symm | (show _ = M 1 k; rw [hdk.1]; first | exact (b01_t (by assumption)).symm | exact (b01_f (by assumption)).symm) | exact hdk.2.symm)), rfl, rfl⟩
      · exfalso; omega
    · have ev := vlw_R h.p hk h2
      have hrt := (h.p.2.2.2.2.2 (k / 4) (by omega) (by omega) h2).1.1
      refine v_iload_n (i := 1) o.ok d_S_key_0 rfl rfl ?_
      refine v_iconst o.ok d_S_key_1 ?_
      refine v_bipush o.ok d_S_key_2 rfl ?_
      refine n_cS o (c_S_outside D A k 0 31 N hr (by omega) (by omega)) q_S_outside lm_S_53 d_S_key_4 (by decide) rfl (by first | exact Nat.le_of_ble_eq_true rfl | (simp only [List.map_cons, List.map_nil, cat_rf, J_cat, List.sum_cons, List.sum_nil, cat_lg, cat_rr]; decide)) rfl (n_f ?_)
      first | refine v_ifeq_b o.ok d_S_key_7 (fun c7 => ?_) (fun c7 => ?_) | refine v_if_eq o.ok (by omega) d_S_key_7 (fun c7 => ?_) (fun c7 => ?_)
      · refine v_iload_n (i := 2) o.ok d_S_key_12 rfl rfl ?_
        by_cases w13 : w < 0 ∨ 3 < w
        · refine v_tabOut (tgt := 104) o.ok (by omega) d_S_key_13 w13 (by decide) ?_
          refine v_iconst o.ok d_S_key_104 ?_
          refine n_iret o d_S_key_105 ⟨congrArg J (by first | (rw [eoN (by omega)]) | (rw [eo (by omega), w13]; first | (show _ = thr M k; omega) | exact ev.symm | (show _ = M 1 k; rw [hdk.1]; first | exact (b01_t (by assumption)).symm | exact (b01_f (by assumption)).symm) | exact hdk.2.symm)), rfl, rfl⟩
        · rcases (show w = 0 ∨ w = 1 ∨ w = 2 ∨ w = 3 from by omega) with w13 | w13 | w13 | w13
          · refine v_tabIn (tgt := 44) o.ok (by omega) d_S_key_13 (by omega) (by omega) (off := 31) (by rw [w13]; rfl) (by decide) ?_
            refine v_aload_nq (i := 0) o.ok d_S_key_44 rfl rfl ?_
            refine v_iload_n (i := 1) o.ok d_S_key_45 rfl rfl ?_
            refine n_cV o 1 (tg := 0) rfl (by decide) (by decide) (by first | rfl | assumption | exact And.intro (by omega) (by omega)) (c_S_there D A k N M h.p hk) q_S_there lm_S_72 d_S_key_46 (by decide) rfl (by first | exact Nat.le_of_ble_eq_true rfl | (simp only [List.map_cons, List.map_nil, cat_rf, J_cat, List.sum_cons, List.sum_nil, cat_lg, cat_rr]; decide)) rfl (n_f ?_)
            first | refine v_ifeq_b o.ok d_S_key_49 (fun c49 => ?_) (fun c49 => ?_) | refine v_if_eq o.ok (by omega) d_S_key_49 (fun c49 => ?_) (fun c49 => ?_)
            · refine v_iconst o.ok d_S_key_56 ?_
              refine n_iret o d_S_key_57 ⟨congrArg J (by first | (rw [eoN (by omega)]) | (rw [eo (by omega), w13]; first | (show _ = thr M k; omega) | exact ev.symm | (show _ = M 1 k; rw [hdk.1]; first | exact (b01_t (by assumption)).symm | exact (b01_f (by assumption)).symm) | exact hdk.2.symm)), rfl, rfl⟩
            · refine v_iconst o.ok d_S_key_52 ?_
              refine v_goto o.ok d_S_key_53 ?_
              refine n_iret o d_S_key_57 ⟨congrArg J (by first | (rw [eoN (by omega)]) | (rw [eo (by omega), w13]; first | (show _ = thr M k; omega) | exact ev.symm | (show _ = M 1 k; rw [hdk.1]; first | exact (b01_t (by assumption)).symm | exact (b01_f (by assumption)).symm) | exact hdk.2.symm)), rfl, rfl⟩
          · refine v_tabIn (tgt := 58) o.ok (by omega) d_S_key_13 (by omega) (by omega) (off := 45) (by rw [w13]; rfl) (by decide) ?_
            refine v_aload_nq (i := 0) o.ok d_S_key_58 rfl rfl ?_
            refine v_iload_n (i := 1) o.ok d_S_key_59 rfl rfl ?_
            refine v_iconst o.ok d_S_key_60 ?_
            refine v_idiv o.ok d_S_key_61 (by omega) (by omega) ?_
            refine n_cV o 1 (tg := 0) rfl (by decide) (by decide) (by first | rfl | assumption | exact And.intro (by omega) (by omega)) (c_S_at8 D A (k / 4) N hq4 h.p.fr (by omega)) q_S_at lm_S_64 d_S_key_62 (by decide) rfl (by first | exact Nat.le_of_ble_eq_true rfl | (simp only [List.map_cons, List.map_nil, cat_rf, J_cat, List.sum_cons, List.sum_nil, cat_lg, cat_rr]; decide)) rfl (n_f ?_)
            refine v_iload_n (i := 1) o.ok d_S_key_65 rfl rfl ?_
            refine n_cV o 2 (tg := 8) rfl (by decide) (by decide) (by first | rfl | assumption | exact And.intro (by omega) (by omega)) (c_P_value8 D A (k / 4) k N hq4 hk hrt) q_P_value lm_S_131 d_S_key_66 (by decide) rfl (by first | exact Nat.le_of_ble_eq_true rfl | (simp only [List.map_cons, List.map_nil, cat_rf, J_cat, List.sum_cons, List.sum_nil, cat_lg, cat_rr]; decide)) rfl (n_f ?_)
            refine n_iret o d_S_key_69 ⟨congrArg J (by first | (rw [eoN (by omega)]) | (rw [eo (by omega), w13]; first | (show _ = thr M k; omega) | exact ev.symm | (show _ = M 1 k; rw [hdk.1]; first | exact (b01_t (by assumption)).symm | exact (b01_f (by assumption)).symm) | exact hdk.2.symm)), rfl, rfl⟩
          · refine v_tabIn (tgt := 70) o.ok (by omega) d_S_key_13 (by omega) (by omega) (off := 57) (by rw [w13]; rfl) (by decide) ?_
            refine v_aload_nq (i := 0) o.ok d_S_key_70 rfl rfl ?_
            refine n_s1 o lf_S_11 d_S_key_71 ?_
            refine v_iload_n (i := 1) o.ok d_S_key_74 rfl rfl ?_
            refine v_iconst o.ok d_S_key_75 ?_
            refine v_idiv o.ok d_S_key_76 (by omega) (by omega) ?_
            refine n_aD o (by omega) d_S_key_77 ?_
            refine v_iload_n (i := 1) o.ok d_S_key_78 rfl rfl ?_
            refine n_cV o 2 (tg := 6) rfl (by decide) (by decide) (by first | rfl | assumption | exact And.intro (by omega) (by omega)) (c_P_has6 D A (k / 4) k N hq4 hk hdt) q_P_has lm_S_68 d_S_key_79 (by decide) rfl (by first | exact Nat.le_of_ble_eq_true rfl | (simp only [List.map_cons, List.map_nil, cat_rf, J_cat, List.sum_cons, List.sum_nil, cat_lg, cat_rr]; decide)) rfl (n_f ?_)
            first | refine v_ifeq_b o.ok d_S_key_82 (fun c82 => ?_) (fun c82 => ?_) | refine v_if_eq o.ok (by omega) d_S_key_82 (fun c82 => ?_) (fun c82 => ?_)
            · refine v_iconst o.ok d_S_key_89 ?_
              refine n_iret o d_S_key_90 ⟨congrArg J (by first | (rw [eoN (by omega)]) | (rw [eo (by omega), w13]; first | (show _ = thr M k; omega) | exact ev.symm | (show _ = M 1 k; rw [hdk.1]; first | exact (b01_t (by assumption)).symm | exact (b01_f (by assumption)).symm) | exact hdk.2.symm)), rfl, rfl⟩
            · refine v_iconst o.ok d_S_key_85 ?_
              refine v_goto o.ok d_S_key_86 ?_
              refine n_iret o d_S_key_90 ⟨congrArg J (by first | (rw [eoN (by omega)]) | (rw [eo (by omega), w13]; first | (show _ = thr M k; omega) | exact ev.symm | (show _ = M 1 k; rw [hdk.1]; first | exact (b01_t (by assumption)).symm | exact (b01_f (by assumption)).symm) | exact hdk.2.symm)), rfl, rfl⟩
          · refine v_tabIn (tgt := 91) o.ok (by omega) d_S_key_13 (by omega) (by omega) (off := 78) (by rw [w13]; rfl) (by decide) ?_
            refine v_aload_nq (i := 0) o.ok d_S_key_91 rfl rfl ?_
            refine n_s1 o lf_S_11 d_S_key_92 ?_
            refine v_iload_n (i := 1) o.ok d_S_key_95 rfl rfl ?_
            refine v_iconst o.ok d_S_key_96 ?_
            refine v_idiv o.ok d_S_key_97 (by omega) (by omega) ?_
            refine n_aD o (by omega) d_S_key_98 ?_
            refine v_iload_n (i := 1) o.ok d_S_key_99 rfl rfl ?_
            refine n_cV o 2 (tg := 6) rfl (by decide) (by decide) (by first | rfl | assumption | exact And.intro (by omega) (by omega)) (c_P_value6 D A (k / 4) k N hq4 hk hdt) q_P_value lm_S_131 d_S_key_100 (by decide) rfl (by first | exact Nat.le_of_ble_eq_true rfl | (simp only [List.map_cons, List.map_nil, cat_rf, J_cat, List.sum_cons, List.sum_nil, cat_lg, cat_rr]; decide)) rfl (n_f ?_)
            refine n_iret o d_S_key_103 ⟨congrArg J (by first | (rw [eoN (by omega)]) | (rw [eo (by omega), w13]; first | (show _ = thr M k; omega) | exact ev.symm | (show _ = M 1 k; rw [hdk.1]; first | exact (b01_t (by assumption)).symm | exact (b01_f (by assumption)).symm) | exact hdk.2.symm)), rfl, rfl⟩
      · exfalso; omega
  · have eo : o_key M k w = -1 := if_neg (fun z => hk z.1)
    refine v_iload_n (i := 1) o.ok d_S_key_0 rfl rfl ?_
    refine v_iconst o.ok d_S_key_1 ?_
    refine v_bipush o.ok d_S_key_2 rfl ?_
    refine n_cS o (c_S_outside D A k 0 31 N hr (by omega) (by omega)) q_S_outside lm_S_53 d_S_key_4 (by decide) rfl (by first | exact Nat.le_of_ble_eq_true rfl | (simp only [List.map_cons, List.map_nil, cat_rf, J_cat, List.sum_cons, List.sum_nil, cat_lg, cat_rr]; decide)) rfl (n_f ?_)
    first | refine v_ifeq_b o.ok d_S_key_7 (fun c7 => ?_) (fun c7 => ?_) | refine v_if_eq o.ok (by omega) d_S_key_7 (fun c7 => ?_) (fun c7 => ?_)
    · exfalso; omega
    · refine v_iconst o.ok d_S_key_10 ?_
      refine n_iret o d_S_key_11 ⟨congrArg J eo.symm, rfl, rfl⟩
theorem Sim_wrt {N M : MSt} {p : Int} (h : Sim N M) (hp : 0 ≤ p ∧ p < 8) (hi : M 7 p = 1) : Sim (brg N p) (wrt M p) := by
  have n : ∀ f : Nat, npF f = false → brg N p f = N f := fun f e => funext fun i => by
    simp only [npF, Bool.or_eq_false_iff, beq_eq_false_iff_ne, ne_eq] at e
    exact brg_o e.1.1.1.1.1.1.1.1.1.2 e.1.1.1.1.1.1.1.2 e.1.1.1.1.1.1.2 e.1.1.1.1.2 e.1.2
  have m : ∀ f : Nat, pgF f = false → wrt M p f = M f := fun f e => funext fun i => wrt_o e
  refine ⟨SimP.mk ?_ (PgS_brg h.p.pg hp hi), ?_, ?_, ?_, ?_⟩
  · have ho := h.p.ord
    have e1 : ∀ (f : Nat) (i : Int), f ≠ 13 → f ≠ 1 → f ≠ 2 → f ≠ 3 → f ≠ 8 → wrt M p f i = M f i := fun f i a b c d e => wrt_g a b c d e
    have eI : wrt M p 7 = M 7 := funext fun i => e1 _ i (by decide) (by decide) (by decide) (by decide) (by decide)
    have eT : wrt M p 9 = M 9 := funext fun i => e1 _ i (by decide) (by decide) (by decide) (by decide) (by decide)
    have f1 : brg N p 1 0 = N 1 0 := brg_o (by decide) (by decide) (by decide) (by decide) (by decide)
    have f2 : brg N p 2 0 = N 2 0 := brg_o (by decide) (by decide) (by decide) (by decide) (by decide)
    have f3 : brg N p 10 = N 10 := funext fun i => brg_o (by decide) (by decide) (by decide) (by decide) (by decide)
    unfold OrdS
    rw [f1, f2, f3, eI, eT, e1 0 0 (by decide) (by decide) (by decide) (by decide) (by decide), e1 10 0 (by decide) (by decide) (by decide) (by decide) (by decide), usd_c eI]
    exact ho
  · exact h.l.c (congrFun (n _ rfl) 0) (congrFun (n _ rfl) 0) (congrFun (n _ rfl) 0) (n _ rfl) (n _ rfl) (n _ rfl) (n _ rfl) (n _ rfl) (n _ rfl) (n _ rfl) (n _ rfl) (n _ rfl) (congrFun (m _ rfl) 0) (congrFun (m _ rfl) 0) (m _ rfl) (m _ rfl) (m _ rfl) (m _ rfl) (m _ rfl) (m _ rfl) (m _ rfl) (m _ rfl)
  · exact h.u.c (n _ rfl) (n _ rfl) (n _ rfl) (congrFun (m _ rfl) 0) (congrFun (m _ rfl) 0) (m _ rfl) (m _ rfl) (m _ rfl) (congrFun (m _ rfl) 0) (m _ rfl) (m _ rfl)
  · exact h.t.c (congrFun (n _ rfl) 0) (congrFun (n _ rfl) 0) (n _ rfl) (n _ rfl) (n _ rfl) (n _ rfl) (n _ rfl) (n _ rfl) (n _ rfl) (n _ rfl) (n _ rfl) (n _ rfl) (n _ rfl) (congrFun (m _ rfl) 0) (m _ rfl) (m _ rfl) (m _ rfl) (m _ rfl) (m _ rfl) (m _ rfl) (m _ rfl)
  · exact h.cc.c (congrFun (n _ rfl) 0) (congrFun (n _ rfl) 0) (congrFun (n _ rfl) 0) (congrFun (m _ rfl) 0) (congrFun (m _ rfl) 0) (m _ rfl) (m _ rfl) (m _ rfl) (congrFun (m _ rfl) 0) (m _ rfl) (m _ rfl) (congrFun (m _ rfl) 0)
/-- what write makes of the flat store -/
noncomputable def wN (N M : MSt) (p : Int) : MSt := pick ((0 ≤ p ∧ p ≤ 7) ∧ M 7 p = 1 ∧ M 8 p = 1) (brg N p) N
theorem wN_sim {N M : MSt} {p : Int} (h : Sim N M) : Sim (wN N M p) (r_write M p).2 := by
  unfold wN r_write
  by_cases c : (0 ≤ p ∧ p ≤ 7) ∧ M 7 p = 1 ∧ M 8 p = 1
  · rw [pick_t c, pick_t c]; exact Sim_wrt h (by omega) c.2.1
  · rw [pick_f c, pick_f c]; exact h
theorem wN_o {N M : MSt} {p i : Int} {f : Nat} (h : f ≠ 5) (h1 : f ≠ 11) (h2 : f ≠ 12) (h3 : f ≠ 14) (h4 : f ≠ 17) : wN N M p f i = N f i := by
  unfold wN
  by_cases c : (0 ≤ p ∧ p ≤ 7) ∧ M 7 p = 1 ∧ M 8 p = 1
  · rw [pick_t c]; exact brg_o h h1 h2 h3 h4
  · rw [pick_f c]
set_option maxHeartbeats 4000000 in
set_option maxRecDepth 20000 in
theorem c_S_write (D : GD) (A : ASt) (p : Int) (N M : MSt) (h : Sim N M) (hr : InR p) : NF D y_S_write (wsOf y_S_write b_S_write 2 (some .boolean)) (3) [rq A 0 (0), J (p)] A N (J (r_write M p).1) (wN N M p) := by
  refine NCon.of (by decide) (by simp [cat_rf, J_cat]) (Nat.le_of_ble_eq_true rfl) ?_
  intro X g0 o
  show V X (RelN D A N) 0 [(0, rq A 0 (0)), (1, J (p))] [] []
  have hfr := h.p.fr
  by_cases hp : 0 ≤ p ∧ p < 8
  · have hpl := h.p.pl hp.1 hp.2
    have hdr := fun (a : M 7 p = 1) => (h.p.2.2.2.2.2 p hp.1 hp.2 a).2
    have e1 : M 7 p = 1 → M 8 p = 1 → (r_write M p).1 = 1 ∧ wN N M p = brg N p := fun a b => ⟨by unfold r_write; rw [pick_t ⟨by omega, a, b⟩], pick_t ⟨by omega, a, b⟩⟩
    have e2 : ¬ (M 7 p = 1 ∧ M 8 p = 1) → (r_write M p).1 = 0 ∧ wN N M p = N := fun a => ⟨by unfold r_write; rw [pick_f (fun z => a z.2)], pick_f (fun z => a z.2)⟩
    refine v_iload_n (i := 1) o.ok d_S_write_0 rfl rfl ?_
    refine v_iconst o.ok d_S_write_1 ?_
    refine v_bipush o.ok d_S_write_2 rfl ?_
    refine n_cS o (c_S_outside D A p 0 7 N hr (by omega) (by omega)) q_S_outside lm_S_53 d_S_write_4 (by decide) rfl (by first | exact Nat.le_of_ble_eq_true rfl | (simp only [List.map_cons, List.map_nil, cat_rf, J_cat, List.sum_cons, List.sum_nil, cat_lg, cat_rr]; decide)) rfl (n_f ?_)
    first | refine v_ifne_b o.ok d_S_write_7 (fun c7 => ?_) (fun c7 => ?_) | refine v_if_ne o.ok (by omega) d_S_write_7 (fun c7 => ?_) (fun c7 => ?_)
    · exfalso; omega
    · refine v_aload_nq (i := 0) o.ok d_S_write_10 rfl rfl ?_
      refine v_iload_n (i := 1) o.ok d_S_write_11 rfl rfl ?_
      refine n_cV o 1 (tg := 0) rfl (by decide) (by decide) (by first | rfl | assumption | exact And.intro (by omega) (by omega)) (c_S_place D A p N hr h.p.fr) q_S_place lm_S_60 d_S_write_12 (by decide) rfl (by first | exact Nat.le_of_ble_eq_true rfl | (simp only [List.map_cons, List.map_nil, cat_rf, J_cat, List.sum_cons, List.sum_nil, cat_lg, cat_rr]; decide)) rfl (n_f ?_)
      refine v_if_lt o.ok (by omega) d_S_write_15 (fun c15 => ?_) (fun c15 => ?_)
      · have er := e2 (by omega)
        refine v_iconst o.ok d_S_write_30 ?_
        refine n_zret o (by first | exact b01_or _ | omega | simp) d_S_write_31 ⟨congrArg J er.1.symm, rfl, er.2.symm⟩
      · have hI : M 7 p = 1 := (by omega)
        have hD := hdr hI
        refine v_aload_nq (i := 0) o.ok d_S_write_18 rfl rfl ?_
        refine n_s2 o lf_S_15 d_S_write_19 ?_
        refine v_iload_n (i := 1) o.ok d_S_write_22 rfl rfl ?_
        refine n_aR o (by omega) d_S_write_23 ?_
        refine n_getz o 17 rfl rfl rfl lf_S_88 (by first | rfl | assumption | exact And.intro (by omega) (by omega)) d_S_write_24 (fun i24 => ?_)
        refine v_if_ne o.ok (by omega) d_S_write_27 (fun c27 => ?_) (fun c27 => ?_)
        · have er := e1 hI (by omega)
          refine v_aload_nq (i := 0) o.ok d_S_write_32 rfl rfl ?_
          refine v_aload_nq (i := 0) o.ok d_S_write_33 rfl rfl ?_
          refine n_s2 o lf_S_15 d_S_write_34 ?_
          refine v_iload_n (i := 1) o.ok d_S_write_37 rfl rfl ?_
          refine n_aR o (by omega) d_S_write_38 ?_
          refine n_cV o 1 (tg := 0) rfl (by decide) (by decide) (by first | rfl | assumption | exact And.intro (by omega) (by omega)) (c_S_bring D A p N hp) q_S_bring lm_S_92 d_S_write_39 (by decide) rfl (by first | exact Nat.le_of_ble_eq_true rfl | (simp only [List.map_cons, List.map_nil, cat_rf, J_cat, List.sum_cons, List.sum_nil, cat_lg, cat_rr]; decide)) rfl (n_e ?_)
          refine v_iconst o.ok d_S_write_42 ?_
          refine n_zret o (by first | exact b01_or _ | omega | simp) d_S_write_43 ⟨congrArg J er.1.symm, rfl, er.2.symm⟩
        · have er := e2 (by omega)
          refine v_iconst o.ok d_S_write_30 ?_
          refine n_zret o (by first | exact b01_or _ | omega | simp) d_S_write_31 ⟨congrArg J er.1.symm, rfl, er.2.symm⟩
  · have e2 : (r_write M p).1 = 0 ∧ wN N M p = N := ⟨by unfold r_write; rw [pick_f (fun z => hp (by omega))], pick_f (fun z => hp (by omega))⟩
    refine v_iload_n (i := 1) o.ok d_S_write_0 rfl rfl ?_
    refine v_iconst o.ok d_S_write_1 ?_
    refine v_bipush o.ok d_S_write_2 rfl ?_
    refine n_cS o (c_S_outside D A p 0 7 N hr (by omega) (by omega)) q_S_outside lm_S_53 d_S_write_4 (by decide) rfl (by first | exact Nat.le_of_ble_eq_true rfl | (simp only [List.map_cons, List.map_nil, cat_rf, J_cat, List.sum_cons, List.sum_nil, cat_lg, cat_rr]; decide)) rfl (n_f ?_)
    first | refine v_ifne_b o.ok d_S_write_7 (fun c7 => ?_) (fun c7 => ?_) | refine v_if_ne o.ok (by omega) d_S_write_7 (fun c7 => ?_) (fun c7 => ?_)
    · refine v_iconst o.ok d_S_write_30 ?_
      refine n_zret o (by first | exact b01_or _ | omega | simp) d_S_write_31 ⟨congrArg J e2.1.symm, rfl, e2.2.symm⟩
    · exfalso; omega

