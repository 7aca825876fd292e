set_option maxHeartbeats 4000000 in
set_option maxRecDepth 20000 in
theorem c_S_state (D : GD) (A : ASt) (t : Int) (N M : MSt) (h : Sim N M) (hi : IvM M) (hr : InR t) : NF D y_S_state (wsOf y_S_state b_S_state 3 (some .int)) (2) [rq A 0 (0), J (t)] A N (J (o_state M t)) (N) := by
  refine NCon.of (by decide) (by simp [cat_rf, J_cat]) (Nat.le_of_ble_eq_true rfl) ?_
  intro X g0 o
  show V X (RelN D A N) 0 [(0, rq A 0 (0)), (1, J (t))] [] []
  have hp := hi.1.par
  by_cases hm : inM M t
  · have ent : N 51 0 = M 22 0 := h.t.1.2
    have hvt : 0 ≤ t ∧ t < N 51 0 := (by rw [ent]; exact hm)
    have eS := (h.t.2 t hm.1 hm.2).1.2.2.2.2
    have hst := hi.2.2.1 t hm.1 hm.2
    have hvs : Vld N 20 (N 35 t) := (by rw [eS]; exact hst)
    have eo : o_state M t = M 23 t := if_pos hm
    refine v_aload_nq (i := 0) o.ok d_S_state_0 rfl rfl ?_
    refine v_iload_n (i := 1) o.ok d_S_state_1 rfl rfl ?_
    refine n_cV o 1 (tg := 0) rfl (by decide) (by decide) (by first | rfl | exact hvs | exact hvt) (c_S_findI D A t N M h.t hp hm) q_S_find lm_S_240 d_S_state_2 (by decide) rfl (by first | exact Nat.le_of_ble_eq_true rfl | (simp only [List.map_cons, List.map_nil, cat_rf, J_cat, List.sum_cons, List.sum_nil, cat_lg, cat_rr]; decide)) rfl (n_f ?_)
    refine v_astore_nq (i := 2) (L' := [(0, _), (1, _), (2, _)]) (G' := []) o.ok d_S_state_5 rfl (o.lt (by decide)) rfl rfl ?_
    refine v_aload_nq (i := 2) o.ok d_S_state_6 rfl rfl ?_
    refine n_ifnonnull o.ok d_S_state_7 (fun c7 => ?_) (fun c7 => ?_)
    · refine v_aload_nq (i := 2) o.ok d_S_state_14 rfl rfl ?_
      refine n_getr o 35 20 rfl rfl rfl (by decide) lf_S_182 (by first | rfl | exact hvs | exact hvt) d_S_state_15 (fun r15 => ?_)
      refine n_ordQ o (by first | rfl | exact hvs | exact hvt) d_S_state_18 (by decide) (by first | exact Nat.le_of_ble_eq_true rfl | (simp only [List.map_cons, List.map_nil, cat_rf, J_cat, List.sum_cons, List.sum_nil, cat_lg, cat_rr]; decide)) ?_
      refine n_iret o d_S_state_21 ⟨congrArg J (by rw [eo]; exact eS), rfl, rfl⟩
    · exfalso; have := hm.1; omega
  · skip
    refine v_aload_nq (i := 0) o.ok d_S_state_0 rfl rfl ?_
    refine v_iload_n (i := 1) o.ok d_S_state_1 rfl rfl ?_
    refine n_cV o 1 (tg := 0) rfl (by decide) (by decide) (by first | rfl | assumption | exact And.intro (by omega) (by omega)) (c_S_findN D A t N M h.t hp hm hr) q_S_find lm_S_240 d_S_state_2 (by decide) rfl (by first | exact Nat.le_of_ble_eq_true rfl | (simp only [List.map_cons, List.map_nil, cat_rf, J_cat, List.sum_cons, List.sum_nil, cat_lg, cat_rr]; decide)) rfl (n_f ?_)
    refine v_astore_nq (i := 2) (L' := [(0, _), (1, _), (2, _)]) (G' := []) o.ok d_S_state_5 rfl (o.lt (by decide)) rfl rfl ?_
    refine v_aload_nq (i := 2) o.ok d_S_state_6 rfl rfl ?_
    refine n_ifnonnull o.ok d_S_state_7 (fun c7 => ?_) (fun c7 => ?_)
    · exfalso; omega
    · refine v_iconst o.ok d_S_state_10 ?_
      refine v_goto o.ok d_S_state_11 ?_
      refine n_iret o d_S_state_21 ⟨congrArg J (by exact (if_neg hm).symm), rfl, rfl⟩
set_option maxHeartbeats 4000000 in
set_option maxRecDepth 20000 in
theorem c_S_entry (D : GD) (A : ASt) (num w : Int) (N M : MSt) (h : Sim N M) (hi : IvM M) (hr : InR num) (hrw : InR w) : NF D y_S_entry (wsOf y_S_entry b_S_entry 5 (some .int)) (1) [rq A 0 (0), J (num), J (w)] A N (J (o_entry M num w)) (N) := by
  refine NCon.of (by decide) (by simp [cat_rf, J_cat]) (Nat.le_of_ble_eq_true rfl) ?_
  intro X g0 o
  show V X (RelN D A N) 0 [(0, rq A 0 (0)), (1, J (num)), (2, J (w))] [] []
  have hn := h.nums hi.1
  have hn1 := hn.1
  have hn4 := hn.2.2.2.1
  have hn5 := hn.2.2.2.2
  have eg : N 4 0 = M 11 0 := h.l.1.1
  have er : N 3 0 = M 12 0 := h.l.1.2.1
  have ent : N 51 0 = M 22 0 := h.t.1.2
  by_cases hk : M 11 0 < num ∧ num ≤ lst M
  · have hlst : lst M = M 11 0 + M 12 0 := rfl
    have hR : 0 ≤ num - N 4 0 - 1 ∧ num - N 4 0 - 1 < M 12 0 := (by omega)
    have hE := h.l.2 (num - N 4 0 - 1) hR.1 hR.2
    have hby := hi.1.bys (num - N 4 0 - 1) hR.1 hR.2
    obtain ⟨⟨u1, u2, u3, u4⟩, ⟨u5, u6, u7⟩, u8, u9, u10, u11, u12, u13, u14⟩ := hE
    have hvr : 0 ≤ num - N 4 0 - 1 ∧ num - N 4 0 - 1 < N 50 0 := (by omega)
    have hvk : Vld N 21 (N 21 (num - N 4 0 - 1)) := (by rw [u2]; exact And.intro u13.1 (by omega))
    have hvb : 0 ≤ N 22 (num - N 4 0 - 1) ∧ N 22 (num - N 4 0 - 1) < N 51 0 := (by rw [u3, ent]; exact hby)
    have eo : 0 ≤ w ∧ w ≤ 5 → o_entry M num w = (if w = 0 then M 14 (num - M 11 0 - 1) else if w = 1 then M 15 (num - M 11 0 - 1) else if w = 2 then M 16 (num - M 11 0 - 1) else if w = 3 then (if M 14 (num - M 11 0 - 1) = 3 then M 17 (num - M 11 0 - 1) else M 18 (num - M 11 0 - 1)) else if w = 4 then M 20 (num - M 11 0 - 1) else M 21 (num - M 11 0 - 1)) := fun q => if_pos ⟨hk, q⟩
    have eoN : ¬ (0 ≤ w ∧ w ≤ 5) → o_entry M num w = -1 := fun q => if_neg (fun z => q z.2)
    rw [← eg] at eo
    generalize hrr : num - N 4 0 - 1 = r at *
    have hof : 0 ≤ N 28 r → N 20 (N 28 r) = M 17 r := (by
      intro q
      rcases u10 with z | z
      · rw [(h.l.2 (N 28 r) z.2.1 (by omega)).1.1, z.2.2.2]
      · omega)
    have hof2 : 0 ≤ N 28 r → M 14 r = 3 := (by rcases u10 with z | z; exact fun _ => z.1; intro q; omega)
    have hof3 : N 28 r < 0 → ¬ M 14 r = 3 := (by rcases u10 with z | z; intro q; omega; exact fun _ => z.1)
    have hof4 : 0 ≤ N 28 r → N 28 r < N 50 0 := (by rcases u10 with z | z; intro q; omega; intro q; omega)
    refine v_iload_n (i := 1) o.ok d_S_entry_0 rfl rfl ?_
    refine v_aload_nq (i := 0) o.ok d_S_entry_1 rfl rfl ?_
    refine n_geti o 4 rfl rfl rfl lf_S_99 (by first | rfl | exact hvr | exact hvk | exact hvb | exact And.intro (by assumption) (hof4 (by assumption))) d_S_entry_2 (fun i2 => ?_)
    refine v_iconst o.ok d_S_entry_5 ?_
    refine v_iadd o.ok d_S_entry_6 ?_
    refine v_aload_nq (i := 0) o.ok d_S_entry_7 rfl rfl ?_
    refine n_cV o 1 (tg := 0) rfl (by decide) (by decide) (by first | rfl | exact hvr | exact hvk | exact hvb | exact And.intro (by assumption) (hof4 (by assumption))) (c_S_last D A N hn.1 hn.2.2.2.1) q_S_last lm_S_250 d_S_entry_8 (by decide) rfl (by first | exact Nat.le_of_ble_eq_true rfl | (simp only [List.map_cons, List.map_nil, cat_rf, J_cat, List.sum_cons, List.sum_nil, cat_lg, cat_rr]; decide)) rfl (n_f ?_)
    refine n_cS o (c_S_outside D A num (N 4 0 + 1) (N 4 0 + N 3 0) N hr (by omega) (by omega)) q_S_outside lm_S_53 d_S_entry_11 (by decide) rfl (by first | exact Nat.le_of_ble_eq_true rfl | (simp only [List.map_cons, List.map_nil, cat_rf, J_cat, List.sum_cons, List.sum_nil, cat_lg, cat_rr]; decide)) rfl (n_f ?_)
    first | refine v_ifeq_b o.ok d_S_entry_14 (fun c14 => ?_) (fun c14 => ?_) | refine v_if_eq o.ok (by omega) d_S_entry_14 (fun c14 => ?_) (fun c14 => ?_)
    · refine v_aload_nq (i := 0) o.ok d_S_entry_19 rfl rfl ?_
      refine n_s4 o lf_S_24 d_S_entry_20 ?_
      refine v_iload_n (i := 1) o.ok d_S_entry_23 rfl rfl ?_
      refine v_aload_nq (i := 0) o.ok d_S_entry_24 rfl rfl ?_
      refine n_geti o 4 rfl rfl rfl lf_S_99 (by first | rfl | exact hvr | exact hvk | exact hvb | exact And.intro (by assumption) (hof4 (by assumption))) d_S_entry_25 (fun i25 => ?_)
      refine v_isub o.ok d_S_entry_28 ?_
      refine v_iconst o.ok d_S_entry_29 ?_
      refine v_isub o.ok d_S_entry_30 ?_
      rw [hrr]
      refine n_aE o (by first | exact And.intro (by omega) (by omega) | omega) (by first | exact And.intro (by omega) (by omega) | omega) d_S_entry_31 ?_
      refine v_astore_nq (i := 3) (L' := [(0, _), (1, _), (2, _), (3, _)]) (G' := []) o.ok d_S_entry_32 rfl (o.lt (by decide)) rfl rfl ?_
      refine v_aload_nq (i := 3) o.ok d_S_entry_33 rfl rfl ?_
      refine n_getr o 21 21 rfl rfl rfl (by decide) lf_S_315 (by first | rfl | exact hvr | exact hvk | exact hvb | exact And.intro (by assumption) (hof4 (by assumption))) d_S_entry_34 (fun r34 => ?_)
      refine n_getK o 2 (by decide) ls_S_118 d_S_entry_37 ?_
      refine n_injK o (fun j40 => ?_)
      refine n_acmp_eq o.ok j40 (by first | assumption | exact Or.inr (And.intro (by decide) (by decide))) (by first | assumption | exact Or.inr (And.intro (by decide) (by decide))) d_S_entry_40 (fun c40 => ?_) (fun c40 => ?_)
      · refine v_iconst o.ok d_S_entry_53 ?_
        refine v_goto o.ok d_S_entry_54 ?_
        refine v_istore (i := 4) (L' := [(0, _), (1, _), (2, _), (3, _), (4, _)]) (G' := []) o.ok d_S_entry_58 (o.lt (by decide)) rfl rfl ?_
        refine v_iload_n (i := 2) o.ok d_S_entry_60 rfl rfl ?_
        by_cases w61 : w < 0 ∨ 5 < w
        · refine v_tabOut (tgt := 199) o.ok (by omega) d_S_entry_61 w61 (by decide) ?_
          refine v_iconst o.ok d_S_entry_199 ?_
          refine n_iret o d_S_entry_200 ⟨congrArg J (by first | (rw [eoN (by omega)]; done) | (rw [eo (by omega), w61]; first | exact u2 | exact u3 | exact u4 | (show _ = M 16 r; have := u14; omega) | (show _ = (if M 14 r = 3 then M 17 r else M 18 r); first | (rw [if_pos (hof2 (by assumption))]; exact hof (by assumption)) | (rw [if_neg (hof3 (by assumption))]; omega)) | (show _ = M 20 r; omega) | (show _ = M 21 r; rw [u8]; first | rw [if_pos (by omega)] | rw [if_neg (by omega)]))), rfl, rfl⟩
        · rcases (show w = 0 ∨ w = 1 ∨ w = 2 ∨ w = 3 ∨ w = 4 ∨ w = 5 from by omega) with w61 | w61 | w61 | w61 | w61 | w61
          · refine v_tabIn (tgt := 100) o.ok (by omega) d_S_entry_61 (by omega) (by omega) (off := 39) (by rw [w61]; rfl) (by decide) ?_
            refine v_aload_nq (i := 3) o.ok d_S_entry_100 rfl rfl ?_
            refine n_getr o 21 21 rfl rfl rfl (by decide) lf_S_315 (by first | rfl | exact hvr | exact hvk | exact hvb | exact And.intro (by assumption) (hof4 (by assumption))) d_S_entry_101 (fun r101 => ?_)
            refine n_ordK o (by first | rfl | exact hvr | exact hvk | exact hvb | exact And.intro (by assumption) (hof4 (by assumption))) d_S_entry_104 (by decide) (by first | exact Nat.le_of_ble_eq_true rfl | (simp only [List.map_cons, List.map_nil, cat_rf, J_cat, List.sum_cons, List.sum_nil, cat_lg, cat_rr]; decide)) ?_
            refine n_iret o d_S_entry_107 ⟨congrArg J (by first | (rw [eoN (by omega)]; done) | (rw [eo (by omega), w61]; first | exact u2 | exact u3 | exact u4 | (show _ = M 16 r; have := u14; omega) | (show _ = (if M 14 r = 3 then M 17 r else M 18 r); first | (rw [if_pos (hof2 (by assumption))]; exact hof (by assumption)) | (rw [if_neg (hof3 (by assumption))]; omega)) | (show _ = M 20 r; omega) | (show _ = M 21 r; rw [u8]; first | rw [if_pos (by omega)] | rw [if_neg (by omega)]))), rfl, rfl⟩
          · refine v_tabIn (tgt := 108) o.ok (by omega) d_S_entry_61 (by omega) (by omega) (off := 47) (by rw [w61]; rfl) (by decide) ?_
            refine v_aload_nq (i := 3) o.ok d_S_entry_108 rfl rfl ?_
            refine n_getr o 22 11 rfl rfl rfl (by decide) lf_S_318 (by first | rfl | exact hvr | exact hvk | exact hvb | exact And.intro (by assumption) (hof4 (by assumption))) d_S_entry_109 (fun r109 => ?_)
            refine n_numT o lf_S_223 (by first | rfl | exact hvr | exact hvk | exact hvb | exact And.intro (by assumption) (hof4 (by assumption))) d_S_entry_112 ?_
            refine n_iret o d_S_entry_115 ⟨congrArg J (by first | (rw [eoN (by omega)]; done) | (rw [eo (by omega), w61]; first | exact u2 | exact u3 | exact u4 | (show _ = M 16 r; have := u14; omega) | (show _ = (if M 14 r = 3 then M 17 r else M 18 r); first | (rw [if_pos (hof2 (by assumption))]; exact hof (by assumption)) | (rw [if_neg (hof3 (by assumption))]; omega)) | (show _ = M 20 r; omega) | (show _ = M 21 r; rw [u8]; first | rw [if_pos (by omega)] | rw [if_neg (by omega)]))), rfl, rfl⟩
          · refine v_tabIn (tgt := 116) o.ok (by omega) d_S_entry_61 (by omega) (by omega) (off := 55) (by rw [w61]; rfl) (by decide) ?_
            refine v_iload (i := 4) o.ok d_S_entry_116 rfl ?_
            refine v_if_ne o.ok (by omega) d_S_entry_118 (fun c118 => ?_) (fun c118 => ?_)
            · refine v_aload_nq (i := 3) o.ok d_S_entry_131 rfl rfl ?_
              refine n_geti o 23 rfl rfl rfl lf_S_154 (by first | rfl | exact hvr | exact hvk | exact hvb | exact And.intro (by assumption) (hof4 (by assumption))) d_S_entry_132 (fun i132 => ?_)
              refine v_goto o.ok d_S_entry_135 ?_
              refine n_iret o d_S_entry_139 ⟨congrArg J (by first | (rw [eoN (by omega)]; done) | (rw [eo (by omega), w61]; first | exact u2 | exact u3 | exact u4 | (show _ = M 16 r; have := u14; omega) | (show _ = (if M 14 r = 3 then M 17 r else M 18 r); first | (rw [if_pos (hof2 (by assumption))]; exact hof (by assumption)) | (rw [if_neg (hof3 (by assumption))]; omega)) | (show _ = M 20 r; omega) | (show _ = M 21 r; rw [u8]; first | rw [if_pos (by omega)] | rw [if_neg (by omega)]))), rfl, rfl⟩
            · refine v_aload_nq (i := 3) o.ok d_S_entry_121 rfl rfl ?_
              refine n_getr o 21 21 rfl rfl rfl (by decide) lf_S_315 (by first | rfl | exact hvr | exact hvk | exact hvb | exact And.intro (by assumption) (hof4 (by assumption))) d_S_entry_122 (fun r122 => ?_)
              refine n_getK o 1 (by decide) ls_S_256 d_S_entry_125 ?_
              refine n_injK o (fun j128 => ?_)
              refine n_acmp_ne o.ok j128 (by first | assumption | exact Or.inr (And.intro (by decide) (by decide))) (by first | assumption | exact Or.inr (And.intro (by decide) (by decide))) d_S_entry_128 (fun c128 => ?_) (fun c128 => ?_)
              · refine v_iconst o.ok d_S_entry_138 ?_
                refine n_iret o d_S_entry_139 ⟨congrArg J (by first | (rw [eoN (by omega)]; done) | (rw [eo (by omega), w61]; first | exact u2 | exact u3 | exact u4 | (show _ = M 16 r; have := u14; omega) | (show _ = (if M 14 r = 3 then M 17 r else M 18 r); first | (rw [if_pos (hof2 (by assumption))]; exact hof (by assumption)) | (rw [if_neg (hof3 (by assumption))]; omega)) | (show _ = M 20 r; omega) | (show _ = M 21 r; rw [u8]; first | rw [if_pos (by omega)] | rw [if_neg (by omega)]))), rfl, rfl⟩
              · refine v_aload_nq (i := 3) o.ok d_S_entry_131 rfl rfl ?_
                refine n_geti o 23 rfl rfl rfl lf_S_154 (by first | rfl | exact hvr | exact hvk | exact hvb | exact And.intro (by assumption) (hof4 (by assumption))) d_S_entry_132 (fun i132 => ?_)
                refine v_goto o.ok d_S_entry_135 ?_
                refine n_iret o d_S_entry_139 ⟨congrArg J (by first | (rw [eoN (by omega)]; done) | (rw [eo (by omega), w61]; first | exact u2 | exact u3 | exact u4 | (show _ = M 16 r; have := u14; omega) | (show _ = (if M 14 r = 3 then M 17 r else M 18 r); first | (rw [if_pos (hof2 (by assumption))]; exact hof (by assumption)) | (rw [if_neg (hof3 (by assumption))]; omega)) | (show _ = M 20 r; omega) | (show _ = M 21 r; rw [u8]; first | rw [if_pos (by omega)] | rw [if_neg (by omega)]))), rfl, rfl⟩
          · refine v_tabIn (tgt := 140) o.ok (by omega) d_S_entry_61 (by omega) (by omega) (off := 79) (by rw [w61]; rfl) (by decide) ?_
            refine v_aload_nq (i := 3) o.ok d_S_entry_140 rfl rfl ?_
            refine n_getr o 28 10 rfl rfl rfl (by decide) lf_S_160 (by first | rfl | exact hvr | exact hvk | exact hvb | exact And.intro (by assumption) (hof4 (by assumption))) d_S_entry_141 (fun r141 => ?_)
            refine n_ifnull o.ok d_S_entry_144 (fun c144 => ?_) (fun c144 => ?_)
            · refine v_aload_nq (i := 3) o.ok d_S_entry_157 rfl rfl ?_
              refine n_getz o 24 rfl rfl rfl lf_S_128 (by first | rfl | exact hvr | exact hvk | exact hvb | exact And.intro (by assumption) (hof4 (by assumption))) d_S_entry_158 (fun i158 => ?_)
              refine v_if_eq o.ok (by omega) d_S_entry_161 (fun c161 => ?_) (fun c161 => ?_)
              · refine v_iconst o.ok d_S_entry_168 ?_
                refine n_iret o d_S_entry_169 ⟨congrArg J (by first | (rw [eoN (by omega)]; done) | (rw [eo (by omega), w61]; first | exact u2 | exact u3 | exact u4 | (show _ = M 16 r; have := u14; omega) | (show _ = (if M 14 r = 3 then M 17 r else M 18 r); first | (rw [if_pos (hof2 (by assumption))]; exact hof (by assumption)) | (rw [if_neg (hof3 (by assumption))]; omega)) | (show _ = M 20 r; omega) | (show _ = M 21 r; rw [u8]; first | rw [if_pos (by omega)] | rw [if_neg (by omega)]))), rfl, rfl⟩
              · refine v_iconst o.ok d_S_entry_164 ?_
                refine v_goto o.ok d_S_entry_165 ?_
                refine n_iret o d_S_entry_169 ⟨congrArg J (by first | (rw [eoN (by omega)]; done) | (rw [eo (by omega), w61]; first | exact u2 | exact u3 | exact u4 | (show _ = M 16 r; have := u14; omega) | (show _ = (if M 14 r = 3 then M 17 r else M 18 r); first | (rw [if_pos (hof2 (by assumption))]; exact hof (by assumption)) | (rw [if_neg (hof3 (by assumption))]; omega)) | (show _ = M 20 r; omega) | (show _ = M 21 r; rw [u8]; first | rw [if_pos (by omega)] | rw [if_neg (by omega)]))), rfl, rfl⟩
            · refine v_aload_nq (i := 3) o.ok d_S_entry_147 rfl rfl ?_
              refine n_getr o 28 10 rfl rfl rfl (by decide) lf_S_160 (by first | rfl | exact hvr | exact hvk | exact hvb | exact And.intro (by assumption) (hof4 (by assumption))) d_S_entry_148 (fun r148 => ?_)
              refine n_geti o 20 rfl rfl rfl lf_S_150 (by first | rfl | exact hvr | exact hvk | exact hvb | exact And.intro (by assumption) (hof4 (by assumption))) d_S_entry_151 (fun i151 => ?_)
              refine v_goto o.ok d_S_entry_154 ?_
              refine n_iret o d_S_entry_169 ⟨congrArg J (by first | (rw [eoN (by omega)]; done) | (rw [eo (by omega), w61]; first | exact u2 | exact u3 | exact u4 | (show _ = M 16 r; have := u14; omega) | (show _ = (if M 14 r = 3 then M 17 r else M 18 r); first | (rw [if_pos (hof2 (by assumption))]; exact hof (by assumption)) | (rw [if_neg (hof3 (by assumption))]; omega)) | (show _ = M 20 r; omega) | (show _ = M 21 r; rw [u8]; first | rw [if_pos (by omega)] | rw [if_neg (by omega)]))), rfl, rfl⟩
          · refine v_tabIn (tgt := 170) o.ok (by omega) d_S_entry_61 (by omega) (by omega) (off := 109) (by rw [w61]; rfl) (by decide) ?_
            refine v_aload_nq (i := 3) o.ok d_S_entry_170 rfl rfl ?_
            refine n_getz o 26 rfl rfl rfl lf_S_137 (by first | rfl | exact hvr | exact hvk | exact hvb | exact And.intro (by assumption) (hof4 (by assumption))) d_S_entry_171 (fun i171 => ?_)
            refine v_if_eq o.ok (by omega) d_S_entry_174 (fun c174 => ?_) (fun c174 => ?_)
            · refine v_iconst o.ok d_S_entry_181 ?_
              refine n_iret o d_S_entry_182 ⟨congrArg J (by first | (rw [eoN (by omega)]; done) | (rw [eo (by omega), w61]; first | exact u2 | exact u3 | exact u4 | (show _ = M 16 r; have := u14; omega) | (show _ = (if M 14 r = 3 then M 17 r else M 18 r); first | (rw [if_pos (hof2 (by assumption))]; exact hof (by assumption)) | (rw [if_neg (hof3 (by assumption))]; omega)) | (show _ = M 20 r; omega) | (show _ = M 21 r; rw [u8]; first | rw [if_pos (by omega)] | rw [if_neg (by omega)]))), rfl, rfl⟩
            · refine v_iconst o.ok d_S_entry_177 ?_
              refine v_goto o.ok d_S_entry_178 ?_
              refine n_iret o d_S_entry_182 ⟨congrArg J (by first | (rw [eoN (by omega)]; done) | (rw [eo (by omega), w61]; first | exact u2 | exact u3 | exact u4 | (show _ = M 16 r; have := u14; omega) | (show _ = (if M 14 r = 3 then M 17 r else M 18 r); first | (rw [if_pos (hof2 (by assumption))]; exact hof (by assumption)) | (rw [if_neg (hof3 (by assumption))]; omega)) | (show _ = M 20 r; omega) | (show _ = M 21 r; rw [u8]; first | rw [if_pos (by omega)] | rw [if_neg (by omega)]))), rfl, rfl⟩
          · refine v_tabIn (tgt := 183) o.ok (by omega) d_S_entry_61 (by omega) (by omega) (off := 122) (by rw [w61]; rfl) (by decide) ?_
            refine v_aload_nq (i := 3) o.ok d_S_entry_183 rfl rfl ?_
            refine n_getz o 26 rfl rfl rfl lf_S_137 (by first | rfl | exact hvr | exact hvk | exact hvb | exact And.intro (by assumption) (hof4 (by assumption))) d_S_entry_184 (fun i184 => ?_)
            refine v_if_eq o.ok (by omega) d_S_entry_187 (fun c187 => ?_) (fun c187 => ?_)
            · refine v_iconst o.ok d_S_entry_197 ?_
              refine n_iret o d_S_entry_198 ⟨congrArg J (by first | (rw [eoN (by omega)]; done) | (rw [eo (by omega), w61]; first | exact u2 | exact u3 | exact u4 | (show _ = M 16 r; have := u14; omega) | (show _ = (if M 14 r = 3 then M 17 r else M 18 r); first | (rw [if_pos (hof2 (by assumption))]; exact hof (by assumption)) | (rw [if_neg (hof3 (by assumption))]; omega)) | (show _ = M 20 r; omega) | (show _ = M 21 r; rw [u8]; first | rw [if_pos (by omega)] | rw [if_neg (by omega)]))), rfl, rfl⟩
            · refine v_aload_nq (i := 3) o.ok d_S_entry_190 rfl rfl ?_
              refine n_geti o 27 rfl rfl rfl lf_S_140 (by first | rfl | exact hvr | exact hvk | exact hvb | exact And.intro (by assumption) (hof4 (by assumption))) d_S_entry_191 (fun i191 => ?_)
              refine v_goto o.ok d_S_entry_194 ?_
              refine n_iret o d_S_entry_198 ⟨congrArg J (by first | (rw [eoN (by omega)]; done) | (rw [eo (by omega), w61]; first | exact u2 | exact u3 | exact u4 | (show _ = M 16 r; have := u14; omega) | (show _ = (if M 14 r = 3 then M 17 r else M 18 r); first | (rw [if_pos (hof2 (by assumption))]; exact hof (by assumption)) | (rw [if_neg (hof3 (by assumption))]; omega)) | (show _ = M 20 r; omega) | (show _ = M 21 r; rw [u8]; first | rw [if_pos (by omega)] | rw [if_neg (by omega)]))), rfl, rfl⟩
      · refine v_aload_nq (i := 3) o.ok d_S_entry_43 rfl rfl ?_
        refine n_getr o 21 21 rfl rfl rfl (by decide) lf_S_315 (by first | rfl | exact hvr | exact hvk | exact hvb | exact And.intro (by assumption) (hof4 (by assumption))) d_S_entry_44 (fun r44 => ?_)
        refine n_getK o 3 (by decide) ls_S_157 d_S_entry_47 ?_
        refine n_injK o (fun j50 => ?_)
        refine n_acmp_ne o.ok j50 (by first | assumption | exact Or.inr (And.intro (by decide) (by decide))) (by first | assumption | exact Or.inr (And.intro (by decide) (by decide))) d_S_entry_50 (fun c50 => ?_) (fun c50 => ?_)
        · refine v_iconst o.ok d_S_entry_57 ?_
          refine v_istore (i := 4) (L' := [(0, _), (1, _), (2, _), (3, _), (4, _)]) (G' := []) o.ok d_S_entry_58 (o.lt (by decide)) rfl rfl ?_
          refine v_iload_n (i := 2) o.ok d_S_entry_60 rfl rfl ?_
          by_cases w61 : w < 0 ∨ 5 < w
          · refine v_tabOut (tgt := 199) o.ok (by omega) d_S_entry_61 w61 (by decide) ?_
            refine v_iconst o.ok d_S_entry_199 ?_
            refine n_iret o d_S_entry_200 ⟨congrArg J (by first | (rw [eoN (by omega)]; done) | (rw [eo (by omega), w61]; first | exact u2 | exact u3 | exact u4 | (show _ = M 16 r; have := u14; omega) | (show _ = (if M 14 r = 3 then M 17 r else M 18 r); first | (rw [if_pos (hof2 (by assumption))]; exact hof (by assumption)) | (rw [if_neg (hof3 (by assumption))]; omega)) | (show _ = M 20 r; omega) | (show _ = M 21 r; rw [u8]; first | rw [if_pos (by omega)] | rw [if_neg (by omega)]))), rfl, rfl⟩
          · rcases (show w = 0 ∨ w = 1 ∨ w = 2 ∨ w = 3 ∨ w = 4 ∨ w = 5 from by omega) with w61 | w61 | w61 | w61 | w61 | w61
            · refine v_tabIn (tgt := 100) o.ok (by omega) d_S_entry_61 (by omega) (by omega) (off := 39) (by rw [w61]; rfl) (by decide) ?_
              refine v_aload_nq (i := 3) o.ok d_S_entry_100 rfl rfl ?_
              refine n_getr o 21 21 rfl rfl rfl (by decide) lf_S_315 (by first | rfl | exact hvr | exact hvk | exact hvb | exact And.intro (by assumption) (hof4 (by assumption))) d_S_entry_101 (fun r101 => ?_)
              refine n_ordK o (by first | rfl | exact hvr | exact hvk | exact hvb | exact And.intro (by assumption) (hof4 (by assumption))) d_S_entry_104 (by decide) (by first | exact Nat.le_of_ble_eq_true rfl | (simp only [List.map_cons, List.map_nil, cat_rf, J_cat, List.sum_cons, List.sum_nil, cat_lg, cat_rr]; decide)) ?_
              refine n_iret o d_S_entry_107 ⟨congrArg J (by first | (rw [eoN (by omega)]; done) | (rw [eo (by omega), w61]; first | exact u2 | exact u3 | exact u4 | (show _ = M 16 r; have := u14; omega) | (show _ = (if M 14 r = 3 then M 17 r else M 18 r); first | (rw [if_pos (hof2 (by assumption))]; exact hof (by assumption)) | (rw [if_neg (hof3 (by assumption))]; omega)) | (show _ = M 20 r; omega) | (show _ = M 21 r; rw [u8]; first | rw [if_pos (by omega)] | rw [if_neg (by omega)]))), rfl, rfl⟩
            · refine v_tabIn (tgt := 108) o.ok (by omega) d_S_entry_61 (by omega) (by omega) (off := 47) (by rw [w61]; rfl) (by decide) ?_
              refine v_aload_nq (i := 3) o.ok d_S_entry_108 rfl rfl ?_
              refine n_getr o 22 11 rfl rfl rfl (by decide) lf_S_318 (by first | rfl | exact hvr | exact hvk | exact hvb | exact And.intro (by assumption) (hof4 (by assumption))) d_S_entry_109 (fun r109 => ?_)
              refine n_numT o lf_S_223 (by first | rfl | exact hvr | exact hvk | exact hvb | exact And.intro (by assumption) (hof4 (by assumption))) d_S_entry_112 ?_
              refine n_iret o d_S_entry_115 ⟨congrArg J (by first | (rw [eoN (by omega)]; done) | (rw [eo (by omega), w61]; first | exact u2 | exact u3 | exact u4 | (show _ = M 16 r; have := u14; omega) | (show _ = (if M 14 r = 3 then M 17 r else M 18 r); first | (rw [if_pos (hof2 (by assumption))]; exact hof (by assumption)) | (rw [if_neg (hof3 (by assumption))]; omega)) | (show _ = M 20 r; omega) | (show _ = M 21 r; rw [u8]; first | rw [if_pos (by omega)] | rw [if_neg (by omega)]))), rfl, rfl⟩
            · refine v_tabIn (tgt := 116) o.ok (by omega) d_S_entry_61 (by omega) (by omega) (off := 55) (by rw [w61]; rfl) (by decide) ?_
              refine v_iload (i := 4) o.ok d_S_entry_116 rfl ?_
              refine v_if_ne o.ok (by omega) d_S_entry_118 (fun c118 => ?_) (fun c118 => ?_)
              · refine v_aload_nq (i := 3) o.ok d_S_entry_131 rfl rfl ?_
                refine n_geti o 23 rfl rfl rfl lf_S_154 (by first | rfl | exact hvr | exact hvk | exact hvb | exact And.intro (by assumption) (hof4 (by assumption))) d_S_entry_132 (fun i132 => ?_)
                refine v_goto o.ok d_S_entry_135 ?_
                refine n_iret o d_S_entry_139 ⟨congrArg J (by first | (rw [eoN (by omega)]; done) | (rw [eo (by omega), w61]; first | exact u2 | exact u3 | exact u4 | (show _ = M 16 r; have := u14; omega) | (show _ = (if M 14 r = 3 then M 17 r else M 18 r); first | (rw [if_pos (hof2 (by assumption))]; exact hof (by assumption)) | (rw [if_neg (hof3 (by assumption))]; omega)) | (show _ = M 20 r; omega) | (show _ = M 21 r; rw [u8]; first | rw [if_pos (by omega)] | rw [if_neg (by omega)]))), rfl, rfl⟩
              · refine v_aload_nq (i := 3) o.ok d_S_entry_121 rfl rfl ?_
                refine n_getr o 21 21 rfl rfl rfl (by decide) lf_S_315 (by first | rfl | exact hvr | exact hvk | exact hvb | exact And.intro (by assumption) (hof4 (by assumption))) d_S_entry_122 (fun r122 => ?_)
                refine n_getK o 1 (by decide) ls_S_256 d_S_entry_125 ?_
                refine n_injK o (fun j128 => ?_)
                refine n_acmp_ne o.ok j128 (by first | assumption | exact Or.inr (And.intro (by decide) (by decide))) (by first | assumption | exact Or.inr (And.intro (by decide) (by decide))) d_S_entry_128 (fun c128 => ?_) (fun c128 => ?_)
                · refine v_iconst o.ok d_S_entry_138 ?_
                  refine n_iret o d_S_entry_139 ⟨congrArg J (by first | (rw [eoN (by omega)]; done) | (rw [eo (by omega), w61]; first | exact u2 | exact u3 | exact u4 | (show _ = M 16 r; have := u14; omega) | (show _ = (if M 14 r = 3 then M 17 r else M 18 r); first | (rw [if_pos (hof2 (by assumption))]; exact hof (by assumption)) | (rw [if_neg (hof3 (by assumption))]; omega)) | (show _ = M 20 r; omega) | (show _ = M 21 r; rw [u8]; first | rw [if_pos (by omega)] | rw [if_neg (by omega)]))), rfl, rfl⟩
                · refine v_aload_nq (i := 3) o.ok d_S_entry_131 rfl rfl ?_
                  refine n_geti o 23 rfl rfl rfl lf_S_154 (by first | rfl | exact hvr | exact hvk | exact hvb | exact And.intro (by assumption) (hof4 (by assumption))) d_S_entry_132 (fun i132 => ?_)
                  refine v_goto o.ok d_S_entry_135 ?_
                  refine n_iret o d_S_entry_139 ⟨congrArg J (by first | (rw [eoN (by omega)]; done) | (rw [eo (by omega), w61]; first | exact u2 | exact u3 | exact u4 | (show _ = M 16 r; have := u14; omega) | (show _ = (if M 14 r = 3 then M 17 r else M 18 r); first | (rw [if_pos (hof2 (by assumption))]; exact hof (by assumption)) | (rw [if_neg (hof3 (by assumption))]; omega)) | (show _ = M 20 r; omega) | (show _ = M 21 r; rw [u8]; first | rw [if_pos (by omega)] | rw [if_neg (by omega)]))), rfl, rfl⟩
            · refine v_tabIn (tgt := 140) o.ok (by omega) d_S_entry_61 (by omega) (by omega) (off := 79) (by rw [w61]; rfl) (by decide) ?_
              refine v_aload_nq (i := 3) o.ok d_S_entry_140 rfl rfl ?_
              refine n_getr o 28 10 rfl rfl rfl (by decide) lf_S_160 (by first | rfl | exact hvr | exact hvk | exact hvb | exact And.intro (by assumption) (hof4 (by assumption))) d_S_entry_141 (fun r141 => ?_)
              refine n_ifnull o.ok d_S_entry_144 (fun c144 => ?_) (fun c144 => ?_)
              · refine v_aload_nq (i := 3) o.ok d_S_entry_157 rfl rfl ?_
                refine n_getz o 24 rfl rfl rfl lf_S_128 (by first | rfl | exact hvr | exact hvk | exact hvb | exact And.intro (by assumption) (hof4 (by assumption))) d_S_entry_158 (fun i158 => ?_)
                refine v_if_eq o.ok (by omega) d_S_entry_161 (fun c161 => ?_) (fun c161 => ?_)
                · refine v_iconst o.ok d_S_entry_168 ?_
                  refine n_iret o d_S_entry_169 ⟨congrArg J (by first | (rw [eoN (by omega)]; done) | (rw [eo (by omega), w61]; first | exact u2 | exact u3 | exact u4 | (show _ = M 16 r; have := u14; omega) | (show _ = (if M 14 r = 3 then M 17 r else M 18 r); first | (rw [if_pos (hof2 (by assumption))]; exact hof (by assumption)) | (rw [if_neg (hof3 (by assumption))]; omega)) | (show _ = M 20 r; omega) | (show _ = M 21 r; rw [u8]; first | rw [if_pos (by omega)] | rw [if_neg (by omega)]))), rfl, rfl⟩
                · refine v_iconst o.ok d_S_entry_164 ?_
                  refine v_goto o.ok d_S_entry_165 ?_
                  refine n_iret o d_S_entry_169 ⟨congrArg J (by first | (rw [eoN (by omega)]; done) | (rw [eo (by omega), w61]; first | exact u2 | exact u3 | exact u4 | (show _ = M 16 r; have := u14; omega) | (show _ = (if M 14 r = 3 then M 17 r else M 18 r); first | (rw [if_pos (hof2 (by assumption))]; exact hof (by assumption)) | (rw [if_neg (hof3 (by assumption))]; omega)) | (show _ = M 20 r; omega) | (show _ = M 21 r; rw [u8]; first | rw [if_pos (by omega)] | rw [if_neg (by omega)]))), rfl, rfl⟩
              · refine v_aload_nq (i := 3) o.ok d_S_entry_147 rfl rfl ?_
                refine n_getr o 28 10 rfl rfl rfl (by decide) lf_S_160 (by first | rfl | exact hvr | exact hvk | exact hvb | exact And.intro (by assumption) (hof4 (by assumption))) d_S_entry_148 (fun r148 => ?_)
                refine n_geti o 20 rfl rfl rfl lf_S_150 (by first | rfl | exact hvr | exact hvk | exact hvb | exact And.intro (by assumption) (hof4 (by assumption))) d_S_entry_151 (fun i151 => ?_)
                refine v_goto o.ok d_S_entry_154 ?_
                refine n_iret o d_S_entry_169 ⟨congrArg J (by first | (rw [eoN (by omega)]; done) | (rw [eo (by omega), w61]; first | exact u2 | exact u3 | exact u4 | (show _ = M 16 r; have := u14; omega) | (show _ = (if M 14 r = 3 then M 17 r else M 18 r); first | (rw [if_pos (hof2 (by assumption))]; exact hof (by assumption)) | (rw [if_neg (hof3 (by assumption))]; omega)) | (show _ = M 20 r; omega) | (show _ = M 21 r; rw [u8]; first | rw [if_pos (by omega)] | rw [if_neg (by omega)]))), rfl, rfl⟩
            · refine v_tabIn (tgt := 170) o.ok (by omega) d_S_entry_61 (by omega) (by omega) (off := 109) (by rw [w61]; rfl) (by decide) ?_
              refine v_aload_nq (i := 3) o.ok d_S_entry_170 rfl rfl ?_
              refine n_getz o 26 rfl rfl rfl lf_S_137 (by first | rfl | exact hvr | exact hvk | exact hvb | exact And.intro (by assumption) (hof4 (by assumption))) d_S_entry_171 (fun i171 => ?_)
              refine v_if_eq o.ok (by omega) d_S_entry_174 (fun c174 => ?_) (fun c174 => ?_)
              · refine v_iconst o.ok d_S_entry_181 ?_
                refine n_iret o d_S_entry_182 ⟨congrArg J (by first | (rw [eoN (by omega)]; done) | (rw [eo (by omega), w61]; first | exact u2 | exact u3 | exact u4 | (show _ = M 16 r; have := u14; omega) | (show _ = (if M 14 r = 3 then M 17 r else M 18 r); first | (rw [if_pos (hof2 (by assumption))]; exact hof (by assumption)) | (rw [if_neg (hof3 (by assumption))]; omega)) | (show _ = M 20 r; omega) | (show _ = M 21 r; rw [u8]; first | rw [if_pos (by omega)] | rw [if_neg (by omega)]))), rfl, rfl⟩
              · refine v_iconst o.ok d_S_entry_177 ?_
                refine v_goto o.ok d_S_entry_178 ?_
                refine n_iret o d_S_entry_182 ⟨congrArg J (by first | (rw [eoN (by omega)]; done) | (rw [eo (by omega), w61]; first | exact u2 | exact u3 | exact u4 | (show _ = M 16 r; have := u14; omega) | (show _ = (if M 14 r = 3 then M 17 r else M 18 r); first | (rw [if_pos (hof2 (by assumption))]; exact hof (by assumption)) | (rw [if_neg (hof3 (by assumption))]; omega)) | (show _ = M 20 r; omega) | (show _ = M 21 r; rw [u8]; first | rw [if_pos (by omega)] | rw [if_neg (by omega)]))), rfl, rfl⟩
            · refine v_tabIn (tgt := 183) o.ok (by omega) d_S_entry_61 (by omega) (by omega) (off := 122) (by rw [w61]; rfl) (by decide) ?_
              refine v_aload_nq (i := 3) o.ok d_S_entry_183 rfl rfl ?_
              refine n_getz o 26 rfl rfl rfl lf_S_137 (by first | rfl | exact hvr | exact hvk | exact hvb | exact And.intro (by assumption) (hof4 (by assumption))) d_S_entry_184 (fun i184 => ?_)
              refine v_if_eq o.ok (by omega) d_S_entry_187 (fun c187 => ?_) (fun c187 => ?_)
              · refine v_iconst o.ok d_S_entry_197 ?_
                refine n_iret o d_S_entry_198 ⟨congrArg J (by first | (rw [eoN (by omega)]; done) | (rw [eo (by omega), w61]; first | exact u2 | exact u3 | exact u4 | (show _ = M 16 r; have := u14; omega) | (show _ = (if M 14 r = 3 then M 17 r else M 18 r); first | (rw [if_pos (hof2 (by assumption))]; exact hof (by assumption)) | (rw [if_neg (hof3 (by assumption))]; omega)) | (show _ = M 20 r; omega) | (show _ = M 21 r; rw [u8]; first | rw [if_pos (by omega)] | rw [if_neg (by omega)]))), rfl, rfl⟩
              · refine v_aload_nq (i := 3) o.ok d_S_entry_190 rfl rfl ?_
                refine n_geti o 27 rfl rfl rfl lf_S_140 (by first | rfl | exact hvr | exact hvk | exact hvb | exact And.intro (by assumption) (hof4 (by assumption))) d_S_entry_191 (fun i191 => ?_)
                refine v_goto o.ok d_S_entry_194 ?_
                refine n_iret o d_S_entry_198 ⟨congrArg J (by first | (rw [eoN (by omega)]; done) | (rw [eo (by omega), w61]; first | exact u2 | exact u3 | exact u4 | (show _ = M 16 r; have := u14; omega) | (show _ = (if M 14 r = 3 then M 17 r else M 18 r); first | (rw [if_pos (hof2 (by assumption))]; exact hof (by assumption)) | (rw [if_neg (hof3 (by assumption))]; omega)) | (show _ = M 20 r; omega) | (show _ = M 21 r; rw [u8]; first | rw [if_pos (by omega)] | rw [if_neg (by omega)]))), rfl, rfl⟩
        · refine v_iconst o.ok d_S_entry_53 ?_
          refine v_goto o.ok d_S_entry_54 ?_
          refine v_istore (i := 4) (L' := [(0, _), (1, _), (2, _), (3, _), (4, _)]) (G' := []) o.ok d_S_entry_58 (o.lt (by decide)) rfl rfl ?_
          refine v_iload_n (i := 2) o.ok d_S_entry_60 rfl rfl ?_
          by_cases w61 : w < 0 ∨ 5 < w
          · refine v_tabOut (tgt := 199) o.ok (by omega) d_S_entry_61 w61 (by decide) ?_
            refine v_iconst o.ok d_S_entry_199 ?_
            refine n_iret o d_S_entry_200 ⟨congrArg J (by first | (rw [eoN (by omega)]; done) | (rw [eo (by omega), w61]; first | exact u2 | exact u3 | exact u4 | (show _ = M 16 r; have := u14; omega) | (show _ = (if M 14 r = 3 then M 17 r else M 18 r); first | (rw [if_pos (hof2 (by assumption))]; exact hof (by assumption)) | (rw [if_neg (hof3 (by assumption))]; omega)) | (show _ = M 20 r; omega) | (show _ = M 21 r; rw [u8]; first | rw [if_pos (by omega)] | rw [if_neg (by omega)]))), rfl, rfl⟩
          · rcases (show w = 0 ∨ w = 1 ∨ w = 2 ∨ w = 3 ∨ w = 4 ∨ w = 5 from by omega) with w61 | w61 | w61 | w61 | w61 | w61
            · refine v_tabIn (tgt := 100) o.ok (by omega) d_S_entry_61 (by omega) (by omega) (off := 39) (by rw [w61]; rfl) (by decide) ?_
              refine v_aload_nq (i := 3) o.ok d_S_entry_100 rfl rfl ?_
              refine n_getr o 21 21 rfl rfl rfl (by decide) lf_S_315 (by first | rfl | exact hvr | exact hvk | exact hvb | exact And.intro (by assumption) (hof4 (by assumption))) d_S_entry_101 (fun r101 => ?_)
              refine n_ordK o (by first | rfl | exact hvr | exact hvk | exact hvb | exact And.intro (by assumption) (hof4 (by assumption))) d_S_entry_104 (by decide) (by first | exact Nat.le_of_ble_eq_true rfl | (simp only [List.map_cons, List.map_nil, cat_rf, J_cat, List.sum_cons, List.sum_nil, cat_lg, cat_rr]; decide)) ?_
              refine n_iret o d_S_entry_107 ⟨congrArg J (by first | (rw [eoN (by omega)]; done) | (rw [eo (by omega), w61]; first | exact u2 | exact u3 | exact u4 | (show _ = M 16 r; have := u14; omega) | (show _ = (if M 14 r = 3 then M 17 r else M 18 r); first | (rw [if_pos (hof2 (by assumption))]; exact hof (by assumption)) | (rw [if_neg (hof3 (by assumption))]; omega)) | (show _ = M 20 r; omega) | (show _ = M 21 r; rw [u8]; first | rw [if_pos (by omega)] | rw [if_neg (by omega)]))), rfl, rfl⟩
            · refine v_tabIn (tgt := 108) o.ok (by omega) d_S_entry_61 (by omega) (by omega) (off := 47) (by rw [w61]; rfl) (by decide) ?_
              refine v_aload_nq (i := 3) o.ok d_S_entry_108 rfl rfl ?_
              refine n_getr o 22 11 rfl rfl rfl (by decide) lf_S_318 (by first | rfl | exact hvr | exact hvk | exact hvb | exact And.intro (by assumption) (hof4 (by assumption))) d_S_entry_109 (fun r109 => ?_)
              refine n_numT o lf_S_223 (by first | rfl | exact hvr | exact hvk | exact hvb | exact And.intro (by assumption) (hof4 (by assumption))) d_S_entry_112 ?_
              refine n_iret o d_S_entry_115 ⟨congrArg J (by first | (rw [eoN (by omega)]; done) | (rw [eo (by omega), w61]; first | exact u2 | exact u3 | exact u4 | (show _ = M 16 r; have := u14; omega) | (show _ = (if M 14 r = 3 then M 17 r else M 18 r); first | (rw [if_pos (hof2 (by assumption))]; exact hof (by assumption)) | (rw [if_neg (hof3 (by assumption))]; omega)) | (show _ = M 20 r; omega) | (show _ = M 21 r; rw [u8]; first | rw [if_pos (by omega)] | rw [if_neg (by omega)]))), rfl, rfl⟩
            · refine v_tabIn (tgt := 116) o.ok (by omega) d_S_entry_61 (by omega) (by omega) (off := 55) (by rw [w61]; rfl) (by decide) ?_
              refine v_iload (i := 4) o.ok d_S_entry_116 rfl ?_
              refine v_if_ne o.ok (by omega) d_S_entry_118 (fun c118 => ?_) (fun c118 => ?_)
              · refine v_aload_nq (i := 3) o.ok d_S_entry_131 rfl rfl ?_
                refine n_geti o 23 rfl rfl rfl lf_S_154 (by first | rfl | exact hvr | exact hvk | exact hvb | exact And.intro (by assumption) (hof4 (by assumption))) d_S_entry_132 (fun i132 => ?_)
                refine v_goto o.ok d_S_entry_135 ?_
                refine n_iret o d_S_entry_139 ⟨congrArg J (by first | (rw [eoN (by omega)]; done) | (rw [eo (by omega), w61]; first | exact u2 | exact u3 | exact u4 | (show _ = M 16 r; have := u14; omega) | (show _ = (if M 14 r = 3 then M 17 r else M 18 r); first | (rw [if_pos (hof2 (by assumption))]; exact hof (by assumption)) | (rw [if_neg (hof3 (by assumption))]; omega)) | (show _ = M 20 r; omega) | (show _ = M 21 r; rw [u8]; first | rw [if_pos (by omega)] | rw [if_neg (by omega)]))), rfl, rfl⟩
              · refine v_aload_nq (i := 3) o.ok d_S_entry_121 rfl rfl ?_
                refine n_getr o 21 21 rfl rfl rfl (by decide) lf_S_315 (by first | rfl | exact hvr | exact hvk | exact hvb | exact And.intro (by assumption) (hof4 (by assumption))) d_S_entry_122 (fun r122 => ?_)
                refine n_getK o 1 (by decide) ls_S_256 d_S_entry_125 ?_
                refine n_injK o (fun j128 => ?_)
                refine n_acmp_ne o.ok j128 (by first | assumption | exact Or.inr (And.intro (by decide) (by decide))) (by first | assumption | exact Or.inr (And.intro (by decide) (by decide))) d_S_entry_128 (fun c128 => ?_) (fun c128 => ?_)
                · refine v_iconst o.ok d_S_entry_138 ?_
                  refine n_iret o d_S_entry_139 ⟨congrArg J (by first | (rw [eoN (by omega)]; done) | (rw [eo (by omega), w61]; first | exact u2 | exact u3 | exact u4 | (show _ = M 16 r; have := u14; omega) | (show _ = (if M 14 r = 3 then M 17 r else M 18 r); first | (rw [if_pos (hof2 (by assumption))]; exact hof (by assumption)) | (rw [if_neg (hof3 (by assumption))]; omega)) | (show _ = M 20 r; omega) | (show _ = M 21 r; rw [u8]; first | rw [if_pos (by omega)] | rw [if_neg (by omega)]))), rfl, rfl⟩
                · refine v_aload_nq (i := 3) o.ok d_S_entry_131 rfl rfl ?_
                  refine n_geti o 23 rfl rfl rfl lf_S_154 (by first | rfl | exact hvr | exact hvk | exact hvb | exact And.intro (by assumption) (hof4 (by assumption))) d_S_entry_132 (fun i132 => ?_)
                  refine v_goto o.ok d_S_entry_135 ?_
                  refine n_iret o d_S_entry_139 ⟨congrArg J (by first | (rw [eoN (by omega)]; done) | (rw [eo (by omega), w61]; first | exact u2 | exact u3 | exact u4 | (show _ = M 16 r; have := u14; omega) | (show _ = (if M 14 r = 3 then M 17 r else M 18 r); first | (rw [if_pos (hof2 (by assumption))]; exact hof (by assumption)) | (rw [if_neg (hof3 (by assumption))]; omega)) | (show _ = M 20 r; omega) | (show _ = M 21 r; rw [u8]; first | rw [if_pos (by omega)] | rw [if_neg (by omega)]))), rfl, rfl⟩
            · refine v_tabIn (tgt := 140) o.ok (by omega) d_S_entry_61 (by omega) (by omega) (off := 79) (by rw [w61]; rfl) (by decide) ?_
              refine v_aload_nq (i := 3) o.ok d_S_entry_140 rfl rfl ?_
              refine n_getr o 28 10 rfl rfl rfl (by decide) lf_S_160 (by first | rfl | exact hvr | exact hvk | exact hvb | exact And.intro (by assumption) (hof4 (by assumption))) d_S_entry_141 (fun r141 => ?_)
              refine n_ifnull o.ok d_S_entry_144 (fun c144 => ?_) (fun c144 => ?_)
              · refine v_aload_nq (i := 3) o.ok d_S_entry_157 rfl rfl ?_
                refine n_getz o 24 rfl rfl rfl lf_S_128 (by first | rfl | exact hvr | exact hvk | exact hvb | exact And.intro (by assumption) (hof4 (by assumption))) d_S_entry_158 (fun i158 => ?_)
                refine v_if_eq o.ok (by omega) d_S_entry_161 (fun c161 => ?_) (fun c161 => ?_)
                · refine v_iconst o.ok d_S_entry_168 ?_
                  refine n_iret o d_S_entry_169 ⟨congrArg J (by first | (rw [eoN (by omega)]; done) | (rw [eo (by omega), w61]; first | exact u2 | exact u3 | exact u4 | (show _ = M 16 r; have := u14; omega) | (show _ = (if M 14 r = 3 then M 17 r else M 18 r); first | (rw [if_pos (hof2 (by assumption))]; exact hof (by assumption)) | (rw [if_neg (hof3 (by assumption))]; omega)) | (show _ = M 20 r; omega) | (show _ = M 21 r; rw [u8]; first | rw [if_pos (by omega)] | rw [if_neg (by omega)]))), rfl, rfl⟩
                · refine v_iconst o.ok d_S_entry_164 ?_
                  refine v_goto o.ok d_S_entry_165 ?_
                  refine n_iret o d_S_entry_169 ⟨congrArg J (by first | (rw [eoN (by omega)]; done) | (rw [eo (by omega), w61]; first | exact u2 | exact u3 | exact u4 | (show _ = M 16 r; have := u14; omega) | (show _ = (if M 14 r = 3 then M 17 r else M 18 r); first | (rw [if_pos (hof2 (by assumption))]; exact hof (by assumption)) | (rw [if_neg (hof3 (by assumption))]; omega)) | (show _ = M 20 r; omega) | (show _ = M 21 r; rw [u8]; first | rw [if_pos (by omega)] | rw [if_neg (by omega)]))), rfl, rfl⟩
              · refine v_aload_nq (i := 3) o.ok d_S_entry_147 rfl rfl ?_
                refine n_getr o 28 10 rfl rfl rfl (by decide) lf_S_160 (by first | rfl | exact hvr | exact hvk | exact hvb | exact And.intro (by assumption) (hof4 (by assumption))) d_S_entry_148 (fun r148 => ?_)
                refine n_geti o 20 rfl rfl rfl lf_S_150 (by first | rfl | exact hvr | exact hvk | exact hvb | exact And.intro (by assumption) (hof4 (by assumption))) d_S_entry_151 (fun i151 => ?_)
                refine v_goto o.ok d_S_entry_154 ?_
                refine n_iret o d_S_entry_169 ⟨congrArg J (by first | (rw [eoN (by omega)]; done) | (rw [eo (by omega), w61]; first | exact u2 | exact u3 | exact u4 | (show _ = M 16 r; have := u14; omega) | (show _ = (if M 14 r = 3 then M 17 r else M 18 r); first | (rw [if_pos (hof2 (by assumption))]; exact hof (by assumption)) | (rw [if_neg (hof3 (by assumption))]; omega)) | (show _ = M 20 r; omega) | (show _ = M 21 r; rw [u8]; first | rw [if_pos (by omega)] | rw [if_neg (by omega)]))), rfl, rfl⟩
            · refine v_tabIn (tgt := 170) o.ok (by omega) d_S_entry_61 (by omega) (by omega) (off := 109) (by rw [w61]; rfl) (by decide) ?_
              refine v_aload_nq (i := 3) o.ok d_S_entry_170 rfl rfl ?_
              refine n_getz o 26 rfl rfl rfl lf_S_137 (by first | rfl | exact hvr | exact hvk | exact hvb | exact And.intro (by assumption) (hof4 (by assumption))) d_S_entry_171 (fun i171 => ?_)
              refine v_if_eq o.ok (by omega) d_S_entry_174 (fun c174 => ?_) (fun c174 => ?_)
              · refine v_iconst o.ok d_S_entry_181 ?_
                refine n_iret o d_S_entry_182 ⟨congrArg J (by first | (rw [eoN (by omega)]; done) | (rw [eo (by omega), w61]; first | exact u2 | exact u3 | exact u4 | (show _ = M 16 r; have := u14; omega) | (show _ = (if M 14 r = 3 then M 17 r else M 18 r); first | (rw [if_pos (hof2 (by assumption))]; exact hof (by assumption)) | (rw [if_neg (hof3 (by assumption))]; omega)) | (show _ = M 20 r; omega) | (show _ = M 21 r; rw [u8]; first | rw [if_pos (by omega)] | rw [if_neg (by omega)]))), rfl, rfl⟩
              · refine v_iconst o.ok d_S_entry_177 ?_
                refine v_goto o.ok d_S_entry_178 ?_
                refine n_iret o d_S_entry_182 ⟨congrArg J (by first | (rw [eoN (by omega)]; done) | (rw [eo (by omega), w61]; first | exact u2 | exact u3 | exact u4 | (show _ = M 16 r; have := u14; omega) | (show _ = (if M 14 r = 3 then M 17 r else M 18 r); first | (rw [if_pos (hof2 (by assumption))]; exact hof (by assumption)) | (rw [if_neg (hof3 (by assumption))]; omega)) | (show _ = M 20 r; omega) | (show _ = M 21 r; rw [u8]; first | rw [if_pos (by omega)] | rw [if_neg (by omega)]))), rfl, rfl⟩
            · refine v_tabIn (tgt := 183) o.ok (by omega) d_S_entry_61 (by omega) (by omega) (off := 122) (by rw [w61]; rfl) (by decide) ?_
              refine v_aload_nq (i := 3) o.ok d_S_entry_183 rfl rfl ?_
              refine n_getz o 26 rfl rfl rfl lf_S_137 (by first | rfl | exact hvr | exact hvk | exact hvb | exact And.intro (by assumption) (hof4 (by assumption))) d_S_entry_184 (fun i184 => ?_)
              refine v_if_eq o.ok (by omega) d_S_entry_187 (fun c187 => ?_) (fun c187 => ?_)
              · refine v_iconst o.ok d_S_entry_197 ?_
                refine n_iret o d_S_entry_198 ⟨congrArg J (by first | (rw [eoN (by omega)]; done) | (rw [eo (by omega), w61]; first | exact u2 | exact u3 | exact u4 | (show _ = M 16 r; have := u14; omega) | (show _ = (if M 14 r = 3 then M 17 r else M 18 r); first | (rw [if_pos (hof2 (by assumption))]; exact hof (by assumption)) | (rw [if_neg (hof3 (by assumption))]; omega)) | (show _ = M 20 r; omega) | (show _ = M 21 r; rw [u8]; first | rw [if_pos (by omega)] | rw [if_neg (by omega)]))), rfl, rfl⟩
              · refine v_aload_nq (i := 3) o.ok d_S_entry_190 rfl rfl ?_
                refine n_geti o 27 rfl rfl rfl lf_S_140 (by first | rfl | exact hvr | exact hvk | exact hvb | exact And.intro (by assumption) (hof4 (by assumption))) d_S_entry_191 (fun i191 => ?_)
                refine v_goto o.ok d_S_entry_194 ?_
                refine n_iret o d_S_entry_198 ⟨congrArg J (by first | (rw [eoN (by omega)]; done) | (rw [eo (by omega), w61]; first | exact u2 | exact u3 | exact u4 | (show _ = M 16 r; have := u14; omega) | (show _ = (if M 14 r = 3 then M 17 r else M 18 r); first | (rw [if_pos (hof2 (by assumption))]; exact hof (by assumption)) | (rw [if_neg (hof3 (by assumption))]; omega)) | (show _ = M 20 r; omega) | (show _ = M 21 r; rw [u8]; first | rw [if_pos (by omega)] | rw [if_neg (by omega)]))), rfl, rfl⟩
    · exfalso; omega
  · have eo : o_entry M num w = -1 := if_neg (fun z => hk z.1)
    have hlst : lst M = M 11 0 + M 12 0 := rfl
    refine v_iload_n (i := 1) o.ok d_S_entry_0 rfl rfl ?_
    refine v_aload_nq (i := 0) o.ok d_S_entry_1 rfl rfl ?_
    refine n_geti o 4 rfl rfl rfl lf_S_99 (by first | rfl | assumption | exact And.intro (by omega) (by omega)) d_S_entry_2 (fun i2 => ?_)
    refine v_iconst o.ok d_S_entry_5 ?_
    refine v_iadd o.ok d_S_entry_6 ?_
    refine v_aload_nq (i := 0) o.ok d_S_entry_7 rfl rfl ?_
    refine n_cV o 1 (tg := 0) rfl (by decide) (by decide) (by first | rfl | assumption | exact And.intro (by omega) (by omega)) (c_S_last D A N hn.1 hn.2.2.2.1) q_S_last lm_S_250 d_S_entry_8 (by decide) rfl (by first | exact Nat.le_of_ble_eq_true rfl | (simp only [List.map_cons, List.map_nil, cat_rf, J_cat, List.sum_cons, List.sum_nil, cat_lg, cat_rr]; decide)) rfl (n_f ?_)
    refine n_cS o (c_S_outside D A num (N 4 0 + 1) (N 4 0 + N 3 0) N hr (by omega) (by omega)) q_S_outside lm_S_53 d_S_entry_11 (by decide) rfl (by first | exact Nat.le_of_ble_eq_true rfl | (simp only [List.map_cons, List.map_nil, cat_rf, J_cat, List.sum_cons, List.sum_nil, cat_lg, cat_rr]; decide)) rfl (n_f ?_)
    first | refine v_ifeq_b o.ok d_S_entry_14 (fun c14 => ?_) (fun c14 => ?_) | refine v_if_eq o.ok (by omega) d_S_entry_14 (fun c14 => ?_) (fun c14 => ?_)
    · exfalso; omega
    · refine v_iconst o.ok d_S_entry_17 ?_
      refine n_iret o d_S_entry_18 ⟨congrArg J eo.symm, rfl, rfl⟩

