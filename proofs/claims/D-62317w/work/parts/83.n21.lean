/-! asking -/
theorem nds_1 (M : MSt) (a b : Int) : nds M 1 a b = [if thr M a = 1 then a else nxt M a] := by
  unfold nds
  rw [if_neg (by decide), if_pos (Or.inl rfl)]
theorem nds_2t {M : MSt} {a b : Int} (h : thr M a = 1) : nds M 2 a b = [a] := by
  unfold nds
  rw [if_neg (by decide), if_neg (by omega), if_neg (by omega)]
theorem nds_2f {M : MSt} {a b : Int} (h : thr M a = 0) : nds M 2 a b = [nxt M a, a] := by
  unfold nds
  rw [if_neg (by decide), if_neg (by omega), if_pos (Or.inr h)]
theorem nds_3t {M : MSt} {a b : Int} (h : thr M a = 1) : nds M 3 a b = [nxt M a, a] := by
  unfold nds
  rw [if_neg (by decide), if_neg (by omega), if_pos (Or.inl rfl)]
theorem nds_3f {M : MSt} {a b : Int} (h : thr M a = 0) : nds M 3 a b = [nxt M a] := by
  unfold nds
  rw [if_neg (by decide), if_pos (Or.inr ⟨rfl, h⟩), if_neg (by omega)]
theorem nds_4 (M : MSt) (a b : Int) : nds M 4 a b = scl M (b - a + 1).toNat a ++ [nxt M b] := by
  unfold nds
  rw [if_pos rfl]
theorem mdo_1 (M : MSt) (a : Int) : mdo M 1 a = 1 := by unfold mdo; rw [if_neg (by omega)]
theorem mdo_2 (M : MSt) (a : Int) : mdo M 2 a = 2 := by unfold mdo; rw [if_pos (Or.inl rfl)]
theorem mdo_3t {M : MSt} {a : Int} (h : thr M a = 1) : mdo M 3 a = 2 := by unfold mdo; rw [if_pos (Or.inr ⟨rfl, h⟩)]
theorem mdo_3f {M : MSt} {a : Int} (h : thr M a = 0) : mdo M 3 a = 1 := by unfold mdo; rw [if_neg (by omega)]
theorem mdo_4 (M : MSt) (a : Int) : mdo M 4 a = 1 := by unfold mdo; rw [if_neg (by omega)]
set_option maxHeartbeats 4000000 in
set_option maxRecDepth 20000 in
theorem c_RG_ask (D : GD) (A : ASt) (t g : Int) (N M : MSt) (h : AskOk N M) (ht : inM M t) (hq : N 40 t = 1) (hk : 0 ≤ N 41 t ∧ N 41 t ≤ 31) (hg : g = 0 ∨ g = 1) : NX D y_RG_ask (wsOf y_RG_ask b_RG_ask 4 (some .long)) (4) [rq A 13 (t), rq A 0 (0), rq A 11 (t), J (g)] A N (fun x A1 N1 => ∃ w, x = .long w ∧ A1 = A ∧ AskR N M t (mdo M (N 40 t) (N 41 t)) g (nds M (N 40 t) (N 41 t) (N 42 t)) w N1) := by
  refine NCon.of (by decide) (by simp [cat_rf, J_cat]) (Nat.le_of_ble_eq_true rfl) ?_
  intro X g0 o
  show V X (RelN D A N) 0 [(0, rq A 13 (t)), (1, rq A 0 (0)), (2, rq A 11 (t)), (3, J (g))] [] []
  have hh := h
  obtain ⟨hS, hp, hd, hL⟩ := h
  have htn : 0 ≤ t ∧ t < N 51 0 := by rw [hS.t.1.2]; exact ht
  have h01 := thr_01 hS.p hk
  have hnx := nxt_bd (M := M) hk.2
  rw [hq, mdo_1, nds_1] at o
  have lp : ∀ i : Int, (0 ≤ i ∧ i < 33) → i = (if thr M (N 41 t) = 1 then N 41 t else nxt M (N 41 t)) → V X (RelN D A N) 28 [(0, rq A 13 t), (1, rq A 0 0), (2, rq A 11 t), (3, J g)] [] [J i, rq A 11 t, rq A 0 0] := by
    intro i hi e
    refine v_iconst o.ok d_RG_ask_28 ?_
    refine v_iload_n (i := 3) o.ok d_RG_ask_29 rfl rfl ?_
    refine n_cVN o 1 (tg := 0) rfl (by decide) (by decide) (by first | rfl | assumption | exact And.intro (by omega) (by omega)) (c_S_seek D A t i 1 g N M hS.t hp hd hL ht hi (Or.inl rfl) hg) q_S_seek ln_RG_23 d_RG_ask_30 (by decide) rfl (by first | exact Nat.le_of_ble_eq_true rfl | (simp only [List.map_cons, List.map_nil, cat_rf, J_cat, List.sum_cons, List.sum_nil, cat_lg, cat_rr]; decide)) rfl (n_x (fun x30 A30 N30 h30 => ?_))
    obtain ⟨w, rfl, ⟨rfl, rfl⟩, hw⟩ := h30
    refine n_lret o d_RG_ask_33 ⟨w, rfl, rfl, by rw [← e]; exact AskR.one hh ht hi (Or.inl rfl) hw⟩
  refine v_aload_nq (i := 1) o.ok d_RG_ask_0 rfl rfl ?_
  refine v_aload_nq (i := 2) o.ok d_RG_ask_1 rfl rfl ?_
  refine v_aload_nq (i := 1) o.ok d_RG_ask_2 rfl rfl ?_
  refine v_aload_nq (i := 0) o.ok d_RG_ask_3 rfl rfl ?_
  refine n_q1 o 5 (by decide) (by first | rfl | exact htn | exact hq) (by first | rfl | exact htn | exact hq) lf_RG_9 (by decide) rfl d_RG_ask_4 (fun i4 => ?_)
  refine n_cVN o 1 (tg := 0) rfl (by decide) (by decide) (by first | rfl | exact htn | exact hq) (c_S_there D A (N 41 t) N M hS.p hk) q_S_there ln_RG_15 d_RG_ask_7 (by decide) rfl (by first | exact Nat.le_of_ble_eq_true rfl | (simp only [List.map_cons, List.map_nil, cat_rf, J_cat, List.sum_cons, List.sum_nil, cat_lg, cat_rr]; decide)) rfl (n_f ?_)
  refine v_if_eq o.ok (by omega) d_RG_ask_10 (fun c10 => ?_) (fun c10 => ?_)
  · refine v_aload_nq (i := 1) o.ok d_RG_ask_20 rfl rfl ?_
    refine v_aload_nq (i := 0) o.ok d_RG_ask_21 rfl rfl ?_
    refine n_q1 o 5 (by decide) (by first | rfl | exact htn | exact hq) (by first | rfl | exact htn | exact hq) lf_RG_9 (by decide) rfl d_RG_ask_22 (fun i22 => ?_)
    refine n_cVN o 1 (tg := 0) rfl (by decide) (by decide) (by first | rfl | exact htn | exact hq) (c_S_next D A (N 41 t) N M hS.p hk) q_S_next ln_RG_19 d_RG_ask_25 (by decide) rfl (by first | exact Nat.le_of_ble_eq_true rfl | (simp only [List.map_cons, List.map_nil, cat_rf, J_cat, List.sum_cons, List.sum_nil, cat_lg, cat_rr]; decide)) rfl (n_f ?_)
    first
      | exact lp (N 41 t) (by omega) (by rw [if_pos (by omega)])
      | exact lp (nxt M (N 41 t)) (by omega) (by rw [if_neg (by omega)])
  · refine v_aload_nq (i := 0) o.ok d_RG_ask_13 rfl rfl ?_
    refine n_q1 o 5 (by decide) (by first | rfl | exact htn | exact hq) (by first | rfl | exact htn | exact hq) lf_RG_9 (by decide) rfl d_RG_ask_14 (fun i14 => ?_)
    refine v_goto o.ok d_RG_ask_17 ?_
    first
      | exact lp (N 41 t) (by omega) (by rw [if_pos (by omega)])
      | exact lp (nxt M (N 41 t)) (by omega) (by rw [if_neg (by omega)])
set_option maxHeartbeats 4000000 in
set_option maxRecDepth 20000 in
theorem c_RP_ask (D : GD) (A : ASt) (t g : Int) (N M : MSt) (h : AskOk N M) (ht : inM M t) (hq : N 40 t = 2) (hk : 0 ≤ N 41 t ∧ N 41 t ≤ 31) (hg : g = 0 ∨ g = 1) : NX D y_RP_ask (wsOf y_RP_ask b_RP_ask 6 (some .long)) (4) [rq A 13 (t), rq A 0 (0), rq A 11 (t), J (g)] A N (fun x A1 N1 => ∃ w, x = .long w ∧ A1 = A ∧ AskR N M t (mdo M (N 40 t) (N 41 t)) g (nds M (N 40 t) (N 41 t) (N 42 t)) w N1) := by
  refine NCon.of (by decide) (by simp [cat_rf, J_cat]) (Nat.le_of_ble_eq_true rfl) ?_
  intro X g0 o
  show V X (RelN D A N) 0 [(0, rq A 13 (t)), (1, rq A 0 (0)), (2, rq A 11 (t)), (3, J (g))] [] []
  have hh := h
  obtain ⟨hS, hp, hd, hL⟩ := h
  have htn : 0 ≤ t ∧ t < N 51 0 := by rw [hS.t.1.2]; exact ht
  have h01 := thr_01 hS.p hk
  have hnx := nxt_bd (M := M) hk.2
  rw [hq, mdo_2] at o
  rcases h01 with h01 | h01
  · rw [nds_2f h01] at o
    have hi : 0 ≤ nxt M (N 41 t) ∧ nxt M (N 41 t) < 33 := by omega
    have h2 := hh.step (m := 2) g ht hi (Or.inr rfl)
    have o2 : ∀ (f : Nat) (j : Int), f ≠ 39 → skN N M t (nxt M (N 41 t)) 2 g f j = N f j := fun f j a => skN_o a
    have htn2 : 0 ≤ t ∧ t < skN N M t (nxt M (N 41 t)) 2 g 51 0 := by rw [o2 _ _ (by decide)]; exact htn
    have hq2 : skN N M t (nxt M (N 41 t)) 2 g 40 t = 2 := by rw [o2 _ _ (by decide)]; exact hq
    have ht2 : inM (lk1 M t (nxt M (N 41 t)) 2 g) t := ⟨ht.1, by rw [lk1_o (by decide)]; exact ht.2⟩
    refine v_aload_nq (i := 1) o.ok d_RP_ask_0 rfl rfl ?_
    refine v_aload_nq (i := 0) o.ok d_RP_ask_1 rfl rfl ?_
    refine n_q1 o 6 (by decide) (by first | rfl | exact htn | exact hq | exact htn2 | exact hq2) (by first | rfl | exact htn | exact hq | exact htn2 | exact hq2) lf_RP_9 (by decide) rfl d_RP_ask_2 (fun i2 => ?_)
    refine n_cVN o 1 (tg := 0) rfl (by decide) (by decide) (by first | rfl | exact htn | exact hq | exact htn2 | exact hq2) (c_S_there D A (N 41 t) N M hS.p hk) q_S_there ln_RP_18 d_RP_ask_5 (by decide) rfl (by first | exact Nat.le_of_ble_eq_true rfl | (simp only [List.map_cons, List.map_nil, cat_rf, J_cat, List.sum_cons, List.sum_nil, cat_lg, cat_rr]; decide)) rfl (n_f ?_)
    refine v_if_eq o.ok (by omega) d_RP_ask_8 (fun c8 => ?_) (fun c8 => ?_)
    · refine v_aload_nq (i := 1) o.ok d_RP_ask_15 rfl rfl ?_
      refine v_aload_nq (i := 2) o.ok d_RP_ask_16 rfl rfl ?_
      refine v_aload_nq (i := 1) o.ok d_RP_ask_17 rfl rfl ?_
      refine v_aload_nq (i := 0) o.ok d_RP_ask_18 rfl rfl ?_
      refine n_q1 o 6 (by decide) (by first | rfl | exact htn | exact hq | exact htn2 | exact hq2) (by first | rfl | exact htn | exact hq | exact htn2 | exact hq2) lf_RP_9 (by decide) rfl d_RP_ask_19 (fun i19 => ?_)
      refine n_cVN o 1 (tg := 0) rfl (by decide) (by decide) (by first | rfl | exact htn | exact hq | exact htn2 | exact hq2) (c_S_next D A (N 41 t) N M hS.p hk) q_S_next ln_RP_22 d_RP_ask_22 (by decide) rfl (by first | exact Nat.le_of_ble_eq_true rfl | (simp only [List.map_cons, List.map_nil, cat_rf, J_cat, List.sum_cons, List.sum_nil, cat_lg, cat_rr]; decide)) rfl (n_f ?_)
      refine v_iconst o.ok d_RP_ask_25 ?_
      refine v_iload_n (i := 3) o.ok d_RP_ask_26 rfl rfl ?_
      refine n_cVN o 1 (tg := 0) rfl (by decide) (by decide) (by first | rfl | exact htn | exact hq | exact htn2 | exact hq2) (c_S_seek D A t (nxt M (N 41 t)) 2 g N M hS.t hp hd hL ht hi (Or.inr rfl) hg) q_S_seek ln_RP_26 d_RP_ask_27 (by decide) rfl (by first | exact Nat.le_of_ble_eq_true rfl | (simp only [List.map_cons, List.map_nil, cat_rf, J_cat, List.sum_cons, List.sum_nil, cat_lg, cat_rr]; decide)) rfl (n_x (fun x27 A27 N27 h27 => ?_))
      obtain ⟨w, rfl, ⟨rfl, rfl⟩, hw⟩ := h27
      refine v_lstore (i := 4) (L' := [(0, _), (1, _), (2, _), (3, _)]) (G' := [(4, _)]) o.ok d_RP_ask_30 (o.lt (by decide)) rfl rfl ?_
      refine v_lload (i := 4) o.ok d_RP_ask_32 rfl ?_
      refine v_lconst o.ok d_RP_ask_34 rfl ?_
      refine v_lcmp o.ok d_RP_ask_35 ?_
      rw [lcm_e]
      refine v_if_eq o.ok (by exact cmI_r _ _) d_RP_ask_36 (fun c36 => ?_) (fun c36 => ?_)
      · refine v_aload_nq (i := 1) o.ok d_RP_ask_44 rfl rfl ?_
        refine v_aload_nq (i := 2) o.ok d_RP_ask_45 rfl rfl ?_
        refine v_aload_nq (i := 0) o.ok d_RP_ask_46 rfl rfl ?_
        refine n_q1 o 6 (by decide) (by first | rfl | exact htn | exact hq | exact htn2 | exact hq2) (by first | rfl | exact htn | exact hq | exact htn2 | exact hq2) lf_RP_9 (by decide) rfl d_RP_ask_47 (fun i47 => ?_)
        rw [o2 _ _ (by decide)] at i47 ⊢
        refine v_iconst o.ok d_RP_ask_50 ?_
        refine v_iload_n (i := 3) o.ok d_RP_ask_51 rfl rfl ?_
        refine n_cVN o 1 (tg := 0) rfl (by decide) (by decide) (by first | rfl | exact htn | exact hq | exact htn2 | exact hq2) (c_S_seek D A27 t (N 41 t) 2 g (skN N M t (nxt M (N 41 t)) 2 g) (lk1 M t (nxt M (N 41 t)) 2 g) h2.1.t h2.2.1 h2.2.2.1 h2.2.2.2 ht2 (by omega) (Or.inr rfl) hg) q_S_seek ln_RP_26 d_RP_ask_52 (by decide) rfl (by first | exact Nat.le_of_ble_eq_true rfl | (simp only [List.map_cons, List.map_nil, cat_rf, J_cat, List.sum_cons, List.sum_nil, cat_lg, cat_rr]; decide)) rfl (n_x (fun x52 A52 N52 h52 => ?_))
        obtain ⟨w2, rfl, ⟨rfl, rfl⟩, hw2⟩ := h52
        refine n_lret o d_RP_ask_55 (by first | exact ⟨w2, rfl, rfl, AskR.go hw (cmI_0.mp (by assumption)) (AskR.one h2 ht2 (by omega) (Or.inr rfl) hw2)⟩ | exact ⟨w, rfl, rfl, AskR.stop hh ht hi (Or.inr rfl) hw (fun z => absurd (cmI_0.mpr z) (by assumption))⟩)
      · refine v_lload (i := 4) o.ok d_RP_ask_39 rfl ?_
        refine v_goto o.ok d_RP_ask_41 ?_
        refine n_lret o d_RP_ask_55 (by first | exact ⟨w2, rfl, rfl, AskR.go hw (cmI_0.mp (by assumption)) (AskR.one h2 ht2 (by omega) (Or.inr rfl) hw2)⟩ | exact ⟨w, rfl, rfl, AskR.stop hh ht hi (Or.inr rfl) hw (fun z => absurd (cmI_0.mpr z) (by assumption))⟩)
    · exact absurd h01 (by assumption)
  · rw [nds_2t h01] at o
    refine v_aload_nq (i := 1) o.ok d_RP_ask_0 rfl rfl ?_
    refine v_aload_nq (i := 0) o.ok d_RP_ask_1 rfl rfl ?_
    refine n_q1 o 6 (by decide) (by first | rfl | exact htn | exact hq) (by first | rfl | exact htn | exact hq) lf_RP_9 (by decide) rfl d_RP_ask_2 (fun i2 => ?_)
    refine n_cVN o 1 (tg := 0) rfl (by decide) (by decide) (by first | rfl | exact htn | exact hq) (c_S_there D A (N 41 t) N M hS.p hk) q_S_there ln_RP_18 d_RP_ask_5 (by decide) rfl (by first | exact Nat.le_of_ble_eq_true rfl | (simp only [List.map_cons, List.map_nil, cat_rf, J_cat, List.sum_cons, List.sum_nil, cat_lg, cat_rr]; decide)) rfl (n_f ?_)
    refine v_if_eq o.ok (by omega) d_RP_ask_8 (fun c8 => ?_) (fun c8 => ?_)
    · exfalso; omega
    · refine v_lconst o.ok d_RP_ask_11 rfl ?_
      refine v_goto o.ok d_RP_ask_12 ?_
      refine v_lstore (i := 4) (L' := [(0, _), (1, _), (2, _), (3, _)]) (G' := [(4, _)]) o.ok d_RP_ask_30 (o.lt (by decide)) rfl rfl ?_
      refine v_lload (i := 4) o.ok d_RP_ask_32 rfl ?_
      refine v_lconst o.ok d_RP_ask_34 rfl ?_
      refine v_lcmp o.ok d_RP_ask_35 ?_
      rw [lcm_e]
      refine v_if_eq o.ok (by exact cmI_r _ _) d_RP_ask_36 (fun c36 => ?_) (fun c36 => ?_)
      · refine v_aload_nq (i := 1) o.ok d_RP_ask_44 rfl rfl ?_
        refine v_aload_nq (i := 2) o.ok d_RP_ask_45 rfl rfl ?_
        refine v_aload_nq (i := 0) o.ok d_RP_ask_46 rfl rfl ?_
        refine n_q1 o 6 (by decide) (by first | rfl | exact htn | exact hq) (by first | rfl | exact htn | exact hq) lf_RP_9 (by decide) rfl d_RP_ask_47 (fun i47 => ?_)
        refine v_iconst o.ok d_RP_ask_50 ?_
        refine v_iload_n (i := 3) o.ok d_RP_ask_51 rfl rfl ?_
        refine n_cVN o 1 (tg := 0) rfl (by decide) (by decide) (by first | rfl | exact htn | exact hq) (c_S_seek D A t (N 41 t) 2 g N M hS.t hp hd hL ht (by omega) (Or.inr rfl) hg) q_S_seek ln_RP_26 d_RP_ask_52 (by decide) rfl (by first | exact Nat.le_of_ble_eq_true rfl | (simp only [List.map_cons, List.map_nil, cat_rf, J_cat, List.sum_cons, List.sum_nil, cat_lg, cat_rr]; decide)) rfl (n_x (fun x52 A52 N52 h52 => ?_))
        obtain ⟨w, rfl, ⟨rfl, rfl⟩, hw⟩ := h52
        refine n_lret o d_RP_ask_55 ⟨w, rfl, rfl, AskR.one hh ht (by omega) (Or.inr rfl) hw⟩
      · exact absurd (cmI_0.mpr rfl) (by assumption)
set_option maxHeartbeats 4000000 in
set_option maxRecDepth 20000 in
theorem c_RD_ask (D : GD) (A : ASt) (t g : Int) (N M : MSt) (h : AskOk N M) (ht : inM M t) (hq : N 40 t = 3) (hk : 0 ≤ N 41 t ∧ N 41 t ≤ 31) (hg : g = 0 ∨ g = 1) : NX D y_RD_ask (wsOf y_RD_ask b_RD_ask 6 (some .long)) (4) [rq A 13 (t), rq A 0 (0), rq A 11 (t), J (g)] A N (fun x A1 N1 => ∃ w, x = .long w ∧ A1 = A ∧ AskR N M t (mdo M (N 40 t) (N 41 t)) g (nds M (N 40 t) (N 41 t) (N 42 t)) w N1) := by
  refine NCon.of (by decide) (by simp [cat_rf, J_cat]) (Nat.le_of_ble_eq_true rfl) ?_
  intro X g0 o
  show V X (RelN D A N) 0 [(0, rq A 13 (t)), (1, rq A 0 (0)), (2, rq A 11 (t)), (3, J (g))] [] []
  have hh := h
  obtain ⟨hS, hp, hd, hL⟩ := h
  have htn : 0 ≤ t ∧ t < N 51 0 := by rw [hS.t.1.2]; exact ht
  have h01 := thr_01 hS.p hk
  have hnx := nxt_bd (M := M) hk.2
  have hi : 0 ≤ nxt M (N 41 t) ∧ nxt M (N 41 t) < 33 := by omega
  rw [hq] at o
  rcases h01 with h01 | h01
  · rw [nds_3f h01, mdo_3f h01] at o
    refine v_aload_nq (i := 1) o.ok d_RD_ask_0 rfl rfl ?_
    refine v_aload_nq (i := 0) o.ok d_RD_ask_1 rfl rfl ?_
    refine n_q1 o 7 (by decide) (by first | rfl | exact htn | exact hq) (by first | rfl | exact htn | exact hq) lf_RD_9 (by decide) rfl d_RD_ask_2 (fun i2 => ?_)
    refine n_cVN o 1 (tg := 0) rfl (by decide) (by decide) (by first | rfl | exact htn | exact hq) (c_S_there D A (N 41 t) N M hS.p hk) q_S_there ln_RD_15 d_RD_ask_5 (by decide) rfl (by first | exact Nat.le_of_ble_eq_true rfl | (simp only [List.map_cons, List.map_nil, cat_rf, J_cat, List.sum_cons, List.sum_nil, cat_lg, cat_rr]; decide)) rfl (n_f ?_)
    refine v_if_ne o.ok (by omega) d_RD_ask_8 (fun c8 => ?_) (fun c8 => ?_)
    · exact absurd h01 (by assumption)
    · refine v_aload_nq (i := 1) o.ok d_RD_ask_11 rfl rfl ?_
      refine v_aload_nq (i := 2) o.ok d_RD_ask_12 rfl rfl ?_
      refine v_aload_nq (i := 1) o.ok d_RD_ask_13 rfl rfl ?_
      refine v_aload_nq (i := 0) o.ok d_RD_ask_14 rfl rfl ?_
      refine n_q1 o 7 (by decide) (by first | rfl | exact htn | exact hq) (by first | rfl | exact htn | exact hq) lf_RD_9 (by decide) rfl d_RD_ask_15 (fun i15 => ?_)
      refine n_cVN o 1 (tg := 0) rfl (by decide) (by decide) (by first | rfl | exact htn | exact hq) (c_S_next D A (N 41 t) N M hS.p hk) q_S_next ln_RD_19 d_RD_ask_18 (by decide) rfl (by first | exact Nat.le_of_ble_eq_true rfl | (simp only [List.map_cons, List.map_nil, cat_rf, J_cat, List.sum_cons, List.sum_nil, cat_lg, cat_rr]; decide)) rfl (n_f ?_)
      refine v_iconst o.ok d_RD_ask_21 ?_
      refine v_iload_n (i := 3) o.ok d_RD_ask_22 rfl rfl ?_
      refine n_cVN o 1 (tg := 0) rfl (by decide) (by decide) (by first | rfl | exact htn | exact hq) (c_S_seek D A t (nxt M (N 41 t)) 1 g N M hS.t hp hd hL ht hi (Or.inl rfl) hg) q_S_seek ln_RD_23 d_RD_ask_23 (by decide) rfl (by first | exact Nat.le_of_ble_eq_true rfl | (simp only [List.map_cons, List.map_nil, cat_rf, J_cat, List.sum_cons, List.sum_nil, cat_lg, cat_rr]; decide)) rfl (n_x (fun x23 A23 N23 h23 => ?_))
      obtain ⟨w, rfl, ⟨rfl, rfl⟩, hw⟩ := h23
      refine n_lret o d_RD_ask_26 ⟨w, rfl, rfl, AskR.one hh ht hi (Or.inl rfl) hw⟩
  · rw [nds_3t h01, mdo_3t h01] at o
    have h2 := hh.step (m := 2) g ht hi (Or.inr rfl)
    have o2 : ∀ (f : Nat) (j : Int), f ≠ 39 → skN N M t (nxt M (N 41 t)) 2 g f j = N f j := fun f j a => skN_o a
    have htn2 : 0 ≤ t ∧ t < skN N M t (nxt M (N 41 t)) 2 g 51 0 := by rw [o2 _ _ (by decide)]; exact htn
    have hq2 : skN N M t (nxt M (N 41 t)) 2 g 40 t = 3 := by rw [o2 _ _ (by decide)]; exact hq
    have ht2 : inM (lk1 M t (nxt M (N 41 t)) 2 g) t := ⟨ht.1, by rw [lk1_o (by decide)]; exact ht.2⟩
    refine v_aload_nq (i := 1) o.ok d_RD_ask_0 rfl rfl ?_
    refine v_aload_nq (i := 0) o.ok d_RD_ask_1 rfl rfl ?_
    refine n_q1 o 7 (by decide) (by first | rfl | exact htn | exact hq | exact htn2 | exact hq2) (by first | rfl | exact htn | exact hq | exact htn2 | exact hq2) lf_RD_9 (by decide) rfl d_RD_ask_2 (fun i2 => ?_)
    refine n_cVN o 1 (tg := 0) rfl (by decide) (by decide) (by first | rfl | exact htn | exact hq | exact htn2 | exact hq2) (c_S_there D A (N 41 t) N M hS.p hk) q_S_there ln_RD_15 d_RD_ask_5 (by decide) rfl (by first | exact Nat.le_of_ble_eq_true rfl | (simp only [List.map_cons, List.map_nil, cat_rf, J_cat, List.sum_cons, List.sum_nil, cat_lg, cat_rr]; decide)) rfl (n_f ?_)
    refine v_if_ne o.ok (by omega) d_RD_ask_8 (fun c8 => ?_) (fun c8 => ?_)
    · refine v_aload_nq (i := 1) o.ok d_RD_ask_27 rfl rfl ?_
      refine v_aload_nq (i := 2) o.ok d_RD_ask_28 rfl rfl ?_
      refine v_aload_nq (i := 1) o.ok d_RD_ask_29 rfl rfl ?_
      refine v_aload_nq (i := 0) o.ok d_RD_ask_30 rfl rfl ?_
      refine n_q1 o 7 (by decide) (by first | rfl | exact htn | exact hq | exact htn2 | exact hq2) (by first | rfl | exact htn | exact hq | exact htn2 | exact hq2) lf_RD_9 (by decide) rfl d_RD_ask_31 (fun i31 => ?_)
      refine n_cVN o 1 (tg := 0) rfl (by decide) (by decide) (by first | rfl | exact htn | exact hq | exact htn2 | exact hq2) (c_S_next D A (N 41 t) N M hS.p hk) q_S_next ln_RD_19 d_RD_ask_34 (by decide) rfl (by first | exact Nat.le_of_ble_eq_true rfl | (simp only [List.map_cons, List.map_nil, cat_rf, J_cat, List.sum_cons, List.sum_nil, cat_lg, cat_rr]; decide)) rfl (n_f ?_)
      refine v_iconst o.ok d_RD_ask_37 ?_
      refine v_iload_n (i := 3) o.ok d_RD_ask_38 rfl rfl ?_
      refine n_cVN o 1 (tg := 0) rfl (by decide) (by decide) (by first | rfl | exact htn | exact hq | exact htn2 | exact hq2) (c_S_seek D A t (nxt M (N 41 t)) 2 g N M hS.t hp hd hL ht hi (Or.inr rfl) hg) q_S_seek ln_RD_23 d_RD_ask_39 (by decide) rfl (by first | exact Nat.le_of_ble_eq_true rfl | (simp only [List.map_cons, List.map_nil, cat_rf, J_cat, List.sum_cons, List.sum_nil, cat_lg, cat_rr]; decide)) rfl (n_x (fun x39 A39 N39 h39 => ?_))
      obtain ⟨w, rfl, ⟨rfl, rfl⟩, hw⟩ := h39
      refine v_lstore (i := 4) (L' := [(0, _), (1, _), (2, _), (3, _)]) (G' := [(4, _)]) o.ok d_RD_ask_42 (o.lt (by decide)) rfl rfl ?_
      refine v_lload (i := 4) o.ok d_RD_ask_44 rfl ?_
      refine v_lconst o.ok d_RD_ask_46 rfl ?_
      refine v_lcmp o.ok d_RD_ask_47 ?_
      rw [lcm_e]
      refine v_if_eq o.ok (by exact cmI_r _ _) d_RD_ask_48 (fun c48 => ?_) (fun c48 => ?_)
      · refine v_aload_nq (i := 1) o.ok d_RD_ask_56 rfl rfl ?_
        refine v_aload_nq (i := 2) o.ok d_RD_ask_57 rfl rfl ?_
        refine v_aload_nq (i := 0) o.ok d_RD_ask_58 rfl rfl ?_
        refine n_q1 o 7 (by decide) (by first | rfl | exact htn | exact hq | exact htn2 | exact hq2) (by first | rfl | exact htn | exact hq | exact htn2 | exact hq2) lf_RD_9 (by decide) rfl d_RD_ask_59 (fun i59 => ?_)
        rw [o2 _ _ (by decide)] at i59 ⊢
        refine v_iconst o.ok d_RD_ask_62 ?_
        refine v_iload_n (i := 3) o.ok d_RD_ask_63 rfl rfl ?_
        refine n_cVN o 1 (tg := 0) rfl (by decide) (by decide) (by first | rfl | exact htn | exact hq | exact htn2 | exact hq2) (c_S_seek D A39 t (N 41 t) 2 g (skN N M t (nxt M (N 41 t)) 2 g) (lk1 M t (nxt M (N 41 t)) 2 g) h2.1.t h2.2.1 h2.2.2.1 h2.2.2.2 ht2 (by omega) (Or.inr rfl) hg) q_S_seek ln_RD_23 d_RD_ask_64 (by decide) rfl (by first | exact Nat.le_of_ble_eq_true rfl | (simp only [List.map_cons, List.map_nil, cat_rf, J_cat, List.sum_cons, List.sum_nil, cat_lg, cat_rr]; decide)) rfl (n_x (fun x64 A64 N64 h64 => ?_))
        obtain ⟨w2, rfl, ⟨rfl, rfl⟩, hw2⟩ := h64
        refine n_lret o d_RD_ask_67 (by first | exact ⟨w2, rfl, rfl, AskR.go hw (cmI_0.mp (by assumption)) (AskR.one h2 ht2 (by omega) (Or.inr rfl) hw2)⟩ | exact ⟨w, rfl, rfl, AskR.stop hh ht hi (Or.inr rfl) hw (fun z => absurd (cmI_0.mpr z) (by assumption))⟩)
      · refine v_lload (i := 4) o.ok d_RD_ask_51 rfl ?_
        refine v_goto o.ok d_RD_ask_53 ?_
        refine n_lret o d_RD_ask_67 (by first | exact ⟨w2, rfl, rfl, AskR.go hw (cmI_0.mp (by assumption)) (AskR.one h2 ht2 (by omega) (Or.inr rfl) hw2)⟩ | exact ⟨w, rfl, rfl, AskR.stop hh ht hi (Or.inr rfl) hw (fun z => absurd (cmI_0.mpr z) (by assumption))⟩)
    · exfalso; omega

