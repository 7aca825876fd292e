/-! asking for a range, and doing what was asked for -/
set_option maxHeartbeats 4000000 in
set_option maxRecDepth 20000 in
theorem c_RS_ask (D : GD) (A : ASt) (t g : Int) (N M : MSt) (h : AskOk N M) (ht : inM M t) (hq : N 40 t = 4) (hk : 0 ≤ N 41 t ∧ N 41 t ≤ N 42 t ∧ N 42 t ≤ 31) (hg : g = 0 ∨ g = 1) : NX D y_RS_ask (wsOf y_RS_ask b_RS_ask 7 (some .long)) (4) [rq A 13 (t), rq A 0 (0), rq A 11 (t), J (g)] A N (fun x A1 N1 => ∃ w, x = .long w ∧ A1 = A ∧ AskR N M t (mdo M (N 40 t) (N 41 t)) g (nds M (N 40 t) (N 41 t) (N 42 t)) w N1) := by
  refine NCon.of (by decide) (by simp [cat_rf, J_cat]) (Nat.le_of_ble_eq_true rfl) ?_
  intro X g0 o
  show V X (RelN D A N) 0 [(0, rq A 13 (t)), (1, rq A 0 (0)), (2, rq A 11 (t)), (3, J (g))] [] []
  have htn : 0 ≤ t ∧ t < N 51 0 := by rw [h.1.t.1.2]; exact ht
  rw [hq, mdo_4, nds_4] at o
  have ex : ∀ (k : Int) (w : Int64) (N1 : MSt), EqK N N1 → 0 ≤ k → k ≤ 33 → w ≠ 0 → AskR N M t 1 g (scl M (N 42 t - N 41 t + 1).toNat (N 41 t) ++ [nxt M (N 42 t)]) w N1 → V X (RelN D A N1) 9 [(0, rq A 13 t), (1, rq A 0 0), (2, rq A 11 t), (3, J g), (6, J k)] [(4, w)] [] := by
    intro k w N1 he h0 h1 hw hA
    have htn1 : 0 ≤ t ∧ t < N1 51 0 := by rw [he _ _ (by decide)]; exact htn
    have hq1 : N1 40 t = 4 := by rw [he _ _ (by decide)]; exact hq
    have hs1 := he 42 t (by decide)
    refine v_iload (i := 6) o.ok d_RS_ask_9 rfl ?_
    refine v_aload_nq (i := 0) o.ok d_RS_ask_11 rfl rfl ?_
    refine n_q2 o 8 (by decide) (by first | rfl | exact htn1 | exact hq1) (by first | rfl | exact htn1 | exact hq1) lf_RS_15 (by decide) rfl d_RS_ask_12 (fun i12 => ?_)
    rw [hs1] at i12 ⊢
    refine v_icmp_gt o.ok (by omega) (by omega) d_RS_ask_15 (fun c15 => ?_) (fun c15 => ?_)
    · refine v_lload (i := 4) o.ok d_RS_ask_51 rfl ?_
      refine v_lconst o.ok d_RS_ask_53 rfl ?_
      refine v_lcmp o.ok d_RS_ask_54 ?_
      rw [lcm_e]
      refine v_if_eq o.ok (by exact cmI_r _ _) d_RS_ask_55 (fun c55 => ?_) (fun c55 => ?_)
      · exact absurd (cmI_0.mp (by assumption)) hw
      · refine v_lload (i := 4) o.ok d_RS_ask_58 rfl ?_
        refine v_goto o.ok d_RS_ask_60 ?_
        refine n_lret o d_RS_ask_78 ⟨w, rfl, rfl, hA⟩
    · refine v_lload (i := 4) o.ok d_RS_ask_18 rfl ?_
      refine v_lconst o.ok d_RS_ask_20 rfl ?_
      refine v_lcmp o.ok d_RS_ask_21 ?_
      rw [lcm_e]
      refine v_if_ne o.ok (by exact cmI_r _ _) d_RS_ask_22 (fun c22 => ?_) (fun c22 => ?_)
      · refine v_lload (i := 4) o.ok d_RS_ask_51 rfl ?_
        refine v_lconst o.ok d_RS_ask_53 rfl ?_
        refine v_lcmp o.ok d_RS_ask_54 ?_
        rw [lcm_e]
        refine v_if_eq o.ok (by exact cmI_r _ _) d_RS_ask_55 (fun c55 => ?_) (fun c55 => ?_)
        · exact absurd (cmI_0.mp (by assumption)) hw
        · refine v_lload (i := 4) o.ok d_RS_ask_58 rfl ?_
          refine v_goto o.ok d_RS_ask_60 ?_
          refine n_lret o d_RS_ask_78 ⟨w, rfl, rfl, hA⟩
      · exact absurd (cmI_0.mp (by assumption)) hw
  have lp : ∀ (n : Nat) (k : Int) (N' M' : MSt), AskOk N' M' → EqK N N' → (∀ x, thr M' x = thr M x) → inM M' t → 0 ≤ k → k + n = N 42 t + 1 → (∀ w N1, AskR N' M' t 1 g (scl M n k ++ [nxt M (N 42 t)]) w N1 → AskR N M t 1 g (scl M (N 42 t - N 41 t + 1).toNat (N 41 t) ++ [nxt M (N 42 t)]) w N1) → V X (RelN D A N') 9 [(0, rq A 13 t), (1, rq A 0 0), (2, rq A 11 t), (3, J g), (6, J k)] [(4, 0)] [] := by
    intro n
    induction n with
    | zero =>
      intro k N' M' h' he hth ht' h0 h1 hC
      have htn1 : 0 ≤ t ∧ t < N' 51 0 := by rw [he _ _ (by decide)]; exact htn
      have hq1 : N' 40 t = 4 := by rw [he _ _ (by decide)]; exact hq
      have hs1 := he 42 t (by decide)
      have enx : nxt M' (N 42 t) = nxt M (N 42 t) := nxt_c hth _
      have hnx := nxt_bd (M := M) (k := N 42 t) (by omega)
      refine v_iload (i := 6) o.ok d_RS_ask_9 rfl ?_
      refine v_aload_nq (i := 0) o.ok d_RS_ask_11 rfl rfl ?_
      refine n_q2 o 8 (by decide) (by first | rfl | exact htn1 | exact hq1) (by first | rfl | exact htn1 | exact hq1) lf_RS_15 (by decide) rfl d_RS_ask_12 (fun i12 => ?_)
      rw [hs1] at i12 ⊢
      refine v_icmp_gt o.ok (by omega) (by omega) d_RS_ask_15 (fun c15 => ?_) (fun c15 => ?_)
      · refine v_lload (i := 4) o.ok d_RS_ask_51 rfl ?_
        refine v_lconst o.ok d_RS_ask_53 rfl ?_
        refine v_lcmp o.ok d_RS_ask_54 ?_
        rw [lcm_e]
        refine v_if_eq o.ok (by exact cmI_r _ _) d_RS_ask_55 (fun c55 => ?_) (fun c55 => ?_)
        · refine v_aload_nq (i := 1) o.ok d_RS_ask_63 rfl rfl ?_
          refine v_aload_nq (i := 2) o.ok d_RS_ask_64 rfl rfl ?_
          refine v_aload_nq (i := 1) o.ok d_RS_ask_65 rfl rfl ?_
          refine v_aload_nq (i := 0) o.ok d_RS_ask_66 rfl rfl ?_
          refine n_q2 o 8 (by decide) (by first | rfl | exact htn1 | exact hq1) (by first | rfl | exact htn1 | exact hq1) lf_RS_15 (by decide) rfl d_RS_ask_67 (fun i67 => ?_)
          rw [hs1] at i67 ⊢
          refine n_cVN o 1 (tg := 0) rfl (by decide) (by decide) (by first | rfl | exact htn1 | exact hq1) (c_S_next D A (N 42 t) N' M' h'.1.p (by omega)) q_S_next ln_RS_26 d_RS_ask_70 (by decide) rfl (by first | exact Nat.le_of_ble_eq_true rfl | (simp only [List.map_cons, List.map_nil, cat_rf, J_cat, List.sum_cons, List.sum_nil, cat_lg, cat_rr]; decide)) rfl (n_f ?_)
          rw [enx]
          refine v_iconst o.ok d_RS_ask_73 ?_
          refine v_iload_n (i := 3) o.ok d_RS_ask_74 rfl rfl ?_
          refine n_cVN o 1 (tg := 0) rfl (by decide) (by decide) (by first | rfl | exact htn1 | exact hq1) (c_S_seek D A t (nxt M (N 42 t)) 1 g N' M' h'.1.t h'.2.1 h'.2.2.1 h'.2.2.2 ht' (by omega) (Or.inl rfl) hg) q_S_seek ln_RS_22 d_RS_ask_75 (by decide) rfl (by first | exact Nat.le_of_ble_eq_true rfl | (simp only [List.map_cons, List.map_nil, cat_rf, J_cat, List.sum_cons, List.sum_nil, cat_lg, cat_rr]; decide)) rfl (n_x (fun x75 A75 N75 h75 => ?_))
          obtain ⟨w, rfl, ⟨rfl, rfl⟩, hw⟩ := h75
          refine n_lret o d_RS_ask_78 ⟨w, rfl, rfl, hC w _ (AskR.one h' ht' (by omega) (Or.inl rfl) hw)⟩
        · exact absurd (cmI_0.mpr rfl) (by assumption)
      · exfalso; omega
    | succ n ih =>
      intro k N' M' h' he hth ht' h0 h1 hC
      have htn1 : 0 ≤ t ∧ t < N' 51 0 := by rw [he _ _ (by decide)]; exact htn
      have hq1 : N' 40 t = 4 := by rw [he _ _ (by decide)]; exact hq
      have hs1 := he 42 t (by decide)
      have h01 := thr_01 h'.1.p (k := k) (by omega)
      rcases h01 with h01 | h01
      · have es : scl M (n + 1) k = scl M n (k + 1) := by
          show (if thr M k = 1 then _ else _) = _
          rw [if_neg (by rw [← hth, h01]; decide)]
        rw [es] at hC
        refine v_iload (i := 6) o.ok d_RS_ask_9 rfl ?_
        refine v_aload_nq (i := 0) o.ok d_RS_ask_11 rfl rfl ?_
        refine n_q2 o 8 (by decide) (by first | rfl | exact htn1 | exact hq1) (by first | rfl | exact htn1 | exact hq1) lf_RS_15 (by decide) rfl d_RS_ask_12 (fun i12 => ?_)
        rw [hs1] at i12 ⊢
        refine v_icmp_gt o.ok (by omega) (by omega) d_RS_ask_15 (fun c15 => ?_) (fun c15 => ?_)
        · exfalso; omega
        · refine v_lload (i := 4) o.ok d_RS_ask_18 rfl ?_
          refine v_lconst o.ok d_RS_ask_20 rfl ?_
          refine v_lcmp o.ok d_RS_ask_21 ?_
          rw [lcm_e]
          refine v_if_ne o.ok (by exact cmI_r _ _) d_RS_ask_22 (fun c22 => ?_) (fun c22 => ?_)
          · exact absurd (cmI_0.mpr rfl) (by assumption)
          · refine v_aload_nq (i := 1) o.ok d_RS_ask_25 rfl rfl ?_
            refine v_iload (i := 6) o.ok d_RS_ask_26 rfl ?_
            refine n_cVN o 1 (tg := 0) rfl (by decide) (by decide) (by first | rfl | exact htn1 | exact hq1) (c_S_there D A k N' M' h'.1.p (by omega)) q_S_there ln_RS_18 d_RS_ask_28 (by decide) rfl (by first | exact Nat.le_of_ble_eq_true rfl | (simp only [List.map_cons, List.map_nil, cat_rf, J_cat, List.sum_cons, List.sum_nil, cat_lg, cat_rr]; decide)) rfl (n_f ?_)
            refine v_if_eq o.ok (by omega) d_RS_ask_31 (fun c31 => ?_) (fun c31 => ?_)
            · refine v_iinc (i := 6) (L' := [(0, _), (1, _), (2, _), (3, _), (6, _)]) (G' := [(4, _)]) o.ok d_RS_ask_45 rfl (o.lt (by decide)) rfl rfl ?_
              refine v_goto o.ok d_RS_ask_48 ?_
              exact ih (k + 1) N' M' h' he hth ht' (by omega) (by omega) hC
            · exact absurd h01 (by assumption)
      · have es : scl M (n + 1) k = k :: scl M n (k + 1) := by
          show (if thr M k = 1 then _ else _) = _
          rw [if_pos (by rw [← hth, h01])]
        rw [es] at hC
        have h2 := h'.step (m := 1) g ht' (show 0 ≤ k ∧ k < 33 by omega) (Or.inl rfl)
        have he2 : EqK N (skN N' M' t k 1 g) := he.tr (EqK.sk N' M' t k 1 g)
        have ht2 : inM (lk1 M' t k 1 g) t := ⟨ht'.1, by rw [lk1_o (by decide)]; exact ht'.2⟩
        refine v_iload (i := 6) o.ok d_RS_ask_9 rfl ?_
        refine v_aload_nq (i := 0) o.ok d_RS_ask_11 rfl rfl ?_
        refine n_q2 o 8 (by decide) (by first | rfl | exact htn1 | exact hq1) (by first | rfl | exact htn1 | exact hq1) lf_RS_15 (by decide) rfl d_RS_ask_12 (fun i12 => ?_)
        rw [hs1] at i12 ⊢
        refine v_icmp_gt o.ok (by omega) (by omega) d_RS_ask_15 (fun c15 => ?_) (fun c15 => ?_)
        · exfalso; omega
        · refine v_lload (i := 4) o.ok d_RS_ask_18 rfl ?_
          refine v_lconst o.ok d_RS_ask_20 rfl ?_
          refine v_lcmp o.ok d_RS_ask_21 ?_
          rw [lcm_e]
          refine v_if_ne o.ok (by exact cmI_r _ _) d_RS_ask_22 (fun c22 => ?_) (fun c22 => ?_)
          · exact absurd (cmI_0.mpr rfl) (by assumption)
          · refine v_aload_nq (i := 1) o.ok d_RS_ask_25 rfl rfl ?_
            refine v_iload (i := 6) o.ok d_RS_ask_26 rfl ?_
            refine n_cVN o 1 (tg := 0) rfl (by decide) (by decide) (by first | rfl | exact htn1 | exact hq1) (c_S_there D A k N' M' h'.1.p (by omega)) q_S_there ln_RS_18 d_RS_ask_28 (by decide) rfl (by first | exact Nat.le_of_ble_eq_true rfl | (simp only [List.map_cons, List.map_nil, cat_rf, J_cat, List.sum_cons, List.sum_nil, cat_lg, cat_rr]; decide)) rfl (n_f ?_)
            refine v_if_eq o.ok (by omega) d_RS_ask_31 (fun c31 => ?_) (fun c31 => ?_)
            · exfalso; omega
            · refine v_aload_nq (i := 1) o.ok d_RS_ask_34 rfl rfl ?_
              refine v_aload_nq (i := 2) o.ok d_RS_ask_35 rfl rfl ?_
              refine v_iload (i := 6) o.ok d_RS_ask_36 rfl ?_
              refine v_iconst o.ok d_RS_ask_38 ?_
              refine v_iload_n (i := 3) o.ok d_RS_ask_39 rfl rfl ?_
              refine n_cVN o 1 (tg := 0) rfl (by decide) (by decide) (by first | rfl | exact htn1 | exact hq1) (c_S_seek D A t k 1 g N' M' h'.1.t h'.2.1 h'.2.2.1 h'.2.2.2 ht' (by omega) (Or.inl rfl) hg) q_S_seek ln_RS_22 d_RS_ask_40 (by decide) rfl (by first | exact Nat.le_of_ble_eq_true rfl | (simp only [List.map_cons, List.map_nil, cat_rf, J_cat, List.sum_cons, List.sum_nil, cat_lg, cat_rr]; decide)) rfl (n_x (fun x40 A40 N40 h40 => ?_))
              obtain ⟨w, rfl, ⟨rfl, rfl⟩, hw⟩ := h40
              refine v_lstore (i := 4) (L' := [(0, _), (1, _), (2, _), (3, _), (6, _)]) (G' := [(4, _)]) o.ok d_RS_ask_43 (o.lt (by decide)) rfl rfl ?_
              refine v_iinc (i := 6) (L' := [(0, _), (1, _), (2, _), (3, _), (6, _)]) (G' := [(4, _)]) o.ok d_RS_ask_45 rfl (o.lt (by decide)) rfl rfl ?_
              refine v_goto o.ok d_RS_ask_48 ?_
              by_cases hw0 : w = 0
              · subst hw0
                exact ih (k + 1) _ _ h2 he2 (fun x => (thr_lk1 M' t k 1 g x).trans (hth x)) ht2 (by omega) (by omega) (fun w1 N1 q => hC w1 N1 (AskR.go hw rfl q))
              · exact ex (k + 1) w _ he2 (by omega) (by omega) hw0 (hC w _ (AskR.stop h' ht' (by omega) (Or.inl rfl) hw hw0))
  refine v_lconst o.ok d_RS_ask_0 rfl ?_
  refine v_lstore (i := 4) (L' := [(0, _), (1, _), (2, _), (3, _)]) (G' := [(4, _)]) o.ok d_RS_ask_1 (o.lt (by decide)) rfl rfl ?_
  refine v_aload_nq (i := 0) o.ok d_RS_ask_3 rfl rfl ?_
  refine n_q1 o 8 (by decide) (by first | rfl | exact htn | exact hq) (by first | rfl | exact htn | exact hq) lf_RS_9 (by decide) rfl d_RS_ask_4 (fun i4 => ?_)
  refine v_istore (i := 6) (L' := [(0, _), (1, _), (2, _), (3, _), (6, _)]) (G' := [(4, _)]) o.ok d_RS_ask_7 (o.lt (by decide)) rfl rfl ?_
  exact lp (N 42 t - N 41 t + 1).toNat (N 41 t) N M h (EqK.rf N) (fun _ => rfl) ht (by omega) (by omega) (fun _ _ q => q)

