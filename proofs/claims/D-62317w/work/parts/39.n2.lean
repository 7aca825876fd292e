set_option maxHeartbeats 4000000 in
set_option maxRecDepth 20000 in
theorem c_S_bring (D : GD) (A : ASt) (p : Int) (N : MSt) (hp : 0 ≤ p ∧ p < 8) : NE D y_S_bring (wsOf y_S_bring b_S_bring 2 none) (2) [rq A 0 (0), rq A 8 (p)] A N (brg N p) := by
  refine NCon.of (by decide) (by simp [cat_rf, J_cat]) (Nat.le_of_ble_eq_true rfl) ?_
  intro X g0 o
  show V X (RelN D A N) 0 [(0, rq A 0 (0)), (1, rq A 8 (p))] [] []
  refine v_aload_nq (i := 0) o.ok d_S_bring_0 rfl rfl ?_
  refine v_aload_nq (i := 0) o.ok d_S_bring_1 rfl rfl ?_
  refine n_geti o 5 rfl rfl rfl lf_S_75 (by first | rfl | assumption | exact And.intro (by omega) (by omega)) d_S_bring_2 (fun i2 => ?_)
  (try simp only [up, Nat.reduceEqDiff, false_and, if_false, and_self, if_true, true_and, and_true] at i2 ⊢)
  refine v_aload_nq (i := 1) o.ok d_S_bring_5 rfl rfl ?_
  refine n_geti o 16 rfl rfl rfl lf_S_78 (by first | rfl | assumption | exact And.intro (by omega) (by omega)) d_S_bring_6 (fun i6 => ?_)
  (try simp only [up, Nat.reduceEqDiff, false_and, if_false, and_self, if_true, true_and, and_true] at i6 ⊢)
  refine n_max o jl_S_40 (by decide) (by first | exact Nat.le_of_ble_eq_true rfl | (simp only [List.map_cons, List.map_nil, cat_rf, J_cat, List.sum_cons, List.sum_nil, cat_lg]; decide)) (by omega) (by omega) d_S_bring_9 ?_
  refine n_puti o 5 rfl rfl rfl rfl lf_S_75 (by first | rfl | assumption | exact And.intro (by omega) (by omega)) (by split <;> omega) d_S_bring_12 ?_
  refine v_aload_nq (i := 0) o.ok d_S_bring_15 rfl rfl ?_
  refine n_s1 o lf_S_11 d_S_bring_16 ?_
  refine v_aload_nq (i := 1) o.ok d_S_bring_19 rfl rfl ?_
  refine n_num8 o lf_S_81 (by first | rfl | assumption | exact And.intro (by omega) (by omega)) d_S_bring_20 ?_
  refine n_aD o (by omega) d_S_bring_23 ?_
  refine v_aload_nq (i := 1) o.ok d_S_bring_24 rfl rfl ?_
  refine n_cV o 2 (tg := 6) rfl (by decide) (by decide) (by first | rfl | assumption | exact And.intro (by omega) (by omega)) (c_P_copy6 D A p p (up N 5 0 (if N 5 0 < N 16 p then N 16 p else N 5 0)) hp hp) q_P_copy lm_S_84 d_S_bring_25 (by decide) rfl (by first | exact Nat.le_of_ble_eq_true rfl | (simp only [List.map_cons, List.map_nil, cat_rf, J_cat, List.sum_cons, List.sum_nil, cat_lg]; decide)) rfl (n_e ?_)
  refine v_aload_nq (i := 1) o.ok d_S_bring_28 rfl rfl ?_
  refine v_iconst o.ok d_S_bring_29 ?_
  refine n_putz o 17 rfl rfl rfl rfl lf_S_88 (by first | rfl | assumption | exact And.intro (by omega) (by omega)) (by omega) d_S_bring_30 ?_
  refine n_vret o d_S_bring_33 ⟨rfl, rfl⟩
theorem frm_lt {N M : MSt} {p : Int} (h : SimP N M) (hc : (pl N p = -1 ∧ M 7 p = 0) ∨ ((0 ≤ pl N p ∧ pl N p < N 1 0 ∧ N 10 (pl N p) = p) ∧ M 7 p = 1)) (hl : pl N p < 0) (hp : 0 ≤ p ∧ p < 8) : N 1 0 < 8 := by
  rw [h.1.1]
  have hz : M 7 p = 0 := by rcases hc with c | c <;> omega
  have := cnt_lt (P := fun q => M 7 q = 1) (P' := fun q => 0 ≤ q) (b := 8) (by omega) (fun x a _ _ => a) p hp.1 hp.2 hp.1 (by show ¬ M 7 p = 1; omega)
  have h2 := cnt_bd (P := fun q => 0 ≤ q) (b := 8) (by omega)
  show cnt _ 8 < 8
  omega
set_option maxHeartbeats 4000000 in
set_option maxRecDepth 20000 in
theorem c_S_touch (D : GD) (A : ASt) (p : Int) (N M : MSt) (h : SimP N M) (hp : 0 ≤ p ∧ p < 8) (hf1 : 1 ≤ M 0 0) : NF D y_S_touch (wsOf y_S_touch b_S_touch 4 (some (.object "NestedStore$Page"))) (3) [rq A 0 (0), J (p)] A N (rq A 8 p) (tN N p) := by
  refine NCon.of (by decide) (by simp [cat_rf, J_cat]) (Nat.le_of_ble_eq_true rfl) ?_
  intro X g0 o
  show V X (RelN D A N) 0 [(0, rq A 0 (0)), (1, J (p))] [] []
  have hfr := h.fr
  have fin : ∀ (N2 : MSt) (i : Int), 0 ≤ i → i ≤ N2 1 0 - 1 → N2 1 0 ≤ 8 → tfin N2 i p = tN N p → V X (RelN D A N2) 90 [(0, rq A 0 0), (1, J p), (2, J i)] [] [] := by
    intro N2 i hi0 hi1 hi2 hfin
    have lp : ∀ (n : Nat) (k : Int), i ≤ k → k + n = N2 1 0 - 1 → V X (RelN D A (shf N2 i k)) 92 [(0, rq A 0 0), (1, J p), (2, J i), (3, J k)] [] [] := by
      intro n
      induction n with
      | zero =>
        intro k h0 h1
        have e1 : shf N2 i k 1 0 = N2 1 0 := shf_o (by decide)
        refine v_iload_n (i := 3) o.ok d_S_touch_92 rfl rfl ?_
        refine v_iconst o.ok d_S_touch_93 ?_
        refine v_iadd o.ok d_S_touch_94 ?_
        refine v_aload_nq (i := 0) o.ok d_S_touch_95 rfl rfl ?_
        refine n_geti o 1 rfl rfl rfl lf_S_57 (by first | rfl | assumption | exact And.intro (by omega) (by omega)) d_S_touch_96 (fun i96 => ?_)
        rw [e1]
        refine v_icmp_ge o.ok (by omega) (by omega) d_S_touch_99 (fun c99 => ?_) (fun c99 => ?_)
        · refine v_aload_nq (i := 0) o.ok d_S_touch_122 rfl rfl ?_
          refine n_s3 o lf_S_18 d_S_touch_123 ?_
          refine v_aload_nq (i := 0) o.ok d_S_touch_126 rfl rfl ?_
          refine n_geti o 1 rfl rfl rfl lf_S_57 (by first | rfl | assumption | exact And.intro (by omega) (by omega)) d_S_touch_127 (fun i127 => ?_)
          rw [e1]
          refine v_iconst o.ok d_S_touch_130 ?_
          refine v_isub o.ok d_S_touch_131 ?_
          refine v_iload_n (i := 1) o.ok d_S_touch_132 rfl rfl ?_
          refine n_oast o (by omega) (by omega) d_S_touch_133 ?_
          refine v_aload_nq (i := 0) o.ok d_S_touch_134 rfl rfl ?_
          refine n_s2 o lf_S_15 d_S_touch_135 ?_
          refine v_iload_n (i := 1) o.ok d_S_touch_138 rfl rfl ?_
          refine n_aR o (by omega) d_S_touch_139 ?_
          refine n_aret o d_S_touch_140 ⟨rfl, rfl, by rw [← hfin, tfin, ← h1]; simp only [Int.natCast_zero, Int.add_zero, e1]; first | done | (congr 2; omega)⟩
        · exfalso; omega
      | succ n ih =>
        intro k h0 h1
        have e1 : shf N2 i k 1 0 = N2 1 0 := shf_o (by decide)
        have e2 : shf N2 i k 10 (k + 1) = N2 10 (k + 1) := by unfold shf; rw [if_neg (by omega)]
        refine v_iload_n (i := 3) o.ok d_S_touch_92 rfl rfl ?_
        refine v_iconst o.ok d_S_touch_93 ?_
        refine v_iadd o.ok d_S_touch_94 ?_
        refine v_aload_nq (i := 0) o.ok d_S_touch_95 rfl rfl ?_
        refine n_geti o 1 rfl rfl rfl lf_S_57 (by first | rfl | assumption | exact And.intro (by omega) (by omega)) d_S_touch_96 (fun i96 => ?_)
        rw [e1]
        refine v_icmp_ge o.ok (by omega) (by omega) d_S_touch_99 (fun c99 => ?_) (fun c99 => ?_)
        · exfalso; omega
        · refine v_aload_nq (i := 0) o.ok d_S_touch_102 rfl rfl ?_
          refine n_s3 o lf_S_18 d_S_touch_103 ?_
          refine v_iload_n (i := 3) o.ok d_S_touch_106 rfl rfl ?_
          refine v_aload_nq (i := 0) o.ok d_S_touch_107 rfl rfl ?_
          refine n_s3 o lf_S_18 d_S_touch_108 ?_
          refine v_iload_n (i := 3) o.ok d_S_touch_111 rfl rfl ?_
          refine v_iconst o.ok d_S_touch_112 ?_
          refine v_iadd o.ok d_S_touch_113 ?_
          refine n_oald o (by omega) d_S_touch_114 (fun i114 => ?_)
          refine n_oast o (by omega) (by omega) d_S_touch_115 ?_
          refine v_iinc (i := 3) (L' := [(0, _), (1, _), (2, _), (3, _)]) (G' := []) o.ok d_S_touch_116 rfl (o.lt (by decide)) rfl rfl ?_
          refine v_goto o.ok d_S_touch_119 ?_
          rw [e2, shf_s N2 h0]
          exact ih (k + 1) (by omega) (by omega)
    refine v_iload_n (i := 2) o.ok d_S_touch_90 rfl rfl ?_
    refine v_istore_n (i := 3) (L' := [(0, _), (1, _), (2, _), (3, _)]) (G' := []) o.ok d_S_touch_91 rfl (o.lt (by decide)) rfl rfl ?_
    have z := lp (N2 1 0 - 1 - i).toNat i (by omega) (by omega)
    rw [shf_0] at z
    exact z
  have hcs := h.pl hp.1 hp.2
  have h88 : ∀ N2 : MSt, ∀ i : Int, 0 ≤ i → i ≤ N2 1 0 - 1 → N2 1 0 ≤ 8 → tfin (ldN N2 p) i p = tN N p → V X (RelN D A N2) 65 [(0, rq A 0 0), (1, J p), (2, J i)] [] [] := by
    intro N2 i a b c d
    refine v_aload_nq (i := 0) o.ok d_S_touch_65 rfl rfl ?_
    refine n_s2 o lf_S_15 d_S_touch_66 ?_
    refine v_iload_n (i := 1) o.ok d_S_touch_69 rfl rfl ?_
    refine n_aR o (by omega) d_S_touch_70 ?_
    refine v_aload_nq (i := 0) o.ok d_S_touch_71 rfl rfl ?_
    refine n_s1 o lf_S_11 d_S_touch_72 ?_
    refine v_iload_n (i := 1) o.ok d_S_touch_75 rfl rfl ?_
    refine n_aD o (by omega) d_S_touch_76 ?_
    refine n_cV o 2 (tg := 8) rfl (by decide) (by decide) (by first | rfl | assumption | exact And.intro (by omega) (by omega)) (c_P_copy8 D A p p N2 hp hp) q_P_copy lm_S_84 d_S_touch_77 (by decide) rfl (by first | exact Nat.le_of_ble_eq_true rfl | (simp only [List.map_cons, List.map_nil, cat_rf, J_cat, List.sum_cons, List.sum_nil, cat_lg]; decide)) rfl (n_e ?_)
    refine v_aload_nq (i := 0) o.ok d_S_touch_80 rfl rfl ?_
    refine n_s2 o lf_S_15 d_S_touch_81 ?_
    refine v_iload_n (i := 1) o.ok d_S_touch_84 rfl rfl ?_
    refine n_aR o (by omega) d_S_touch_85 ?_
    refine v_iconst o.ok d_S_touch_86 ?_
    refine n_putz o 17 rfl rfl rfl rfl lf_S_88 (by first | rfl | assumption | exact And.intro (by omega) (by omega)) (by omega) d_S_touch_87 ?_
    exact fin (ldN N2 p) i a (by rw [ldN_o (by decide) (by decide) (by decide) (by decide)]; exact b) (by rw [ldN_o (by decide) (by decide) (by decide) (by decide)]; exact c) d
  have hff : N 1 0 = usd M ∧ N 2 0 = M 0 0 := ⟨h.1.1, h.1.2.1⟩
  refine v_aload_nq (i := 0) o.ok d_S_touch_0 rfl rfl ?_
  refine v_iload_n (i := 1) o.ok d_S_touch_1 rfl rfl ?_
  refine n_cV o 1 (tg := 0) rfl (by decide) (by decide) (by first | rfl | assumption | exact h00.1 | exact And.intro (by omega) (by omega)) (c_S_place D A p N (by omega) h.fr) q_S_place lm_S_60 d_S_touch_2 (by decide) rfl (by first | exact Nat.le_of_ble_eq_true rfl | (simp only [List.map_cons, List.map_nil, cat_rf, J_cat, List.sum_cons, List.sum_nil, cat_lg]; decide)) rfl (n_f ?_)
  refine v_istore_n (i := 2) (L' := [(0, _), (1, _), (2, _)]) (G' := []) o.ok d_S_touch_5 rfl (o.lt (by decide)) rfl rfl ?_
  refine v_iload_n (i := 2) o.ok d_S_touch_6 rfl rfl ?_
  refine v_if_ge o.ok (by omega) d_S_touch_7 (fun c7 => ?_) (fun c7 => ?_)
  · have e : tN N p = tfin N (pl N p) p := by unfold tN; exact pick_t (by omega)
    exact fin N (pl N p) (by omega) (by omega) (by omega) e.symm
  · refine v_aload_nq (i := 0) o.ok d_S_touch_10 rfl rfl ?_
    refine n_geti o 1 rfl rfl rfl lf_S_57 (by first | rfl | assumption | exact h00.1 | exact And.intro (by omega) (by omega)) d_S_touch_11 (fun i11 => ?_)
    refine v_aload_nq (i := 0) o.ok d_S_touch_14 rfl rfl ?_
    refine n_geti o 2 rfl rfl rfl lf_S_43 (by first | rfl | assumption | exact h00.1 | exact And.intro (by omega) (by omega)) d_S_touch_15 (fun i15 => ?_)
    refine v_icmp_ne o.ok (by omega) (by omega) d_S_touch_18 (fun c18 => ?_) (fun c18 => ?_)
    · refine v_aload_nq (i := 0) o.ok d_S_touch_50 rfl rfl ?_
      refine n_geti o 1 rfl rfl rfl lf_S_57 (by first | rfl | assumption | exact h00.1 | exact And.intro (by omega) (by omega)) d_S_touch_51 (fun i51 => ?_)
      refine v_istore_n (i := 2) (L' := [(0, _), (1, _), (2, _)]) (G' := []) o.ok d_S_touch_54 rfl (o.lt (by decide)) rfl rfl ?_
      refine v_aload_nq (i := 0) o.ok d_S_touch_55 rfl rfl ?_
      refine v_dup o.ok d_S_touch_56 (cat_rf _) ?_
      refine n_geti o 1 rfl rfl rfl lf_S_57 (by first | rfl | assumption | exact h00.1 | exact And.intro (by omega) (by omega)) d_S_touch_57 (fun i57 => ?_)
      refine v_iconst o.ok d_S_touch_60 ?_
      refine v_iadd o.ok d_S_touch_61 ?_
      refine n_puti o 1 rfl rfl rfl rfl lf_S_57 (by first | rfl | assumption | exact h00.1 | exact And.intro (by omega) (by omega)) (by omega) d_S_touch_62 ?_
      first
        | (have e : tN N p = tfin (ldN (if N 17 (N 10 0) = 1 then brg N (N 10 0) else N) p) 0 p := (by unfold tN; rw [pick_f (by omega), pick_t (by assumption)])
           first
             | (rw [if_pos (by omega)] at e
                exact v_sel [0, 1, 2] [] rfl rfl <| h88 (brg N (N 10 0)) 0 (by omega) (by rw [brg_o (by decide) (by decide) (by decide) (by decide) (by decide)]; omega) (by rw [brg_o (by decide) (by decide) (by decide) (by decide) (by decide)]; omega) e.symm)
             | (rw [if_neg (by omega)] at e
                exact v_sel [0, 1, 2] [] rfl rfl <| h88 N 0 (by omega) (by omega) (by omega) e.symm))
        | (have e : tN N p = tfin (ldN (up N 1 0 (N 1 0 + 1)) p) (N 1 0) p := (by unfold tN; rw [pick_f (by omega), pick_f (by assumption)])
           exact h88 (up N 1 0 (N 1 0 + 1)) (N 1 0) (by omega) (by rw [up_same]; omega) (by rw [up_same]; have := frm_lt h hcs (by omega) hp; omega) e.symm)
    · have h00 := h.2.1 0 (by omega) (by omega)
      refine v_aload_nq (i := 0) o.ok d_S_touch_21 rfl rfl ?_
      refine n_s2 o lf_S_15 d_S_touch_22 ?_
      refine v_aload_nq (i := 0) o.ok d_S_touch_25 rfl rfl ?_
      refine n_s3 o lf_S_18 d_S_touch_26 ?_
      refine v_iconst o.ok d_S_touch_29 ?_
      refine n_oald o (by omega) d_S_touch_30 (fun i30 => ?_)
      skip
      refine n_aR o (by exact h00.1) d_S_touch_31 ?_
      refine v_astore_nq (i := 3) (L' := [(0, _), (1, _), (2, _), (3, _)]) (G' := []) o.ok d_S_touch_32 rfl (o.lt (by decide)) rfl rfl ?_
      refine v_aload_nq (i := 3) o.ok d_S_touch_33 rfl rfl ?_
      refine n_getz o 17 rfl rfl rfl lf_S_88 (by first | rfl | assumption | exact h00.1 | exact And.intro (by omega) (by omega)) d_S_touch_34 (fun i34 => ?_)
      first | refine v_ifeq_b o.ok d_S_touch_37 (fun c37 => ?_) (fun c37 => ?_) | refine v_if_eq o.ok (by have := i34; omega) d_S_touch_37 (fun c37 => ?_) (fun c37 => ?_)
      · refine v_iconst o.ok d_S_touch_45 ?_
        refine v_istore_n (i := 2) (L' := [(0, _), (1, _), (2, _), (3, _)]) (G' := []) o.ok d_S_touch_46 rfl (o.lt (by decide)) rfl rfl ?_
        refine v_goto o.ok d_S_touch_47 ?_
        first
          | (have e : tN N p = tfin (ldN (if N 17 (N 10 0) = 1 then brg N (N 10 0) else N) p) 0 p := (by unfold tN; rw [pick_f (by omega), pick_t (by assumption)])
             first
               | (rw [if_pos (by omega)] at e
                  exact v_sel [0, 1, 2] [] rfl rfl <| h88 (brg N (N 10 0)) 0 (by omega) (by rw [brg_o (by decide) (by decide) (by decide) (by decide) (by decide)]; omega) (by rw [brg_o (by decide) (by decide) (by decide) (by decide) (by decide)]; omega) e.symm)
               | (rw [if_neg (by omega)] at e
                  exact v_sel [0, 1, 2] [] rfl rfl <| h88 N 0 (by omega) (by omega) (by omega) e.symm))
          | (have e : tN N p = tfin (ldN (up N 1 0 (N 1 0 + 1)) p) (N 1 0) p := (by unfold tN; rw [pick_f (by omega), pick_f (by assumption)])
             exact h88 (up N 1 0 (N 1 0 + 1)) (N 1 0) (by omega) (by rw [up_same]; omega) (by rw [up_same]; have := frm_lt h hcs (by omega) hp; omega) e.symm)
      · refine v_aload_nq (i := 0) o.ok d_S_touch_40 rfl rfl ?_
        refine v_aload_nq (i := 3) o.ok d_S_touch_41 rfl rfl ?_
        refine n_cV o 1 (tg := 0) rfl (by decide) (by decide) (by first | rfl | assumption | exact h00.1 | exact And.intro (by omega) (by omega)) (c_S_bring D A (N 10 0) N h00.1) q_S_bring lm_S_92 d_S_touch_42 (by decide) rfl (by first | exact Nat.le_of_ble_eq_true rfl | (simp only [List.map_cons, List.map_nil, cat_rf, J_cat, List.sum_cons, List.sum_nil, cat_lg]; decide)) rfl (n_e ?_)
        refine v_iconst o.ok d_S_touch_45 ?_
        refine v_istore_n (i := 2) (L' := [(0, _), (1, _), (2, _), (3, _)]) (G' := []) o.ok d_S_touch_46 rfl (o.lt (by decide)) rfl rfl ?_
        refine v_goto o.ok d_S_touch_47 ?_
        first
          | (have e : tN N p = tfin (ldN (if N 17 (N 10 0) = 1 then brg N (N 10 0) else N) p) 0 p := (by unfold tN; rw [pick_f (by omega), pick_t (by assumption)])
             first
               | (rw [if_pos (by omega)] at e
                  exact v_sel [0, 1, 2] [] rfl rfl <| h88 (brg N (N 10 0)) 0 (by omega) (by rw [brg_o (by decide) (by decide) (by decide) (by decide) (by decide)]; omega) (by rw [brg_o (by decide) (by decide) (by decide) (by decide) (by decide)]; omega) e.symm)
               | (rw [if_neg (by omega)] at e
                  exact v_sel [0, 1, 2] [] rfl rfl <| h88 N 0 (by omega) (by omega) (by omega) e.symm))
          | (have e : tN N p = tfin (ldN (up N 1 0 (N 1 0 + 1)) p) (N 1 0) p := (by unfold tN; rw [pick_f (by omega), pick_f (by assumption)])
             exact h88 (up N 1 0 (N 1 0 + 1)) (N 1 0) (by omega) (by rw [up_same]; omega) (by rw [up_same]; have := frm_lt h hcs (by omega) hp; omega) e.symm)

