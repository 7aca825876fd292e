set_option maxHeartbeats 4000000 in
set_option maxRecDepth 20000 in
theorem c_P_has6 (D : GD) (A : ASt) (p k : Int) (N : MSt) (hp : 0 ≤ p ∧ p < 8) (hk : 0 ≤ k ∧ k ≤ 31) (ht : 0 ≤ N 11 p ∧ N 11 p < 16) : NF D y_P_has (wsOf y_P_has b_P_has 2 (some .boolean)) (0) [rq A 6 (p), J (k)] A N (J (b01 (bt (N 11 p) k))) (N) := by
  refine NCon.of (by decide) (by simp [cat_rf, J_cat]) (Nat.le_of_ble_eq_true rfl) ?_
  intro X g0 o
  show V X (RelN D A N) 0 [(0, rq A 6 (p)), (1, J (k))] [] []
  refine v_aload_nq (i := 0) o.ok d_P_has_0 rfl rfl ?_
  refine n_geti o 11 rfl rfl rfl lf_P_17 (by first | rfl | assumption | exact And.intro (by omega) (by omega)) d_P_has_1 (fun i1 => ?_)
  refine v_iload_n (i := 1) o.ok d_P_has_4 rfl rfl ?_
  refine v_iconst o.ok d_P_has_5 ?_
  refine v_iand o.ok d_P_has_6 ?_
  refine v_ishr o.ok d_P_has_7 ?_
  refine v_iconst o.ok d_P_has_8 ?_
  refine v_iand o.ok d_P_has_9 ?_
  rw [has_e ht hk]
  refine v_iconst o.ok d_P_has_10 ?_
  refine v_icmp_ne o.ok (by have := b01_or (bt (N 11 p) k); omega) (by have := b01_or (bt (N 11 p) k); omega) d_P_has_11 (fun c11 => ?_) (fun c11 => ?_)
  · refine v_iconst o.ok d_P_has_18 ?_
    refine n_zret o (by first | exact b01_or _ | omega | simp) d_P_has_19 ⟨congrArg J (by first | exact c11.symm | (have := b01_or (bt (N 11 p) k); omega)), rfl, rfl⟩
  · refine v_iconst o.ok d_P_has_14 ?_
    refine v_goto o.ok d_P_has_15 ?_
    refine n_zret o (by first | exact b01_or _ | omega | simp) d_P_has_19 ⟨congrArg J (by first | exact c11.symm | (have := b01_or (bt (N 11 p) k); omega)), rfl, rfl⟩
set_option maxHeartbeats 4000000 in
set_option maxRecDepth 20000 in
theorem c_P_value6 (D : GD) (A : ASt) (p k : Int) (N : MSt) (hp : 0 ≤ p ∧ p < 8) (hk : 0 ≤ k ∧ k ≤ 31) (ht : 0 ≤ N 11 p ∧ N 11 p < 16) : NF D y_P_value (wsOf y_P_value b_P_value 2 (some .int)) (1) [rq A 6 (p), J (k)] A N (J (pick (bt (N 11 p) k) (N 14 (4 * p + k % 4)) 0)) (N) := by
  refine NCon.of (by decide) (by simp [cat_rf, J_cat]) (Nat.le_of_ble_eq_true rfl) ?_
  intro X g0 o
  show V X (RelN D A N) 0 [(0, rq A 6 (p)), (1, J (k))] [] []
  refine v_aload_nq (i := 0) o.ok d_P_value_0 rfl rfl ?_
  refine v_iload_n (i := 1) o.ok d_P_value_1 rfl rfl ?_
  refine n_cV o 2 (tg := 6) rfl (by decide) (by decide) (by first | rfl | assumption | exact And.intro (by omega) (by omega)) (c_P_has6 D A p k N hp hk ht) q_P_has lm_P_29 d_P_value_2 (by decide) rfl (by first | exact Nat.le_of_ble_eq_true rfl | (simp only [List.map_cons, List.map_nil, cat_rf, J_cat, List.sum_cons, List.sum_nil, cat_lg]; decide)) rfl (n_f ?_)
  first | refine v_ifeq_b o.ok d_P_value_5 (fun c5 => ?_) (fun c5 => ?_) | refine v_if_eq o.ok (by omega) d_P_value_5 (fun c5 => ?_) (fun c5 => ?_)
  · refine v_iconst o.ok d_P_value_19 ?_
    refine n_iret o d_P_value_20 ⟨congrArg J (by first | exact (pick_t (by assumption)).symm | exact (pick_f (by assumption)).symm), rfl, rfl⟩
  · refine v_aload_nq (i := 0) o.ok d_P_value_8 rfl rfl ?_
    refine n_vals6 o lf_P_7 (by first | rfl | assumption | exact And.intro (by omega) (by omega)) d_P_value_9 ?_
    refine v_iload_n (i := 1) o.ok d_P_value_12 rfl rfl ?_
    refine v_iconst o.ok d_P_value_13 ?_
    refine v_iand o.ok d_P_value_14 ?_
    rw [and3 hk]
    refine n_vald o 14 rfl rfl rfl (by first | rfl | assumption | exact And.intro (by omega) (by omega)) (by omega) d_P_value_15 (fun i15 => ?_)
    refine v_goto o.ok d_P_value_16 ?_
    refine n_iret o d_P_value_20 ⟨congrArg J (by first | exact (pick_t (by assumption)).symm | exact (pick_f (by assumption)).symm), rfl, rfl⟩
set_option maxHeartbeats 4000000 in
set_option maxRecDepth 20000 in
theorem c_P_has8 (D : GD) (A : ASt) (p k : Int) (N : MSt) (hp : 0 ≤ p ∧ p < 8) (hk : 0 ≤ k ∧ k ≤ 31) (ht : 0 ≤ N 15 p ∧ N 15 p < 16) : NF D y_P_has (wsOf y_P_has b_P_has 2 (some .boolean)) (0) [rq A 8 (p), J (k)] A N (J (b01 (bt (N 15 p) k))) (N) := by
  refine NCon.of (by decide) (by simp [cat_rf, J_cat]) (Nat.le_of_ble_eq_true rfl) ?_
  intro X g0 o
  show V X (RelN D A N) 0 [(0, rq A 8 (p)), (1, J (k))] [] []
  refine v_aload_nq (i := 0) o.ok d_P_has_0 rfl rfl ?_
  refine n_geti o 15 rfl rfl rfl lf_P_17 (by first | rfl | assumption | exact And.intro (by omega) (by omega)) d_P_has_1 (fun i1 => ?_)
  refine v_iload_n (i := 1) o.ok d_P_has_4 rfl rfl ?_
  refine v_iconst o.ok d_P_has_5 ?_
  refine v_iand o.ok d_P_has_6 ?_
  refine v_ishr o.ok d_P_has_7 ?_
  refine v_iconst o.ok d_P_has_8 ?_
  refine v_iand o.ok d_P_has_9 ?_
  rw [has_e ht hk]
  refine v_iconst o.ok d_P_has_10 ?_
  refine v_icmp_ne o.ok (by have := b01_or (bt (N 15 p) k); omega) (by have := b01_or (bt (N 15 p) k); omega) d_P_has_11 (fun c11 => ?_) (fun c11 => ?_)
  · refine v_iconst o.ok d_P_has_18 ?_
    refine n_zret o (by first | exact b01_or _ | omega | simp) d_P_has_19 ⟨congrArg J (by first | exact c11.symm | (have := b01_or (bt (N 15 p) k); omega)), rfl, rfl⟩
  · refine v_iconst o.ok d_P_has_14 ?_
    refine v_goto o.ok d_P_has_15 ?_
    refine n_zret o (by first | exact b01_or _ | omega | simp) d_P_has_19 ⟨congrArg J (by first | exact c11.symm | (have := b01_or (bt (N 15 p) k); omega)), rfl, rfl⟩
set_option maxHeartbeats 4000000 in
set_option maxRecDepth 20000 in
theorem c_P_value8 (D : GD) (A : ASt) (p k : Int) (N : MSt) (hp : 0 ≤ p ∧ p < 8) (hk : 0 ≤ k ∧ k ≤ 31) (ht : 0 ≤ N 15 p ∧ N 15 p < 16) : NF D y_P_value (wsOf y_P_value b_P_value 2 (some .int)) (1) [rq A 8 (p), J (k)] A N (J (pick (bt (N 15 p) k) (N 18 (4 * p + k % 4)) 0)) (N) := by
  refine NCon.of (by decide) (by simp [cat_rf, J_cat]) (Nat.le_of_ble_eq_true rfl) ?_
  intro X g0 o
  show V X (RelN D A N) 0 [(0, rq A 8 (p)), (1, J (k))] [] []
  refine v_aload_nq (i := 0) o.ok d_P_value_0 rfl rfl ?_
  refine v_iload_n (i := 1) o.ok d_P_value_1 rfl rfl ?_
  refine n_cV o 2 (tg := 8) rfl (by decide) (by decide) (by first | rfl | assumption | exact And.intro (by omega) (by omega)) (c_P_has8 D A p k N hp hk ht) q_P_has lm_P_29 d_P_value_2 (by decide) rfl (by first | exact Nat.le_of_ble_eq_true rfl | (simp only [List.map_cons, List.map_nil, cat_rf, J_cat, List.sum_cons, List.sum_nil, cat_lg]; decide)) rfl (n_f ?_)
  first | refine v_ifeq_b o.ok d_P_value_5 (fun c5 => ?_) (fun c5 => ?_) | refine v_if_eq o.ok (by omega) d_P_value_5 (fun c5 => ?_) (fun c5 => ?_)
  · refine v_iconst o.ok d_P_value_19 ?_
    refine n_iret o d_P_value_20 ⟨congrArg J (by first | exact (pick_t (by assumption)).symm | exact (pick_f (by assumption)).symm), rfl, rfl⟩
  · refine v_aload_nq (i := 0) o.ok d_P_value_8 rfl rfl ?_
    refine n_vals8 o lf_P_7 (by first | rfl | assumption | exact And.intro (by omega) (by omega)) d_P_value_9 ?_
    refine v_iload_n (i := 1) o.ok d_P_value_12 rfl rfl ?_
    refine v_iconst o.ok d_P_value_13 ?_
    refine v_iand o.ok d_P_value_14 ?_
    rw [and3 hk]
    refine n_vald o 18 rfl rfl rfl (by first | rfl | assumption | exact And.intro (by omega) (by omega)) (by omega) d_P_value_15 (fun i15 => ?_)
    refine v_goto o.ok d_P_value_16 ?_
    refine n_iret o d_P_value_20 ⟨congrArg J (by first | exact (pick_t (by assumption)).symm | exact (pick_f (by assumption)).symm), rfl, rfl⟩
set_option maxHeartbeats 4000000 in
set_option maxRecDepth 20000 in
theorem c_P_set (D : GD) (A : ASt) (p k now v at_ : Int) (N : MSt) (hp : 0 ≤ p ∧ p < 8) (hk : 0 ≤ k ∧ k ≤ 31) (hn : now = 0 ∨ now = 1) (hv : InR v) (ha : InR at_) (ht : 0 ≤ N 15 p ∧ N 15 p < 16) : NE D y_P_set (wsOf y_P_set b_P_set 6 none) (0) [rq A 8 (p), J (k), J (now), J (v), J (at_)] A N (up (up (up (up N 15 p (sb (N 15 p) k now)) 18 (4 * p + k % 4) v) 16 p at_) 17 p 1) := by
  refine NCon.of (by decide) (by simp [cat_rf, J_cat]) (Nat.le_of_ble_eq_true rfl) ?_
  intro X g0 o
  show V X (RelN D A N) 0 [(0, rq A 8 (p)), (1, J (k)), (2, J (now)), (3, J (v)), (4, J (at_))] [] []
  have hsb := fun w => sb_bd (now := w) ht hk.1
  have hs1 := hsb 1
  have hs0 := hsb 0
  refine v_iconst o.ok d_P_set_0 ?_
  refine v_iload_n (i := 1) o.ok d_P_set_1 rfl rfl ?_
  refine v_iconst o.ok d_P_set_2 ?_
  refine v_iand o.ok d_P_set_3 ?_
  refine v_ishl o.ok d_P_set_4 ?_
  rw [bit_e hk]
  refine v_istore (i := 5) (L' := [(0, _), (1, _), (2, _), (3, _), (4, _), (5, _)]) (G' := []) o.ok d_P_set_5 (o.lt (by decide)) rfl rfl ?_
  refine v_aload_nq (i := 0) o.ok d_P_set_7 rfl rfl ?_
  refine v_iload_n (i := 2) o.ok d_P_set_8 rfl rfl ?_
  first | refine v_ifeq_b o.ok d_P_set_9 (fun c9 => ?_) (fun c9 => ?_) | refine v_if_eq o.ok (by omega) d_P_set_9 (fun c9 => ?_) (fun c9 => ?_)
  · have e1 : now = 0 := by omega
    subst e1
    refine v_aload_nq (i := 0) o.ok d_P_set_22 rfl rfl ?_
    refine n_geti o 15 rfl rfl rfl lf_P_17 (by first | rfl | assumption | exact And.intro (by omega) (by omega)) d_P_set_23 (fun i23 => ?_)
    refine v_iload (i := 5) o.ok d_P_set_26 rfl ?_
    refine v_iconst o.ok d_P_set_28 ?_
    refine v_ixor o.ok d_P_set_29 ?_
    refine v_iand o.ok d_P_set_30 ?_
    first
      | rw [set_or ht]
      | rw [set_and ht]
    refine n_puti o 15 rfl rfl rfl rfl lf_P_17 (by exact hp) (by omega) d_P_set_31 ?_
    refine v_aload_nq (i := 0) o.ok d_P_set_34 rfl rfl ?_
    refine n_vals8 o lf_P_7 (by exact hp) d_P_set_35 ?_
    refine v_iload_n (i := 1) o.ok d_P_set_38 rfl rfl ?_
    refine v_iconst o.ok d_P_set_39 ?_
    refine v_iand o.ok d_P_set_40 ?_
    rw [and3 hk]
    refine v_iload_n (i := 3) o.ok d_P_set_41 rfl rfl ?_
    refine n_vast o 18 rfl rfl rfl (by exact hp) (by omega) hv d_P_set_42 ?_
    refine v_aload_nq (i := 0) o.ok d_P_set_43 rfl rfl ?_
    refine v_iload (i := 4) o.ok d_P_set_44 rfl ?_
    refine n_puti o 16 rfl rfl rfl rfl lf_P_20 (by exact hp) ha d_P_set_46 ?_
    refine v_aload_nq (i := 0) o.ok d_P_set_49 rfl rfl ?_
    refine v_iconst o.ok d_P_set_50 ?_
    refine n_putz o 17 rfl rfl rfl rfl lf_P_33 (by exact hp) (by omega) d_P_set_51 ?_
    exact n_vret o d_P_set_54 ⟨rfl, rfl⟩
  · have e1 : now = 1 := by omega
    subst e1
    refine v_aload_nq (i := 0) o.ok d_P_set_12 rfl rfl ?_
    refine n_geti o 15 rfl rfl rfl lf_P_17 (by first | rfl | assumption | exact And.intro (by omega) (by omega)) d_P_set_13 (fun i13 => ?_)
    refine v_iload (i := 5) o.ok d_P_set_16 rfl ?_
    refine v_ior o.ok d_P_set_18 ?_
    refine v_goto o.ok d_P_set_19 ?_
    first
      | rw [set_or ht]
      | rw [set_and ht]
    refine n_puti o 15 rfl rfl rfl rfl lf_P_17 (by exact hp) (by omega) d_P_set_31 ?_
    refine v_aload_nq (i := 0) o.ok d_P_set_34 rfl rfl ?_
    refine n_vals8 o lf_P_7 (by exact hp) d_P_set_35 ?_
    refine v_iload_n (i := 1) o.ok d_P_set_38 rfl rfl ?_
    refine v_iconst o.ok d_P_set_39 ?_
    refine v_iand o.ok d_P_set_40 ?_
    rw [and3 hk]
    refine v_iload_n (i := 3) o.ok d_P_set_41 rfl rfl ?_
    refine n_vast o 18 rfl rfl rfl (by exact hp) (by omega) hv d_P_set_42 ?_
    refine v_aload_nq (i := 0) o.ok d_P_set_43 rfl rfl ?_
    refine v_iload (i := 4) o.ok d_P_set_44 rfl ?_
    refine n_puti o 16 rfl rfl rfl rfl lf_P_20 (by exact hp) ha d_P_set_46 ?_
    refine v_aload_nq (i := 0) o.ok d_P_set_49 rfl rfl ?_
    refine v_iconst o.ok d_P_set_50 ?_
    refine n_putz o 17 rfl rfl rfl rfl lf_P_33 (by exact hp) (by omega) d_P_set_51 ?_
    exact n_vret o d_P_set_54 ⟨rfl, rfl⟩
set_option maxHeartbeats 4000000 in
set_option maxRecDepth 20000 in
theorem c_P_copy8 (D : GD) (A : ASt) (p q : Int) (N : MSt) (hp : 0 ≤ p ∧ p < 8) (hq : 0 ≤ q ∧ q < 8) : NE D y_P_copy (wsOf y_P_copy b_P_copy 2 none) (1) [rq A 8 (p), rq A 6 (q)] A N ((up (up (up (up (up (up N 15 p (N 11 q)) 16 p (N 12 q)) 18 (4 * p + 0) (N 14 (4 * q + 0))) 18 (4 * p + 1) (N 14 (4 * q + 1))) 18 (4 * p + 2) (N 14 (4 * q + 2))) 18 (4 * p + 3) (N 14 (4 * q + 3)))) := by
  refine NCon.of (by decide) (by simp [cat_rf, J_cat]) (Nat.le_of_ble_eq_true rfl) ?_
  intro X g0 o
  show V X (RelN D A N) 0 [(0, rq A 8 (p)), (1, rq A 6 (q))] [] []
  refine v_aload_nq (i := 0) o.ok d_P_copy_0 rfl rfl ?_
  refine v_aload_nq (i := 1) o.ok d_P_copy_1 rfl rfl ?_
  refine n_geti o 11 rfl rfl rfl lf_P_17 (by first | rfl | assumption | exact And.intro (by omega) (by omega)) d_P_copy_2 (fun i2 => ?_)
  refine n_puti o 15 rfl rfl rfl rfl lf_P_17 (by first | rfl | assumption | exact And.intro (by omega) (by omega)) (by omega) d_P_copy_5 ?_
  refine v_aload_nq (i := 0) o.ok d_P_copy_8 rfl rfl ?_
  refine v_aload_nq (i := 1) o.ok d_P_copy_9 rfl rfl ?_
  refine n_geti o 12 rfl rfl rfl lf_P_20 (by first | rfl | assumption | exact And.intro (by omega) (by omega)) d_P_copy_10 (fun i10 => ?_)
  refine n_puti o 16 rfl rfl rfl rfl lf_P_20 (by first | rfl | assumption | exact And.intro (by omega) (by omega)) (by omega) d_P_copy_13 ?_
  refine v_aload_nq (i := 1) o.ok d_P_copy_16 rfl rfl ?_
  refine n_vals6 o lf_P_7 (by first | rfl | assumption | exact And.intro (by omega) (by omega)) d_P_copy_17 ?_
  refine v_iconst o.ok d_P_copy_20 ?_
  refine v_aload_nq (i := 0) o.ok d_P_copy_21 rfl rfl ?_
  refine n_vals8 o lf_P_7 (by first | rfl | assumption | exact And.intro (by omega) (by omega)) d_P_copy_22 ?_
  refine v_iconst o.ok d_P_copy_25 ?_
  refine v_iconst o.ok d_P_copy_26 ?_
  refine n_copy4 o 14 18 rfl rfl rfl rfl rfl rfl (by decide) (by exact hq) (by exact hp) jl_P_23 (by decide) d_P_copy_27 ?_
  exact n_vret o d_P_copy_30 ⟨rfl, rfl⟩
set_option maxHeartbeats 4000000 in
set_option maxRecDepth 20000 in
theorem c_P_copy6 (D : GD) (A : ASt) (p q : Int) (N : MSt) (hp : 0 ≤ p ∧ p < 8) (hq : 0 ≤ q ∧ q < 8) : NE D y_P_copy (wsOf y_P_copy b_P_copy 2 none) (1) [rq A 6 (p), rq A 8 (q)] A N ((up (up (up (up (up (up N 11 p (N 15 q)) 12 p (N 16 q)) 14 (4 * p + 0) (N 18 (4 * q + 0))) 14 (4 * p + 1) (N 18 (4 * q + 1))) 14 (4 * p + 2) (N 18 (4 * q + 2))) 14 (4 * p + 3) (N 18 (4 * q + 3)))) := by
  refine NCon.of (by decide) (by simp [cat_rf, J_cat]) (Nat.le_of_ble_eq_true rfl) ?_
  intro X g0 o
  show V X (RelN D A N) 0 [(0, rq A 6 (p)), (1, rq A 8 (q))] [] []
  refine v_aload_nq (i := 0) o.ok d_P_copy_0 rfl rfl ?_
  refine v_aload_nq (i := 1) o.ok d_P_copy_1 rfl rfl ?_
  refine n_geti o 15 rfl rfl rfl lf_P_17 (by first | rfl | assumption | exact And.intro (by omega) (by omega)) d_P_copy_2 (fun i2 => ?_)
  refine n_puti o 11 rfl rfl rfl rfl lf_P_17 (by first | rfl | assumption | exact And.intro (by omega) (by omega)) (by omega) d_P_copy_5 ?_
  refine v_aload_nq (i := 0) o.ok d_P_copy_8 rfl rfl ?_
  refine v_aload_nq (i := 1) o.ok d_P_copy_9 rfl rfl ?_
  refine n_geti o 16 rfl rfl rfl lf_P_20 (by first | rfl | assumption | exact And.intro (by omega) (by omega)) d_P_copy_10 (fun i10 => ?_)
  refine n_puti o 12 rfl rfl rfl rfl lf_P_20 (by first | rfl | assumption | exact And.intro (by omega) (by omega)) (by omega) d_P_copy_13 ?_
  refine v_aload_nq (i := 1) o.ok d_P_copy_16 rfl rfl ?_
  refine n_vals8 o lf_P_7 (by first | rfl | assumption | exact And.intro (by omega) (by omega)) d_P_copy_17 ?_
  refine v_iconst o.ok d_P_copy_20 ?_
  refine v_aload_nq (i := 0) o.ok d_P_copy_21 rfl rfl ?_
  refine n_vals6 o lf_P_7 (by first | rfl | assumption | exact And.intro (by omega) (by omega)) d_P_copy_22 ?_
  refine v_iconst o.ok d_P_copy_25 ?_
  refine v_iconst o.ok d_P_copy_26 ?_
  refine n_copy4 o 18 14 rfl rfl rfl rfl rfl rfl (by decide) (by exact hq) (by exact hp) jl_P_23 (by decide) d_P_copy_27 ?_
  exact n_vret o d_P_copy_30 ⟨rfl, rfl⟩
set_option maxHeartbeats 4000000 in
set_option maxRecDepth 20000 in
theorem c_S_place (D : GD) (A : ASt) (p : Int) (N : MSt) (hp : InR p) (hf : 0 ≤ N 1 0 ∧ N 1 0 ≤ 8) : NF D y_S_place (wsOf y_S_place b_S_place 3 (some .int)) (0) [rq A 0 (0), J (p)] A N (J (pl N p)) (N) := by
  refine NCon.of (by decide) (by simp [cat_rf, J_cat]) (Nat.le_of_ble_eq_true rfl) ?_
  intro X g0 o
  show V X (RelN D A N) 0 [(0, rq A 0 (0)), (1, J (p))] [] []
  have lp : ∀ (n : Nat) (i : Int), 0 ≤ i → i + n = N 1 0 → plN N p n i = pl N p → V X (RelN D A N) 2 [(0, rq A 0 0), (1, J p), (2, J i)] [] [] := by
    intro n
    induction n with
    | zero =>
      intro i h0 h1 h2
      refine v_iload_n (i := 2) o.ok d_S_place_2 rfl rfl ?_
      refine v_aload_nq (i := 0) o.ok d_S_place_3 rfl rfl ?_
      refine n_geti o 1 rfl rfl rfl lf_S_57 (by first | rfl | assumption | exact And.intro (by omega) (by omega)) d_S_place_4 (fun i4 => ?_)
      refine v_icmp_ge o.ok (by omega) (by omega) d_S_place_7 (fun c7 => ?_) (fun c7 => ?_)
      · refine v_iconst o.ok d_S_place_28 ?_
        refine n_iret o d_S_place_29 ⟨congrArg J h2, rfl, rfl⟩
      · exfalso; omega
    | succ n ih =>
      intro i h0 h1 h2
      refine v_iload_n (i := 2) o.ok d_S_place_2 rfl rfl ?_
      refine v_aload_nq (i := 0) o.ok d_S_place_3 rfl rfl ?_
      refine n_geti o 1 rfl rfl rfl lf_S_57 (by first | rfl | assumption | exact And.intro (by omega) (by omega)) d_S_place_4 (fun i4 => ?_)
      refine v_icmp_ge o.ok (by omega) (by omega) d_S_place_7 (fun c7 => ?_) (fun c7 => ?_)
      · exfalso; omega
      · refine v_aload_nq (i := 0) o.ok d_S_place_10 rfl rfl ?_
        refine n_s3 o lf_S_18 d_S_place_11 ?_
        refine v_iload_n (i := 2) o.ok d_S_place_14 rfl rfl ?_
        refine n_oald o (by omega) d_S_place_15 (fun i15 => ?_)
        refine v_iload_n (i := 1) o.ok d_S_place_16 rfl rfl ?_
        refine v_icmp_ne o.ok (by omega) (by omega) d_S_place_17 (fun c17 => ?_) (fun c17 => ?_)
        · rw [plN, if_neg (by assumption)] at h2
          refine v_iinc (i := 2) (L' := [(0, _), (1, _), (2, _)]) (G' := []) o.ok d_S_place_22 rfl (o.lt (by decide)) rfl rfl ?_
          refine v_goto o.ok d_S_place_25 ?_
          exact ih (i + 1) (by omega) (by omega) h2
        · rw [plN, if_pos (by assumption)] at h2
          refine v_iload_n (i := 2) o.ok d_S_place_20 rfl rfl ?_
          refine n_iret o d_S_place_21 ⟨congrArg J h2, rfl, rfl⟩
  refine v_iconst o.ok d_S_place_0 ?_
  refine v_istore_n (i := 2) (L' := [(0, _), (1, _), (2, _)]) (G' := []) o.ok d_S_place_1 rfl (o.lt (by decide)) rfl rfl ?_
  exact lp (N 1 0).toNat 0 (by omega) (by omega) rfl
set_option maxHeartbeats 4000000 in
set_option maxRecDepth 20000 in
theorem c_S_at6 (D : GD) (A : ASt) (p : Int) (N : MSt) (hp : 0 ≤ p ∧ p < 8) (hf : 0 ≤ N 1 0 ∧ N 1 0 ≤ 8) (hl : pl N p = -1) : NF D y_S_at (wsOf y_S_at b_S_at 2 (some (.object "NestedStore$Page"))) (1) [rq A 0 (0), J (p)] A N (rq A 6 p) (N) := by
  refine NCon.of (by decide) (by simp [cat_rf, J_cat]) (Nat.le_of_ble_eq_true rfl) ?_
  intro X g0 o
  show V X (RelN D A N) 0 [(0, rq A 0 (0)), (1, J (p))] [] []
  refine v_aload_nq (i := 0) o.ok d_S_at_0 rfl rfl ?_
  refine v_iload_n (i := 1) o.ok d_S_at_1 rfl rfl ?_
  refine n_cV o 1 (tg := 0) rfl (by decide) (by decide) (by first | rfl | assumption | exact And.intro (by omega) (by omega)) (c_S_place D A p N (by omega) hf) q_S_place lm_S_60 d_S_at_2 (by decide) rfl (by first | exact Nat.le_of_ble_eq_true rfl | (simp only [List.map_cons, List.map_nil, cat_rf, J_cat, List.sum_cons, List.sum_nil, cat_lg]; decide)) rfl (n_f ?_)
  refine v_if_ge o.ok (by omega) d_S_at_5 (fun c5 => ?_) (fun c5 => ?_)
  · exfalso; omega
  · refine v_aload_nq (i := 0) o.ok d_S_at_8 rfl rfl ?_
    refine n_s1 o lf_S_11 d_S_at_9 ?_
    refine v_iload_n (i := 1) o.ok d_S_at_12 rfl rfl ?_
    refine n_aD o (by omega) d_S_at_13 ?_
    refine v_goto o.ok d_S_at_14 ?_
    refine n_aret o d_S_at_23 ⟨rfl, rfl, rfl⟩
set_option maxHeartbeats 4000000 in
set_option maxRecDepth 20000 in
theorem c_S_at8 (D : GD) (A : ASt) (p : Int) (N : MSt) (hp : 0 ≤ p ∧ p < 8) (hf : 0 ≤ N 1 0 ∧ N 1 0 ≤ 8) (hl : 0 ≤ pl N p ∧ pl N p < 8) : NF D y_S_at (wsOf y_S_at b_S_at 2 (some (.object "NestedStore$Page"))) (1) [rq A 0 (0), J (p)] A N (rq A 8 p) (N) := by
  refine NCon.of (by decide) (by simp [cat_rf, J_cat]) (Nat.le_of_ble_eq_true rfl) ?_
  intro X g0 o
  show V X (RelN D A N) 0 [(0, rq A 0 (0)), (1, J (p))] [] []
  refine v_aload_nq (i := 0) o.ok d_S_at_0 rfl rfl ?_
  refine v_iload_n (i := 1) o.ok d_S_at_1 rfl rfl ?_
  refine n_cV o 1 (tg := 0) rfl (by decide) (by decide) (by first | rfl | assumption | exact And.intro (by omega) (by omega)) (c_S_place D A p N (by omega) hf) q_S_place lm_S_60 d_S_at_2 (by decide) rfl (by first | exact Nat.le_of_ble_eq_true rfl | (simp only [List.map_cons, List.map_nil, cat_rf, J_cat, List.sum_cons, List.sum_nil, cat_lg]; decide)) rfl (n_f ?_)
  refine v_if_ge o.ok (by omega) d_S_at_5 (fun c5 => ?_) (fun c5 => ?_)
  · refine v_aload_nq (i := 0) o.ok d_S_at_17 rfl rfl ?_
    refine n_s2 o lf_S_15 d_S_at_18 ?_
    refine v_iload_n (i := 1) o.ok d_S_at_21 rfl rfl ?_
    refine n_aR o (by omega) d_S_at_22 ?_
    refine n_aret o d_S_at_23 ⟨rfl, rfl, rfl⟩
  · exfalso; omega
set_option maxHeartbeats 4000000 in
set_option maxRecDepth 20000 in
theorem c_S_there (D : GD) (A : ASt) (k : Int) (N M : MSt) (h : SimP N M) (hk : 0 ≤ k ∧ k ≤ 31) : NF D y_S_there (wsOf y_S_there b_S_there 2 (some .boolean)) (2) [rq A 0 (0), J (k)] A N (J (thr M k)) (N) := by
  refine NCon.of (by decide) (by simp [cat_rf, J_cat]) (Nat.le_of_ble_eq_true rfl) ?_
  intro X g0 o
  show V X (RelN D A N) 0 [(0, rq A 0 (0)), (1, J (k))] [] []
  rcases h.pl (p := k / 4) (by omega) (by omega) with ⟨h1, h2⟩ | ⟨h1, h2⟩
  · have et := h.thD hk h2
    refine v_aload_nq (i := 0) o.ok d_S_there_0 rfl rfl ?_
    refine v_iload_n (i := 1) o.ok d_S_there_1 rfl rfl ?_
    refine v_iconst o.ok d_S_there_2 ?_
    refine v_idiv o.ok d_S_there_3 (by omega) (by omega) ?_
    refine n_cV o 1 (tg := 0) rfl (by decide) (by decide) (by first | rfl | assumption | exact And.intro (by omega) (by omega)) (c_S_at6 D A (k / 4) N (by omega) h.fr h1) q_S_at lm_S_64 d_S_there_4 (by decide) rfl (by first | exact Nat.le_of_ble_eq_true rfl | (simp only [List.map_cons, List.map_nil, cat_rf, J_cat, List.sum_cons, List.sum_nil, cat_lg]; decide)) rfl (n_f ?_)
    refine v_iload_n (i := 1) o.ok d_S_there_7 rfl rfl ?_
    refine n_cV o 2 (tg := 6) rfl (by decide) (by decide) (by first | rfl | assumption | exact And.intro (by omega) (by omega)) (c_P_has6 D A (k / 4) k N (by omega) hk (h.2.2.2.2.1 (k / 4) (by omega) (by omega)).1) q_P_has lm_S_68 d_S_there_8 (by decide) rfl (by first | exact Nat.le_of_ble_eq_true rfl | (simp only [List.map_cons, List.map_nil, cat_rf, J_cat, List.sum_cons, List.sum_nil, cat_lg]; decide)) rfl (n_f ?_)
    refine n_zret o (by first | exact b01_or _ | omega | simp) d_S_there_11 ⟨congrArg J et.symm, rfl, rfl⟩
  · have hfr := h.fr
    have et := h.thR hk h2
    refine v_aload_nq (i := 0) o.ok d_S_there_0 rfl rfl ?_
    refine v_iload_n (i := 1) o.ok d_S_there_1 rfl rfl ?_
    refine v_iconst o.ok d_S_there_2 ?_
    refine v_idiv o.ok d_S_there_3 (by omega) (by omega) ?_
    refine n_cV o 1 (tg := 0) rfl (by decide) (by decide) (by first | rfl | assumption | exact And.intro (by omega) (by omega)) (c_S_at8 D A (k / 4) N (by omega) h.fr (by omega)) q_S_at lm_S_64 d_S_there_4 (by decide) rfl (by first | exact Nat.le_of_ble_eq_true rfl | (simp only [List.map_cons, List.map_nil, cat_rf, J_cat, List.sum_cons, List.sum_nil, cat_lg]; decide)) rfl (n_f ?_)
    refine v_iload_n (i := 1) o.ok d_S_there_7 rfl rfl ?_
    refine n_cV o 2 (tg := 8) rfl (by decide) (by decide) (by first | rfl | assumption | exact And.intro (by omega) (by omega)) (c_P_has8 D A (k / 4) k N (by omega) hk (h.2.2.2.2.2 (k / 4) (by omega) (by omega) h2).1.1) q_P_has lm_S_68 d_S_there_8 (by decide) rfl (by first | exact Nat.le_of_ble_eq_true rfl | (simp only [List.map_cons, List.map_nil, cat_rf, J_cat, List.sum_cons, List.sum_nil, cat_lg]; decide)) rfl (n_f ?_)
    refine n_zret o (by first | exact b01_or _ | omega | simp) d_S_there_11 ⟨congrArg J et.symm, rfl, rfl⟩
set_option maxHeartbeats 4000000 in
set_option maxRecDepth 20000 in
theorem c_S_next (D : GD) (A : ASt) (k : Int) (N M : MSt) (h : SimP N M) (hk : 0 ≤ k ∧ k ≤ 31) : NF D y_S_next (wsOf y_S_next b_S_next 3 (some .int)) (3) [rq A 0 (0), J (k)] A N (J (nxt M k)) (N) := by
  refine NCon.of (by decide) (by simp [cat_rf, J_cat]) (Nat.le_of_ble_eq_true rfl) ?_
  intro X g0 o
  show V X (RelN D A N) 0 [(0, rq A 0 (0)), (1, J (k))] [] []
  have lp : ∀ (f : Nat) (n : Int), 0 ≤ n → n ≤ 32 → 32 ≤ n + f → nxtN M f n = nxt M k → V X (RelN D A N) 4 [(0, rq A 0 0), (1, J k), (2, J n)] [] [] := by
    intro f
    induction f with
    | zero =>
      intro n h0 h1 h2 h3
      refine v_iload_n (i := 2) o.ok d_S_next_4 rfl rfl ?_
      refine v_bipush o.ok d_S_next_5 rfl ?_
      refine v_icmp_ge o.ok (by omega) (by omega) d_S_next_7 (fun c7 => ?_) (fun c7 => ?_)
      · refine v_iload_n (i := 2) o.ok d_S_next_24 rfl rfl ?_
        refine n_iret o d_S_next_25 ⟨congrArg J h3, rfl, rfl⟩
      · exfalso; omega
    | succ f ih =>
      intro n h0 h1 h2 h3
      rw [nxtN] at h3
      refine v_iload_n (i := 2) o.ok d_S_next_4 rfl rfl ?_
      refine v_bipush o.ok d_S_next_5 rfl ?_
      refine v_icmp_ge o.ok (by omega) (by omega) d_S_next_7 (fun c7 => ?_) (fun c7 => ?_)
      · rw [if_neg (by omega)] at h3
        refine v_iload_n (i := 2) o.ok d_S_next_24 rfl rfl ?_
        refine n_iret o d_S_next_25 ⟨congrArg J h3, rfl, rfl⟩
      · refine v_aload_nq (i := 0) o.ok d_S_next_10 rfl rfl ?_
        refine v_iload_n (i := 2) o.ok d_S_next_11 rfl rfl ?_
        refine n_cV o 1 (tg := 0) rfl (by decide) (by decide) (by first | rfl | assumption | exact And.intro (by omega) (by omega)) (c_S_there D A n N M h (by omega)) q_S_there lm_S_72 d_S_next_12 (by decide) rfl (by first | exact Nat.le_of_ble_eq_true rfl | (simp only [List.map_cons, List.map_nil, cat_rf, J_cat, List.sum_cons, List.sum_nil, cat_lg]; decide)) rfl (n_f ?_)
        first | refine v_ifne_b o.ok d_S_next_15 (fun c15 => ?_) (fun c15 => ?_) | refine v_if_ne o.ok (by have := thr_01 h (k := n) (by omega); omega) d_S_next_15 (fun c15 => ?_) (fun c15 => ?_)
        · rw [if_neg (by omega)] at h3
          refine v_iload_n (i := 2) o.ok d_S_next_24 rfl rfl ?_
          refine n_iret o d_S_next_25 ⟨congrArg J h3, rfl, rfl⟩
        · rw [if_pos (by omega)] at h3
          refine v_iinc (i := 2) (L' := [(0, _), (1, _), (2, _)]) (G' := []) o.ok d_S_next_18 rfl (o.lt (by decide)) rfl rfl ?_
          refine v_goto o.ok d_S_next_21 ?_
          exact ih (n + 1) (by omega) (by omega) (by omega) h3
  refine v_iload_n (i := 1) o.ok d_S_next_0 rfl rfl ?_
  refine v_iconst o.ok d_S_next_1 ?_
  refine v_iadd o.ok d_S_next_2 ?_
  refine v_istore_n (i := 2) (L' := [(0, _), (1, _), (2, _)]) (G' := []) o.ok d_S_next_3 rfl (o.lt (by decide)) rfl rfl ?_
  exact lp 32 (k + 1) (by omega) (by omega) (by omega) rfl

