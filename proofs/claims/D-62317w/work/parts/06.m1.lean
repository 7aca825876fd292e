set_option maxHeartbeats 4000000 in
set_option maxRecDepth 20000 in
theorem c_M_isKey (k : Int) (hk : InR k) : SF y_M_isKey (wsOf y_M_isKey b_M_isKey 1 (some .boolean)) 0 [k] (b01 (0 ≤ k ∧ k ≤ 31)) := by
  refine SCon.of (by decide) (Nat.le_of_ble_eq_true rfl) ?_
  intro X H0 o
  have ok : Ok X b_M_isKey := o.1.1
  show V X (fun H => H = H0) 0 [(0, J (k))] [] []
  refine v_iload_n (i := 0) ok d_M_isKey_0 rfl rfl ?_
  refine v_if_lt ok (by omega) d_M_isKey_1 (fun c1 => ?_) (fun c1 => ?_)
  · refine v_iconst ok d_M_isKey_14 ?_
    refine s_zret o (by first | exact b01_or _ | omega | simp) d_M_isKey_15 (congrArg some (by first | exact (b01_t (by omega)).symm | exact (b01_f (by omega)).symm))
  · refine v_iload_n (i := 0) ok d_M_isKey_4 rfl rfl ?_
    refine v_bipush ok d_M_isKey_5 rfl ?_
    refine v_icmp_gt ok (by omega) (by omega) d_M_isKey_7 (fun c7 => ?_) (fun c7 => ?_)
    · refine v_iconst ok d_M_isKey_14 ?_
      refine s_zret o (by first | exact b01_or _ | omega | simp) d_M_isKey_15 (congrArg some (by first | exact (b01_t (by omega)).symm | exact (b01_f (by omega)).symm))
    · refine v_iconst ok d_M_isKey_10 ?_
      refine v_goto ok d_M_isKey_11 ?_
      refine s_zret o (by first | exact b01_or _ | omega | simp) d_M_isKey_15 (congrArg some (by first | exact (b01_t (by omega)).symm | exact (b01_f (by omega)).symm))
set_option maxHeartbeats 4000000 in
set_option maxRecDepth 20000 in
theorem c_M_isPage (k : Int) (hk : InR k) : SF y_M_isPage (wsOf y_M_isPage b_M_isPage 1 (some .boolean)) 0 [k] (b01 (0 ≤ k ∧ k ≤ 7)) := by
  refine SCon.of (by decide) (Nat.le_of_ble_eq_true rfl) ?_
  intro X H0 o
  have ok : Ok X b_M_isPage := o.1.1
  show V X (fun H => H = H0) 0 [(0, J (k))] [] []
  refine v_iload_n (i := 0) ok d_M_isPage_0 rfl rfl ?_
  refine v_if_lt ok (by omega) d_M_isPage_1 (fun c1 => ?_) (fun c1 => ?_)
  · refine v_iconst ok d_M_isPage_14 ?_
    refine s_zret o (by first | exact b01_or _ | omega | simp) d_M_isPage_15 (congrArg some (by first | exact (b01_t (by omega)).symm | exact (b01_f (by omega)).symm))
  · refine v_iload_n (i := 0) ok d_M_isPage_4 rfl rfl ?_
    refine v_bipush ok d_M_isPage_5 rfl ?_
    refine v_icmp_gt ok (by omega) (by omega) d_M_isPage_7 (fun c7 => ?_) (fun c7 => ?_)
    · refine v_iconst ok d_M_isPage_14 ?_
      refine s_zret o (by first | exact b01_or _ | omega | simp) d_M_isPage_15 (congrArg some (by first | exact (b01_t (by omega)).symm | exact (b01_f (by omega)).symm))
    · refine v_iconst ok d_M_isPage_10 ?_
      refine v_goto ok d_M_isPage_11 ?_
      refine s_zret o (by first | exact b01_or _ | omega | simp) d_M_isPage_15 (congrArg some (by first | exact (b01_t (by omega)).symm | exact (b01_f (by omega)).symm))
set_option maxHeartbeats 4000000 in
set_option maxRecDepth 20000 in
theorem c_M_isThereNow (k : Int) (M : MSt) (hk : 0 ≤ k ∧ k ≤ 31) : MF y_M_isThereNow (wsOf y_M_isThereNow b_M_isThereNow 2 (some .boolean)) 0 [k] M (some (thr M k)) (M) := by
  refine MCon.of (by decide) rfl (Nat.le_of_ble_eq_true rfl) ?_
  intro X E o
  show V X (RelM E M) 0 [(0, .ref (Em.x E)), (1, J (k))] [] []
  refine v_aload_n (i := 0) o.ok d_M_isThereNow_0 rfl rfl ?_
  refine m_geta o 7 (by decide) (by decide) lf_M_29 rfl d_M_isThereNow_1 ?_
  refine v_iload_n (i := 1) o.ok d_M_isThereNow_4 rfl rfl ?_
  refine v_iconst o.ok d_M_isThereNow_5 ?_
  refine v_idiv o.ok d_M_isThereNow_6 (by omega) (by omega) ?_
  refine m_zald o 7 8 rfl rfl (by omega) d_M_isThereNow_7 (fun i7 => ?_)
  first | refine v_ifeq_b o.ok d_M_isThereNow_8 (fun c8 => ?_) (fun c8 => ?_) | refine v_if_eq o.ok (by omega) d_M_isThereNow_8 (fun c8 => ?_) (fun c8 => ?_)
  · refine v_aload_n (i := 0) o.ok d_M_isThereNow_20 rfl rfl ?_
    refine m_geta o 1 (by decide) (by decide) lf_M_7 rfl d_M_isThereNow_21 ?_
    refine v_iload_n (i := 1) o.ok d_M_isThereNow_24 rfl rfl ?_
    refine m_zald o 1 32 rfl rfl (by omega) d_M_isThereNow_25 (fun i25 => ?_)
    refine m_zret o (by first | exact b01_or _ | omega | simp) d_M_isThereNow_26 ⟨congrArg some (by unfold thr; first | rw [if_pos (by omega)] | rw [if_neg (by omega)]), rfl⟩
  · refine v_aload_n (i := 0) o.ok d_M_isThereNow_11 rfl rfl ?_
    refine m_geta o 4 (by decide) (by decide) lf_M_20 rfl d_M_isThereNow_12 ?_
    refine v_iload_n (i := 1) o.ok d_M_isThereNow_15 rfl rfl ?_
    refine m_zald o 4 32 rfl rfl (by omega) d_M_isThereNow_16 (fun i16 => ?_)
    refine v_goto o.ok d_M_isThereNow_17 ?_
    refine m_zret o (by first | exact b01_or _ | omega | simp) d_M_isThereNow_26 ⟨congrArg some (by unfold thr; first | rw [if_pos (by omega)] | rw [if_neg (by omega)]), rfl⟩
set_option maxHeartbeats 4000000 in
set_option maxRecDepth 20000 in
theorem c_M_valueNow (k : Int) (M : MSt) (hk : 0 ≤ k ∧ k ≤ 31) : MF y_M_valueNow (wsOf y_M_valueNow b_M_valueNow 2 (some .int)) 0 [k] M (some (vlw M k)) (M) := by
  refine MCon.of (by decide) rfl (Nat.le_of_ble_eq_true rfl) ?_
  intro X E o
  show V X (RelM E M) 0 [(0, .ref (Em.x E)), (1, J (k))] [] []
  refine v_aload_n (i := 0) o.ok d_M_valueNow_0 rfl rfl ?_
  refine m_geta o 7 (by decide) (by decide) lf_M_29 rfl d_M_valueNow_1 ?_
  refine v_iload_n (i := 1) o.ok d_M_valueNow_4 rfl rfl ?_
  refine v_iconst o.ok d_M_valueNow_5 ?_
  refine v_idiv o.ok d_M_valueNow_6 (by omega) (by omega) ?_
  refine m_zald o 7 8 rfl rfl (by omega) d_M_valueNow_7 (fun i7 => ?_)
  first | refine v_ifeq_b o.ok d_M_valueNow_8 (fun c8 => ?_) (fun c8 => ?_) | refine v_if_eq o.ok (by omega) d_M_valueNow_8 (fun c8 => ?_) (fun c8 => ?_)
  · refine v_aload_n (i := 0) o.ok d_M_valueNow_20 rfl rfl ?_
    refine m_geta o 2 (by decide) (by decide) lf_M_13 rfl d_M_valueNow_21 ?_
    refine v_iload_n (i := 1) o.ok d_M_valueNow_24 rfl rfl ?_
    refine m_iald o 2 32 rfl rfl (by omega) d_M_valueNow_25 (fun i25 => ?_)
    refine m_iret o d_M_valueNow_26 ⟨congrArg some (by unfold vlw; first | rw [if_pos (by omega)] | rw [if_neg (by omega)]), rfl⟩
  · refine v_aload_n (i := 0) o.ok d_M_valueNow_11 rfl rfl ?_
    refine m_geta o 5 (by decide) (by decide) lf_M_23 rfl d_M_valueNow_12 ?_
    refine v_iload_n (i := 1) o.ok d_M_valueNow_15 rfl rfl ?_
    refine m_iald o 5 32 rfl rfl (by omega) d_M_valueNow_16 (fun i16 => ?_)
    refine v_goto o.ok d_M_valueNow_17 ?_
    refine m_iret o d_M_valueNow_26 ⟨congrArg some (by unfold vlw; first | rw [if_pos (by omega)] | rw [if_neg (by omega)]), rfl⟩
set_option maxHeartbeats 4000000 in
set_option maxRecDepth 20000 in
theorem c_M_lsnNow (k : Int) (M : MSt) (hk : 0 ≤ k ∧ k ≤ 7) : MF y_M_lsnNow (wsOf y_M_lsnNow b_M_lsnNow 2 (some .int)) 0 [k] M (some (lsw M k)) (M) := by
  refine MCon.of (by decide) rfl (Nat.le_of_ble_eq_true rfl) ?_
  intro X E o
  show V X (RelM E M) 0 [(0, .ref (Em.x E)), (1, J (k))] [] []
  refine v_aload_n (i := 0) o.ok d_M_lsnNow_0 rfl rfl ?_
  refine m_geta o 7 (by decide) (by decide) lf_M_29 rfl d_M_lsnNow_1 ?_
  refine v_iload_n (i := 1) o.ok d_M_lsnNow_4 rfl rfl ?_
  refine m_zald o 7 8 rfl rfl (by omega) d_M_lsnNow_5 (fun i5 => ?_)
  first | refine v_ifeq_b o.ok d_M_lsnNow_6 (fun c6 => ?_) (fun c6 => ?_) | refine v_if_eq o.ok (by omega) d_M_lsnNow_6 (fun c6 => ?_) (fun c6 => ?_)
  · refine v_aload_n (i := 0) o.ok d_M_lsnNow_18 rfl rfl ?_
    refine m_geta o 3 (by decide) (by decide) lf_M_17 rfl d_M_lsnNow_19 ?_
    refine v_iload_n (i := 1) o.ok d_M_lsnNow_22 rfl rfl ?_
    refine m_iald o 3 8 rfl rfl (by omega) d_M_lsnNow_23 (fun i23 => ?_)
    refine m_iret o d_M_lsnNow_24 ⟨congrArg some (by unfold lsw; first | rw [if_pos (by omega)] | rw [if_neg (by omega)]), rfl⟩
  · refine v_aload_n (i := 0) o.ok d_M_lsnNow_9 rfl rfl ?_
    refine m_geta o 6 (by decide) (by decide) lf_M_26 rfl d_M_lsnNow_10 ?_
    refine v_iload_n (i := 1) o.ok d_M_lsnNow_13 rfl rfl ?_
    refine m_iald o 6 8 rfl rfl (by omega) d_M_lsnNow_14 (fun i14 => ?_)
    refine v_goto o.ok d_M_lsnNow_15 ?_
    refine m_iret o d_M_lsnNow_24 ⟨congrArg some (by unfold lsw; first | rw [if_pos (by omega)] | rw [if_neg (by omega)]), rfl⟩
set_option maxHeartbeats 4000000 in
set_option maxRecDepth 20000 in
theorem c_M_last (M : MSt) : MF y_M_last (wsOf y_M_last b_M_last 1 (some .int)) 0 [] M (some (lst M)) (M) := by
  refine MCon.of (by decide) rfl (Nat.le_of_ble_eq_true rfl) ?_
  intro X E o
  show V X (RelM E M) 0 [(0, .ref (Em.x E))] [] []
  refine v_aload_n (i := 0) o.ok d_M_last_0 rfl rfl ?_
  refine m_geti o 11 (by decide) rfl lf_M_115 rfl d_M_last_1 (fun i1 => ?_)
  refine v_aload_n (i := 0) o.ok d_M_last_4 rfl rfl ?_
  refine m_geti o 12 (by decide) rfl lf_M_118 rfl d_M_last_5 (fun i5 => ?_)
  refine v_iadd o.ok d_M_last_8 ?_
  refine m_iret o d_M_last_9 ⟨rfl, rfl⟩
set_option maxHeartbeats 4000000 in
set_option maxRecDepth 20000 in
theorem c_M_live (t : Int) (M : MSt) (ht : 0 ≤ t ∧ t < 60) : MF y_M_live (wsOf y_M_live b_M_live 2 (some .boolean)) 0 [t] M (some (b01 (Liv M t))) (M) := by
  refine MCon.of (by decide) rfl (Nat.le_of_ble_eq_true rfl) ?_
  intro X E o
  show V X (RelM E M) 0 [(0, .ref (Em.x E)), (1, J (t))] [] []
  refine v_aload_n (i := 0) o.ok d_M_live_0 rfl rfl ?_
  refine m_geta o 23 (by decide) (by decide) lf_M_62 rfl d_M_live_1 ?_
  refine v_iload_n (i := 1) o.ok d_M_live_4 rfl rfl ?_
  refine m_iald o 23 60 rfl rfl (by omega) d_M_live_5 (fun i5 => ?_)
  refine v_iconst o.ok d_M_live_6 ?_
  refine v_icmp_eq o.ok (by omega) (by omega) d_M_live_7 (fun c7 => ?_) (fun c7 => ?_)
  · refine v_iconst o.ok d_M_live_20 ?_
    refine v_goto o.ok d_M_live_21 ?_
    refine m_zret o (by first | exact b01_or _ | omega | simp) d_M_live_25 ⟨congrArg some (by first | exact (b01_t (by unfold Liv; omega)).symm | exact (b01_f (by unfold Liv; omega)).symm), rfl⟩
  · refine v_aload_n (i := 0) o.ok d_M_live_10 rfl rfl ?_
    refine m_geta o 23 (by decide) (by decide) lf_M_62 rfl d_M_live_11 ?_
    refine v_iload_n (i := 1) o.ok d_M_live_14 rfl rfl ?_
    refine m_iald o 23 60 rfl rfl (by omega) d_M_live_15 (fun i15 => ?_)
    refine v_iconst o.ok d_M_live_16 ?_
    refine v_icmp_ne o.ok (by omega) (by omega) d_M_live_17 (fun c17 => ?_) (fun c17 => ?_)
    · refine v_iconst o.ok d_M_live_24 ?_
      refine m_zret o (by first | exact b01_or _ | omega | simp) d_M_live_25 ⟨congrArg some (by first | exact (b01_t (by unfold Liv; omega)).symm | exact (b01_f (by unfold Liv; omega)).symm), rfl⟩
    · refine v_iconst o.ok d_M_live_20 ?_
      refine v_goto o.ok d_M_live_21 ?_
      refine m_zret o (by first | exact b01_or _ | omega | simp) d_M_live_25 ⟨congrArg some (by first | exact (b01_t (by unfold Liv; omega)).symm | exact (b01_f (by unfold Liv; omega)).symm), rfl⟩
set_option maxHeartbeats 4000000 in
set_option maxRecDepth 20000 in
theorem c_M_is (t : Int) (M : MSt) (ht : InR t) : MF y_M_is (wsOf y_M_is b_M_is 2 (some .boolean)) 0 [t] M (some (b01 (0 ≤ t ∧ t < M 22 0))) (M) := by
  refine MCon.of (by decide) rfl (Nat.le_of_ble_eq_true rfl) ?_
  intro X E o
  show V X (RelM E M) 0 [(0, .ref (Em.x E)), (1, J (t))] [] []
  refine v_iload_n (i := 1) o.ok d_M_is_0 rfl rfl ?_
  refine v_if_lt o.ok (by omega) d_M_is_1 (fun c1 => ?_) (fun c1 => ?_)
  · refine v_iconst o.ok d_M_is_16 ?_
    refine m_zret o (by first | exact b01_or _ | omega | simp) d_M_is_17 ⟨congrArg some (by first | exact (b01_t (by omega)).symm | exact (b01_f (by omega)).symm), rfl⟩
  · refine v_iload_n (i := 1) o.ok d_M_is_4 rfl rfl ?_
    refine v_aload_n (i := 0) o.ok d_M_is_5 rfl rfl ?_
    refine m_geti o 22 (by decide) rfl lf_M_147 rfl d_M_is_6 (fun i6 => ?_)
    refine v_icmp_ge o.ok (by omega) (by omega) d_M_is_9 (fun c9 => ?_) (fun c9 => ?_)
    · refine v_iconst o.ok d_M_is_16 ?_
      refine m_zret o (by first | exact b01_or _ | omega | simp) d_M_is_17 ⟨congrArg some (by first | exact (b01_t (by omega)).symm | exact (b01_f (by omega)).symm), rfl⟩
    · refine v_iconst o.ok d_M_is_12 ?_
      refine v_goto o.ok d_M_is_13 ?_
      refine m_zret o (by first | exact b01_or _ | omega | simp) d_M_is_17 ⟨congrArg some (by first | exact (b01_t (by omega)).symm | exact (b01_f (by omega)).symm), rfl⟩
set_option maxHeartbeats 4000000 in
set_option maxRecDepth 20000 in
theorem c_M_active (t : Int) (M : MSt) (ht : InR t) (hm : M 22 0 ≤ 60) : MF y_M_active (wsOf y_M_active b_M_active 2 (some .boolean)) 1 [t] M (some (b01 (Act M t))) (M) := by
  refine MCon.of (by decide) rfl (Nat.le_of_ble_eq_true rfl) ?_
  intro X E o
  show V X (RelM E M) 0 [(0, .ref (Em.x E)), (1, J (t))] [] []
  refine v_aload_n (i := 0) o.ok d_M_active_0 rfl rfl ?_
  refine v_iload_n (i := 1) o.ok d_M_active_1 rfl rfl ?_
  refine m_cf o (c_M_is t M ht) q_M_is lm_M_159 d_M_active_2 (by decide) rfl (Nat.le_of_ble_eq_true rfl) rfl ?_
  first | refine v_ifeq_b o.ok d_M_active_5 (fun c5 => ?_) (fun c5 => ?_) | refine v_if_eq o.ok (by omega) d_M_active_5 (fun c5 => ?_) (fun c5 => ?_)
  · refine v_iconst o.ok d_M_active_22 ?_
    refine m_zret o (by first | exact b01_or _ | omega | simp) d_M_active_23 ⟨congrArg some (by first | exact (b01_t (by unfold Act; omega)).symm | exact (b01_f (by unfold Act; omega)).symm), rfl⟩
  · refine v_aload_n (i := 0) o.ok d_M_active_8 rfl rfl ?_
    refine m_geta o 23 (by decide) (by decide) lf_M_62 rfl d_M_active_9 ?_
    refine v_iload_n (i := 1) o.ok d_M_active_12 rfl rfl ?_
    refine m_iald o 23 60 rfl rfl (by omega) d_M_active_13 (fun i13 => ?_)
    refine v_iconst o.ok d_M_active_14 ?_
    refine v_icmp_ne o.ok (by omega) (by omega) d_M_active_15 (fun c15 => ?_) (fun c15 => ?_)
    · refine v_iconst o.ok d_M_active_22 ?_
      refine m_zret o (by first | exact b01_or _ | omega | simp) d_M_active_23 ⟨congrArg some (by first | exact (b01_t (by unfold Act; omega)).symm | exact (b01_f (by unfold Act; omega)).symm), rfl⟩
    · refine v_iconst o.ok d_M_active_18 ?_
      refine v_goto o.ok d_M_active_19 ?_
      refine m_zret o (by first | exact b01_or _ | omega | simp) d_M_active_23 ⟨congrArg some (by first | exact (b01_t (by unfold Act; omega)).symm | exact (b01_f (by unfold Act; omega)).symm), rfl⟩
set_option maxHeartbeats 4000000 in
set_option maxRecDepth 20000 in
theorem c_M_top (t : Int) (M : MSt) (hp : ParOk M) (ht : 0 ≤ t ∧ t < M 22 0) : MF y_M_top (wsOf y_M_top b_M_top 4 (some .int)) 0 [t] M (some (top M t)) (M) := by
  refine MCon.of (by decide) rfl (Nat.le_of_ble_eq_true rfl) ?_
  intro X E o
  show V X (RelM E M) 0 [(0, .ref (Em.x E)), (1, J (t))] [] []
  have lp : ∀ (n : Nat) (x k : Int), 0 ≤ k → k + n = 4 → 0 ≤ x → x ≤ t → topN M n x = top M t → V X (RelM E M) 4 [(0, .ref (Em.x E)), (1, J t), (2, J x), (3, J k)] [] [] := by
    intro n
    induction n with
    | zero =>
      intro x k h0 h1 h2 h3 h4
      have hm := hp.2.1
      refine v_iload_n (i := 3) o.ok d_M_top_4 rfl rfl ?_
      refine v_iconst o.ok d_M_top_5 ?_
      refine v_icmp_ge o.ok (by omega) (by omega) d_M_top_6 (fun c6 => ?_) (fun c6 => ?_)
      · refine v_iload_n (i := 2) o.ok d_M_top_31 rfl rfl ?_
        refine m_iret o d_M_top_32 ⟨congrArg some h4, rfl⟩
      · exfalso; omega
    | succ n ih =>
      intro x k h0 h1 h2 h3 h4
      have hm := hp.2.1
      have hq := hp.2.2 x (by omega) (by omega)
      unfold topN at h4
      refine v_iload_n (i := 3) o.ok d_M_top_4 rfl rfl ?_
      refine v_iconst o.ok d_M_top_5 ?_
      refine v_icmp_ge o.ok (by omega) (by omega) d_M_top_6 (fun c6 => ?_) (fun c6 => ?_)
      · exfalso; omega
      · refine v_aload_n (i := 0) o.ok d_M_top_9 rfl rfl ?_
        refine m_geta o 24 (by decide) (by decide) lf_M_65 rfl d_M_top_10 ?_
        refine v_iload_n (i := 2) o.ok d_M_top_13 rfl rfl ?_
        refine m_iald o 24 60 rfl rfl (by omega) d_M_top_14 (fun i14 => ?_)
        refine v_if_lt o.ok (by omega) d_M_top_15 (fun c15 => ?_) (fun c15 => ?_)
        · refine v_iload_n (i := 2) o.ok d_M_top_31 rfl rfl ?_
          refine m_iret o d_M_top_32 ⟨congrArg some (by rw [if_neg (by omega)] at h4; exact h4), rfl⟩
        · refine v_aload_n (i := 0) o.ok d_M_top_18 rfl rfl ?_
          refine m_geta o 24 (by decide) (by decide) lf_M_65 rfl d_M_top_19 ?_
          refine v_iload_n (i := 2) o.ok d_M_top_22 rfl rfl ?_
          refine m_iald o 24 60 rfl rfl (by omega) d_M_top_23 (fun i23 => ?_)
          refine v_istore_n (i := 2) (L' := [(0, _), (1, _), (2, _), (3, _)]) (G' := []) o.ok d_M_top_24 rfl (o.lt (by decide)) rfl rfl ?_
          refine v_iinc (i := 3) (L' := [(0, _), (1, _), (2, _), (3, _)]) (G' := []) o.ok d_M_top_25 rfl (o.lt (by decide)) rfl rfl ?_
          refine v_goto o.ok d_M_top_28 ?_
          exact ih _ _ (by omega) (by omega) (by omega) (by omega) (by rw [if_pos (by omega)] at h4; exact h4)
  refine v_iload_n (i := 1) o.ok d_M_top_0 rfl rfl ?_
  refine v_istore_n (i := 2) (L' := [(0, _), (1, _), (2, _)]) (G' := []) o.ok d_M_top_1 rfl (o.lt (by decide)) rfl rfl ?_
  refine v_iconst o.ok d_M_top_2 ?_
  refine v_istore_n (i := 3) (L' := [(0, _), (1, _), (2, _), (3, _)]) (G' := []) o.ok d_M_top_3 rfl (o.lt (by decide)) rfl rfl ?_
  exact lp 4 t 0 (by omega) (by omega) ht.1 (by omega) rfl

