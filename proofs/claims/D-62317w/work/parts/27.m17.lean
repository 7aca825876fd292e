noncomputable def r_ask (M : MSt) (ok : Prop) (t w a b : Int) : Int × MSt := pick (Act M t ∧ ok) (pick (Bsy M t) (-4, M) (req M t w a b)) (-1, M)
noncomputable def r_resume (M : MSt) (t : Int) : Int × MSt := pick ((0 ≤ t ∧ t < M 22 0) ∧ M 23 t = 2) (req M t (M 27 t) (M 28 t) (M 29 t)) (-1, M)
def Wts (M : MSt) (t u : Int) : Prop := (0 ≤ t ∧ t < M 22 0) ∧ (0 ≤ u ∧ u < M 22 0) ∧ M 23 t = 2 ∧ 0 ≤ lck M t ∧ Bar M u t (lck M t) (lckM M t)
set_option maxHeartbeats 4000000 in
set_option maxRecDepth 20000 in
theorem c_M_ask (t w a b : Int) (M : MSt) (hf : WF M) (hA : Act M t) (hq : ReqOk w a b) (hb : InR b) : MI y_M_ask (wsOf y_M_ask b_M_ask 5 (some .int)) 7 [t, w, a, b] M (fun z M' => z = (pick (Bsy M t) (-4, M) (req M t w a b)).1 ∧ ∃ Z, M' = sset (pick (Bsy M t) (-4, M) (req M t w a b)).2 Z) := by
  refine MCon.of (by decide) rfl (Nat.le_of_ble_eq_true rfl) ?_
  intro X E o
  show V X (RelM E M) 0 [(0, .ref (Em.x E)), (1, J (t)), (2, J (w)), (3, J (a)), (4, J (b))] [] []
  have hm := hf.many
  have ht := hA.1
  have cr := c_M_request t w a b M M hf ht (Or.inl hA.2) hq hb
  rw [sset_self] at cr
  refine v_aload_n (i := 0) o.ok d_M_ask_0 rfl rfl ?_
  refine v_iload_n (i := 1) o.ok d_M_ask_1 rfl rfl ?_
  refine m_cf o (c_M_busy t M (by omega) hm) q_M_busy lm_M_233 d_M_ask_2 (by decide) rfl (Nat.le_of_ble_eq_true rfl) rfl ?_
  first | refine v_ifeq_b o.ok d_M_ask_5 (fun c5 => ?_) (fun c5 => ?_) | refine v_if_eq o.ok (by omega) d_M_ask_5 (fun c5 => ?_) (fun c5 => ?_)
  · refine v_aload_n (i := 0) o.ok d_M_ask_13 rfl rfl ?_
    refine v_iload_n (i := 1) o.ok d_M_ask_14 rfl rfl ?_
    refine v_iload_n (i := 2) o.ok d_M_ask_15 rfl rfl ?_
    refine v_iload_n (i := 3) o.ok d_M_ask_16 rfl rfl ?_
    refine v_iload (i := 4) o.ok d_M_ask_17 rfl ?_
    refine m_ci o (cr) q_M_request lm_M_236 d_M_ask_19 (by decide) rfl (Nat.le_of_ble_eq_true rfl) rfl (fun z19 M19 h19 => ?_)
    obtain ⟨e19, Z19, rfl⟩ := h19
    refine m_iret o d_M_ask_22 ?_
    first
      | (have h : Bsy M t := by assumption
         exact ⟨_, rfl, by rw [pick_t h], M, by rw [pick_t h]; exact (sset_self M).symm⟩)
      | (have h : ¬ Bsy M t := by assumption
         exact ⟨_, rfl, by rw [pick_f h]; exact e19, Z19, by rw [pick_f h]⟩)
  · refine v_bipush o.ok d_M_ask_8 rfl ?_
    refine v_goto o.ok d_M_ask_10 ?_
    refine m_iret o d_M_ask_22 ?_
    first
      | (have h : Bsy M t := by assumption
         exact ⟨_, rfl, by rw [pick_t h], M, by rw [pick_t h]; exact (sset_self M).symm⟩)
      | (have h : ¬ Bsy M t := by assumption
         exact ⟨_, rfl, by rw [pick_f h]; exact e19, Z19, by rw [pick_f h]⟩)
set_option maxHeartbeats 4000000 in
set_option maxRecDepth 20000 in
theorem c_M_get (t k : Int) (M : MSt) (hf : WF M) (ht : InR t) (hk : InR k) : MI y_M_get (wsOf y_M_get b_M_get 3 (some .int)) 8 [t, k] M (fun z M' => z = (r_ask M (0 ≤ k ∧ k ≤ 31) t 1 k 0).1 ∧ ∃ Z, M' = sset (r_ask M (0 ≤ k ∧ k ≤ 31) t 1 k 0).2 Z) := by
  refine MCon.of (by decide) rfl (Nat.le_of_ble_eq_true rfl) ?_
  intro X E o
  show V X (RelM E M) 0 [(0, .ref (Em.x E)), (1, J (t)), (2, J (k))] [] []
  have hm := hf.many
  refine v_aload_n (i := 0) o.ok d_M_get_0 rfl rfl ?_
  refine v_iload_n (i := 1) o.ok d_M_get_1 rfl rfl ?_
  refine m_cf o (c_M_active t M ht hm.2) q_M_active lm_M_162 d_M_get_2 (by decide) rfl (Nat.le_of_ble_eq_true rfl) rfl ?_
  first | refine v_ifeq_b o.ok d_M_get_5 (fun c5 => ?_) (fun c5 => ?_) | refine v_if_eq o.ok (by omega) d_M_get_5 (fun c5 => ?_) (fun c5 => ?_)
  · refine v_iconst o.ok d_M_get_15 ?_
    refine v_goto o.ok d_M_get_16 ?_
    refine m_iret o d_M_get_27 ?_
    first
      | (have h : Act M t ∧ (0 ≤ k ∧ k ≤ 31) := ⟨by assumption, by assumption⟩
         exact ⟨_, rfl, by unfold r_ask; rw [pick_t h]; exact e24, Z24, by unfold r_ask; rw [pick_t h]⟩)
      | (have h : ¬ (Act M t ∧ (0 ≤ k ∧ k ≤ 31)) := fun q => by first | exact absurd q.1 (by assumption) | exact absurd q.2 (by assumption)
         exact ⟨_, rfl, by unfold r_ask; rw [pick_f h], M, by unfold r_ask; rw [pick_f h]; exact (sset_self M).symm⟩)
  · refine v_iload_n (i := 2) o.ok d_M_get_8 rfl rfl ?_
    refine m_cs o (c_M_isKey k hk) q_M_isKey lm_M_239 d_M_get_9 (by decide) rfl (Nat.le_of_ble_eq_true rfl) rfl ?_
    first | refine v_ifne_b o.ok d_M_get_12 (fun c12 => ?_) (fun c12 => ?_) | refine v_if_ne o.ok (by omega) d_M_get_12 (fun c12 => ?_) (fun c12 => ?_)
    · refine v_aload_n (i := 0) o.ok d_M_get_19 rfl rfl ?_
      refine v_iload_n (i := 1) o.ok d_M_get_20 rfl rfl ?_
      refine v_iconst o.ok d_M_get_21 ?_
      refine v_iload_n (i := 2) o.ok d_M_get_22 rfl rfl ?_
      refine v_iconst o.ok d_M_get_23 ?_
      refine m_ci o (c_M_ask t 1 k 0 M hf (by assumption) (Or.inl ⟨Or.inl rfl, by assumption⟩) (by decide)) q_M_ask lm_M_242 d_M_get_24 (by decide) rfl (Nat.le_of_ble_eq_true rfl) rfl (fun z24 M24 h24 => ?_)
      obtain ⟨e24, Z24, rfl⟩ := h24
      refine m_iret o d_M_get_27 ?_
      first
        | (have h : Act M t ∧ (0 ≤ k ∧ k ≤ 31) := ⟨by assumption, by assumption⟩
           exact ⟨_, rfl, by unfold r_ask; rw [pick_t h]; exact e24, Z24, by unfold r_ask; rw [pick_t h]⟩)
        | (have h : ¬ (Act M t ∧ (0 ≤ k ∧ k ≤ 31)) := fun q => by first | exact absurd q.1 (by assumption) | exact absurd q.2 (by assumption)
           exact ⟨_, rfl, by unfold r_ask; rw [pick_f h], M, by unfold r_ask; rw [pick_f h]; exact (sset_self M).symm⟩)
    · refine v_iconst o.ok d_M_get_15 ?_
      refine v_goto o.ok d_M_get_16 ?_
      refine m_iret o d_M_get_27 ?_
      first
        | (have h : Act M t ∧ (0 ≤ k ∧ k ≤ 31) := ⟨by assumption, by assumption⟩
           exact ⟨_, rfl, by unfold r_ask; rw [pick_t h]; exact e24, Z24, by unfold r_ask; rw [pick_t h]⟩)
        | (have h : ¬ (Act M t ∧ (0 ≤ k ∧ k ≤ 31)) := fun q => by first | exact absurd q.1 (by assumption) | exact absurd q.2 (by assumption)
           exact ⟨_, rfl, by unfold r_ask; rw [pick_f h], M, by unfold r_ask; rw [pick_f h]; exact (sset_self M).symm⟩)
set_option maxHeartbeats 4000000 in
set_option maxRecDepth 20000 in
theorem c_M_put (t k v : Int) (M : MSt) (hf : WF M) (ht : InR t) (hk : InR k) (hv : InR v) : MI y_M_put (wsOf y_M_put b_M_put 4 (some .int)) 8 [t, k, v] M (fun z M' => z = (r_ask M (0 ≤ k ∧ k ≤ 31) t 2 k v).1 ∧ ∃ Z, M' = sset (r_ask M (0 ≤ k ∧ k ≤ 31) t 2 k v).2 Z) := by
  refine MCon.of (by decide) rfl (Nat.le_of_ble_eq_true rfl) ?_
  intro X E o
  show V X (RelM E M) 0 [(0, .ref (Em.x E)), (1, J (t)), (2, J (k)), (3, J (v))] [] []
  have hm := hf.many
  refine v_aload_n (i := 0) o.ok d_M_put_0 rfl rfl ?_
  refine v_iload_n (i := 1) o.ok d_M_put_1 rfl rfl ?_
  refine m_cf o (c_M_active t M ht hm.2) q_M_active lm_M_162 d_M_put_2 (by decide) rfl (Nat.le_of_ble_eq_true rfl) rfl ?_
  first | refine v_ifeq_b o.ok d_M_put_5 (fun c5 => ?_) (fun c5 => ?_) | refine v_if_eq o.ok (by omega) d_M_put_5 (fun c5 => ?_) (fun c5 => ?_)
  · refine v_iconst o.ok d_M_put_15 ?_
    refine v_goto o.ok d_M_put_16 ?_
    refine m_iret o d_M_put_27 ?_
    first
      | (have h : Act M t ∧ (0 ≤ k ∧ k ≤ 31) := ⟨by assumption, by assumption⟩
         exact ⟨_, rfl, by unfold r_ask; rw [pick_t h]; exact e24, Z24, by unfold r_ask; rw [pick_t h]⟩)
      | (have h : ¬ (Act M t ∧ (0 ≤ k ∧ k ≤ 31)) := fun q => by first | exact absurd q.1 (by assumption) | exact absurd q.2 (by assumption)
         exact ⟨_, rfl, by unfold r_ask; rw [pick_f h], M, by unfold r_ask; rw [pick_f h]; exact (sset_self M).symm⟩)
  · refine v_iload_n (i := 2) o.ok d_M_put_8 rfl rfl ?_
    refine m_cs o (c_M_isKey k hk) q_M_isKey lm_M_239 d_M_put_9 (by decide) rfl (Nat.le_of_ble_eq_true rfl) rfl ?_
    first | refine v_ifne_b o.ok d_M_put_12 (fun c12 => ?_) (fun c12 => ?_) | refine v_if_ne o.ok (by omega) d_M_put_12 (fun c12 => ?_) (fun c12 => ?_)
    · refine v_aload_n (i := 0) o.ok d_M_put_19 rfl rfl ?_
      refine v_iload_n (i := 1) o.ok d_M_put_20 rfl rfl ?_
      refine v_iconst o.ok d_M_put_21 ?_
      refine v_iload_n (i := 2) o.ok d_M_put_22 rfl rfl ?_
      refine v_iload_n (i := 3) o.ok d_M_put_23 rfl rfl ?_
      refine m_ci o (c_M_ask t 2 k v M hf (by assumption) (Or.inl ⟨Or.inr (Or.inl rfl), by assumption⟩) hv) q_M_ask lm_M_242 d_M_put_24 (by decide) rfl (Nat.le_of_ble_eq_true rfl) rfl (fun z24 M24 h24 => ?_)
      obtain ⟨e24, Z24, rfl⟩ := h24
      refine m_iret o d_M_put_27 ?_
      first
        | (have h : Act M t ∧ (0 ≤ k ∧ k ≤ 31) := ⟨by assumption, by assumption⟩
           exact ⟨_, rfl, by unfold r_ask; rw [pick_t h]; exact e24, Z24, by unfold r_ask; rw [pick_t h]⟩)
        | (have h : ¬ (Act M t ∧ (0 ≤ k ∧ k ≤ 31)) := fun q => by first | exact absurd q.1 (by assumption) | exact absurd q.2 (by assumption)
           exact ⟨_, rfl, by unfold r_ask; rw [pick_f h], M, by unfold r_ask; rw [pick_f h]; exact (sset_self M).symm⟩)
    · refine v_iconst o.ok d_M_put_15 ?_
      refine v_goto o.ok d_M_put_16 ?_
      refine m_iret o d_M_put_27 ?_
      first
        | (have h : Act M t ∧ (0 ≤ k ∧ k ≤ 31) := ⟨by assumption, by assumption⟩
           exact ⟨_, rfl, by unfold r_ask; rw [pick_t h]; exact e24, Z24, by unfold r_ask; rw [pick_t h]⟩)
        | (have h : ¬ (Act M t ∧ (0 ≤ k ∧ k ≤ 31)) := fun q => by first | exact absurd q.1 (by assumption) | exact absurd q.2 (by assumption)
           exact ⟨_, rfl, by unfold r_ask; rw [pick_f h], M, by unfold r_ask; rw [pick_f h]; exact (sset_self M).symm⟩)
set_option maxHeartbeats 4000000 in
set_option maxRecDepth 20000 in
theorem c_M_delete (t k : Int) (M : MSt) (hf : WF M) (ht : InR t) (hk : InR k) : MI y_M_delete (wsOf y_M_delete b_M_delete 3 (some .int)) 8 [t, k] M (fun z M' => z = (r_ask M (0 ≤ k ∧ k ≤ 31) t 3 k 0).1 ∧ ∃ Z, M' = sset (r_ask M (0 ≤ k ∧ k ≤ 31) t 3 k 0).2 Z) := by
  refine MCon.of (by decide) rfl (Nat.le_of_ble_eq_true rfl) ?_
  intro X E o
  show V X (RelM E M) 0 [(0, .ref (Em.x E)), (1, J (t)), (2, J (k))] [] []
  have hm := hf.many
  refine v_aload_n (i := 0) o.ok d_M_delete_0 rfl rfl ?_
  refine v_iload_n (i := 1) o.ok d_M_delete_1 rfl rfl ?_
  refine m_cf o (c_M_active t M ht hm.2) q_M_active lm_M_162 d_M_delete_2 (by decide) rfl (Nat.le_of_ble_eq_true rfl) rfl ?_
  first | refine v_ifeq_b o.ok d_M_delete_5 (fun c5 => ?_) (fun c5 => ?_) | refine v_if_eq o.ok (by omega) d_M_delete_5 (fun c5 => ?_) (fun c5 => ?_)
  · refine v_iconst o.ok d_M_delete_15 ?_
    refine v_goto o.ok d_M_delete_16 ?_
    refine m_iret o d_M_delete_27 ?_
    first
      | (have h : Act M t ∧ (0 ≤ k ∧ k ≤ 31) := ⟨by assumption, by assumption⟩
         exact ⟨_, rfl, by unfold r_ask; rw [pick_t h]; exact e24, Z24, by unfold r_ask; rw [pick_t h]⟩)
      | (have h : ¬ (Act M t ∧ (0 ≤ k ∧ k ≤ 31)) := fun q => by first | exact absurd q.1 (by assumption) | exact absurd q.2 (by assumption)
         exact ⟨_, rfl, by unfold r_ask; rw [pick_f h], M, by unfold r_ask; rw [pick_f h]; exact (sset_self M).symm⟩)
  · refine v_iload_n (i := 2) o.ok d_M_delete_8 rfl rfl ?_
    refine m_cs o (c_M_isKey k hk) q_M_isKey lm_M_239 d_M_delete_9 (by decide) rfl (Nat.le_of_ble_eq_true rfl) rfl ?_
    first | refine v_ifne_b o.ok d_M_delete_12 (fun c12 => ?_) (fun c12 => ?_) | refine v_if_ne o.ok (by omega) d_M_delete_12 (fun c12 => ?_) (fun c12 => ?_)
    · refine v_aload_n (i := 0) o.ok d_M_delete_19 rfl rfl ?_
      refine v_iload_n (i := 1) o.ok d_M_delete_20 rfl rfl ?_
      refine v_iconst o.ok d_M_delete_21 ?_
      refine v_iload_n (i := 2) o.ok d_M_delete_22 rfl rfl ?_
      refine v_iconst o.ok d_M_delete_23 ?_
      refine m_ci o (c_M_ask t 3 k 0 M hf (by assumption) (Or.inl ⟨Or.inr (Or.inr rfl), by assumption⟩) (by decide)) q_M_ask lm_M_242 d_M_delete_24 (by decide) rfl (Nat.le_of_ble_eq_true rfl) rfl (fun z24 M24 h24 => ?_)
      obtain ⟨e24, Z24, rfl⟩ := h24
      refine m_iret o d_M_delete_27 ?_
      first
        | (have h : Act M t ∧ (0 ≤ k ∧ k ≤ 31) := ⟨by assumption, by assumption⟩
           exact ⟨_, rfl, by unfold r_ask; rw [pick_t h]; exact e24, Z24, by unfold r_ask; rw [pick_t h]⟩)
        | (have h : ¬ (Act M t ∧ (0 ≤ k ∧ k ≤ 31)) := fun q => by first | exact absurd q.1 (by assumption) | exact absurd q.2 (by assumption)
           exact ⟨_, rfl, by unfold r_ask; rw [pick_f h], M, by unfold r_ask; rw [pick_f h]; exact (sset_self M).symm⟩)
    · refine v_iconst o.ok d_M_delete_15 ?_
      refine v_goto o.ok d_M_delete_16 ?_
      refine m_iret o d_M_delete_27 ?_
      first
        | (have h : Act M t ∧ (0 ≤ k ∧ k ≤ 31) := ⟨by assumption, by assumption⟩
           exact ⟨_, rfl, by unfold r_ask; rw [pick_t h]; exact e24, Z24, by unfold r_ask; rw [pick_t h]⟩)
        | (have h : ¬ (Act M t ∧ (0 ≤ k ∧ k ≤ 31)) := fun q => by first | exact absurd q.1 (by assumption) | exact absurd q.2 (by assumption)
           exact ⟨_, rfl, by unfold r_ask; rw [pick_f h], M, by unfold r_ask; rw [pick_f h]; exact (sset_self M).symm⟩)
set_option maxHeartbeats 4000000 in
set_option maxRecDepth 20000 in
theorem c_M_scan (t a b : Int) (M : MSt) (hf : WF M) (ht : InR t) (ha : InR a) (hb : InR b) : MI y_M_scan (wsOf y_M_scan b_M_scan 4 (some .int)) 8 [t, a, b] M (fun z M' => z = (r_ask M (0 ≤ a ∧ a ≤ b ∧ b ≤ 31) t 4 a b).1 ∧ ∃ Z, M' = sset (r_ask M (0 ≤ a ∧ a ≤ b ∧ b ≤ 31) t 4 a b).2 Z) := by
  refine MCon.of (by decide) rfl (Nat.le_of_ble_eq_true rfl) ?_
  intro X E o
  show V X (RelM E M) 0 [(0, .ref (Em.x E)), (1, J (t)), (2, J (a)), (3, J (b))] [] []
  have hm := hf.many
  refine v_aload_n (i := 0) o.ok d_M_scan_0 rfl rfl ?_
  refine v_iload_n (i := 1) o.ok d_M_scan_1 rfl rfl ?_
  refine m_cf o (c_M_active t M ht hm.2) q_M_active lm_M_162 d_M_scan_2 (by decide) rfl (Nat.le_of_ble_eq_true rfl) rfl ?_
  first | refine v_ifeq_b o.ok d_M_scan_5 (fun c5 => ?_) (fun c5 => ?_) | refine v_if_eq o.ok (by omega) d_M_scan_5 (fun c5 => ?_) (fun c5 => ?_)
  · refine v_iconst o.ok d_M_scan_27 ?_
    refine v_goto o.ok d_M_scan_28 ?_
    refine m_iret o d_M_scan_39 ?_
    first
      | (have h : Act M t ∧ (0 ≤ a ∧ a ≤ b ∧ b ≤ 31) := ⟨by assumption, by omega⟩
         exact ⟨_, rfl, by unfold r_ask; rw [pick_t h]; exact e36, Z36, by unfold r_ask; rw [pick_t h]⟩)
      | (have h : ¬ (Act M t ∧ (0 ≤ a ∧ a ≤ b ∧ b ≤ 31)) := fun q => by first | exact absurd q.1 (by assumption) | (have := q.2; omega)
         exact ⟨_, rfl, by unfold r_ask; rw [pick_f h], M, by unfold r_ask; rw [pick_f h]; exact (sset_self M).symm⟩)
  · refine v_iload_n (i := 2) o.ok d_M_scan_8 rfl rfl ?_
    refine m_cs o (c_M_isKey a ha) q_M_isKey lm_M_239 d_M_scan_9 (by decide) rfl (Nat.le_of_ble_eq_true rfl) rfl ?_
    first | refine v_ifeq_b o.ok d_M_scan_12 (fun c12 => ?_) (fun c12 => ?_) | refine v_if_eq o.ok (by omega) d_M_scan_12 (fun c12 => ?_) (fun c12 => ?_)
    · refine v_iconst o.ok d_M_scan_27 ?_
      refine v_goto o.ok d_M_scan_28 ?_
      refine m_iret o d_M_scan_39 ?_
      first
        | (have h : Act M t ∧ (0 ≤ a ∧ a ≤ b ∧ b ≤ 31) := ⟨by assumption, by omega⟩
           exact ⟨_, rfl, by unfold r_ask; rw [pick_t h]; exact e36, Z36, by unfold r_ask; rw [pick_t h]⟩)
        | (have h : ¬ (Act M t ∧ (0 ≤ a ∧ a ≤ b ∧ b ≤ 31)) := fun q => by first | exact absurd q.1 (by assumption) | (have := q.2; omega)
           exact ⟨_, rfl, by unfold r_ask; rw [pick_f h], M, by unfold r_ask; rw [pick_f h]; exact (sset_self M).symm⟩)
    · refine v_iload_n (i := 3) o.ok d_M_scan_15 rfl rfl ?_
      refine m_cs o (c_M_isKey b hb) q_M_isKey lm_M_239 d_M_scan_16 (by decide) rfl (Nat.le_of_ble_eq_true rfl) rfl ?_
      first | refine v_ifeq_b o.ok d_M_scan_19 (fun c19 => ?_) (fun c19 => ?_) | refine v_if_eq o.ok (by omega) d_M_scan_19 (fun c19 => ?_) (fun c19 => ?_)
      · refine v_iconst o.ok d_M_scan_27 ?_
        refine v_goto o.ok d_M_scan_28 ?_
        refine m_iret o d_M_scan_39 ?_
        first
          | (have h : Act M t ∧ (0 ≤ a ∧ a ≤ b ∧ b ≤ 31) := ⟨by assumption, by omega⟩
             exact ⟨_, rfl, by unfold r_ask; rw [pick_t h]; exact e36, Z36, by unfold r_ask; rw [pick_t h]⟩)
          | (have h : ¬ (Act M t ∧ (0 ≤ a ∧ a ≤ b ∧ b ≤ 31)) := fun q => by first | exact absurd q.1 (by assumption) | (have := q.2; omega)
             exact ⟨_, rfl, by unfold r_ask; rw [pick_f h], M, by unfold r_ask; rw [pick_f h]; exact (sset_self M).symm⟩)
      · refine v_iload_n (i := 2) o.ok d_M_scan_22 rfl rfl ?_
        refine v_iload_n (i := 3) o.ok d_M_scan_23 rfl rfl ?_
        refine v_icmp_le o.ok (by omega) (by omega) d_M_scan_24 (fun c24 => ?_) (fun c24 => ?_)
        · refine v_aload_n (i := 0) o.ok d_M_scan_31 rfl rfl ?_
          refine v_iload_n (i := 1) o.ok d_M_scan_32 rfl rfl ?_
          refine v_iconst o.ok d_M_scan_33 ?_
          refine v_iload_n (i := 2) o.ok d_M_scan_34 rfl rfl ?_
          refine v_iload_n (i := 3) o.ok d_M_scan_35 rfl rfl ?_
          refine m_ci o (c_M_ask t 4 a b M hf (by assumption) (Or.inr ⟨rfl, by omega, by omega, by omega⟩) hb) q_M_ask lm_M_242 d_M_scan_36 (by decide) rfl (Nat.le_of_ble_eq_true rfl) rfl (fun z36 M36 h36 => ?_)
          obtain ⟨e36, Z36, rfl⟩ := h36
          refine m_iret o d_M_scan_39 ?_
          first
            | (have h : Act M t ∧ (0 ≤ a ∧ a ≤ b ∧ b ≤ 31) := ⟨by assumption, by omega⟩
               exact ⟨_, rfl, by unfold r_ask; rw [pick_t h]; exact e36, Z36, by unfold r_ask; rw [pick_t h]⟩)
            | (have h : ¬ (Act M t ∧ (0 ≤ a ∧ a ≤ b ∧ b ≤ 31)) := fun q => by first | exact absurd q.1 (by assumption) | (have := q.2; omega)
               exact ⟨_, rfl, by unfold r_ask; rw [pick_f h], M, by unfold r_ask; rw [pick_f h]; exact (sset_self M).symm⟩)
        · refine v_iconst o.ok d_M_scan_27 ?_
          refine v_goto o.ok d_M_scan_28 ?_
          refine m_iret o d_M_scan_39 ?_
          first
            | (have h : Act M t ∧ (0 ≤ a ∧ a ≤ b ∧ b ≤ 31) := ⟨by assumption, by omega⟩
               exact ⟨_, rfl, by unfold r_ask; rw [pick_t h]; exact e36, Z36, by unfold r_ask; rw [pick_t h]⟩)
            | (have h : ¬ (Act M t ∧ (0 ≤ a ∧ a ≤ b ∧ b ≤ 31)) := fun q => by first | exact absurd q.1 (by assumption) | (have := q.2; omega)
               exact ⟨_, rfl, by unfold r_ask; rw [pick_f h], M, by unfold r_ask; rw [pick_f h]; exact (sset_self M).symm⟩)
set_option maxHeartbeats 4000000 in
set_option maxRecDepth 20000 in
theorem c_M_resume (t : Int) (M : MSt) (hf : WF M) (ht : InR t) : MI y_M_resume (wsOf y_M_resume b_M_resume 2 (some .int)) 7 [t] M (fun z M' => z = (r_resume M t).1 ∧ ∃ Z, M' = sset (r_resume M t).2 Z) := by
  refine MCon.of (by decide) rfl (Nat.le_of_ble_eq_true rfl) ?_
  intro X E o
  show V X (RelM E M) 0 [(0, .ref (Em.x E)), (1, J (t))] [] []
  have hm := hf.many
  have cr : (0 ≤ t ∧ t < M 22 0) → M 23 t = 2 → InR (M 29 t) → _ := fun h1 h2 h3 => c_M_request t (M 27 t) (M 28 t) (M 29 t) M M hf h1 (Or.inr h2) (hf.req t h1.1 h1.2 h2) h3
  rw [sset_self] at cr
  refine v_aload_n (i := 0) o.ok d_M_resume_0 rfl rfl ?_
  refine v_iload_n (i := 1) o.ok d_M_resume_1 rfl rfl ?_
  refine m_cf o (c_M_is t M ht) q_M_is lm_M_159 d_M_resume_2 (by decide) rfl (Nat.le_of_ble_eq_true rfl) rfl ?_
  first | refine v_ifeq_b o.ok d_M_resume_5 (fun c5 => ?_) (fun c5 => ?_) | refine v_if_eq o.ok (by omega) d_M_resume_5 (fun c5 => ?_) (fun c5 => ?_)
  · refine v_iconst o.ok d_M_resume_18 ?_
    refine v_goto o.ok d_M_resume_19 ?_
    refine m_iret o d_M_resume_45 ?_
    first
      | (have h : (0 ≤ t ∧ t < M 22 0) ∧ M 23 t = 2 := ⟨by assumption, by omega⟩
         exact ⟨_, rfl, by unfold r_resume; rw [pick_t h]; exact e42, Z42, by unfold r_resume; rw [pick_t h]⟩)
      | (have h : ¬ ((0 ≤ t ∧ t < M 22 0) ∧ M 23 t = 2) := fun q => by omega
         exact ⟨_, rfl, by unfold r_resume; rw [pick_f h], M, by unfold r_resume; rw [pick_f h]; exact (sset_self M).symm⟩)
  · refine v_aload_n (i := 0) o.ok d_M_resume_8 rfl rfl ?_
    refine m_geta o 23 (by decide) (by decide) lf_M_62 rfl d_M_resume_9 ?_
    refine v_iload_n (i := 1) o.ok d_M_resume_12 rfl rfl ?_
    refine m_iald o 23 60 rfl rfl (by omega) d_M_resume_13 (fun i13 => ?_)
    refine v_iconst o.ok d_M_resume_14 ?_
    refine v_icmp_eq o.ok (by omega) (by omega) d_M_resume_15 (fun c15 => ?_) (fun c15 => ?_)
    · refine v_aload_n (i := 0) o.ok d_M_resume_22 rfl rfl ?_
      refine v_iload_n (i := 1) o.ok d_M_resume_23 rfl rfl ?_
      refine v_aload_n (i := 0) o.ok d_M_resume_24 rfl rfl ?_
      refine m_geta o 27 (by decide) (by decide) lf_M_74 rfl d_M_resume_25 ?_
      refine v_iload_n (i := 1) o.ok d_M_resume_28 rfl rfl ?_
      refine m_iald o 27 60 rfl rfl (by omega) d_M_resume_29 (fun i29 => ?_)
      refine v_aload_n (i := 0) o.ok d_M_resume_30 rfl rfl ?_
      refine m_geta o 28 (by decide) (by decide) lf_M_77 rfl d_M_resume_31 ?_
      refine v_iload_n (i := 1) o.ok d_M_resume_34 rfl rfl ?_
      refine m_iald o 28 60 rfl rfl (by omega) d_M_resume_35 (fun i35 => ?_)
      refine v_aload_n (i := 0) o.ok d_M_resume_36 rfl rfl ?_
      refine m_geta o 29 (by decide) (by decide) lf_M_80 rfl d_M_resume_37 ?_
      refine v_iload_n (i := 1) o.ok d_M_resume_40 rfl rfl ?_
      refine m_iald o 29 60 rfl rfl (by omega) d_M_resume_41 (fun i41 => ?_)
      refine m_ci o (cr (by assumption) (by assumption) i41) q_M_request lm_M_236 d_M_resume_42 (by decide) rfl (Nat.le_of_ble_eq_true rfl) rfl (fun z42 M42 h42 => ?_)
      obtain ⟨e42, Z42, rfl⟩ := h42
      refine m_iret o d_M_resume_45 ?_
      first
        | (have h : (0 ≤ t ∧ t < M 22 0) ∧ M 23 t = 2 := ⟨by assumption, by omega⟩
           exact ⟨_, rfl, by unfold r_resume; rw [pick_t h]; exact e42, Z42, by unfold r_resume; rw [pick_t h]⟩)
        | (have h : ¬ ((0 ≤ t ∧ t < M 22 0) ∧ M 23 t = 2) := fun q => by omega
           exact ⟨_, rfl, by unfold r_resume; rw [pick_f h], M, by unfold r_resume; rw [pick_f h]; exact (sset_self M).symm⟩)
    · refine v_iconst o.ok d_M_resume_18 ?_
      refine v_goto o.ok d_M_resume_19 ?_
      refine m_iret o d_M_resume_45 ?_
      first
        | (have h : (0 ≤ t ∧ t < M 22 0) ∧ M 23 t = 2 := ⟨by assumption, by omega⟩
           exact ⟨_, rfl, by unfold r_resume; rw [pick_t h]; exact e42, Z42, by unfold r_resume; rw [pick_t h]⟩)
        | (have h : ¬ ((0 ≤ t ∧ t < M 22 0) ∧ M 23 t = 2) := fun q => by omega
           exact ⟨_, rfl, by unfold r_resume; rw [pick_f h], M, by unfold r_resume; rw [pick_f h]; exact (sset_self M).symm⟩)
set_option maxHeartbeats 4000000 in
set_option maxRecDepth 20000 in
theorem c_M_waits (t u : Int) (M : MSt) (hf : WF M) (ht : InR t) (hu : InR u) : MI y_M_waits (wsOf y_M_waits b_M_waits 3 (some .boolean)) 4 [t, u] M (fun z M' => z = b01 (Wts M t u) ∧ ∃ Z, M' = sset M Z) := by
  refine MCon.of (by decide) rfl (Nat.le_of_ble_eq_true rfl) ?_
  intro X E o
  show V X (RelM E M) 0 [(0, .ref (Em.x E)), (1, J (t)), (2, J (u))] [] []
  have hm := hf.many
  have h12 : lckM M t = 1 ∨ lckM M t = 2 := mdo_12 M _ _
  have clk := c_M_look M M hf
  rw [sset_self] at clk
  refine v_aload_n (i := 0) o.ok d_M_waits_0 rfl rfl ?_
  refine v_iload_n (i := 1) o.ok d_M_waits_1 rfl rfl ?_
  refine m_cf o (c_M_is t M ht) q_M_is lm_M_159 d_M_waits_2 (by decide) rfl (Nat.le_of_ble_eq_true rfl) rfl ?_
  first | refine v_ifeq_b o.ok d_M_waits_5 (fun c5 => ?_) (fun c5 => ?_) | refine v_if_eq o.ok (by omega) d_M_waits_5 (fun c5 => ?_) (fun c5 => ?_)
  · refine v_iconst o.ok d_M_waits_26 ?_
    refine m_zret o (by first | exact b01_or _ | omega | simp) d_M_waits_27 ⟨_, rfl, (b01_f (fun q => by obtain ⟨q1, q2, q3, q4, q5⟩ := q; omega)).symm, M, (sset_self M).symm⟩
  · refine v_aload_n (i := 0) o.ok d_M_waits_8 rfl rfl ?_
    refine v_iload_n (i := 2) o.ok d_M_waits_9 rfl rfl ?_
    refine m_cf o (c_M_is u M hu) q_M_is lm_M_159 d_M_waits_10 (by decide) rfl (Nat.le_of_ble_eq_true rfl) rfl ?_
    first | refine v_ifeq_b o.ok d_M_waits_13 (fun c13 => ?_) (fun c13 => ?_) | refine v_if_eq o.ok (by omega) d_M_waits_13 (fun c13 => ?_) (fun c13 => ?_)
    · refine v_iconst o.ok d_M_waits_26 ?_
      refine m_zret o (by first | exact b01_or _ | omega | simp) d_M_waits_27 ⟨_, rfl, (b01_f (fun q => by obtain ⟨q1, q2, q3, q4, q5⟩ := q; omega)).symm, M, (sset_self M).symm⟩
    · refine v_aload_n (i := 0) o.ok d_M_waits_16 rfl rfl ?_
      refine m_geta o 23 (by decide) (by decide) lf_M_62 rfl d_M_waits_17 ?_
      refine v_iload_n (i := 1) o.ok d_M_waits_20 rfl rfl ?_
      refine m_iald o 23 60 rfl rfl (by omega) d_M_waits_21 (fun i21 => ?_)
      refine v_iconst o.ok d_M_waits_22 ?_
      refine v_icmp_eq o.ok (by omega) (by omega) d_M_waits_23 (fun c23 => ?_) (fun c23 => ?_)
      · refine v_aload_n (i := 0) o.ok d_M_waits_28 rfl rfl ?_
        refine m_cv o (clk) q_M_look lm_M_203 d_M_waits_29 (by decide) rfl (Nat.le_of_ble_eq_true rfl) rfl (fun M29 h29 => ?_)
        obtain ⟨Z, rfl, hk⟩ := h29
        have hkt := hk t (by omega) (by omega)
        have e3 : sset M Z 33 t = lck M t := (hkt.1 (by assumption)).1
        have e4 : sset M Z 34 t = lckM M t := (hkt.1 (by assumption)).2
        have hlb := lck_bd (hf.req t (by omega) (by omega) (by assumption))
        refine v_aload_n (i := 0) o.ok d_M_waits_32 rfl rfl ?_
        refine m_geta o 33 (by decide) (by decide) lf_M_86 rfl d_M_waits_33 ?_
        refine v_iload_n (i := 1) o.ok d_M_waits_36 rfl rfl ?_
        refine m_iald o 33 60 rfl rfl (by omega) d_M_waits_37 (fun i37 => ?_)
        rw [e3] at i37 ⊢
        refine v_if_lt o.ok (by omega) d_M_waits_38 (fun c38 => ?_) (fun c38 => ?_)
        · refine v_iconst o.ok d_M_waits_66 ?_
          refine m_zret o (by first | exact b01_or _ | omega | simp) d_M_waits_67 ?_
          first
            | exact ⟨_, rfl, (b01_t (P := Wts M t u) ⟨by assumption, by assumption, by assumption, by omega, by assumption⟩).symm, Z, rfl⟩
            | exact ⟨_, rfl, (b01_f (P := Wts M t u) (fun q => by obtain ⟨q1, q2, q3, q4, q5⟩ := q; first | omega | exact absurd q5 (by assumption))).symm, Z, rfl⟩
        · refine v_aload_n (i := 0) o.ok d_M_waits_41 rfl rfl ?_
          refine v_iload_n (i := 2) o.ok d_M_waits_42 rfl rfl ?_
          refine v_iload_n (i := 1) o.ok d_M_waits_43 rfl rfl ?_
          refine v_aload_n (i := 0) o.ok d_M_waits_44 rfl rfl ?_
          refine m_geta o 33 (by decide) (by decide) lf_M_86 rfl d_M_waits_45 ?_
          refine v_iload_n (i := 1) o.ok d_M_waits_48 rfl rfl ?_
          refine m_iald o 33 60 rfl rfl (by omega) d_M_waits_49 (fun i49 => ?_)
          rw [e3] at i49 ⊢
          refine v_aload_n (i := 0) o.ok d_M_waits_50 rfl rfl ?_
          refine m_geta o 34 (by decide) (by decide) lf_M_89 rfl d_M_waits_51 ?_
          refine v_iload_n (i := 1) o.ok d_M_waits_54 rfl rfl ?_
          refine m_iald o 34 60 rfl rfl (by omega) d_M_waits_55 (fun i55 => ?_)
          rw [e4] at i55 ⊢
          refine m_cf o (c_barsS u t (lck M t) (lckM M t) M Z hf.par (by assumption) (by assumption) (by omega) h12) q_M_bars lm_M_191 d_M_waits_56 (by decide) rfl (Nat.le_of_ble_eq_true rfl) rfl ?_
          first | refine v_ifeq_b o.ok d_M_waits_59 (fun c59 => ?_) (fun c59 => ?_) | refine v_if_eq o.ok (by omega) d_M_waits_59 (fun c59 => ?_) (fun c59 => ?_)
          · refine v_iconst o.ok d_M_waits_66 ?_
            refine m_zret o (by first | exact b01_or _ | omega | simp) d_M_waits_67 ?_
            first
              | exact ⟨_, rfl, (b01_t (P := Wts M t u) ⟨by assumption, by assumption, by assumption, by omega, by assumption⟩).symm, Z, rfl⟩
              | exact ⟨_, rfl, (b01_f (P := Wts M t u) (fun q => by obtain ⟨q1, q2, q3, q4, q5⟩ := q; first | omega | exact absurd q5 (by assumption))).symm, Z, rfl⟩
          · refine v_iconst o.ok d_M_waits_62 ?_
            refine v_goto o.ok d_M_waits_63 ?_
            refine m_zret o (by first | exact b01_or _ | omega | simp) d_M_waits_67 ?_
            first
              | exact ⟨_, rfl, (b01_t (P := Wts M t u) ⟨by assumption, by assumption, by assumption, by omega, by assumption⟩).symm, Z, rfl⟩
              | exact ⟨_, rfl, (b01_f (P := Wts M t u) (fun q => by obtain ⟨q1, q2, q3, q4, q5⟩ := q; first | omega | exact absurd q5 (by assumption))).symm, Z, rfl⟩
      · refine v_iconst o.ok d_M_waits_26 ?_
        refine m_zret o (by first | exact b01_or _ | omega | simp) d_M_waits_27 ⟨_, rfl, (b01_f (fun q => by obtain ⟨q1, q2, q3, q4, q5⟩ := q; omega)).symm, M, (sset_self M).symm⟩

