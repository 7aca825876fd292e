noncomputable def pick {α : Type} (P : Prop) (a b : α) : α := @ite α P (Classical.propDecidable P) a b
theorem pick_t {α : Type} {P : Prop} {a b : α} (h : P) : pick P a b = a := by unfold pick; rw [if_pos h]
theorem pick_f {α : Type} {P : Prop} {a b : α} (h : ¬ P) : pick P a b = b := by unfold pick; rw [if_neg h]
def o_state (M : MSt) (t : Int) : Int := if 0 ≤ t ∧ t < M 22 0 then M 23 t else -1
def o_parent (M : MSt) (t : Int) : Int := if 0 ≤ t ∧ t < M 22 0 then M 24 t else -1
def o_lock (M : MSt) (t i : Int) : Int := if (0 ≤ t ∧ t < M 22 0) ∧ 0 ≤ i ∧ i ≤ 32 then M 26 (33 * t + i) else -1
noncomputable def o_log (M : MSt) (w : Int) : Int := if w = 0 then lst M else if w = 1 then M 13 0 else if w = 2 then M 12 0 else if w = 3 then opens M else if w = 4 then lives M else -1
def o_key (M : MSt) (k w : Int) : Int := if (0 ≤ k ∧ k ≤ 31) ∧ 0 ≤ w ∧ w ≤ 3 then (if w = 0 then thr M k else if w = 1 then vlw M k else if w = 2 then M 1 k else M 2 k) else -1
def o_page (M : MSt) (p : Int) : Int := if 0 ≤ p ∧ p ≤ 7 then lsw M p else -1
def o_entry (M : MSt) (num w : Int) : Int := if (M 11 0 < num ∧ num ≤ lst M) ∧ 0 ≤ w ∧ w ≤ 5 then
  (if w = 0 then M 14 (num - M 11 0 - 1) else if w = 1 then M 15 (num - M 11 0 - 1) else if w = 2 then M 16 (num - M 11 0 - 1) else if w = 3 then (if M 14 (num - M 11 0 - 1) = 3 then M 17 (num - M 11 0 - 1) else M 18 (num - M 11 0 - 1)) else if w = 4 then M 20 (num - M 11 0 - 1) else M 21 (num - M 11 0 - 1)) else -1
noncomputable def later (M : MSt) (p : Int) : Int := cnt (fun q => M 7 q = 1 ∧ M 9 p < M 9 q) 8
noncomputable def frN (M : MSt) (i : Int) : Nat → Int → Int
  | 0, _ => -1
  | n + 1, p => if M 7 p = 1 ∧ later M p = i then 2 * p + M 8 p else frN M i n (p + 1)
noncomputable def o_frame (M : MSt) (i : Int) : Int := if i < 0 then -1 else frN M i 8 0
noncomputable def bar (M : MSt) (t : Int) : Int := pick (Act M t) (pick (Bsy M t) (-4) 0) (-1)
noncomputable def r_rollback (M : MSt) (t pt : Int) : Int × MSt := pick (Act M t ∧ M 25 t ≤ pt ∧ pt ≤ lst M) (pick (Bsy M t) (-4, M) (undoes M t pt)) (-1, M)
noncomputable def r_abort (M : MSt) (t : Int) : Int × MSt := pick ((0 ≤ t ∧ t < M 22 0) ∧ Liv M t) (abt M t) (-1, M)
noncomputable def r_write (M : MSt) (p : Int) : Int × MSt := pick ((0 ≤ p ∧ p ≤ 7) ∧ M 7 p = 1 ∧ M 8 p = 1) (1, wrt M p) (0, M)
noncomputable def wrN (M : MSt) : Nat → Int × MSt
  | 0 => (0, M)
  | n + 1 => ((wrN M n).1 + (r_write (wrN M n).2 n).1, (r_write (wrN M n).2 n).2)
def arc (M : MSt) : MSt := up (up (up M 11 0 (lst M)) 12 0 0) 13 0 (lst M)
noncomputable def r_archive (M : MSt) : Int × MSt := if 0 < lives M then (-1, M) else ((wrN M 8).1, arc (wrN M 8).2)
def bgn (M : MSt) (f : Int) : MSt := up (up (app (up (up M 23 (M 22 0) 1) 24 (M 22 0) f) 1 (M 22 0) f) 25 (M 22 0) (M 11 0 + M 12 0 + 1)) 22 0 (M 22 0 + 1)
noncomputable def r_begin (M : MSt) (f : Int) : Int × MSt := pick ((f ≠ -1 ∧ ¬ Act M f) ∨ M 22 0 = 60 ∨ (f ≠ -1 ∧ 4 ≤ dep M f)) (-1, M) (pick (Ful M) (-5, M) (M 22 0, bgn M f))
/-- p takes over t's locks, of the first k items -/
def inhN (M : MSt) (t p k : Int) (f : Nat) (i : Int) : Int := if f = 26 ∧ 33 * p ≤ i ∧ i < 33 * p + k then (if M 26 i < M 26 (33 * t + (i - 33 * p)) then M 26 (33 * t + (i - 33 * p)) else M 26 i) else M f i
theorem inhN_0 (M : MSt) (t p : Int) : inhN M t p 0 = M := by
  funext f i
  unfold inhN
  rw [if_neg (by omega)]
theorem inhN_s (M : MSt) (t p : Int) {k : Int} (h : 0 ≤ k) : up (inhN M t p k) 26 (33 * p + k) (if M 26 (33 * p + k) < M 26 (33 * t + k) then M 26 (33 * t + k) else M 26 (33 * p + k)) = inhN M t p (k + 1) := by
  funext f i
  unfold up inhN
  by_cases h1 : f = 26
  · by_cases h2 : i = 33 * p + k
    · rw [if_pos (show f = 26 ∧ i = 33 * p + k from ⟨h1, h2⟩), if_pos (show f = 26 ∧ 33 * p ≤ i ∧ i < 33 * p + (k + 1) from ⟨h1, by omega, by omega⟩), h2, show 33 * t + (33 * p + k - 33 * p) = 33 * t + k from by omega]
    · rw [if_neg (show ¬ (f = 26 ∧ i = 33 * p + k) from fun q => h2 q.2)]
      by_cases h3 : 33 * p ≤ i ∧ i < 33 * p + k
      · rw [if_pos (show f = 26 ∧ 33 * p ≤ i ∧ i < 33 * p + k from ⟨h1, h3⟩), if_pos (show f = 26 ∧ 33 * p ≤ i ∧ i < 33 * p + (k + 1) from ⟨h1, by omega, by omega⟩)]
      · rw [if_neg (show ¬ (f = 26 ∧ 33 * p ≤ i ∧ i < 33 * p + k) from fun q => h3 q.2), if_neg (show ¬ (f = 26 ∧ 33 * p ≤ i ∧ i < 33 * p + (k + 1)) from fun q => h3 ⟨q.2.1, by omega⟩)]
  · rw [if_neg (fun q => h1 q.1), if_neg (fun q => h1 q.1), if_neg (fun q => h1 q.1)]
def cm1 (M : MSt) (t : Int) : MSt := up (app M 4 t 0) 23 t 3
def cm2 (M : MSt) (t : Int) : MSt := if 0 ≤ M 24 t then inhN (cm1 M t) t (M 24 t) 33 else cm1 M t
def cmt (M : MSt) (t : Int) : MSt := ulk (up (cm2 M t) 13 0 (if M 24 t < 0 then M 11 0 + M 12 0 + 1 else M 13 0)) t
noncomputable def r_commit (M : MSt) (t : Int) : Int × MSt := pick (Act M t) (pick (Bsy M t) (-4, M) (0, cmt M t)) (-1, M)
def Cmt (M : MSt) (t : Int) : Prop := exB (fun r => M 14 r = 4 ∧ M 15 r = t) 0 (M 12 0)
set_option maxHeartbeats 4000000 in
set_option maxRecDepth 20000 in
theorem c_M_state (t : Int) (M : MSt) (ht : InR t) (hm : M 22 0 ≤ 60) : MF y_M_state (wsOf y_M_state b_M_state 2 (some .int)) 1 [t] M (some (o_state M t)) (M) := by
  refine MCon.of (by decide) rfl (Nat.le_of_ble_eq_true rfl) ?_
  intro X E o
  show V X (RelM E M) 0 [(0, .ref (Em.x E)), (1, J (t))] [] []
  refine v_aload_n (i := 0) o.ok d_M_state_0 rfl rfl ?_
  refine v_iload_n (i := 1) o.ok d_M_state_1 rfl rfl ?_
  refine m_cf o (c_M_is t M ht) q_M_is lm_M_159 d_M_state_2 (by decide) rfl (Nat.le_of_ble_eq_true rfl) rfl ?_
  first | refine v_ifeq_b o.ok d_M_state_5 (fun c5 => ?_) (fun c5 => ?_) | refine v_if_eq o.ok (by omega) d_M_state_5 (fun c5 => ?_) (fun c5 => ?_)
  · refine v_iconst o.ok d_M_state_17 ?_
    refine m_iret o d_M_state_18 ⟨congrArg some (by unfold o_state; first | rw [if_pos (by assumption)] | rw [if_neg (by assumption)]), rfl⟩
  · refine v_aload_n (i := 0) o.ok d_M_state_8 rfl rfl ?_
    refine m_geta o 23 (by decide) (by decide) lf_M_62 rfl d_M_state_9 ?_
    refine v_iload_n (i := 1) o.ok d_M_state_12 rfl rfl ?_
    refine m_iald o 23 60 rfl rfl (by omega) d_M_state_13 (fun i13 => ?_)
    refine v_goto o.ok d_M_state_14 ?_
    refine m_iret o d_M_state_18 ⟨congrArg some (by unfold o_state; first | rw [if_pos (by assumption)] | rw [if_neg (by assumption)]), rfl⟩
set_option maxHeartbeats 4000000 in
set_option maxRecDepth 20000 in
theorem c_M_parent (t : Int) (M : MSt) (ht : InR t) (hm : M 22 0 ≤ 60) : MF y_M_parent (wsOf y_M_parent b_M_parent 2 (some .int)) 1 [t] M (some (o_parent M t)) (M) := by
  refine MCon.of (by decide) rfl (Nat.le_of_ble_eq_true rfl) ?_
  intro X E o
  show V X (RelM E M) 0 [(0, .ref (Em.x E)), (1, J (t))] [] []
  refine v_aload_n (i := 0) o.ok d_M_parent_0 rfl rfl ?_
  refine v_iload_n (i := 1) o.ok d_M_parent_1 rfl rfl ?_
  refine m_cf o (c_M_is t M ht) q_M_is lm_M_159 d_M_parent_2 (by decide) rfl (Nat.le_of_ble_eq_true rfl) rfl ?_
  first | refine v_ifeq_b o.ok d_M_parent_5 (fun c5 => ?_) (fun c5 => ?_) | refine v_if_eq o.ok (by omega) d_M_parent_5 (fun c5 => ?_) (fun c5 => ?_)
  · refine v_iconst o.ok d_M_parent_17 ?_
    refine m_iret o d_M_parent_18 ⟨congrArg some (by unfold o_parent; first | rw [if_pos (by assumption)] | rw [if_neg (by assumption)]), rfl⟩
  · refine v_aload_n (i := 0) o.ok d_M_parent_8 rfl rfl ?_
    refine m_geta o 24 (by decide) (by decide) lf_M_65 rfl d_M_parent_9 ?_
    refine v_iload_n (i := 1) o.ok d_M_parent_12 rfl rfl ?_
    refine m_iald o 24 60 rfl rfl (by omega) d_M_parent_13 (fun i13 => ?_)
    refine v_goto o.ok d_M_parent_14 ?_
    refine m_iret o d_M_parent_18 ⟨congrArg some (by unfold o_parent; first | rw [if_pos (by assumption)] | rw [if_neg (by assumption)]), rfl⟩
set_option maxHeartbeats 4000000 in
set_option maxRecDepth 20000 in
theorem c_M_lock (t i : Int) (M : MSt) (ht : InR t) (hi : InR i) (hm : M 22 0 ≤ 60) : MF y_M_lock (wsOf y_M_lock b_M_lock 3 (some .int)) 1 [t, i] M (some (o_lock M t i)) (M) := by
  refine MCon.of (by decide) rfl (Nat.le_of_ble_eq_true rfl) ?_
  intro X E o
  show V X (RelM E M) 0 [(0, .ref (Em.x E)), (1, J (t)), (2, J (i))] [] []
  refine v_aload_n (i := 0) o.ok d_M_lock_0 rfl rfl ?_
  refine v_iload_n (i := 1) o.ok d_M_lock_1 rfl rfl ?_
  refine m_cf o (c_M_is t M ht) q_M_is lm_M_159 d_M_lock_2 (by decide) rfl (Nat.le_of_ble_eq_true rfl) rfl ?_
  first | refine v_ifeq_b o.ok d_M_lock_5 (fun c5 => ?_) (fun c5 => ?_) | refine v_if_eq o.ok (by omega) d_M_lock_5 (fun c5 => ?_) (fun c5 => ?_)
  · refine v_iconst o.ok d_M_lock_18 ?_
    refine v_goto o.ok d_M_lock_19 ?_
    refine m_iret o d_M_lock_33 ⟨congrArg some (by unfold o_lock; first | rw [if_pos (by omega)] | rw [if_neg (by omega)]), rfl⟩
  · refine v_iload_n (i := 2) o.ok d_M_lock_8 rfl rfl ?_
    refine v_if_lt o.ok (by omega) d_M_lock_9 (fun c9 => ?_) (fun c9 => ?_)
    · refine v_iconst o.ok d_M_lock_18 ?_
      refine v_goto o.ok d_M_lock_19 ?_
      refine m_iret o d_M_lock_33 ⟨congrArg some (by unfold o_lock; first | rw [if_pos (by omega)] | rw [if_neg (by omega)]), rfl⟩
    · refine v_iload_n (i := 2) o.ok d_M_lock_12 rfl rfl ?_
      refine v_bipush o.ok d_M_lock_13 rfl ?_
      refine v_icmp_le o.ok (by omega) (by omega) d_M_lock_15 (fun c15 => ?_) (fun c15 => ?_)
      · refine v_aload_n (i := 0) o.ok d_M_lock_22 rfl rfl ?_
        refine m_geta o 26 (by decide) (by decide) lf_M_71 rfl d_M_lock_23 ?_
        refine v_bipush o.ok d_M_lock_26 rfl ?_
        refine v_iload_n (i := 1) o.ok d_M_lock_28 rfl rfl ?_
        refine v_imul o.ok d_M_lock_29 ?_
        refine v_iload_n (i := 2) o.ok d_M_lock_30 rfl rfl ?_
        refine v_iadd o.ok d_M_lock_31 ?_
        refine m_iald o 26 1980 rfl rfl (by omega) d_M_lock_32 (fun i32 => ?_)
        refine m_iret o d_M_lock_33 ⟨congrArg some (by unfold o_lock; first | rw [if_pos (by omega)] | rw [if_neg (by omega)]), rfl⟩
      · refine v_iconst o.ok d_M_lock_18 ?_
        refine v_goto o.ok d_M_lock_19 ?_
        refine m_iret o d_M_lock_33 ⟨congrArg some (by unfold o_lock; first | rw [if_pos (by omega)] | rw [if_neg (by omega)]), rfl⟩
set_option maxHeartbeats 4000000 in
set_option maxRecDepth 20000 in
theorem c_M_value (M : MSt) : MF y_M_value (wsOf y_M_value b_M_value 1 (some .int)) 0 [] M (some (M 38 0)) (M) := by
  refine MCon.of (by decide) rfl (Nat.le_of_ble_eq_true rfl) ?_
  intro X E o
  show V X (RelM E M) 0 [(0, .ref (Em.x E))] [] []
  refine v_aload_n (i := 0) o.ok d_M_value_0 rfl rfl ?_
  refine m_geti o 38 (by decide) rfl lf_M_216 rfl d_M_value_1 (fun i1 => ?_)
  refine m_iret o d_M_value_4 ⟨rfl, rfl⟩
set_option maxHeartbeats 4000000 in
set_option maxRecDepth 20000 in
theorem c_M_page (p : Int) (M : MSt) (hp : InR p) : MF y_M_page (wsOf y_M_page b_M_page 2 (some .int)) 1 [p] M (some (o_page M p)) (M) := by
  refine MCon.of (by decide) rfl (Nat.le_of_ble_eq_true rfl) ?_
  intro X E o
  show V X (RelM E M) 0 [(0, .ref (Em.x E)), (1, J (p))] [] []
  refine v_iload_n (i := 1) o.ok d_M_page_0 rfl rfl ?_
  refine m_cs o (c_M_isPage p hp) q_M_isPage lm_M_255 d_M_page_1 (by decide) rfl (Nat.le_of_ble_eq_true rfl) rfl ?_
  first | refine v_ifeq_b o.ok d_M_page_4 (fun c4 => ?_) (fun c4 => ?_) | refine v_if_eq o.ok (by omega) d_M_page_4 (fun c4 => ?_) (fun c4 => ?_)
  · refine v_iconst o.ok d_M_page_15 ?_
    refine m_iret o d_M_page_16 ⟨congrArg some (by unfold o_page; first | rw [if_pos (by assumption)] | rw [if_neg (by assumption)]), rfl⟩
  · refine v_aload_n (i := 0) o.ok d_M_page_7 rfl rfl ?_
    refine v_iload_n (i := 1) o.ok d_M_page_8 rfl rfl ?_
    refine m_cf o (c_M_lsnNow p M (by assumption)) q_M_lsnNow lm_M_264 d_M_page_9 (by decide) rfl (Nat.le_of_ble_eq_true rfl) rfl ?_
    refine v_goto o.ok d_M_page_12 ?_
    refine m_iret o d_M_page_16 ⟨congrArg some (by unfold o_page; first | rw [if_pos (by assumption)] | rw [if_neg (by assumption)]), rfl⟩
set_option maxHeartbeats 4000000 in
set_option maxRecDepth 20000 in
theorem c_M_key (k w : Int) (M : MSt) (hk : InR k) (hw : InR w) : MF y_M_key (wsOf y_M_key b_M_key 3 (some .int)) 1 [k, w] M (some (o_key M k w)) (M) := by
  refine MCon.of (by decide) rfl (Nat.le_of_ble_eq_true rfl) ?_
  intro X E o
  show V X (RelM E M) 0 [(0, .ref (Em.x E)), (1, J (k)), (2, J (w))] [] []
  refine v_iload_n (i := 1) o.ok d_M_key_0 rfl rfl ?_
  refine m_cs o (c_M_isKey k hk) q_M_isKey lm_M_239 d_M_key_1 (by decide) rfl (Nat.le_of_ble_eq_true rfl) rfl ?_
  first | refine v_ifeq_b o.ok d_M_key_4 (fun c4 => ?_) (fun c4 => ?_) | refine v_if_eq o.ok (by omega) d_M_key_4 (fun c4 => ?_) (fun c4 => ?_)
  · refine v_iconst o.ok d_M_key_16 ?_
    refine m_iret o d_M_key_17 ⟨congrArg some (by unfold o_key; first | (rw [if_neg (by omega)]) | (rw [if_pos (by omega)]; first | (rw [if_pos (by omega)]; omega) | (rw [if_neg (by omega), if_pos (by omega)]) | (rw [if_neg (by omega), if_neg (by omega), if_pos (by omega)]; omega) | (rw [if_neg (by omega), if_neg (by omega), if_neg (by omega)]))), rfl⟩
  · refine v_iload_n (i := 2) o.ok d_M_key_7 rfl rfl ?_
    refine v_if_lt o.ok (by omega) d_M_key_8 (fun c8 => ?_) (fun c8 => ?_)
    · refine v_iconst o.ok d_M_key_16 ?_
      refine m_iret o d_M_key_17 ⟨congrArg some (by unfold o_key; first | (rw [if_neg (by omega)]) | (rw [if_pos (by omega)]; first | (rw [if_pos (by omega)]; omega) | (rw [if_neg (by omega), if_pos (by omega)]) | (rw [if_neg (by omega), if_neg (by omega), if_pos (by omega)]; omega) | (rw [if_neg (by omega), if_neg (by omega), if_neg (by omega)]))), rfl⟩
    · refine v_iload_n (i := 2) o.ok d_M_key_11 rfl rfl ?_
      refine v_iconst o.ok d_M_key_12 ?_
      refine v_icmp_le o.ok (by omega) (by omega) d_M_key_13 (fun c13 => ?_) (fun c13 => ?_)
      · refine v_iload_n (i := 2) o.ok d_M_key_18 rfl rfl ?_
        refine v_iconst o.ok d_M_key_19 ?_
        refine v_icmp_ge o.ok (by omega) (by omega) d_M_key_20 (fun c20 => ?_) (fun c20 => ?_)
        · refine v_iload_n (i := 2) o.ok d_M_key_49 rfl rfl ?_
          refine v_iconst o.ok d_M_key_50 ?_
          refine v_icmp_ne o.ok (by omega) (by omega) d_M_key_51 (fun c51 => ?_) (fun c51 => ?_)
          · refine v_aload_n (i := 0) o.ok d_M_key_71 rfl rfl ?_
            refine m_geta o 2 (by decide) (by decide) lf_M_13 rfl d_M_key_72 ?_
            refine v_iload_n (i := 1) o.ok d_M_key_75 rfl rfl ?_
            refine m_iald o 2 32 rfl rfl (by omega) d_M_key_76 (fun i76 => ?_)
            refine m_iret o d_M_key_77 ⟨congrArg some (by unfold o_key; first | (rw [if_neg (by omega)]) | (rw [if_pos (by omega)]; first | (rw [if_pos (by omega)]; omega) | (rw [if_neg (by omega), if_pos (by omega)]) | (rw [if_neg (by omega), if_neg (by omega), if_pos (by omega)]; omega) | (rw [if_neg (by omega), if_neg (by omega), if_neg (by omega)]))), rfl⟩
          · refine v_aload_n (i := 0) o.ok d_M_key_54 rfl rfl ?_
            refine m_geta o 1 (by decide) (by decide) lf_M_7 rfl d_M_key_55 ?_
            refine v_iload_n (i := 1) o.ok d_M_key_58 rfl rfl ?_
            refine m_zald o 1 32 rfl rfl (by omega) d_M_key_59 (fun i59 => ?_)
            first | refine v_ifeq_b o.ok d_M_key_60 (fun c60 => ?_) (fun c60 => ?_) | refine v_if_eq o.ok (by omega) d_M_key_60 (fun c60 => ?_) (fun c60 => ?_)
            · refine v_iconst o.ok d_M_key_67 ?_
              refine v_goto o.ok d_M_key_68 ?_
              refine m_iret o d_M_key_77 ⟨congrArg some (by unfold o_key; first | (rw [if_neg (by omega)]) | (rw [if_pos (by omega)]; first | (rw [if_pos (by omega)]; omega) | (rw [if_neg (by omega), if_pos (by omega)]) | (rw [if_neg (by omega), if_neg (by omega), if_pos (by omega)]; omega) | (rw [if_neg (by omega), if_neg (by omega), if_neg (by omega)]))), rfl⟩
            · refine v_iconst o.ok d_M_key_63 ?_
              refine v_goto o.ok d_M_key_64 ?_
              refine m_iret o d_M_key_77 ⟨congrArg some (by unfold o_key; first | (rw [if_neg (by omega)]) | (rw [if_pos (by omega)]; first | (rw [if_pos (by omega)]; omega) | (rw [if_neg (by omega), if_pos (by omega)]) | (rw [if_neg (by omega), if_neg (by omega), if_pos (by omega)]; omega) | (rw [if_neg (by omega), if_neg (by omega), if_neg (by omega)]))), rfl⟩
        · refine v_iload_n (i := 2) o.ok d_M_key_23 rfl rfl ?_
          first | refine v_ifne_b o.ok d_M_key_24 (fun c24 => ?_) (fun c24 => ?_) | refine v_if_ne o.ok (by omega) d_M_key_24 (fun c24 => ?_) (fun c24 => ?_)
          · refine v_aload_n (i := 0) o.ok d_M_key_43 rfl rfl ?_
            refine v_iload_n (i := 1) o.ok d_M_key_44 rfl rfl ?_
            refine m_cf o (c_M_valueNow k M (by assumption)) q_M_valueNow lm_M_213 d_M_key_45 (by decide) rfl (Nat.le_of_ble_eq_true rfl) rfl ?_
            refine m_iret o d_M_key_48 ⟨congrArg some (by unfold o_key; first | (rw [if_neg (by omega)]) | (rw [if_pos (by omega)]; first | (rw [if_pos (by omega)]; omega) | (rw [if_neg (by omega), if_pos (by omega)]) | (rw [if_neg (by omega), if_neg (by omega), if_pos (by omega)]; omega) | (rw [if_neg (by omega), if_neg (by omega), if_neg (by omega)]))), rfl⟩
          · refine v_aload_n (i := 0) o.ok d_M_key_27 rfl rfl ?_
            refine v_iload_n (i := 1) o.ok d_M_key_28 rfl rfl ?_
            refine m_cf o (c_M_isThereNow k M (by assumption)) q_M_isThereNow lm_M_172 d_M_key_29 (by decide) rfl (Nat.le_of_ble_eq_true rfl) rfl ?_
            refine V.get (fun H hR => (show thr M k = 0 ∨ thr M k = 1 from by unfold thr; split; exact hR.2.2.2.2.2.2 4 k rfl; exact hR.2.2.2.2.2.2 1 k rfl)) (fun i32 => ?_)
            refine v_if_eq o.ok (by omega) d_M_key_32 (fun c32 => ?_) (fun c32 => ?_)
            · refine v_iconst o.ok d_M_key_39 ?_
              refine v_goto o.ok d_M_key_40 ?_
              refine m_iret o d_M_key_48 ⟨congrArg some (by unfold o_key; first | (rw [if_neg (by omega)]) | (rw [if_pos (by omega)]; first | (rw [if_pos (by omega)]; omega) | (rw [if_neg (by omega), if_pos (by omega)]) | (rw [if_neg (by omega), if_neg (by omega), if_pos (by omega)]; omega) | (rw [if_neg (by omega), if_neg (by omega), if_neg (by omega)]))), rfl⟩
            · refine v_iconst o.ok d_M_key_35 ?_
              refine v_goto o.ok d_M_key_36 ?_
              refine m_iret o d_M_key_48 ⟨congrArg some (by unfold o_key; first | (rw [if_neg (by omega)]) | (rw [if_pos (by omega)]; first | (rw [if_pos (by omega)]; omega) | (rw [if_neg (by omega), if_pos (by omega)]) | (rw [if_neg (by omega), if_neg (by omega), if_pos (by omega)]; omega) | (rw [if_neg (by omega), if_neg (by omega), if_neg (by omega)]))), rfl⟩
      · refine v_iconst o.ok d_M_key_16 ?_
        refine m_iret o d_M_key_17 ⟨congrArg some (by unfold o_key; first | (rw [if_neg (by omega)]) | (rw [if_pos (by omega)]; first | (rw [if_pos (by omega)]; omega) | (rw [if_neg (by omega), if_pos (by omega)]) | (rw [if_neg (by omega), if_neg (by omega), if_pos (by omega)]; omega) | (rw [if_neg (by omega), if_neg (by omega), if_neg (by omega)]))), rfl⟩
set_option maxHeartbeats 4000000 in
set_option maxRecDepth 20000 in
theorem c_M_log (w : Int) (M : MSt) (hw : InR w) (hf : WF M) : MF y_M_log (wsOf y_M_log b_M_log 2 (some .int)) 3 [w] M (some (o_log M w)) (M) := by
  refine MCon.of (by decide) rfl (Nat.le_of_ble_eq_true rfl) ?_
  intro X E o
  show V X (RelM E M) 0 [(0, .ref (Em.x E)), (1, J (w))] [] []
  refine v_iload_n (i := 1) o.ok d_M_log_0 rfl rfl ?_
  by_cases w1 : w < 0 ∨ 4 < w
  · refine v_tabOut (tgt := 61) o.ok (by omega) d_M_log_1 w1 (by decide) ?_
    refine v_iconst o.ok d_M_log_61 ?_
    refine m_iret o d_M_log_62 ⟨congrArg some (by unfold o_log; first | rw [if_pos (by omega)] | rw [if_neg (by omega), if_pos (by omega)] | rw [if_neg (by omega), if_neg (by omega), if_pos (by omega)] | rw [if_neg (by omega), if_neg (by omega), if_neg (by omega), if_pos (by omega)] | rw [if_neg (by omega), if_neg (by omega), if_neg (by omega), if_neg (by omega), if_pos (by omega)] | rw [if_neg (by omega), if_neg (by omega), if_neg (by omega), if_neg (by omega), if_neg (by omega)]), rfl⟩
  · rcases (show w = 0 ∨ w = 1 ∨ w = 2 ∨ w = 3 ∨ w = 4 from by omega) with w1 | w1 | w1 | w1 | w1
    · refine v_tabIn (tgt := 36) o.ok (by omega) d_M_log_1 (by omega) (by omega) (off := 35) (by rw [w1]; rfl) (by decide) ?_
      refine v_aload_n (i := 0) o.ok d_M_log_36 rfl rfl ?_
      refine m_cf o (c_M_last M) q_M_last lm_M_128 d_M_log_37 (by decide) rfl (Nat.le_of_ble_eq_true rfl) rfl ?_
      refine m_iret o d_M_log_40 ⟨congrArg some (by unfold o_log; first | rw [if_pos (by omega)] | rw [if_neg (by omega), if_pos (by omega)] | rw [if_neg (by omega), if_neg (by omega), if_pos (by omega)] | rw [if_neg (by omega), if_neg (by omega), if_neg (by omega), if_pos (by omega)] | rw [if_neg (by omega), if_neg (by omega), if_neg (by omega), if_neg (by omega), if_pos (by omega)] | rw [if_neg (by omega), if_neg (by omega), if_neg (by omega), if_neg (by omega), if_neg (by omega)]), rfl⟩
    · refine v_tabIn (tgt := 41) o.ok (by omega) d_M_log_1 (by omega) (by omega) (off := 40) (by rw [w1]; rfl) (by decide) ?_
      refine v_aload_n (i := 0) o.ok d_M_log_41 rfl rfl ?_
      refine m_geti o 13 (by decide) rfl lf_M_105 rfl d_M_log_42 (fun i42 => ?_)
      refine m_iret o d_M_log_45 ⟨congrArg some (by unfold o_log; first | rw [if_pos (by omega)] | rw [if_neg (by omega), if_pos (by omega)] | rw [if_neg (by omega), if_neg (by omega), if_pos (by omega)] | rw [if_neg (by omega), if_neg (by omega), if_neg (by omega), if_pos (by omega)] | rw [if_neg (by omega), if_neg (by omega), if_neg (by omega), if_neg (by omega), if_pos (by omega)] | rw [if_neg (by omega), if_neg (by omega), if_neg (by omega), if_neg (by omega), if_neg (by omega)]), rfl⟩
    · refine v_tabIn (tgt := 46) o.ok (by omega) d_M_log_1 (by omega) (by omega) (off := 45) (by rw [w1]; rfl) (by decide) ?_
      refine v_aload_n (i := 0) o.ok d_M_log_46 rfl rfl ?_
      refine m_geti o 12 (by decide) rfl lf_M_118 rfl d_M_log_47 (fun i47 => ?_)
      refine m_iret o d_M_log_50 ⟨congrArg some (by unfold o_log; first | rw [if_pos (by omega)] | rw [if_neg (by omega), if_pos (by omega)] | rw [if_neg (by omega), if_neg (by omega), if_pos (by omega)] | rw [if_neg (by omega), if_neg (by omega), if_neg (by omega), if_pos (by omega)] | rw [if_neg (by omega), if_neg (by omega), if_neg (by omega), if_neg (by omega), if_pos (by omega)] | rw [if_neg (by omega), if_neg (by omega), if_neg (by omega), if_neg (by omega), if_neg (by omega)]), rfl⟩
    · refine v_tabIn (tgt := 51) o.ok (by omega) d_M_log_1 (by omega) (by omega) (off := 50) (by rw [w1]; rfl) (by decide) ?_
      refine v_aload_n (i := 0) o.ok d_M_log_51 rfl rfl ?_
      refine m_cf o (c_M_opens M hf.par hf.bys hf.recs hf.base) q_M_opens lm_M_153 d_M_log_52 (by decide) rfl (Nat.le_of_ble_eq_true rfl) rfl ?_
      refine m_iret o d_M_log_55 ⟨congrArg some (by unfold o_log; first | rw [if_pos (by omega)] | rw [if_neg (by omega), if_pos (by omega)] | rw [if_neg (by omega), if_neg (by omega), if_pos (by omega)] | rw [if_neg (by omega), if_neg (by omega), if_neg (by omega), if_pos (by omega)] | rw [if_neg (by omega), if_neg (by omega), if_neg (by omega), if_neg (by omega), if_pos (by omega)] | rw [if_neg (by omega), if_neg (by omega), if_neg (by omega), if_neg (by omega), if_neg (by omega)]), rfl⟩
    · refine v_tabIn (tgt := 56) o.ok (by omega) d_M_log_1 (by omega) (by omega) (off := 55) (by rw [w1]; rfl) (by decide) ?_
      refine v_aload_n (i := 0) o.ok d_M_log_56 rfl rfl ?_
      refine m_cf o (c_M_lives M hf.many) q_M_lives lm_M_156 d_M_log_57 (by decide) rfl (Nat.le_of_ble_eq_true rfl) rfl ?_
      refine m_iret o d_M_log_60 ⟨congrArg some (by unfold o_log; first | rw [if_pos (by omega)] | rw [if_neg (by omega), if_pos (by omega)] | rw [if_neg (by omega), if_neg (by omega), if_pos (by omega)] | rw [if_neg (by omega), if_neg (by omega), if_neg (by omega), if_pos (by omega)] | rw [if_neg (by omega), if_neg (by omega), if_neg (by omega), if_neg (by omega), if_pos (by omega)] | rw [if_neg (by omega), if_neg (by omega), if_neg (by omega), if_neg (by omega), if_neg (by omega)]), rfl⟩
set_option maxHeartbeats 4000000 in
set_option maxRecDepth 20000 in
theorem c_M_entry (num w : Int) (M : MSt) (hn : InR num) (hw : InR w) (hf : WF M) : MF y_M_entry (wsOf y_M_entry b_M_entry 4 (some .int)) 1 [num, w] M (some (o_entry M num w)) (M) := by
  refine MCon.of (by decide) rfl (Nat.le_of_ble_eq_true rfl) ?_
  intro X E o
  show V X (RelM E M) 0 [(0, .ref (Em.x E)), (1, J (num)), (2, J (w))] [] []
  have hb := hf.base
  have hr := hf.recs
  have el : lst M = M 11 0 + M 12 0 := rfl
  refine v_iload_n (i := 1) o.ok d_M_entry_0 rfl rfl ?_
  refine v_aload_n (i := 0) o.ok d_M_entry_1 rfl rfl ?_
  refine m_geti o 11 (by decide) rfl lf_M_115 rfl d_M_entry_2 (fun i2 => ?_)
  refine v_isub o.ok d_M_entry_5 ?_
  refine v_iconst o.ok d_M_entry_6 ?_
  refine v_isub o.ok d_M_entry_7 ?_
  refine v_istore_n (i := 3) (L' := [(0, _), (1, _), (2, _), (3, _)]) (G' := []) o.ok d_M_entry_8 rfl (o.lt (by decide)) rfl rfl ?_
  refine v_iload_n (i := 1) o.ok d_M_entry_9 rfl rfl ?_
  refine v_aload_n (i := 0) o.ok d_M_entry_10 rfl rfl ?_
  refine m_geti o 11 (by decide) rfl lf_M_115 rfl d_M_entry_11 (fun i11 => ?_)
  refine v_icmp_le o.ok (by first | omega | (unfold lst; omega)) (by first | omega | (unfold lst; omega)) d_M_entry_14 (fun c14 => ?_) (fun c14 => ?_)
  · refine v_iconst o.ok d_M_entry_34 ?_
    refine m_iret o d_M_entry_35 ⟨congrArg some (by
        unfold o_entry
        first
          | rw [if_neg (by omega)]
          | (rw [if_pos (by omega)]
             first
               | rw [if_pos (by omega)]
               | rw [if_neg (by omega), if_pos (by omega)]
               | rw [if_neg (by omega), if_neg (by omega), if_pos (by omega)]
               | (rw [if_neg (by omega), if_neg (by omega), if_neg (by omega), if_pos (by omega)]; first | rw [if_pos (by omega)] | (rw [if_neg (by omega)]; omega))
               | (rw [if_neg (by omega), if_neg (by omega), if_neg (by omega), if_neg (by omega), if_pos (by omega)]; omega)
               | (rw [if_neg (by omega), if_neg (by omega), if_neg (by omega), if_neg (by omega), if_neg (by omega)]))), rfl⟩
  · refine v_iload_n (i := 1) o.ok d_M_entry_17 rfl rfl ?_
    refine v_aload_n (i := 0) o.ok d_M_entry_18 rfl rfl ?_
    refine m_cf o (c_M_last M) q_M_last lm_M_128 d_M_entry_19 (by decide) rfl (Nat.le_of_ble_eq_true rfl) rfl ?_
    refine v_icmp_gt o.ok (by first | omega | (unfold lst; omega)) (by first | omega | (unfold lst; omega)) d_M_entry_22 (fun c22 => ?_) (fun c22 => ?_)
    · refine v_iconst o.ok d_M_entry_34 ?_
      refine m_iret o d_M_entry_35 ⟨congrArg some (by
          unfold o_entry
          first
            | rw [if_neg (by omega)]
            | (rw [if_pos (by omega)]
               first
                 | rw [if_pos (by omega)]
                 | rw [if_neg (by omega), if_pos (by omega)]
                 | rw [if_neg (by omega), if_neg (by omega), if_pos (by omega)]
                 | (rw [if_neg (by omega), if_neg (by omega), if_neg (by omega), if_pos (by omega)]; first | rw [if_pos (by omega)] | (rw [if_neg (by omega)]; omega))
                 | (rw [if_neg (by omega), if_neg (by omega), if_neg (by omega), if_neg (by omega), if_pos (by omega)]; omega)
                 | (rw [if_neg (by omega), if_neg (by omega), if_neg (by omega), if_neg (by omega), if_neg (by omega)]))), rfl⟩
    · refine v_iload_n (i := 2) o.ok d_M_entry_25 rfl rfl ?_
      refine v_if_lt o.ok (by first | omega | (unfold lst; omega)) d_M_entry_26 (fun c26 => ?_) (fun c26 => ?_)
      · refine v_iconst o.ok d_M_entry_34 ?_
        refine m_iret o d_M_entry_35 ⟨congrArg some (by
            unfold o_entry
            first
              | rw [if_neg (by omega)]
              | (rw [if_pos (by omega)]
                 first
                   | rw [if_pos (by omega)]
                   | rw [if_neg (by omega), if_pos (by omega)]
                   | rw [if_neg (by omega), if_neg (by omega), if_pos (by omega)]
                   | (rw [if_neg (by omega), if_neg (by omega), if_neg (by omega), if_pos (by omega)]; first | rw [if_pos (by omega)] | (rw [if_neg (by omega)]; omega))
                   | (rw [if_neg (by omega), if_neg (by omega), if_neg (by omega), if_neg (by omega), if_pos (by omega)]; omega)
                   | (rw [if_neg (by omega), if_neg (by omega), if_neg (by omega), if_neg (by omega), if_neg (by omega)]))), rfl⟩
      · refine v_iload_n (i := 2) o.ok d_M_entry_29 rfl rfl ?_
        refine v_iconst o.ok d_M_entry_30 ?_
        refine v_icmp_le o.ok (by first | omega | (unfold lst; omega)) (by first | omega | (unfold lst; omega)) d_M_entry_31 (fun c31 => ?_) (fun c31 => ?_)
        · refine v_iload_n (i := 2) o.ok d_M_entry_36 rfl rfl ?_
          by_cases w37 : w < 0 ∨ 4 < w
          · refine v_tabOut (tgt := 142) o.ok (by first | omega | (unfold lst; omega)) d_M_entry_37 w37 (by decide) ?_
            refine v_aload_n (i := 0) o.ok d_M_entry_142 rfl rfl ?_
            refine m_geta o 21 (by decide) (by decide) lf_M_59 rfl d_M_entry_143 ?_
            refine v_iload_n (i := 3) o.ok d_M_entry_146 rfl rfl ?_
            refine m_iald o 21 301 rfl rfl (by omega) d_M_entry_147 (fun i147 => ?_)
            refine m_iret o d_M_entry_148 ⟨congrArg some (by
                unfold o_entry
                first
                  | rw [if_neg (by omega)]
                  | (rw [if_pos (by omega)]
                     first
                       | rw [if_pos (by omega)]
                       | rw [if_neg (by omega), if_pos (by omega)]
                       | rw [if_neg (by omega), if_neg (by omega), if_pos (by omega)]
                       | (rw [if_neg (by omega), if_neg (by omega), if_neg (by omega), if_pos (by omega)]; first | rw [if_pos (by omega)] | (rw [if_neg (by omega)]; omega))
                       | (rw [if_neg (by omega), if_neg (by omega), if_neg (by omega), if_neg (by omega), if_pos (by omega)]; omega)
                       | (rw [if_neg (by omega), if_neg (by omega), if_neg (by omega), if_neg (by omega), if_neg (by omega)]))), rfl⟩
          · rcases (show w = 0 ∨ w = 1 ∨ w = 2 ∨ w = 3 ∨ w = 4 from by omega) with w37 | w37 | w37 | w37 | w37
            · refine v_tabIn (tgt := 72) o.ok (by first | omega | (unfold lst; omega)) d_M_entry_37 (by omega) (by omega) (off := 35) (by rw [w37]; rfl) (by decide) ?_
              refine v_aload_n (i := 0) o.ok d_M_entry_72 rfl rfl ?_
              refine m_geta o 14 (by decide) (by decide) lf_M_38 rfl d_M_entry_73 ?_
              refine v_iload_n (i := 3) o.ok d_M_entry_76 rfl rfl ?_
              refine m_iald o 14 301 rfl rfl (by omega) d_M_entry_77 (fun i77 => ?_)
              refine m_iret o d_M_entry_78 ⟨congrArg some (by
                  unfold o_entry
                  first
                    | rw [if_neg (by omega)]
                    | (rw [if_pos (by omega)]
                       first
                         | rw [if_pos (by omega)]
                         | rw [if_neg (by omega), if_pos (by omega)]
                         | rw [if_neg (by omega), if_neg (by omega), if_pos (by omega)]
                         | (rw [if_neg (by omega), if_neg (by omega), if_neg (by omega), if_pos (by omega)]; first | rw [if_pos (by omega)] | (rw [if_neg (by omega)]; omega))
                         | (rw [if_neg (by omega), if_neg (by omega), if_neg (by omega), if_neg (by omega), if_pos (by omega)]; omega)
                         | (rw [if_neg (by omega), if_neg (by omega), if_neg (by omega), if_neg (by omega), if_neg (by omega)]))), rfl⟩
            · refine v_tabIn (tgt := 79) o.ok (by first | omega | (unfold lst; omega)) d_M_entry_37 (by omega) (by omega) (off := 42) (by rw [w37]; rfl) (by decide) ?_
              refine v_aload_n (i := 0) o.ok d_M_entry_79 rfl rfl ?_
              refine m_geta o 15 (by decide) (by decide) lf_M_41 rfl d_M_entry_80 ?_
              refine v_iload_n (i := 3) o.ok d_M_entry_83 rfl rfl ?_
              refine m_iald o 15 301 rfl rfl (by omega) d_M_entry_84 (fun i84 => ?_)
              refine m_iret o d_M_entry_85 ⟨congrArg some (by
                  unfold o_entry
                  first
                    | rw [if_neg (by omega)]
                    | (rw [if_pos (by omega)]
                       first
                         | rw [if_pos (by omega)]
                         | rw [if_neg (by omega), if_pos (by omega)]
                         | rw [if_neg (by omega), if_neg (by omega), if_pos (by omega)]
                         | (rw [if_neg (by omega), if_neg (by omega), if_neg (by omega), if_pos (by omega)]; first | rw [if_pos (by omega)] | (rw [if_neg (by omega)]; omega))
                         | (rw [if_neg (by omega), if_neg (by omega), if_neg (by omega), if_neg (by omega), if_pos (by omega)]; omega)
                         | (rw [if_neg (by omega), if_neg (by omega), if_neg (by omega), if_neg (by omega), if_neg (by omega)]))), rfl⟩
            · refine v_tabIn (tgt := 86) o.ok (by first | omega | (unfold lst; omega)) d_M_entry_37 (by omega) (by omega) (off := 49) (by rw [w37]; rfl) (by decide) ?_
              refine v_aload_n (i := 0) o.ok d_M_entry_86 rfl rfl ?_
              refine m_geta o 16 (by decide) (by decide) lf_M_44 rfl d_M_entry_87 ?_
              refine v_iload_n (i := 3) o.ok d_M_entry_90 rfl rfl ?_
              refine m_iald o 16 301 rfl rfl (by omega) d_M_entry_91 (fun i91 => ?_)
              refine m_iret o d_M_entry_92 ⟨congrArg some (by
                  unfold o_entry
                  first
                    | rw [if_neg (by omega)]
                    | (rw [if_pos (by omega)]
                       first
                         | rw [if_pos (by omega)]
                         | rw [if_neg (by omega), if_pos (by omega)]
                         | rw [if_neg (by omega), if_neg (by omega), if_pos (by omega)]
                         | (rw [if_neg (by omega), if_neg (by omega), if_neg (by omega), if_pos (by omega)]; first | rw [if_pos (by omega)] | (rw [if_neg (by omega)]; omega))
                         | (rw [if_neg (by omega), if_neg (by omega), if_neg (by omega), if_neg (by omega), if_pos (by omega)]; omega)
                         | (rw [if_neg (by omega), if_neg (by omega), if_neg (by omega), if_neg (by omega), if_neg (by omega)]))), rfl⟩
            · refine v_tabIn (tgt := 93) o.ok (by first | omega | (unfold lst; omega)) d_M_entry_37 (by omega) (by omega) (off := 56) (by rw [w37]; rfl) (by decide) ?_
              refine v_aload_n (i := 0) o.ok d_M_entry_93 rfl rfl ?_
              refine m_geta o 14 (by decide) (by decide) lf_M_38 rfl d_M_entry_94 ?_
              refine v_iload_n (i := 3) o.ok d_M_entry_97 rfl rfl ?_
              refine m_iald o 14 301 rfl rfl (by omega) d_M_entry_98 (fun i98 => ?_)
              refine v_iconst o.ok d_M_entry_99 ?_
              refine v_icmp_ne o.ok (by first | omega | (unfold lst; omega)) (by first | omega | (unfold lst; omega)) d_M_entry_100 (fun c100 => ?_) (fun c100 => ?_)
              · refine v_aload_n (i := 0) o.ok d_M_entry_112 rfl rfl ?_
                refine m_geta o 18 (by decide) (by decide) lf_M_50 rfl d_M_entry_113 ?_
                refine v_iload_n (i := 3) o.ok d_M_entry_116 rfl rfl ?_
                refine m_zald o 18 301 rfl rfl (by omega) d_M_entry_117 (fun i117 => ?_)
                first | refine v_ifeq_b o.ok d_M_entry_118 (fun c118 => ?_) (fun c118 => ?_) | refine v_if_eq o.ok (by first | omega | (unfold lst; omega)) d_M_entry_118 (fun c118 => ?_) (fun c118 => ?_)
                · refine v_iconst o.ok d_M_entry_125 ?_
                  refine m_iret o d_M_entry_126 ⟨congrArg some (by
                      unfold o_entry
                      first
                        | rw [if_neg (by omega)]
                        | (rw [if_pos (by omega)]
                           first
                             | rw [if_pos (by omega)]
                             | rw [if_neg (by omega), if_pos (by omega)]
                             | rw [if_neg (by omega), if_neg (by omega), if_pos (by omega)]
                             | (rw [if_neg (by omega), if_neg (by omega), if_neg (by omega), if_pos (by omega)]; first | rw [if_pos (by omega)] | (rw [if_neg (by omega)]; omega))
                             | (rw [if_neg (by omega), if_neg (by omega), if_neg (by omega), if_neg (by omega), if_pos (by omega)]; omega)
                             | (rw [if_neg (by omega), if_neg (by omega), if_neg (by omega), if_neg (by omega), if_neg (by omega)]))), rfl⟩
                · refine v_iconst o.ok d_M_entry_121 ?_
                  refine v_goto o.ok d_M_entry_122 ?_
                  refine m_iret o d_M_entry_126 ⟨congrArg some (by
                      unfold o_entry
                      first
                        | rw [if_neg (by omega)]
                        | (rw [if_pos (by omega)]
                           first
                             | rw [if_pos (by omega)]
                             | rw [if_neg (by omega), if_pos (by omega)]
                             | rw [if_neg (by omega), if_neg (by omega), if_pos (by omega)]
                             | (rw [if_neg (by omega), if_neg (by omega), if_neg (by omega), if_pos (by omega)]; first | rw [if_pos (by omega)] | (rw [if_neg (by omega)]; omega))
                             | (rw [if_neg (by omega), if_neg (by omega), if_neg (by omega), if_neg (by omega), if_pos (by omega)]; omega)
                             | (rw [if_neg (by omega), if_neg (by omega), if_neg (by omega), if_neg (by omega), if_neg (by omega)]))), rfl⟩
              · refine v_aload_n (i := 0) o.ok d_M_entry_103 rfl rfl ?_
                refine m_geta o 17 (by decide) (by decide) lf_M_47 rfl d_M_entry_104 ?_
                refine v_iload_n (i := 3) o.ok d_M_entry_107 rfl rfl ?_
                refine m_iald o 17 301 rfl rfl (by omega) d_M_entry_108 (fun i108 => ?_)
                refine v_goto o.ok d_M_entry_109 ?_
                refine m_iret o d_M_entry_126 ⟨congrArg some (by
                    unfold o_entry
                    first
                      | rw [if_neg (by omega)]
                      | (rw [if_pos (by omega)]
                         first
                           | rw [if_pos (by omega)]
                           | rw [if_neg (by omega), if_pos (by omega)]
                           | rw [if_neg (by omega), if_neg (by omega), if_pos (by omega)]
                           | (rw [if_neg (by omega), if_neg (by omega), if_neg (by omega), if_pos (by omega)]; first | rw [if_pos (by omega)] | (rw [if_neg (by omega)]; omega))
                           | (rw [if_neg (by omega), if_neg (by omega), if_neg (by omega), if_neg (by omega), if_pos (by omega)]; omega)
                           | (rw [if_neg (by omega), if_neg (by omega), if_neg (by omega), if_neg (by omega), if_neg (by omega)]))), rfl⟩
            · refine v_tabIn (tgt := 127) o.ok (by first | omega | (unfold lst; omega)) d_M_entry_37 (by omega) (by omega) (off := 90) (by rw [w37]; rfl) (by decide) ?_
              refine v_aload_n (i := 0) o.ok d_M_entry_127 rfl rfl ?_
              refine m_geta o 20 (by decide) (by decide) lf_M_56 rfl d_M_entry_128 ?_
              refine v_iload_n (i := 3) o.ok d_M_entry_131 rfl rfl ?_
              refine m_zald o 20 301 rfl rfl (by omega) d_M_entry_132 (fun i132 => ?_)
              first | refine v_ifeq_b o.ok d_M_entry_133 (fun c133 => ?_) (fun c133 => ?_) | refine v_if_eq o.ok (by first | omega | (unfold lst; omega)) d_M_entry_133 (fun c133 => ?_) (fun c133 => ?_)
              · refine v_iconst o.ok d_M_entry_140 ?_
                refine m_iret o d_M_entry_141 ⟨congrArg some (by
                    unfold o_entry
                    first
                      | rw [if_neg (by omega)]
                      | (rw [if_pos (by omega)]
                         first
                           | rw [if_pos (by omega)]
                           | rw [if_neg (by omega), if_pos (by omega)]
                           | rw [if_neg (by omega), if_neg (by omega), if_pos (by omega)]
                           | (rw [if_neg (by omega), if_neg (by omega), if_neg (by omega), if_pos (by omega)]; first | rw [if_pos (by omega)] | (rw [if_neg (by omega)]; omega))
                           | (rw [if_neg (by omega), if_neg (by omega), if_neg (by omega), if_neg (by omega), if_pos (by omega)]; omega)
                           | (rw [if_neg (by omega), if_neg (by omega), if_neg (by omega), if_neg (by omega), if_neg (by omega)]))), rfl⟩
              · refine v_iconst o.ok d_M_entry_136 ?_
                refine v_goto o.ok d_M_entry_137 ?_
                refine m_iret o d_M_entry_141 ⟨congrArg some (by
                    unfold o_entry
                    first
                      | rw [if_neg (by omega)]
                      | (rw [if_pos (by omega)]
                         first
                           | rw [if_pos (by omega)]
                           | rw [if_neg (by omega), if_pos (by omega)]
                           | rw [if_neg (by omega), if_neg (by omega), if_pos (by omega)]
                           | (rw [if_neg (by omega), if_neg (by omega), if_neg (by omega), if_pos (by omega)]; first | rw [if_pos (by omega)] | (rw [if_neg (by omega)]; omega))
                           | (rw [if_neg (by omega), if_neg (by omega), if_neg (by omega), if_neg (by omega), if_pos (by omega)]; omega)
                           | (rw [if_neg (by omega), if_neg (by omega), if_neg (by omega), if_neg (by omega), if_neg (by omega)]))), rfl⟩
        · refine v_iconst o.ok d_M_entry_34 ?_
          refine m_iret o d_M_entry_35 ⟨congrArg some (by
              unfold o_entry
              first
                | rw [if_neg (by omega)]
                | (rw [if_pos (by omega)]
                   first
                     | rw [if_pos (by omega)]
                     | rw [if_neg (by omega), if_pos (by omega)]
                     | rw [if_neg (by omega), if_neg (by omega), if_pos (by omega)]
                     | (rw [if_neg (by omega), if_neg (by omega), if_neg (by omega), if_pos (by omega)]; first | rw [if_pos (by omega)] | (rw [if_neg (by omega)]; omega))
                     | (rw [if_neg (by omega), if_neg (by omega), if_neg (by omega), if_neg (by omega), if_pos (by omega)]; omega)
                     | (rw [if_neg (by omega), if_neg (by omega), if_neg (by omega), if_neg (by omega), if_neg (by omega)]))), rfl⟩
set_option maxHeartbeats 4000000 in
set_option maxRecDepth 20000 in
theorem c_M_save (t : Int) (M : MSt) (ht : InR t) (hm : 0 ≤ M 22 0 ∧ M 22 0 ≤ 60) : MF y_M_save (wsOf y_M_save b_M_save 2 (some .int)) 2 [t] M (some (pick (bar M t = 0) (lst M) (bar M t))) (M) := by
  refine MCon.of (by decide) rfl (Nat.le_of_ble_eq_true rfl) ?_
  intro X E o
  show V X (RelM E M) 0 [(0, .ref (Em.x E)), (1, J (t))] [] []
  refine v_aload_n (i := 0) o.ok d_M_save_0 rfl rfl ?_
  refine v_iload_n (i := 1) o.ok d_M_save_1 rfl rfl ?_
  refine m_cf o (c_M_active t M ht hm.2) q_M_active lm_M_162 d_M_save_2 (by decide) rfl (Nat.le_of_ble_eq_true rfl) rfl ?_
  first | refine v_ifne_b o.ok d_M_save_5 (fun c5 => ?_) (fun c5 => ?_) | refine v_if_ne o.ok (by omega) d_M_save_5 (fun c5 => ?_) (fun c5 => ?_)
  · refine v_aload_n (i := 0) o.ok d_M_save_12 rfl rfl ?_
    refine v_iload_n (i := 1) o.ok d_M_save_13 rfl rfl ?_
    refine m_cf o (c_M_busy t M ht hm) q_M_busy lm_M_233 d_M_save_14 (by decide) rfl (Nat.le_of_ble_eq_true rfl) rfl ?_
    first | refine v_ifeq_b o.ok d_M_save_17 (fun c17 => ?_) (fun c17 => ?_) | refine v_if_eq o.ok (by omega) d_M_save_17 (fun c17 => ?_) (fun c17 => ?_)
    · refine v_aload_n (i := 0) o.ok d_M_save_25 rfl rfl ?_
      refine m_cf o (c_M_last M) q_M_last lm_M_128 d_M_save_26 (by decide) rfl (Nat.le_of_ble_eq_true rfl) rfl ?_
      refine m_iret o d_M_save_29 ⟨congrArg some (by
          first
            | (have e : bar M t = -1 := pick_f (by assumption)
               rw [e]; exact (pick_f (by decide)).symm)
            | (have e : bar M t = -4 := (pick_t (by assumption)).trans (pick_t (by assumption))
               rw [e]; exact (pick_f (by decide)).symm)
            | (have e : bar M t = 0 := (pick_t (by assumption)).trans (pick_f (by assumption))
               rw [e]; exact (pick_t rfl).symm)), rfl⟩
    · refine v_bipush o.ok d_M_save_20 rfl ?_
      refine v_goto o.ok d_M_save_22 ?_
      refine m_iret o d_M_save_29 ⟨congrArg some (by
          first
            | (have e : bar M t = -1 := pick_f (by assumption)
               rw [e]; exact (pick_f (by decide)).symm)
            | (have e : bar M t = -4 := (pick_t (by assumption)).trans (pick_t (by assumption))
               rw [e]; exact (pick_f (by decide)).symm)
            | (have e : bar M t = 0 := (pick_t (by assumption)).trans (pick_f (by assumption))
               rw [e]; exact (pick_t rfl).symm)), rfl⟩
  · refine v_iconst o.ok d_M_save_8 ?_
    refine v_goto o.ok d_M_save_9 ?_
    refine m_iret o d_M_save_29 ⟨congrArg some (by
        first
          | (have e : bar M t = -1 := pick_f (by assumption)
             rw [e]; exact (pick_f (by decide)).symm)
          | (have e : bar M t = -4 := (pick_t (by assumption)).trans (pick_t (by assumption))
             rw [e]; exact (pick_f (by decide)).symm)
          | (have e : bar M t = 0 := (pick_t (by assumption)).trans (pick_f (by assumption))
             rw [e]; exact (pick_t rfl).symm)), rfl⟩
set_option maxHeartbeats 4000000 in
set_option maxRecDepth 20000 in
theorem c_M_rollback (t pt : Int) (M : MSt) (ht : InR t) (hpt : InR pt) (hf : WF M) : MF y_M_rollback (wsOf y_M_rollback b_M_rollback 3 (some .int)) 4 [t, pt] M (some (r_rollback M t pt).1) ((r_rollback M t pt).2) := by
  refine MCon.of (by decide) rfl (Nat.le_of_ble_eq_true rfl) ?_
  intro X E o
  show V X (RelM E M) 0 [(0, .ref (Em.x E)), (1, J (t)), (2, J (pt))] [] []
  have hb := hf.base
  have hr := hf.recs
  have hm := hf.many
  have el : lst M = M 11 0 + M 12 0 := rfl
  refine v_aload_n (i := 0) o.ok d_M_rollback_0 rfl rfl ?_
  refine v_iload_n (i := 1) o.ok d_M_rollback_1 rfl rfl ?_
  refine m_cf o (c_M_active t M ht hm.2) q_M_active lm_M_162 d_M_rollback_2 (by decide) rfl (Nat.le_of_ble_eq_true rfl) rfl ?_
  first | refine v_ifeq_b o.ok d_M_rollback_5 (fun c5 => ?_) (fun c5 => ?_) | refine v_if_eq o.ok (by omega) d_M_rollback_5 (fun c5 => ?_) (fun c5 => ?_)
  · refine v_iconst o.ok d_M_rollback_26 ?_
    refine m_iret o d_M_rollback_27 ?_
    first
      | (have e : r_rollback M t pt = (-1, M) := pick_f (fun q => by first | exact absurd q.1 (by assumption) | (have := q.2; omega))
         rw [e]; exact ⟨rfl, rfl⟩)
      | (have e : r_rollback M t pt = (-4, M) := (pick_t ⟨by assumption, by omega, by omega⟩).trans (pick_t (by assumption))
         rw [e]; exact ⟨rfl, rfl⟩)
      | (have e : r_rollback M t pt = undoes M t pt := (pick_t ⟨by assumption, by omega, by omega⟩).trans (pick_f (by assumption))
         rw [e]; exact ⟨rfl, rfl⟩)
  · have hA : 0 ≤ t ∧ t < M 22 0 := And.left (by assumption)
    refine v_iload_n (i := 2) o.ok d_M_rollback_8 rfl rfl ?_
    refine v_aload_n (i := 0) o.ok d_M_rollback_9 rfl rfl ?_
    refine m_geta o 25 (by decide) (by decide) lf_M_68 rfl d_M_rollback_10 ?_
    refine v_iload_n (i := 1) o.ok d_M_rollback_13 rfl rfl ?_
    refine m_iald o 25 60 rfl rfl (by omega) d_M_rollback_14 (fun i14 => ?_)
    refine v_icmp_lt o.ok (by omega) (by omega) d_M_rollback_15 (fun c15 => ?_) (fun c15 => ?_)
    · refine v_iconst o.ok d_M_rollback_26 ?_
      refine m_iret o d_M_rollback_27 ?_
      first
        | (have e : r_rollback M t pt = (-1, M) := pick_f (fun q => by first | exact absurd q.1 (by assumption) | (have := q.2; omega))
           rw [e]; exact ⟨rfl, rfl⟩)
        | (have e : r_rollback M t pt = (-4, M) := (pick_t ⟨by assumption, by omega, by omega⟩).trans (pick_t (by assumption))
           rw [e]; exact ⟨rfl, rfl⟩)
        | (have e : r_rollback M t pt = undoes M t pt := (pick_t ⟨by assumption, by omega, by omega⟩).trans (pick_f (by assumption))
           rw [e]; exact ⟨rfl, rfl⟩)
    · refine v_iload_n (i := 2) o.ok d_M_rollback_18 rfl rfl ?_
      refine v_aload_n (i := 0) o.ok d_M_rollback_19 rfl rfl ?_
      refine m_cf o (c_M_last M) q_M_last lm_M_128 d_M_rollback_20 (by decide) rfl (Nat.le_of_ble_eq_true rfl) rfl ?_
      refine v_icmp_le o.ok (by omega) (by omega) d_M_rollback_23 (fun c23 => ?_) (fun c23 => ?_)
      · refine v_aload_n (i := 0) o.ok d_M_rollback_28 rfl rfl ?_
        refine v_iload_n (i := 1) o.ok d_M_rollback_29 rfl rfl ?_
        refine m_cf o (c_M_busy t M ht hm) q_M_busy lm_M_233 d_M_rollback_30 (by decide) rfl (Nat.le_of_ble_eq_true rfl) rfl ?_
        first | refine v_ifeq_b o.ok d_M_rollback_33 (fun c33 => ?_) (fun c33 => ?_) | refine v_if_eq o.ok (by omega) d_M_rollback_33 (fun c33 => ?_) (fun c33 => ?_)
        · refine v_aload_n (i := 0) o.ok d_M_rollback_41 rfl rfl ?_
          refine v_iload_n (i := 1) o.ok d_M_rollback_42 rfl rfl ?_
          refine v_iload_n (i := 2) o.ok d_M_rollback_43 rfl rfl ?_
          refine m_cf o (c_M_undoes t pt M hf hA hpt) q_M_undoes lm_M_252 d_M_rollback_44 (by decide) rfl (Nat.le_of_ble_eq_true rfl) rfl ?_
          refine m_iret o d_M_rollback_47 ?_
          first
            | (have e : r_rollback M t pt = (-1, M) := pick_f (fun q => by first | exact absurd q.1 (by assumption) | (have := q.2; omega))
               rw [e]; exact ⟨rfl, rfl⟩)
            | (have e : r_rollback M t pt = (-4, M) := (pick_t ⟨by assumption, by omega, by omega⟩).trans (pick_t (by assumption))
               rw [e]; exact ⟨rfl, rfl⟩)
            | (have e : r_rollback M t pt = undoes M t pt := (pick_t ⟨by assumption, by omega, by omega⟩).trans (pick_f (by assumption))
               rw [e]; exact ⟨rfl, rfl⟩)
        · refine v_bipush o.ok d_M_rollback_36 rfl ?_
          refine v_goto o.ok d_M_rollback_38 ?_
          refine m_iret o d_M_rollback_47 ?_
          first
            | (have e : r_rollback M t pt = (-1, M) := pick_f (fun q => by first | exact absurd q.1 (by assumption) | (have := q.2; omega))
               rw [e]; exact ⟨rfl, rfl⟩)
            | (have e : r_rollback M t pt = (-4, M) := (pick_t ⟨by assumption, by omega, by omega⟩).trans (pick_t (by assumption))
               rw [e]; exact ⟨rfl, rfl⟩)
            | (have e : r_rollback M t pt = undoes M t pt := (pick_t ⟨by assumption, by omega, by omega⟩).trans (pick_f (by assumption))
               rw [e]; exact ⟨rfl, rfl⟩)
      · refine v_iconst o.ok d_M_rollback_26 ?_
        refine m_iret o d_M_rollback_27 ?_
        first
          | (have e : r_rollback M t pt = (-1, M) := pick_f (fun q => by first | exact absurd q.1 (by assumption) | (have := q.2; omega))
             rw [e]; exact ⟨rfl, rfl⟩)
          | (have e : r_rollback M t pt = (-4, M) := (pick_t ⟨by assumption, by omega, by omega⟩).trans (pick_t (by assumption))
             rw [e]; exact ⟨rfl, rfl⟩)
          | (have e : r_rollback M t pt = undoes M t pt := (pick_t ⟨by assumption, by omega, by omega⟩).trans (pick_f (by assumption))
             rw [e]; exact ⟨rfl, rfl⟩)
set_option maxHeartbeats 4000000 in
set_option maxRecDepth 20000 in
theorem c_M_abort (t : Int) (M : MSt) (ht : InR t) (hf : WF M) : MI y_M_abort (wsOf y_M_abort b_M_abort 2 (some .int)) 5 [t] M (fun z M' => z = (r_abort M t).1 ∧ ∃ Z, M' = sset (r_abort M t).2 Z) := by
  refine MCon.of (by decide) rfl (Nat.le_of_ble_eq_true rfl) ?_
  intro X E o
  show V X (RelM E M) 0 [(0, .ref (Em.x E)), (1, J (t))] [] []
  have hm := hf.many
  refine v_aload_n (i := 0) o.ok d_M_abort_0 rfl rfl ?_
  refine v_iload_n (i := 1) o.ok d_M_abort_1 rfl rfl ?_
  refine m_cf o (c_M_is t M ht) q_M_is lm_M_159 d_M_abort_2 (by decide) rfl (Nat.le_of_ble_eq_true rfl) rfl ?_
  first | refine v_ifeq_b o.ok d_M_abort_5 (fun c5 => ?_) (fun c5 => ?_) | refine v_if_eq o.ok (by omega) d_M_abort_5 (fun c5 => ?_) (fun c5 => ?_)
  · refine v_iconst o.ok d_M_abort_16 ?_
    refine v_goto o.ok d_M_abort_17 ?_
    refine m_iret o d_M_abort_25 ?_
    first
      | (have e : r_abort M t = (-1, M) := pick_f (fun q => by first | exact absurd q.1 (by assumption) | exact absurd q.2 (by assumption))
         exact ⟨-1, rfl, by rw [e], M, by rw [e]; exact (sset_self M).symm⟩)
      | (have e : r_abort M t = abt M t := pick_t ⟨by assumption, by assumption⟩
         exact ⟨_, rfl, by rw [e]; exact e22, Z22, by rw [e]; exact f22⟩)
  · refine v_aload_n (i := 0) o.ok d_M_abort_8 rfl rfl ?_
    refine v_iload_n (i := 1) o.ok d_M_abort_9 rfl rfl ?_
    refine m_cf o (c_M_live t M (by omega)) q_M_live lm_M_150 d_M_abort_10 (by decide) rfl (Nat.le_of_ble_eq_true rfl) rfl ?_
    first | refine v_ifne_b o.ok d_M_abort_13 (fun c13 => ?_) (fun c13 => ?_) | refine v_if_ne o.ok (by omega) d_M_abort_13 (fun c13 => ?_) (fun c13 => ?_)
    · refine v_aload_n (i := 0) o.ok d_M_abort_20 rfl rfl ?_
      refine v_iload_n (i := 1) o.ok d_M_abort_21 rfl rfl ?_
      refine m_ci o (c_M_aborts t M hf (by assumption)) q_M_aborts lm_M_230 d_M_abort_22 (by decide) rfl (Nat.le_of_ble_eq_true rfl) rfl (fun z22 M22 h22 => ?_)
      obtain ⟨e22, Z22, f22⟩ := h22
      refine m_iret o d_M_abort_25 ?_
      first
        | (have e : r_abort M t = (-1, M) := pick_f (fun q => by first | exact absurd q.1 (by assumption) | exact absurd q.2 (by assumption))
           exact ⟨-1, rfl, by rw [e], M, by rw [e]; exact (sset_self M).symm⟩)
        | (have e : r_abort M t = abt M t := pick_t ⟨by assumption, by assumption⟩
           exact ⟨_, rfl, by rw [e]; exact e22, Z22, by rw [e]; exact f22⟩)
    · refine v_iconst o.ok d_M_abort_16 ?_
      refine v_goto o.ok d_M_abort_17 ?_
      refine m_iret o d_M_abort_25 ?_
      first
        | (have e : r_abort M t = (-1, M) := pick_f (fun q => by first | exact absurd q.1 (by assumption) | exact absurd q.2 (by assumption))
           exact ⟨-1, rfl, by rw [e], M, by rw [e]; exact (sset_self M).symm⟩)
        | (have e : r_abort M t = abt M t := pick_t ⟨by assumption, by assumption⟩
           exact ⟨_, rfl, by rw [e]; exact e22, Z22, by rw [e]; exact f22⟩)
set_option maxHeartbeats 4000000 in
set_option maxRecDepth 20000 in
theorem c_M_write (p : Int) (M : MSt) (hp : InR p) : MF y_M_write (wsOf y_M_write b_M_write 2 (some .boolean)) 1 [p] M (some (r_write M p).1) ((r_write M p).2) := by
  refine MCon.of (by decide) rfl (Nat.le_of_ble_eq_true rfl) ?_
  intro X E o
  show V X (RelM E M) 0 [(0, .ref (Em.x E)), (1, J (p))] [] []
  refine v_iload_n (i := 1) o.ok d_M_write_0 rfl rfl ?_
  refine m_cs o (c_M_isPage p hp) q_M_isPage lm_M_255 d_M_write_1 (by decide) rfl (Nat.le_of_ble_eq_true rfl) rfl ?_
  first | refine v_ifeq_b o.ok d_M_write_4 (fun c4 => ?_) (fun c4 => ?_) | refine v_if_eq o.ok (by omega) d_M_write_4 (fun c4 => ?_) (fun c4 => ?_)
  · refine v_iconst o.ok d_M_write_25 ?_
    refine m_zret o (by first | exact b01_or _ | omega | simp) d_M_write_26 ?_
    first
      | (have e : r_write M p = (0, M) := pick_f (fun q => by omega)
         rw [e]; exact ⟨rfl, rfl⟩)
      | (have e : r_write M p = (1, wrt M p) := pick_t ⟨by assumption, by omega, by omega⟩
         rw [e]; exact ⟨rfl, rfl⟩)
  · refine v_aload_n (i := 0) o.ok d_M_write_7 rfl rfl ?_
    refine m_geta o 7 (by decide) (by decide) lf_M_29 rfl d_M_write_8 ?_
    refine v_iload_n (i := 1) o.ok d_M_write_11 rfl rfl ?_
    refine m_zald o 7 8 rfl rfl (by omega) d_M_write_12 (fun i12 => ?_)
    refine v_if_eq o.ok (by omega) d_M_write_13 (fun c13 => ?_) (fun c13 => ?_)
    · refine v_iconst o.ok d_M_write_25 ?_
      refine m_zret o (by first | exact b01_or _ | omega | simp) d_M_write_26 ?_
      first
        | (have e : r_write M p = (0, M) := pick_f (fun q => by omega)
           rw [e]; exact ⟨rfl, rfl⟩)
        | (have e : r_write M p = (1, wrt M p) := pick_t ⟨by assumption, by omega, by omega⟩
           rw [e]; exact ⟨rfl, rfl⟩)
    · refine v_aload_n (i := 0) o.ok d_M_write_16 rfl rfl ?_
      refine m_geta o 8 (by decide) (by decide) lf_M_32 rfl d_M_write_17 ?_
      refine v_iload_n (i := 1) o.ok d_M_write_20 rfl rfl ?_
      refine m_zald o 8 8 rfl rfl (by omega) d_M_write_21 (fun i21 => ?_)
      refine v_if_ne o.ok (by omega) d_M_write_22 (fun c22 => ?_) (fun c22 => ?_)
      · refine v_aload_n (i := 0) o.ok d_M_write_27 rfl rfl ?_
        refine v_iload_n (i := 1) o.ok d_M_write_28 rfl rfl ?_
        refine m_cfv o (c_M_writes p M (by assumption)) q_M_writes lm_M_111 d_M_write_29 (by decide) rfl (Nat.le_of_ble_eq_true rfl) rfl ?_
        refine v_iconst o.ok d_M_write_32 ?_
        refine m_zret o (by first | exact b01_or _ | omega | simp) d_M_write_33 ?_
        first
          | (have e : r_write M p = (0, M) := pick_f (fun q => by omega)
             rw [e]; exact ⟨rfl, rfl⟩)
          | (have e : r_write M p = (1, wrt M p) := pick_t ⟨by assumption, by omega, by omega⟩
             rw [e]; exact ⟨rfl, rfl⟩)
      · refine v_iconst o.ok d_M_write_25 ?_
        refine m_zret o (by first | exact b01_or _ | omega | simp) d_M_write_26 ?_
        first
          | (have e : r_write M p = (0, M) := pick_f (fun q => by omega)
             rw [e]; exact ⟨rfl, rfl⟩)
          | (have e : r_write M p = (1, wrt M p) := pick_t ⟨by assumption, by omega, by omega⟩
             rw [e]; exact ⟨rfl, rfl⟩)

