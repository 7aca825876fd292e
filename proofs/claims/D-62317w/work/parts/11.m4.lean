theorem c_M_last' (M : MSt) (z : Int) (h : lst M = z) : MF y_M_last (wsOf y_M_last b_M_last 1 (some .int)) 0 [] M (some z) M := h ▸ c_M_last M
theorem app_pg {M : MSt} {w t a i : Int} {f : Nat} (h : pgF f = true) : app M w t a f i = M f i := by
  simp only [pgF, Bool.or_eq_true, beq_iff_eq] at h
  simp only [app, up]
  rw [if_neg (by omega), if_neg (by omega), if_neg (by omega), if_neg (by omega), if_neg (by omega), if_neg (by omega), if_neg (by omega), if_neg (by omega), if_neg (by omega)]
theorem PgOk.app {M : MSt} {w t a : Int} (h : PgOk M) : PgOk (app M w t a) := h
set_option maxHeartbeats 4000000 in
set_option maxRecDepth 20000 in
theorem c_M_update (t k now v : Int) (M : MSt) (hk : 0 ≤ k ∧ k ≤ 31) (hn : now = 0 ∨ now = 1) (hv : InR v) (ht : InR t) (hr : 0 ≤ M 12 0 ∧ M 12 0 ≤ 300) (hb : 0 ≤ M 11 0 ∧ M 11 0 ≤ 1000000) (hg : PgOk M) : MF y_M_update (wsOf y_M_update b_M_update 6 none) 2 [t, k, now, v] M (none) (s_upd M t k now v) := by
  refine MCon.of (by decide) rfl (Nat.le_of_ble_eq_true rfl) ?_
  intro X E o
  show V X (RelM E M) 0 [(0, .ref (Em.x E)), (1, J (t)), (2, J (k)), (3, J (now)), (4, J (v))] [] []
  refine v_aload_n (i := 0) o.ok d_M_update_0 rfl rfl ?_
  refine v_iconst o.ok d_M_update_1 ?_
  refine v_iload_n (i := 1) o.ok d_M_update_2 rfl rfl ?_
  refine v_iload_n (i := 2) o.ok d_M_update_3 rfl rfl ?_
  refine m_cf o (c_M_append 2 t k M hr (by decide) ht ⟨by omega, by omega⟩) q_M_append lm_M_121 d_M_update_4 (by decide) rfl (Nat.le_of_ble_eq_true rfl) rfl ?_
  refine v_istore (i := 5) (L' := [(0, _), (1, _), (2, _), (3, _), (4, _), (5, _)]) (G' := []) o.ok d_M_update_7 (o.lt (by decide)) rfl rfl ?_
  refine v_aload_n (i := 0) o.ok d_M_update_9 rfl rfl ?_
  refine v_iload_n (i := 2) o.ok d_M_update_10 rfl rfl ?_
  refine v_iconst o.ok d_M_update_11 ?_
  refine v_idiv o.ok d_M_update_12 (by omega) (by omega) ?_
  refine m_cfv o (c_M_touch (k / 4) _ (by omega) hg) q_M_touch lm_M_125 d_M_update_13 (by decide) rfl (Nat.le_of_ble_eq_true rfl) rfl ?_
  refine v_aload_n (i := 0) o.ok d_M_update_16 rfl rfl ?_
  refine m_geta o 18 (by decide) (by decide) lf_M_50 rfl d_M_update_17 ?_
  refine v_iload (i := 5) o.ok d_M_update_20 rfl ?_
  refine v_aload_n (i := 0) o.ok d_M_update_22 rfl rfl ?_
  refine m_geta o 4 (by decide) (by decide) lf_M_20 rfl d_M_update_23 ?_
  refine v_iload_n (i := 2) o.ok d_M_update_26 rfl rfl ?_
  refine m_zald o 4 32 rfl rfl (by omega) d_M_update_27 (fun i27 => ?_)
  refine m_zast o 18 301 rfl rfl (by omega) (by omega) d_M_update_28 ?_
  refine v_aload_n (i := 0) o.ok d_M_update_29 rfl rfl ?_
  refine m_geta o 19 (by decide) (by decide) lf_M_53 rfl d_M_update_30 ?_
  refine v_iload (i := 5) o.ok d_M_update_33 rfl ?_
  refine v_aload_n (i := 0) o.ok d_M_update_35 rfl rfl ?_
  refine m_geta o 5 (by decide) (by decide) lf_M_23 rfl d_M_update_36 ?_
  refine v_iload_n (i := 2) o.ok d_M_update_39 rfl rfl ?_
  refine m_iald o 5 32 rfl rfl (by omega) d_M_update_40 (fun i40 => ?_)
  refine m_iast o 19 301 rfl rfl (by omega) (by omega) d_M_update_41 ?_
  refine v_aload_n (i := 0) o.ok d_M_update_42 rfl rfl ?_
  refine m_geta o 20 (by decide) (by decide) lf_M_56 rfl d_M_update_43 ?_
  refine v_iload (i := 5) o.ok d_M_update_46 rfl ?_
  refine v_iload_n (i := 3) o.ok d_M_update_48 rfl rfl ?_
  refine m_zast o 20 301 rfl rfl (by omega) (by omega) d_M_update_49 ?_
  refine v_aload_n (i := 0) o.ok d_M_update_50 rfl rfl ?_
  refine m_geta o 21 (by decide) (by decide) lf_M_59 rfl d_M_update_51 ?_
  refine v_iload (i := 5) o.ok d_M_update_54 rfl ?_
  refine v_iload_n (i := 3) o.ok d_M_update_56 rfl rfl ?_
  refine v_if_eq o.ok (by omega) d_M_update_57 (fun c57 => ?_) (fun c57 => ?_)
  · refine v_iconst o.ok d_M_update_65 ?_
    refine m_iast o 21 301 rfl rfl (by omega) (by omega) d_M_update_66 ?_
    refine v_aload_n (i := 0) o.ok d_M_update_67 rfl rfl ?_
    refine v_iload_n (i := 2) o.ok d_M_update_68 rfl rfl ?_
    refine v_iload_n (i := 3) o.ok d_M_update_69 rfl rfl ?_
    refine v_iload (i := 4) o.ok d_M_update_70 rfl ?_
    refine v_aload_n (i := 0) o.ok d_M_update_72 rfl rfl ?_
    refine m_cf o (c_M_last' _ (M 11 0 + M 12 0 + 1) (by simp only [lst, app, up, tch_frames, tch_base, tch_records, tch_kind, tch_by, tch_about, tch_of, tch_wasThere, tch_wasValue, tch_isThere, tch_isValue, tch_many, tch_state, tch_parent, tch_began, tch_locks, tch_asks, tch_first, tch_second, tch_wanted, tch_item, tch_mode, tch_lacks, tch_lackMode, tch_ahead, tch_back, tch_falls, tch_latest, Nat.reduceEqDiff, false_and, if_false, and_self, if_true]; omega)) q_M_last lm_M_128 d_M_update_73 (by decide) rfl (Nat.le_of_ble_eq_true rfl) rfl ?_
    refine m_cfv o (c_M_become k now v _ _ hk hn hv ⟨by omega, by omega⟩) q_M_become lm_M_132 d_M_update_76 (by decide) rfl (Nat.le_of_ble_eq_true rfl) rfl ?_
    refine m_vret o d_M_update_79 ⟨rfl, by unfold s_upd; (first | rw [if_pos (by omega)] | rw [if_neg (by omega)]) <;> rfl⟩
  · refine v_iload (i := 4) o.ok d_M_update_60 rfl ?_
    refine v_goto o.ok d_M_update_62 ?_
    refine m_iast o 21 301 rfl rfl (by omega) (by omega) d_M_update_66 ?_
    refine v_aload_n (i := 0) o.ok d_M_update_67 rfl rfl ?_
    refine v_iload_n (i := 2) o.ok d_M_update_68 rfl rfl ?_
    refine v_iload_n (i := 3) o.ok d_M_update_69 rfl rfl ?_
    refine v_iload (i := 4) o.ok d_M_update_70 rfl ?_
    refine v_aload_n (i := 0) o.ok d_M_update_72 rfl rfl ?_
    refine m_cf o (c_M_last' _ (M 11 0 + M 12 0 + 1) (by simp only [lst, app, up, tch_frames, tch_base, tch_records, tch_kind, tch_by, tch_about, tch_of, tch_wasThere, tch_wasValue, tch_isThere, tch_isValue, tch_many, tch_state, tch_parent, tch_began, tch_locks, tch_asks, tch_first, tch_second, tch_wanted, tch_item, tch_mode, tch_lacks, tch_lackMode, tch_ahead, tch_back, tch_falls, tch_latest, Nat.reduceEqDiff, false_and, if_false, and_self, if_true]; omega)) q_M_last lm_M_128 d_M_update_73 (by decide) rfl (Nat.le_of_ble_eq_true rfl) rfl ?_
    refine m_cfv o (c_M_become k now v _ _ hk hn hv ⟨by omega, by omega⟩) q_M_become lm_M_132 d_M_update_76 (by decide) rfl (Nat.le_of_ble_eq_true rfl) rfl ?_
    refine m_vret o d_M_update_79 ⟨rfl, by unfold s_upd; (first | rw [if_pos (by omega)] | rw [if_neg (by omega)]) <;> rfl⟩
set_option maxHeartbeats 4000000 in
set_option maxRecDepth 20000 in
theorem c_M_undo (t u : Int) (M : MSt) (ht : InR t) (hu : 0 ≤ u ∧ u ≤ 300) (ha : 0 ≤ M 16 u ∧ M 16 u ≤ 31) (hur : u < M 12 0) (hr : 0 ≤ M 12 0 ∧ M 12 0 ≤ 300) (hb : 0 ≤ M 11 0 ∧ M 11 0 ≤ 1000000) (hg : PgOk M) : MF y_M_undo (wsOf y_M_undo b_M_undo 4 none) 2 [t, u] M (none) (s_und M t u) := by
  refine MCon.of (by decide) rfl (Nat.le_of_ble_eq_true rfl) ?_
  intro X E o
  show V X (RelM E M) 0 [(0, .ref (Em.x E)), (1, J (t)), (2, J (u))] [] []
  have e1 : (app M 3 t (M 16 u)) 16 u = M 16 u := by simp only [app, up, Nat.reduceEqDiff, false_and, if_false, true_and]; rw [if_neg (by omega)]
  have e2 : (app M 3 t (M 16 u)) 18 u = M 18 u := by simp only [app, up, Nat.reduceEqDiff, false_and, if_false, true_and]; rw [if_neg (by omega)]
  have e3 : (app M 3 t (M 16 u)) 19 u = M 19 u := by simp only [app, up, Nat.reduceEqDiff, false_and, if_false, true_and]; rw [if_neg (by omega)]
  have e4 : (app M 3 t (M 16 u)) 11 0 = M 11 0 := rfl
  refine v_aload_n (i := 0) o.ok d_M_undo_0 rfl rfl ?_
  refine v_iconst o.ok d_M_undo_1 ?_
  refine v_iload_n (i := 1) o.ok d_M_undo_2 rfl rfl ?_
  refine v_aload_n (i := 0) o.ok d_M_undo_3 rfl rfl ?_
  refine m_geta o 16 (by decide) (by decide) lf_M_44 rfl d_M_undo_4 ?_
  refine v_iload_n (i := 2) o.ok d_M_undo_7 rfl rfl ?_
  refine m_iald o 16 301 rfl rfl (by omega) d_M_undo_8 (fun i8 => ?_)
  refine m_cf o (c_M_append 3 t (M 16 u) M hr (by decide) ht ⟨by omega, by omega⟩) q_M_append lm_M_121 d_M_undo_9 (by decide) rfl (Nat.le_of_ble_eq_true rfl) rfl ?_
  refine v_istore_n (i := 3) (L' := [(0, _), (1, _), (2, _), (3, _)]) (G' := []) o.ok d_M_undo_12 rfl (o.lt (by decide)) rfl rfl ?_
  refine v_aload_n (i := 0) o.ok d_M_undo_13 rfl rfl ?_
  refine m_geta o 17 (by decide) (by decide) lf_M_47 rfl d_M_undo_14 ?_
  refine v_iload_n (i := 3) o.ok d_M_undo_17 rfl rfl ?_
  refine v_aload_n (i := 0) o.ok d_M_undo_18 rfl rfl ?_
  refine m_geti o 11 (by decide) rfl lf_M_115 rfl d_M_undo_19 (fun i19 => ?_)
  rw [e4]
  rw [e4] at i19
  refine v_iload_n (i := 2) o.ok d_M_undo_22 rfl rfl ?_
  refine v_iadd o.ok d_M_undo_23 ?_
  refine v_iconst o.ok d_M_undo_24 ?_
  refine v_iadd o.ok d_M_undo_25 ?_
  refine m_iast o 17 301 rfl rfl (by omega) (by omega) d_M_undo_26 ?_
  refine v_aload_n (i := 0) o.ok d_M_undo_27 rfl rfl ?_
  refine m_geta o 20 (by decide) (by decide) lf_M_56 rfl d_M_undo_28 ?_
  refine v_iload_n (i := 3) o.ok d_M_undo_31 rfl rfl ?_
  refine v_aload_n (i := 0) o.ok d_M_undo_32 rfl rfl ?_
  refine m_geta o 18 (by decide) (by decide) lf_M_50 rfl d_M_undo_33 ?_
  refine v_iload_n (i := 2) o.ok d_M_undo_36 rfl rfl ?_
  refine m_zald o 18 301 rfl rfl (by omega) d_M_undo_37 (fun i37 => ?_)
  simp only [up, Nat.reduceEqDiff, false_and, if_false, e2] at i37 ⊢
  refine m_zast o 20 301 rfl rfl (by omega) (by omega) d_M_undo_38 ?_
  refine v_aload_n (i := 0) o.ok d_M_undo_39 rfl rfl ?_
  refine m_geta o 21 (by decide) (by decide) lf_M_59 rfl d_M_undo_40 ?_
  refine v_iload_n (i := 3) o.ok d_M_undo_43 rfl rfl ?_
  refine v_aload_n (i := 0) o.ok d_M_undo_44 rfl rfl ?_
  refine m_geta o 19 (by decide) (by decide) lf_M_53 rfl d_M_undo_45 ?_
  refine v_iload_n (i := 2) o.ok d_M_undo_48 rfl rfl ?_
  refine m_iald o 19 301 rfl rfl (by omega) d_M_undo_49 (fun i49 => ?_)
  simp only [up, Nat.reduceEqDiff, false_and, if_false, e3] at i49 ⊢
  refine m_iast o 21 301 rfl rfl (by omega) (by omega) d_M_undo_50 ?_
  refine v_aload_n (i := 0) o.ok d_M_undo_51 rfl rfl ?_
  refine v_aload_n (i := 0) o.ok d_M_undo_52 rfl rfl ?_
  refine m_geta o 16 (by decide) (by decide) lf_M_44 rfl d_M_undo_53 ?_
  refine v_iload_n (i := 2) o.ok d_M_undo_56 rfl rfl ?_
  refine m_iald o 16 301 rfl rfl (by omega) d_M_undo_57 (fun i57 => ?_)
  simp only [up, Nat.reduceEqDiff, false_and, if_false, e1] at i57 ⊢
  refine v_iconst o.ok d_M_undo_58 ?_
  refine v_idiv o.ok d_M_undo_59 (by omega) (by omega) ?_
  refine m_cfv o (c_M_touch (M 16 u / 4) _ (by omega) hg) q_M_touch lm_M_125 d_M_undo_60 (by decide) rfl (Nat.le_of_ble_eq_true rfl) rfl ?_
  refine v_aload_n (i := 0) o.ok d_M_undo_63 rfl rfl ?_
  refine v_aload_n (i := 0) o.ok d_M_undo_64 rfl rfl ?_
  refine m_geta o 16 (by decide) (by decide) lf_M_44 rfl d_M_undo_65 ?_
  refine v_iload_n (i := 2) o.ok d_M_undo_68 rfl rfl ?_
  refine m_iald o 16 301 rfl rfl (by omega) d_M_undo_69 (fun i69 => ?_)
  simp only [tch_about, up, Nat.reduceEqDiff, false_and, if_false, e1] at i69 ⊢
  refine v_aload_n (i := 0) o.ok d_M_undo_70 rfl rfl ?_
  refine m_geta o 20 (by decide) (by decide) lf_M_56 rfl d_M_undo_71 ?_
  refine v_iload_n (i := 3) o.ok d_M_undo_74 rfl rfl ?_
  refine m_zald o 20 301 rfl rfl (by omega) d_M_undo_75 (fun i75 => ?_)
  simp only [tch_isThere, up, Nat.reduceEqDiff, false_and, if_false, and_self, if_true, e1] at i75 ⊢
  refine v_aload_n (i := 0) o.ok d_M_undo_76 rfl rfl ?_
  refine m_geta o 21 (by decide) (by decide) lf_M_59 rfl d_M_undo_77 ?_
  refine v_iload_n (i := 3) o.ok d_M_undo_80 rfl rfl ?_
  refine m_iald o 21 301 rfl rfl (by omega) d_M_undo_81 (fun i81 => ?_)
  simp only [tch_isValue, up, Nat.reduceEqDiff, false_and, if_false, and_self, if_true, e1] at i81 ⊢
  refine v_aload_n (i := 0) o.ok d_M_undo_82 rfl rfl ?_
  refine m_cf o (c_M_last' _ (M 11 0 + M 12 0 + 1) (by simp only [lst, app, up, tch_frames, tch_base, tch_records, tch_kind, tch_by, tch_about, tch_of, tch_wasThere, tch_wasValue, tch_isThere, tch_isValue, tch_many, tch_state, tch_parent, tch_began, tch_locks, tch_asks, tch_first, tch_second, tch_wanted, tch_item, tch_mode, tch_lacks, tch_lackMode, tch_ahead, tch_back, tch_falls, tch_latest, Nat.reduceEqDiff, false_and, if_false, and_self, if_true]; omega)) q_M_last lm_M_128 d_M_undo_83 (by decide) rfl (Nat.le_of_ble_eq_true rfl) rfl ?_
  refine m_cfv o (c_M_become (M 16 u) (M 18 u) (M 19 u) _ _ ha i75 i81 ⟨by omega, by omega⟩) q_M_become lm_M_132 d_M_undo_86 (by decide) rfl (Nat.le_of_ble_eq_true rfl) rfl ?_
  refine m_vret o d_M_undo_89 ⟨rfl, rfl⟩
def nxtN (M : MSt) : Nat → Int → Int
  | 0, n => n
  | f + 1, n => if n < 32 ∧ thr M n = 0 then nxtN M f (n + 1) else n
/-- the least key above k that is there, or 32 -/
def nxt (M : MSt) (k : Int) : Int := nxtN M 32 (k + 1)
theorem nxtN_bd {M : MSt} : ∀ (f : Nat) (n : Int), n ≤ 32 → n ≤ nxtN M f n ∧ nxtN M f n ≤ 32 := by
  intro f
  induction f with
  | zero => intro n h; exact ⟨Int.le_refl _, h⟩
  | succ f ih =>
    intro n h
    unfold nxtN
    split
    · next q => have := ih (n + 1) (by omega); omega
    · exact ⟨Int.le_refl _, h⟩
theorem nxt_bd {M : MSt} {k : Int} (h : k ≤ 31) : k + 1 ≤ nxt M k ∧ nxt M k ≤ 32 := nxtN_bd 32 (k + 1) (by omega)
set_option maxHeartbeats 4000000 in
set_option maxRecDepth 20000 in
theorem c_M_next (k : Int) (M : MSt) (hk : 0 ≤ k ∧ k ≤ 31) : MF y_M_next (wsOf y_M_next b_M_next 3 (some .int)) 1 [k] M (some (nxt M k)) (M) := by
  refine MCon.of (by decide) rfl (Nat.le_of_ble_eq_true rfl) ?_
  intro X E o
  show V X (RelM E M) 0 [(0, .ref (Em.x E)), (1, J (k))] [] []
  have lp : ∀ (f : Nat) (n : Int), 0 ≤ n → n ≤ 32 → 32 ≤ n + f → nxtN M f n = nxt M k → V X (RelM E M) 4 [(0, .ref (Em.x E)), (1, J k), (2, J n)] [] [] := by
    intro f
    induction f with
    | zero =>
      intro n h0 h1 h2 h3
      refine v_iload_n (i := 2) o.ok d_M_next_4 rfl rfl ?_
      refine v_bipush o.ok d_M_next_5 rfl ?_
      refine v_icmp_ge o.ok (by omega) (by omega) d_M_next_7 (fun c7 => ?_) (fun c7 => ?_)
      · refine v_iload_n (i := 2) o.ok d_M_next_24 rfl rfl ?_
        refine m_iret o d_M_next_25 ⟨congrArg some h3, rfl⟩
      · exfalso; omega
    | succ f ih =>
      intro n h0 h1 h2 h3
      unfold nxtN at h3
      refine v_iload_n (i := 2) o.ok d_M_next_4 rfl rfl ?_
      refine v_bipush o.ok d_M_next_5 rfl ?_
      refine v_icmp_ge o.ok (by omega) (by omega) d_M_next_7 (fun c7 => ?_) (fun c7 => ?_)
      · rw [if_neg (by omega)] at h3
        refine v_iload_n (i := 2) o.ok d_M_next_24 rfl rfl ?_
        refine m_iret o d_M_next_25 ⟨congrArg some h3, rfl⟩
      · refine v_aload_n (i := 0) o.ok d_M_next_10 rfl rfl ?_
        refine v_iload_n (i := 2) o.ok d_M_next_11 rfl rfl ?_
        refine m_cf o (c_M_isThereNow n M (by omega)) q_M_isThereNow lm_M_172 d_M_next_12 (by decide) rfl (Nat.le_of_ble_eq_true rfl) rfl ?_
        refine V.get (fun H hR => (show thr M n = 0 ∨ thr M n = 1 from by unfold thr; split; exact hR.2.2.2.2.2.2 4 n rfl; exact hR.2.2.2.2.2.2 1 n rfl)) (fun i15 => ?_)
        refine v_if_ne o.ok (by omega) d_M_next_15 (fun c15 => ?_) (fun c15 => ?_)
        · rw [if_neg (by omega)] at h3
          refine v_iload_n (i := 2) o.ok d_M_next_24 rfl rfl ?_
          refine m_iret o d_M_next_25 ⟨congrArg some h3, rfl⟩
        · rw [if_pos (by omega)] at h3
          refine v_iinc (i := 2) (L' := [(0, _), (1, _), (2, _)]) (G' := []) o.ok d_M_next_18 rfl (o.lt (by decide)) rfl rfl ?_
          refine v_goto o.ok d_M_next_21 ?_
          exact ih _ (by omega) (by omega) (by omega) h3
  refine v_iload_n (i := 1) o.ok d_M_next_0 rfl rfl ?_
  refine v_iconst o.ok d_M_next_1 ?_
  refine v_iadd o.ok d_M_next_2 ?_
  refine v_istore_n (i := 2) (L' := [(0, _), (1, _), (2, _)]) (G' := []) o.ok d_M_next_3 rfl (o.lt (by decide)) rfl rfl ?_
  exact lp 32 _ (by omega) (by omega) (by omega) rfl
/-- u stands in t's way at item i in mode m -/
def Bar (M : MSt) (u t i m : Int) : Prop := u ≠ t ∧ 0 < M 26 (33 * u + i) ∧ (m = 2 ∨ M 26 (33 * u + i) = 2) ∧ ¬ Abv M u t
def May (M : MSt) (t i m : Int) : Prop := ¬ exB (fun u => Bar M u t i m) 0 (M 22 0)
set_option maxHeartbeats 4000000 in
set_option maxRecDepth 20000 in
theorem c_M_bars (u t i m : Int) (M : MSt) (hp : ParOk M) (hu : 0 ≤ u ∧ u < M 22 0) (ht : 0 ≤ t ∧ t < M 22 0) (hi : 0 ≤ i ∧ i ≤ 32) (hm : m = 1 ∨ m = 2) : MF y_M_bars (wsOf y_M_bars b_M_bars 6 (some .boolean)) 1 [u, t, i, m] M (some (b01 (Bar M u t i m))) (M) := by
  refine MCon.of (by decide) rfl (Nat.le_of_ble_eq_true rfl) ?_
  intro X E o
  show V X (RelM E M) 0 [(0, .ref (Em.x E)), (1, J (u)), (2, J (t)), (3, J (i)), (4, J (m))] [] []
  have hmm := hp.2.1
  refine v_aload_n (i := 0) o.ok d_M_bars_0 rfl rfl ?_
  refine m_geta o 26 (by decide) (by decide) lf_M_71 rfl d_M_bars_1 ?_
  refine v_bipush o.ok d_M_bars_4 rfl ?_
  refine v_iload_n (i := 1) o.ok d_M_bars_6 rfl rfl ?_
  refine v_imul o.ok d_M_bars_7 ?_
  refine v_iload_n (i := 3) o.ok d_M_bars_8 rfl rfl ?_
  refine v_iadd o.ok d_M_bars_9 ?_
  rw [show (33 : Int) * u + i = 33 * u + i from rfl]
  refine m_iald o 26 1980 rfl rfl (by omega) d_M_bars_10 (fun i10 => ?_)
  refine v_istore (i := 5) (L' := [(0, _), (1, _), (2, _), (3, _), (4, _), (5, _)]) (G' := []) o.ok d_M_bars_11 (o.lt (by decide)) rfl rfl ?_
  refine v_iload_n (i := 1) o.ok d_M_bars_13 rfl rfl ?_
  refine v_iload_n (i := 2) o.ok d_M_bars_14 rfl rfl ?_
  refine v_icmp_eq o.ok (by omega) (by omega) d_M_bars_15 (fun c15 => ?_) (fun c15 => ?_)
  · refine v_iconst o.ok d_M_bars_48 ?_
    refine m_zret o (by first | exact b01_or _ | omega | simp) d_M_bars_49 ⟨congrArg some (by first | exact (b01_t (by first | exact ⟨by omega, by omega, by omega, by assumption⟩ | (intro q; obtain ⟨q1, q2, q3, q4⟩ := q; first | exact absurd (by assumption) q4 | omega))).symm | exact (b01_f (by first | exact ⟨by omega, by omega, by omega, by assumption⟩ | (intro q; obtain ⟨q1, q2, q3, q4⟩ := q; first | exact absurd (by assumption) q4 | omega))).symm), rfl⟩
  · refine v_iload (i := 5) o.ok d_M_bars_18 rfl ?_
    refine v_if_le o.ok (by omega) d_M_bars_20 (fun c20 => ?_) (fun c20 => ?_)
    · refine v_iconst o.ok d_M_bars_48 ?_
      refine m_zret o (by first | exact b01_or _ | omega | simp) d_M_bars_49 ⟨congrArg some (by first | exact (b01_t (by first | exact ⟨by omega, by omega, by omega, by assumption⟩ | (intro q; obtain ⟨q1, q2, q3, q4⟩ := q; first | exact absurd (by assumption) q4 | omega))).symm | exact (b01_f (by first | exact ⟨by omega, by omega, by omega, by assumption⟩ | (intro q; obtain ⟨q1, q2, q3, q4⟩ := q; first | exact absurd (by assumption) q4 | omega))).symm), rfl⟩
    · refine v_iload (i := 4) o.ok d_M_bars_23 rfl ?_
      refine v_iconst o.ok d_M_bars_25 ?_
      refine v_icmp_eq o.ok (by omega) (by omega) d_M_bars_26 (fun c26 => ?_) (fun c26 => ?_)
      · refine v_aload_n (i := 0) o.ok d_M_bars_35 rfl rfl ?_
        refine v_iload_n (i := 1) o.ok d_M_bars_36 rfl rfl ?_
        refine v_iload_n (i := 2) o.ok d_M_bars_37 rfl rfl ?_
        refine m_cf o (c_M_above u t M hp ht ⟨by omega, by omega⟩) q_M_above lm_M_187 d_M_bars_38 (by decide) rfl (Nat.le_of_ble_eq_true rfl) rfl ?_
        first | refine v_ifne_b o.ok d_M_bars_41 (fun c41 => ?_) (fun c41 => ?_) | refine v_if_ne o.ok (by omega) d_M_bars_41 (fun c41 => ?_) (fun c41 => ?_)
        · refine v_iconst o.ok d_M_bars_48 ?_
          refine m_zret o (by first | exact b01_or _ | omega | simp) d_M_bars_49 ⟨congrArg some (by first | exact (b01_t (by first | exact ⟨by omega, by omega, by omega, by assumption⟩ | (intro q; obtain ⟨q1, q2, q3, q4⟩ := q; first | exact absurd (by assumption) q4 | omega))).symm | exact (b01_f (by first | exact ⟨by omega, by omega, by omega, by assumption⟩ | (intro q; obtain ⟨q1, q2, q3, q4⟩ := q; first | exact absurd (by assumption) q4 | omega))).symm), rfl⟩
        · refine v_iconst o.ok d_M_bars_44 ?_
          refine v_goto o.ok d_M_bars_45 ?_
          refine m_zret o (by first | exact b01_or _ | omega | simp) d_M_bars_49 ⟨congrArg some (by first | exact (b01_t (by first | exact ⟨by omega, by omega, by omega, by assumption⟩ | (intro q; obtain ⟨q1, q2, q3, q4⟩ := q; first | exact absurd (by assumption) q4 | omega))).symm | exact (b01_f (by first | exact ⟨by omega, by omega, by omega, by assumption⟩ | (intro q; obtain ⟨q1, q2, q3, q4⟩ := q; first | exact absurd (by assumption) q4 | omega))).symm), rfl⟩
      · refine v_iload (i := 5) o.ok d_M_bars_29 rfl ?_
        refine v_iconst o.ok d_M_bars_31 ?_
        refine v_icmp_ne o.ok (by omega) (by omega) d_M_bars_32 (fun c32 => ?_) (fun c32 => ?_)
        · refine v_iconst o.ok d_M_bars_48 ?_
          refine m_zret o (by first | exact b01_or _ | omega | simp) d_M_bars_49 ⟨congrArg some (by first | exact (b01_t (by first | exact ⟨by omega, by omega, by omega, by assumption⟩ | (intro q; obtain ⟨q1, q2, q3, q4⟩ := q; first | exact absurd (by assumption) q4 | omega))).symm | exact (b01_f (by first | exact ⟨by omega, by omega, by omega, by assumption⟩ | (intro q; obtain ⟨q1, q2, q3, q4⟩ := q; first | exact absurd (by assumption) q4 | omega))).symm), rfl⟩
        · refine v_aload_n (i := 0) o.ok d_M_bars_35 rfl rfl ?_
          refine v_iload_n (i := 1) o.ok d_M_bars_36 rfl rfl ?_
          refine v_iload_n (i := 2) o.ok d_M_bars_37 rfl rfl ?_
          refine m_cf o (c_M_above u t M hp ht ⟨by omega, by omega⟩) q_M_above lm_M_187 d_M_bars_38 (by decide) rfl (Nat.le_of_ble_eq_true rfl) rfl ?_
          first | refine v_ifne_b o.ok d_M_bars_41 (fun c41 => ?_) (fun c41 => ?_) | refine v_if_ne o.ok (by omega) d_M_bars_41 (fun c41 => ?_) (fun c41 => ?_)
          · refine v_iconst o.ok d_M_bars_48 ?_
            refine m_zret o (by first | exact b01_or _ | omega | simp) d_M_bars_49 ⟨congrArg some (by first | exact (b01_t (by first | exact ⟨by omega, by omega, by omega, by assumption⟩ | (intro q; obtain ⟨q1, q2, q3, q4⟩ := q; first | exact absurd (by assumption) q4 | omega))).symm | exact (b01_f (by first | exact ⟨by omega, by omega, by omega, by assumption⟩ | (intro q; obtain ⟨q1, q2, q3, q4⟩ := q; first | exact absurd (by assumption) q4 | omega))).symm), rfl⟩
          · refine v_iconst o.ok d_M_bars_44 ?_
            refine v_goto o.ok d_M_bars_45 ?_
            refine m_zret o (by first | exact b01_or _ | omega | simp) d_M_bars_49 ⟨congrArg some (by first | exact (b01_t (by first | exact ⟨by omega, by omega, by omega, by assumption⟩ | (intro q; obtain ⟨q1, q2, q3, q4⟩ := q; first | exact absurd (by assumption) q4 | omega))).symm | exact (b01_f (by first | exact ⟨by omega, by omega, by omega, by assumption⟩ | (intro q; obtain ⟨q1, q2, q3, q4⟩ := q; first | exact absurd (by assumption) q4 | omega))).symm), rfl⟩
set_option maxHeartbeats 4000000 in
set_option maxRecDepth 20000 in
theorem c_M_may (t i m : Int) (M : MSt) (hp : ParOk M) (ht : 0 ≤ t ∧ t < M 22 0) (hi : 0 ≤ i ∧ i ≤ 32) (hm : m = 1 ∨ m = 2) : MF y_M_may (wsOf y_M_may b_M_may 6 (some .boolean)) 2 [t, i, m] M (some (b01 (May M t i m))) (M) := by
  refine MCon.of (by decide) rfl (Nat.le_of_ble_eq_true rfl) ?_
  intro X E o
  show V X (RelM E M) 0 [(0, .ref (Em.x E)), (1, J (t)), (2, J (i)), (3, J (m))] [] []
  have hmm := hp.2.1
  have lp : ∀ (n : Nat) (u : Int), 0 ≤ u → u ≤ M 22 0 → M 22 0 - u ≤ n → V X (RelM E M) 6 [(0, .ref (Em.x E)), (1, J t), (2, J i), (3, J m), (4, J (b01 (¬ exB (fun u => Bar M u t i m) 0 u))), (5, J u)] [] [] := by
    intro n
    induction n with
    | zero =>
      intro u h0 h1 h2
      refine v_iload (i := 5) o.ok d_M_may_6 rfl ?_
      refine v_aload_n (i := 0) o.ok d_M_may_8 rfl rfl ?_
      refine m_geti o 22 (by decide) rfl lf_M_147 rfl d_M_may_9 (fun i9 => ?_)
      refine v_icmp_ge o.ok (by omega) (by omega) d_M_may_12 (fun c12 => ?_) (fun c12 => ?_)
      · refine v_iload (i := 4) o.ok d_M_may_45 rfl ?_
        refine m_zret o (by first | exact b01_or _ | omega | simp) d_M_may_47 ⟨congrArg some (by rw [show u = M 22 0 from by omega]; rfl), rfl⟩
      · exfalso; omega
    | succ n ih =>
      intro u h0 h1 h2
      refine v_iload (i := 5) o.ok d_M_may_6 rfl ?_
      refine v_aload_n (i := 0) o.ok d_M_may_8 rfl rfl ?_
      refine m_geti o 22 (by decide) rfl lf_M_147 rfl d_M_may_9 (fun i9 => ?_)
      refine v_icmp_ge o.ok (by omega) (by omega) d_M_may_12 (fun c12 => ?_) (fun c12 => ?_)
      · refine v_iload (i := 4) o.ok d_M_may_45 rfl ?_
        refine m_zret o (by first | exact b01_or _ | omega | simp) d_M_may_47 ⟨congrArg some (by rw [show u = M 22 0 from by omega]; rfl), rfl⟩
      · refine v_iload (i := 4) o.ok d_M_may_15 rfl ?_
        first | refine v_ifeq_b o.ok d_M_may_17 (fun c17 => ?_) (fun c17 => ?_) | refine v_if_eq o.ok (by omega) d_M_may_17 (fun c17 => ?_) (fun c17 => ?_)
        · refine v_iconst o.ok d_M_may_36 ?_
          refine v_istore (i := 4) (L' := [(0, _), (1, _), (2, _), (3, _), (4, _), (5, _)]) (G' := []) o.ok d_M_may_37 (o.lt (by decide)) rfl rfl ?_
          refine v_iinc (i := 5) (L' := [(0, _), (1, _), (2, _), (3, _), (4, _), (5, _)]) (G' := []) o.ok d_M_may_39 rfl (o.lt (by decide)) rfl rfl ?_
          refine v_goto o.ok d_M_may_42 ?_
          have q := ih (u + 1) (by omega) (by omega) (by omega)
          first
            | (rw [b01_t (fun z => by rcases (exB_step (by omega)).mp z with z | z; exact absurd z (by assumption); exact absurd z (by assumption))] at q; exact q)
            | (rw [b01_f (fun z => z ((exB_step (by omega)).mpr (Or.inl (Classical.byContradiction (by assumption)))))] at q; exact q)
            | (rw [b01_f (fun z => z ((exB_step (by omega)).mpr (Or.inr (by assumption))))] at q; exact q)
        · refine v_aload_n (i := 0) o.ok d_M_may_20 rfl rfl ?_
          refine v_iload (i := 5) o.ok d_M_may_21 rfl ?_
          refine v_iload_n (i := 1) o.ok d_M_may_23 rfl rfl ?_
          refine v_iload_n (i := 2) o.ok d_M_may_24 rfl rfl ?_
          refine v_iload_n (i := 3) o.ok d_M_may_25 rfl rfl ?_
          refine m_cf o (c_M_bars u t i m M hp (by omega) ht hi hm) q_M_bars lm_M_191 d_M_may_26 (by decide) rfl (Nat.le_of_ble_eq_true rfl) rfl ?_
          first | refine v_ifne_b o.ok d_M_may_29 (fun c29 => ?_) (fun c29 => ?_) | refine v_if_ne o.ok (by omega) d_M_may_29 (fun c29 => ?_) (fun c29 => ?_)
          · refine v_iconst o.ok d_M_may_36 ?_
            refine v_istore (i := 4) (L' := [(0, _), (1, _), (2, _), (3, _), (4, _), (5, _)]) (G' := []) o.ok d_M_may_37 (o.lt (by decide)) rfl rfl ?_
            refine v_iinc (i := 5) (L' := [(0, _), (1, _), (2, _), (3, _), (4, _), (5, _)]) (G' := []) o.ok d_M_may_39 rfl (o.lt (by decide)) rfl rfl ?_
            refine v_goto o.ok d_M_may_42 ?_
            have q := ih (u + 1) (by omega) (by omega) (by omega)
            first
              | (rw [b01_t (fun z => by rcases (exB_step (by omega)).mp z with z | z; exact absurd z (by assumption); exact absurd z (by assumption))] at q; exact q)
              | (rw [b01_f (fun z => z ((exB_step (by omega)).mpr (Or.inl (Classical.byContradiction (by assumption)))))] at q; exact q)
              | (rw [b01_f (fun z => z ((exB_step (by omega)).mpr (Or.inr (by assumption))))] at q; exact q)
          · refine v_iconst o.ok d_M_may_32 ?_
            refine v_goto o.ok d_M_may_33 ?_
            refine v_istore (i := 4) (L' := [(0, _), (1, _), (2, _), (3, _), (4, _), (5, _)]) (G' := []) o.ok d_M_may_37 (o.lt (by decide)) rfl rfl ?_
            refine v_iinc (i := 5) (L' := [(0, _), (1, _), (2, _), (3, _), (4, _), (5, _)]) (G' := []) o.ok d_M_may_39 rfl (o.lt (by decide)) rfl rfl ?_
            refine v_goto o.ok d_M_may_42 ?_
            have q := ih (u + 1) (by omega) (by omega) (by omega)
            first
              | (rw [b01_t (fun z => by rcases (exB_step (by omega)).mp z with z | z; exact absurd z (by assumption); exact absurd z (by assumption))] at q; exact q)
              | (rw [b01_f (fun z => z ((exB_step (by omega)).mpr (Or.inl (Classical.byContradiction (by assumption)))))] at q; exact q)
              | (rw [b01_f (fun z => z ((exB_step (by omega)).mpr (Or.inr (by assumption))))] at q; exact q)
  refine v_iconst o.ok d_M_may_0 ?_
  refine v_istore (i := 4) (L' := [(0, _), (1, _), (2, _), (3, _), (4, _)]) (G' := []) o.ok d_M_may_1 (o.lt (by decide)) rfl rfl ?_
  refine v_iconst o.ok d_M_may_3 ?_
  refine v_istore (i := 5) (L' := [(0, _), (1, _), (2, _), (3, _), (4, _), (5, _)]) (G' := []) o.ok d_M_may_4 (o.lt (by decide)) rfl rfl ?_
  have q := lp (M 22 0).toNat 0 (by omega) hp.1 (by omega)
  rw [b01_t (exB_nil (by omega))] at q
  exact q

