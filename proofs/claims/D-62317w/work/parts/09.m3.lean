set_option maxHeartbeats 4000000 in
set_option maxRecDepth 20000 in
theorem c_M_writes (p : Int) (M : MSt) (hp : 0 ≤ p ∧ p ≤ 7) : MF y_M_writes (wsOf y_M_writes b_M_writes 3 none) 0 [p] M (none) (wrt M p) := by
  refine MCon.of (by decide) rfl (Nat.le_of_ble_eq_true rfl) ?_
  intro X E o
  show V X (RelM E M) 0 [(0, .ref (Em.x E)), (1, J (p))] [] []
  have lp : ∀ (n : Nat) (k : Int) (M1 : MSt), M1 6 p = M 6 p → 4 * p ≤ k → k + n = 4 * p + 4 → up (up (cpd M1 (4 * p) (4 * p + 4)) 3 p (M 6 p)) 8 p 0 = wrt M p → V X (RelM E (cpd M1 (4 * p) k)) 34 [(0, .ref (Em.x E)), (1, J p), (2, J k)] [] [] := by
    intro n
    induction n with
    | zero =>
      intro k M1 hl h0 h1 h2
      have e : k = 4 * p + 4 := by omega
      subst e
      refine v_iload_n (i := 2) o.ok d_M_writes_34 rfl rfl ?_
      refine v_iconst o.ok d_M_writes_35 ?_
      refine v_iload_n (i := 1) o.ok d_M_writes_36 rfl rfl ?_
      refine v_imul o.ok d_M_writes_37 ?_
      refine v_iconst o.ok d_M_writes_38 ?_
      refine v_iadd o.ok d_M_writes_39 ?_
      refine v_icmp_ge o.ok (by omega) (by omega) d_M_writes_40 (fun c40 => ?_) (fun c40 => ?_)
      · refine v_aload_n (i := 0) o.ok d_M_writes_73 rfl rfl ?_
        refine m_geta o 3 (by decide) (by decide) lf_M_17 rfl d_M_writes_74 ?_
        refine v_iload_n (i := 1) o.ok d_M_writes_77 rfl rfl ?_
        refine v_aload_n (i := 0) o.ok d_M_writes_78 rfl rfl ?_
        refine m_geta o 6 (by decide) (by decide) lf_M_26 rfl d_M_writes_79 ?_
        refine v_iload_n (i := 1) o.ok d_M_writes_82 rfl rfl ?_
        refine m_iald o 6 8 rfl rfl (by omega) d_M_writes_83 (fun i83 => ?_)
        (try simp only [clk, up, cpd, cpu, Nat.reduceEqDiff, false_and, if_false, and_self, if_true, true_and] at i83 ⊢)
        refine m_iast o 3 8 rfl rfl (by omega) (by omega) d_M_writes_84 ?_
        refine v_aload_n (i := 0) o.ok d_M_writes_85 rfl rfl ?_
        refine m_geta o 8 (by decide) (by decide) lf_M_32 rfl d_M_writes_86 ?_
        refine v_iload_n (i := 1) o.ok d_M_writes_89 rfl rfl ?_
        refine v_iconst o.ok d_M_writes_90 ?_
        refine m_zast o 8 8 rfl rfl (by omega) (by exact Or.inl rfl) d_M_writes_91 ?_
        refine m_vret o d_M_writes_92 ⟨rfl, by rw [hl]; exact h2⟩
      · exfalso; omega
    | succ n ih =>
      intro k M1 hl h0 h1 h2
      refine v_iload_n (i := 2) o.ok d_M_writes_34 rfl rfl ?_
      refine v_iconst o.ok d_M_writes_35 ?_
      refine v_iload_n (i := 1) o.ok d_M_writes_36 rfl rfl ?_
      refine v_imul o.ok d_M_writes_37 ?_
      refine v_iconst o.ok d_M_writes_38 ?_
      refine v_iadd o.ok d_M_writes_39 ?_
      refine v_icmp_ge o.ok (by omega) (by omega) d_M_writes_40 (fun c40 => ?_) (fun c40 => ?_)
      · exfalso; omega
      · refine v_aload_n (i := 0) o.ok d_M_writes_43 rfl rfl ?_
        refine m_geta o 1 (by decide) (by decide) lf_M_7 rfl d_M_writes_44 ?_
        refine v_iload_n (i := 2) o.ok d_M_writes_47 rfl rfl ?_
        refine v_aload_n (i := 0) o.ok d_M_writes_48 rfl rfl ?_
        refine m_geta o 4 (by decide) (by decide) lf_M_20 rfl d_M_writes_49 ?_
        refine v_iload_n (i := 2) o.ok d_M_writes_52 rfl rfl ?_
        refine m_zald o 4 32 rfl rfl (by omega) d_M_writes_53 (fun i53 => ?_)
        (try simp only [clk, up, cpd, cpu, Nat.reduceEqDiff, false_and, if_false, and_self, if_true, true_and] at i53 ⊢)
        refine m_zast o 1 32 rfl rfl (by omega) (by omega) d_M_writes_54 ?_
        refine v_aload_n (i := 0) o.ok d_M_writes_55 rfl rfl ?_
        refine m_geta o 2 (by decide) (by decide) lf_M_13 rfl d_M_writes_56 ?_
        refine v_iload_n (i := 2) o.ok d_M_writes_59 rfl rfl ?_
        refine v_aload_n (i := 0) o.ok d_M_writes_60 rfl rfl ?_
        refine m_geta o 5 (by decide) (by decide) lf_M_23 rfl d_M_writes_61 ?_
        refine v_iload_n (i := 2) o.ok d_M_writes_64 rfl rfl ?_
        refine m_iald o 5 32 rfl rfl (by omega) d_M_writes_65 (fun i65 => ?_)
        (try simp only [clk, up, cpd, cpu, Nat.reduceEqDiff, false_and, if_false, and_self, if_true, true_and] at i65 ⊢)
        refine m_iast o 2 32 rfl rfl (by omega) (by omega) d_M_writes_66 ?_
        refine v_iinc (i := 2) (L' := [(0, _), (1, _), (2, _)]) (G' := []) o.ok d_M_writes_67 rfl (o.lt (by decide)) rfl rfl ?_
        refine v_goto o.ok d_M_writes_70 ?_
        rw [cpd_s M1 h0]
        exact ih _ M1 hl (by omega) (by omega) h2
  refine v_aload_n (i := 0) o.ok d_M_writes_0 rfl rfl ?_
  refine v_aload_n (i := 0) o.ok d_M_writes_1 rfl rfl ?_
  refine m_geta o 6 (by decide) (by decide) lf_M_26 rfl d_M_writes_2 ?_
  refine v_iload_n (i := 1) o.ok d_M_writes_5 rfl rfl ?_
  refine m_iald o 6 8 rfl rfl (by omega) d_M_writes_6 (fun i6 => ?_)
  (try simp only [clk, up, cpd, cpu, Nat.reduceEqDiff, false_and, if_false, and_self, if_true, true_and] at i6 ⊢)
  refine v_aload_n (i := 0) o.ok d_M_writes_7 rfl rfl ?_
  refine m_geti o 13 (by decide) rfl lf_M_105 rfl d_M_writes_8 (fun i8 => ?_)
  (try simp only [clk, up, cpd, cpu, Nat.reduceEqDiff, false_and, if_false, and_self, if_true, true_and] at i8 ⊢)
  refine v_icmp_le o.ok (by omega) (by omega) d_M_writes_11 (fun c11 => ?_) (fun c11 => ?_)
  · refine v_aload_n (i := 0) o.ok d_M_writes_23 rfl rfl ?_
    refine m_geti o 13 (by decide) rfl lf_M_105 rfl d_M_writes_24 (fun i24 => ?_)
    (try simp only [clk, up, cpd, cpu, Nat.reduceEqDiff, false_and, if_false, and_self, if_true, true_and] at i24 ⊢)
    refine m_puti o 13 (by decide) rfl rfl rfl lf_M_105 rfl (by omega) d_M_writes_27 ?_
    refine v_iconst o.ok d_M_writes_30 ?_
    refine v_iload_n (i := 1) o.ok d_M_writes_31 rfl rfl ?_
    refine v_imul o.ok d_M_writes_32 ?_
    refine v_istore_n (i := 2) (L' := [(0, _), (1, _), (2, _)]) (G' := []) o.ok d_M_writes_33 rfl (o.lt (by decide)) rfl rfl ?_
    rw [← cpd_0 (up M _ _ _) (4 * p)]
    refine lp 4 _ _ rfl (Int.le_refl _) (by omega) ?_
    unfold wrt
    first | rw [if_pos (by omega)] | rw [if_neg (by omega)]
  · refine v_aload_n (i := 0) o.ok d_M_writes_14 rfl rfl ?_
    refine m_geta o 6 (by decide) (by decide) lf_M_26 rfl d_M_writes_15 ?_
    refine v_iload_n (i := 1) o.ok d_M_writes_18 rfl rfl ?_
    refine m_iald o 6 8 rfl rfl (by omega) d_M_writes_19 (fun i19 => ?_)
    (try simp only [clk, up, cpd, cpu, Nat.reduceEqDiff, false_and, if_false, and_self, if_true, true_and] at i19 ⊢)
    refine v_goto o.ok d_M_writes_20 ?_
    refine m_puti o 13 (by decide) rfl rfl rfl lf_M_105 rfl (by omega) d_M_writes_27 ?_
    refine v_iconst o.ok d_M_writes_30 ?_
    refine v_iload_n (i := 1) o.ok d_M_writes_31 rfl rfl ?_
    refine v_imul o.ok d_M_writes_32 ?_
    refine v_istore_n (i := 2) (L' := [(0, _), (1, _), (2, _)]) (G' := []) o.ok d_M_writes_33 rfl (o.lt (by decide)) rfl rfl ?_
    rw [← cpd_0 (up M _ _ _) (4 * p)]
    refine lp 4 _ _ rfl (Int.le_refl _) (by omega) ?_
    unfold wrt
    first | rw [if_pos (by omega)] | rw [if_neg (by omega)]
set_option maxHeartbeats 4000000 in
set_option maxRecDepth 20000 in
theorem c_M_become (k now v num : Int) (M : MSt) (hk : 0 ≤ k ∧ k ≤ 31) (hn : now = 0 ∨ now = 1) (hv : InR v) (hm : InR num) : MF y_M_become (wsOf y_M_become b_M_become 5 none) 0 [k, now, v, num] M (none) (bcm M k now v num) := by
  refine MCon.of (by decide) rfl (Nat.le_of_ble_eq_true rfl) ?_
  intro X E o
  show V X (RelM E M) 0 [(0, .ref (Em.x E)), (1, J (k)), (2, J (now)), (3, J (v)), (4, J (num))] [] []
  refine v_aload_n (i := 0) o.ok d_M_become_0 rfl rfl ?_
  refine m_geta o 4 (by decide) (by decide) lf_M_20 rfl d_M_become_1 ?_
  refine v_iload_n (i := 1) o.ok d_M_become_4 rfl rfl ?_
  refine v_iload_n (i := 2) o.ok d_M_become_5 rfl rfl ?_
  refine m_zast o 4 32 rfl rfl (by omega) (by omega) d_M_become_6 ?_
  refine v_aload_n (i := 0) o.ok d_M_become_7 rfl rfl ?_
  refine m_geta o 5 (by decide) (by decide) lf_M_23 rfl d_M_become_8 ?_
  refine v_iload_n (i := 1) o.ok d_M_become_11 rfl rfl ?_
  refine v_iload_n (i := 2) o.ok d_M_become_12 rfl rfl ?_
  refine v_if_eq o.ok (by omega) d_M_become_13 (fun c13 => ?_) (fun c13 => ?_)
  · refine v_iconst o.ok d_M_become_20 ?_
    refine m_iast o 5 32 rfl rfl (by omega) (by omega) d_M_become_21 ?_
    refine v_aload_n (i := 0) o.ok d_M_become_22 rfl rfl ?_
    refine m_geta o 6 (by decide) (by decide) lf_M_26 rfl d_M_become_23 ?_
    refine v_iload_n (i := 1) o.ok d_M_become_26 rfl rfl ?_
    refine v_iconst o.ok d_M_become_27 ?_
    refine v_idiv o.ok d_M_become_28 (by omega) (by omega) ?_
    refine v_iload (i := 4) o.ok d_M_become_29 rfl ?_
    refine m_iast o 6 8 rfl rfl (by omega) (by omega) d_M_become_31 ?_
    refine v_aload_n (i := 0) o.ok d_M_become_32 rfl rfl ?_
    refine m_geta o 8 (by decide) (by decide) lf_M_32 rfl d_M_become_33 ?_
    refine v_iload_n (i := 1) o.ok d_M_become_36 rfl rfl ?_
    refine v_iconst o.ok d_M_become_37 ?_
    refine v_idiv o.ok d_M_become_38 (by omega) (by omega) ?_
    refine v_iconst o.ok d_M_become_39 ?_
    refine m_zast o 8 8 rfl rfl (by omega) (by exact Or.inr rfl) d_M_become_40 ?_
    refine m_vret o d_M_become_41 ⟨rfl, by unfold bcm; first | rw [if_pos (by omega)] | rw [if_neg (by omega)]⟩
  · refine v_iload_n (i := 3) o.ok d_M_become_16 rfl rfl ?_
    refine v_goto o.ok d_M_become_17 ?_
    refine m_iast o 5 32 rfl rfl (by omega) (by omega) d_M_become_21 ?_
    refine v_aload_n (i := 0) o.ok d_M_become_22 rfl rfl ?_
    refine m_geta o 6 (by decide) (by decide) lf_M_26 rfl d_M_become_23 ?_
    refine v_iload_n (i := 1) o.ok d_M_become_26 rfl rfl ?_
    refine v_iconst o.ok d_M_become_27 ?_
    refine v_idiv o.ok d_M_become_28 (by omega) (by omega) ?_
    refine v_iload (i := 4) o.ok d_M_become_29 rfl ?_
    refine m_iast o 6 8 rfl rfl (by omega) (by omega) d_M_become_31 ?_
    refine v_aload_n (i := 0) o.ok d_M_become_32 rfl rfl ?_
    refine m_geta o 8 (by decide) (by decide) lf_M_32 rfl d_M_become_33 ?_
    refine v_iload_n (i := 1) o.ok d_M_become_36 rfl rfl ?_
    refine v_iconst o.ok d_M_become_37 ?_
    refine v_idiv o.ok d_M_become_38 (by omega) (by omega) ?_
    refine v_iconst o.ok d_M_become_39 ?_
    refine m_zast o 8 8 rfl rfl (by omega) (by exact Or.inr rfl) d_M_become_40 ?_
    refine m_vret o d_M_become_41 ⟨rfl, by unfold bcm; first | rw [if_pos (by omega)] | rw [if_neg (by omega)]⟩
set_option maxHeartbeats 4000000 in
set_option maxRecDepth 20000 in
theorem c_M_append (w t a : Int) (M : MSt) (hr : 0 ≤ M 12 0 ∧ M 12 0 ≤ 300) (hw : InR w) (ht : InR t) (ha : InR a) : MF y_M_append (wsOf y_M_append b_M_append 5 (some .int)) 0 [w, t, a] M (some (M 12 0)) (app M w t a) := by
  refine MCon.of (by decide) rfl (Nat.le_of_ble_eq_true rfl) ?_
  intro X E o
  show V X (RelM E M) 0 [(0, .ref (Em.x E)), (1, J (w)), (2, J (t)), (3, J (a))] [] []
  refine v_aload_n (i := 0) o.ok d_M_append_0 rfl rfl ?_
  refine m_geti o 12 (by decide) rfl lf_M_118 rfl d_M_append_1 (fun i1 => ?_)
  (try simp only [clk, up, cpd, cpu, Nat.reduceEqDiff, false_and, if_false, and_self, if_true, true_and] at i1 ⊢)
  refine v_istore (i := 4) (L' := [(0, _), (1, _), (2, _), (3, _), (4, _)]) (G' := []) o.ok d_M_append_4 (o.lt (by decide)) rfl rfl ?_
  refine v_aload_n (i := 0) o.ok d_M_append_6 rfl rfl ?_
  refine m_geta o 14 (by decide) (by decide) lf_M_38 rfl d_M_append_7 ?_
  refine v_iload (i := 4) o.ok d_M_append_10 rfl ?_
  refine v_iload_n (i := 1) o.ok d_M_append_12 rfl rfl ?_
  refine m_iast o 14 301 rfl rfl (by omega) (by omega) d_M_append_13 ?_
  refine v_aload_n (i := 0) o.ok d_M_append_14 rfl rfl ?_
  refine m_geta o 15 (by decide) (by decide) lf_M_41 rfl d_M_append_15 ?_
  refine v_iload (i := 4) o.ok d_M_append_18 rfl ?_
  refine v_iload_n (i := 2) o.ok d_M_append_20 rfl rfl ?_
  refine m_iast o 15 301 rfl rfl (by omega) (by omega) d_M_append_21 ?_
  refine v_aload_n (i := 0) o.ok d_M_append_22 rfl rfl ?_
  refine m_geta o 16 (by decide) (by decide) lf_M_44 rfl d_M_append_23 ?_
  refine v_iload (i := 4) o.ok d_M_append_26 rfl ?_
  refine v_iload_n (i := 3) o.ok d_M_append_28 rfl rfl ?_
  refine m_iast o 16 301 rfl rfl (by omega) (by omega) d_M_append_29 ?_
  refine v_aload_n (i := 0) o.ok d_M_append_30 rfl rfl ?_
  refine m_geta o 17 (by decide) (by decide) lf_M_47 rfl d_M_append_31 ?_
  refine v_iload (i := 4) o.ok d_M_append_34 rfl ?_
  refine v_iconst o.ok d_M_append_36 ?_
  refine m_iast o 17 301 rfl rfl (by omega) (by omega) d_M_append_37 ?_
  refine v_aload_n (i := 0) o.ok d_M_append_38 rfl rfl ?_
  refine m_geta o 18 (by decide) (by decide) lf_M_50 rfl d_M_append_39 ?_
  refine v_iload (i := 4) o.ok d_M_append_42 rfl ?_
  refine v_iconst o.ok d_M_append_44 ?_
  refine m_zast o 18 301 rfl rfl (by omega) (by exact Or.inl rfl) d_M_append_45 ?_
  refine v_aload_n (i := 0) o.ok d_M_append_46 rfl rfl ?_
  refine m_geta o 19 (by decide) (by decide) lf_M_53 rfl d_M_append_47 ?_
  refine v_iload (i := 4) o.ok d_M_append_50 rfl ?_
  refine v_iconst o.ok d_M_append_52 ?_
  refine m_iast o 19 301 rfl rfl (by omega) (by omega) d_M_append_53 ?_
  refine v_aload_n (i := 0) o.ok d_M_append_54 rfl rfl ?_
  refine m_geta o 20 (by decide) (by decide) lf_M_56 rfl d_M_append_55 ?_
  refine v_iload (i := 4) o.ok d_M_append_58 rfl ?_
  refine v_iconst o.ok d_M_append_60 ?_
  refine m_zast o 20 301 rfl rfl (by omega) (by exact Or.inl rfl) d_M_append_61 ?_
  refine v_aload_n (i := 0) o.ok d_M_append_62 rfl rfl ?_
  refine m_geta o 21 (by decide) (by decide) lf_M_59 rfl d_M_append_63 ?_
  refine v_iload (i := 4) o.ok d_M_append_66 rfl ?_
  refine v_iconst o.ok d_M_append_68 ?_
  refine m_iast o 21 301 rfl rfl (by omega) (by omega) d_M_append_69 ?_
  refine v_aload_n (i := 0) o.ok d_M_append_70 rfl rfl ?_
  refine v_dup o.ok d_M_append_71 rfl ?_
  refine m_geti o 12 (by decide) rfl lf_M_118 rfl d_M_append_72 (fun i72 => ?_)
  (try simp only [clk, up, cpd, cpu, Nat.reduceEqDiff, false_and, if_false, and_self, if_true, true_and] at i72 ⊢)
  refine v_iconst o.ok d_M_append_75 ?_
  refine v_iadd o.ok d_M_append_76 ?_
  refine m_puti o 12 (by decide) rfl rfl rfl lf_M_118 rfl (by omega) d_M_append_77 ?_
  refine v_iload (i := 4) o.ok d_M_append_80 rfl ?_
  refine m_iret o d_M_append_82 ⟨rfl, rfl⟩
set_option maxHeartbeats 4000000 in
set_option maxRecDepth 20000 in
theorem c_M_touch (p : Int) (M : MSt) (hp : 0 ≤ p ∧ p ≤ 7) (hg : PgOk M) : MF y_M_touch (wsOf y_M_touch b_M_touch 5 none) 1 [p] M (none) (tch M p) := by
  refine MCon.of (by decide) rfl (Nat.le_of_ble_eq_true rfl) ?_
  intro X E o
  show V X (RelM E M) 0 [(0, .ref (Em.x E)), (1, J (p))] [] []
  obtain ⟨hc, hf⟩ := hg
  have fin : ∀ (M1 : MSt), M1 = @tch0 M p (Classical.propDecidable _) → M1 10 0 = M 10 0 + 1 → ∀ L, lget L 0 = some (.ref (Em.x E)) → lget L 1 = some (J p) → V X (RelM E M1) 198 L [] [] := by
    intro M1 h1 h2 L e0 e1
    refine v_aload_n (i := 0) o.ok d_M_touch_198 rfl e0 ?_
    refine m_geta o 9 (by decide) (by decide) lf_M_35 rfl d_M_touch_199 ?_
    refine v_iload_n (i := 1) o.ok d_M_touch_202 rfl e1 ?_
    refine v_aload_n (i := 0) o.ok d_M_touch_203 rfl e0 ?_
    refine m_geti o 10 (by decide) rfl lf_M_108 rfl d_M_touch_204 (fun i204 => ?_)
    refine m_iast o 9 8 rfl rfl (by omega) (by omega) d_M_touch_207 ?_
    refine m_vret o d_M_touch_208 ⟨rfl, ?_⟩
    rw [h2, h1]
    rfl
  have ld : ∀ (n : Nat) (k u ol : Int) (M1 : MSt), 4 * p ≤ k → k + n = 4 * p + 4 → ldp M1 p = @tch0 M p (Classical.propDecidable _) → M1 10 0 = M 10 0 + 1 → V X (RelM E (cpu M1 (4 * p) k)) 128 [(0, .ref (Em.x E)), (1, J p), (2, J u), (3, J ol), (4, J k)] [] [] := by
    intro n
    induction n with
    | zero =>
      intro k u ol M1 h0 h1 h2 h3
      have e : k = 4 * p + 4 := by omega
      subst e
      refine v_iload (i := 4) o.ok d_M_touch_128 rfl ?_
      refine v_iconst o.ok d_M_touch_130 ?_
      refine v_iload_n (i := 1) o.ok d_M_touch_131 rfl rfl ?_
      refine v_imul o.ok d_M_touch_132 ?_
      refine v_iconst o.ok d_M_touch_133 ?_
      refine v_iadd o.ok d_M_touch_134 ?_
      refine v_icmp_ge o.ok (by omega) (by omega) d_M_touch_135 (fun c135 => ?_) (fun c135 => ?_)
      · refine v_aload_n (i := 0) o.ok d_M_touch_172 rfl rfl ?_
        refine m_geta o 6 (by decide) (by decide) lf_M_26 rfl d_M_touch_173 ?_
        refine v_iload_n (i := 1) o.ok d_M_touch_176 rfl rfl ?_
        refine v_aload_n (i := 0) o.ok d_M_touch_177 rfl rfl ?_
        refine m_geta o 3 (by decide) (by decide) lf_M_17 rfl d_M_touch_178 ?_
        refine v_iload_n (i := 1) o.ok d_M_touch_181 rfl rfl ?_
        refine m_iald o 3 8 rfl rfl (by omega) d_M_touch_182 (fun i182 => ?_)
        (try simp only [clk, up, cpd, cpu, Nat.reduceEqDiff, false_and, if_false, and_self, if_true, true_and] at i182 ⊢)
        refine m_iast o 6 8 rfl rfl (by omega) (by omega) d_M_touch_183 ?_
        refine v_aload_n (i := 0) o.ok d_M_touch_184 rfl rfl ?_
        refine m_geta o 8 (by decide) (by decide) lf_M_32 rfl d_M_touch_185 ?_
        refine v_iload_n (i := 1) o.ok d_M_touch_188 rfl rfl ?_
        refine v_iconst o.ok d_M_touch_189 ?_
        refine m_zast o 8 8 rfl rfl (by omega) (by exact Or.inl rfl) d_M_touch_190 ?_
        refine v_aload_n (i := 0) o.ok d_M_touch_191 rfl rfl ?_
        refine m_geta o 7 (by decide) (by decide) lf_M_29 rfl d_M_touch_192 ?_
        refine v_iload_n (i := 1) o.ok d_M_touch_195 rfl rfl ?_
        refine v_iconst o.ok d_M_touch_196 ?_
        refine m_zast o 7 8 rfl rfl (by omega) (by exact Or.inr rfl) d_M_touch_197 ?_
        exact fin _ h2 h3 _ rfl rfl
      · exfalso; omega
    | succ n ih =>
      intro k u ol M1 h0 h1 h2 h3
      refine v_iload (i := 4) o.ok d_M_touch_128 rfl ?_
      refine v_iconst o.ok d_M_touch_130 ?_
      refine v_iload_n (i := 1) o.ok d_M_touch_131 rfl rfl ?_
      refine v_imul o.ok d_M_touch_132 ?_
      refine v_iconst o.ok d_M_touch_133 ?_
      refine v_iadd o.ok d_M_touch_134 ?_
      refine v_icmp_ge o.ok (by omega) (by omega) d_M_touch_135 (fun c135 => ?_) (fun c135 => ?_)
      · exfalso; omega
      · refine v_aload_n (i := 0) o.ok d_M_touch_138 rfl rfl ?_
        refine m_geta o 4 (by decide) (by decide) lf_M_20 rfl d_M_touch_139 ?_
        refine v_iload (i := 4) o.ok d_M_touch_142 rfl ?_
        refine v_aload_n (i := 0) o.ok d_M_touch_144 rfl rfl ?_
        refine m_geta o 1 (by decide) (by decide) lf_M_7 rfl d_M_touch_145 ?_
        refine v_iload (i := 4) o.ok d_M_touch_148 rfl ?_
        refine m_zald o 1 32 rfl rfl (by omega) d_M_touch_150 (fun i150 => ?_)
        (try simp only [clk, up, cpd, cpu, Nat.reduceEqDiff, false_and, if_false, and_self, if_true, true_and] at i150 ⊢)
        refine m_zast o 4 32 rfl rfl (by omega) (by omega) d_M_touch_151 ?_
        refine v_aload_n (i := 0) o.ok d_M_touch_152 rfl rfl ?_
        refine m_geta o 5 (by decide) (by decide) lf_M_23 rfl d_M_touch_153 ?_
        refine v_iload (i := 4) o.ok d_M_touch_156 rfl ?_
        refine v_aload_n (i := 0) o.ok d_M_touch_158 rfl rfl ?_
        refine m_geta o 2 (by decide) (by decide) lf_M_13 rfl d_M_touch_159 ?_
        refine v_iload (i := 4) o.ok d_M_touch_162 rfl ?_
        refine m_iald o 2 32 rfl rfl (by omega) d_M_touch_164 (fun i164 => ?_)
        (try simp only [clk, up, cpd, cpu, Nat.reduceEqDiff, false_and, if_false, and_self, if_true, true_and] at i164 ⊢)
        refine m_iast o 5 32 rfl rfl (by omega) (by omega) d_M_touch_165 ?_
        refine v_iinc (i := 4) (L' := [(0, _), (1, _), (2, _), (3, _), (4, _)]) (G' := []) o.ok d_M_touch_166 rfl (o.lt (by decide)) rfl rfl ?_
        refine v_goto o.ok d_M_touch_169 ?_
        rw [cpu_s M1 h0]
        exact ih _ _ _ M1 (by omega) (by omega) h2 h3
  have ld0 : ∀ (u ol : Int) (M1 : MSt), ldp M1 p = @tch0 M p (Classical.propDecidable _) → M1 10 0 = M 10 0 + 1 → V X (RelM E M1) 128 [(0, .ref (Em.x E)), (1, J p), (2, J u), (3, J ol), (4, J (4 * p))] [] [] := by
    intro u ol M1 h1 h2
    have := ld 4 (4 * p) u ol M1 (Int.le_refl _) (by omega) h1 h2
    rwa [cpu_0] at this
  have sc : ∀ (n : Nat) (q : Int), 0 ≤ q → q + n = 8 → M 7 p ≠ 1 → V X (RelM E (clk M)) 26 [(0, .ref (Em.x E)), (1, J p), (2, J (cnt (fun q => M 7 q = 1) q)), (3, J (old M q)), (4, J q)] [] [] := by
    intro n
    induction n with
    | zero =>
      intro q h0 h1 hpn
      have e : q = 8 := by omega
      subst e
      have hu := cnt_bd (P := fun q => M 7 q = 1) (show (0 : Int) ≤ 8 by decide)
      have ho := old_bd (M := M) (show (0 : Int) ≤ 8 by decide)
      have ec : (clk M) 10 0 = M 10 0 + 1 := rfl
      refine v_iload (i := 4) o.ok d_M_touch_26 rfl ?_
      refine v_bipush o.ok d_M_touch_28 rfl ?_
      refine v_icmp_ge o.ok (by omega) (by omega) d_M_touch_30 (fun c30 => ?_) (fun c30 => ?_)
      · (try simp only [clk, up, cpd, cpu, Nat.reduceEqDiff, false_and, if_false, and_self, if_true, true_and])
        refine v_iload_n (i := 2) o.ok d_M_touch_94 rfl rfl ?_
        refine v_aload_n (i := 0) o.ok d_M_touch_95 rfl rfl ?_
        refine m_geti o 0 (by decide) rfl lf_M_101 rfl d_M_touch_96 (fun i96 => ?_)
        (try simp only [clk, up, cpd, cpu, Nat.reduceEqDiff, false_and, if_false, and_self, if_true, true_and] at i96 ⊢)
        refine v_icmp_ne o.ok (by omega) (by omega) d_M_touch_99 (fun c99 => ?_) (fun c99 => ?_)
        · refine v_iconst o.ok d_M_touch_123 ?_
          refine v_iload_n (i := 1) o.ok d_M_touch_124 rfl rfl ?_
          refine v_imul o.ok d_M_touch_125 ?_
          refine v_istore (i := 4) (L' := [(0, _), (1, _), (2, _), (3, _), (4, _)]) (G' := []) o.ok d_M_touch_126 (o.lt (by decide)) rfl rfl ?_
          refine ld0 _ _ _ ?_ ?_
          · unfold tch0
            rw [if_neg hpn]
            first
              | rw [if_neg (show ¬ usd M = M 0 0 from by assumption)]
              | (rw [if_pos (show usd M = M 0 0 from by assumption)]; unfold evc; first | (rw [if_pos (show (clk M) 8 (old M 8) = 1 from (show M 8 (old M 8) = 1 from by omega))]) | (rw [if_neg (show ¬ (clk M) 8 (old M 8) = 1 from (show ¬ M 8 (old M 8) = 1 from by omega))]))
          · rfl
        · refine v_aload_n (i := 0) o.ok d_M_touch_102 rfl rfl ?_
          refine m_geta o 8 (by decide) (by decide) lf_M_32 rfl d_M_touch_103 ?_
          refine v_iload_n (i := 3) o.ok d_M_touch_106 rfl rfl ?_
          refine m_zald o 8 8 rfl rfl (by omega) d_M_touch_107 (fun i107 => ?_)
          (try simp only [clk, up, cpd, cpu, Nat.reduceEqDiff, false_and, if_false, and_self, if_true, true_and] at i107 ⊢)
          first | refine v_ifeq_b o.ok d_M_touch_108 (fun c108 => ?_) (fun c108 => ?_) | refine v_if_eq o.ok (by omega) d_M_touch_108 (fun c108 => ?_) (fun c108 => ?_)
          · refine v_aload_n (i := 0) o.ok d_M_touch_116 rfl rfl ?_
            refine m_geta o 7 (by decide) (by decide) lf_M_29 rfl d_M_touch_117 ?_
            refine v_iload_n (i := 3) o.ok d_M_touch_120 rfl rfl ?_
            refine v_iconst o.ok d_M_touch_121 ?_
            refine m_zast o 7 8 rfl rfl (by omega) (by exact Or.inl rfl) d_M_touch_122 ?_
            refine v_iconst o.ok d_M_touch_123 ?_
            refine v_iload_n (i := 1) o.ok d_M_touch_124 rfl rfl ?_
            refine v_imul o.ok d_M_touch_125 ?_
            refine v_istore (i := 4) (L' := [(0, _), (1, _), (2, _), (3, _), (4, _)]) (G' := []) o.ok d_M_touch_126 (o.lt (by decide)) rfl rfl ?_
            refine ld0 _ _ _ ?_ ?_
            · unfold tch0
              rw [if_neg hpn]
              first
                | rw [if_neg (show ¬ usd M = M 0 0 from by assumption)]
                | (rw [if_pos (show usd M = M 0 0 from by assumption)]; unfold evc; first | (rw [if_pos (show (clk M) 8 (old M 8) = 1 from (show M 8 (old M 8) = 1 from by omega))]) | (rw [if_neg (show ¬ (clk M) 8 (old M 8) = 1 from (show ¬ M 8 (old M 8) = 1 from by omega))]))
            · rfl
          · refine v_aload_n (i := 0) o.ok d_M_touch_111 rfl rfl ?_
            refine v_iload_n (i := 3) o.ok d_M_touch_112 rfl rfl ?_
            refine m_cfv o (c_M_writes (old M 8) (clk M) (by omega)) q_M_writes lm_M_111 d_M_touch_113 (by decide) rfl (Nat.le_of_ble_eq_true rfl) rfl ?_
            refine v_aload_n (i := 0) o.ok d_M_touch_116 rfl rfl ?_
            refine m_geta o 7 (by decide) (by decide) lf_M_29 rfl d_M_touch_117 ?_
            refine v_iload_n (i := 3) o.ok d_M_touch_120 rfl rfl ?_
            refine v_iconst o.ok d_M_touch_121 ?_
            refine m_zast o 7 8 rfl rfl (by omega) (by exact Or.inl rfl) d_M_touch_122 ?_
            refine v_iconst o.ok d_M_touch_123 ?_
            refine v_iload_n (i := 1) o.ok d_M_touch_124 rfl rfl ?_
            refine v_imul o.ok d_M_touch_125 ?_
            refine v_istore (i := 4) (L' := [(0, _), (1, _), (2, _), (3, _), (4, _)]) (G' := []) o.ok d_M_touch_126 (o.lt (by decide)) rfl rfl ?_
            refine ld0 _ _ _ ?_ ?_
            · unfold tch0
              rw [if_neg hpn]
              first
                | rw [if_neg (show ¬ usd M = M 0 0 from by assumption)]
                | (rw [if_pos (show usd M = M 0 0 from by assumption)]; unfold evc; first | (rw [if_pos (show (clk M) 8 (old M 8) = 1 from (show M 8 (old M 8) = 1 from by omega))]) | (rw [if_neg (show ¬ (clk M) 8 (old M 8) = 1 from (show ¬ M 8 (old M 8) = 1 from by omega))]))
            · rfl
      · exfalso; omega
    | succ n ih =>
      intro q h0 h1 hpn
      have ho := old_bd (M := M) h0
      have hu := cnt_bd (P := fun q => M 7 q = 1) h0
      refine v_iload (i := 4) o.ok d_M_touch_26 rfl ?_
      refine v_bipush o.ok d_M_touch_28 rfl ?_
      refine v_icmp_ge o.ok (by omega) (by omega) d_M_touch_30 (fun c30 => ?_) (fun c30 => ?_)
      · exfalso; omega
      · refine v_iload_n (i := 2) o.ok d_M_touch_33 rfl rfl ?_
        refine v_aload_n (i := 0) o.ok d_M_touch_34 rfl rfl ?_
        refine m_geta o 7 (by decide) (by decide) lf_M_29 rfl d_M_touch_35 ?_
        refine v_iload (i := 4) o.ok d_M_touch_38 rfl ?_
        refine m_zald o 7 8 rfl rfl (by omega) d_M_touch_40 (fun i40 => ?_)
        (try simp only [clk, up, cpd, cpu, Nat.reduceEqDiff, false_and, if_false, and_self, if_true, true_and] at i40 ⊢)
        first | refine v_ifeq_b o.ok d_M_touch_41 (fun c41 => ?_) (fun c41 => ?_) | refine v_if_eq o.ok (by omega) d_M_touch_41 (fun c41 => ?_) (fun c41 => ?_)
        · refine v_iconst o.ok d_M_touch_48 ?_
          refine v_iadd o.ok d_M_touch_49 ?_
          refine v_istore_n (i := 2) (L' := [(0, _), (1, _), (2, _), (3, _), (4, _)]) (G' := []) o.ok d_M_touch_50 rfl (o.lt (by decide)) rfl rfl ?_
          refine v_aload_n (i := 0) o.ok d_M_touch_51 rfl rfl ?_
          refine m_geta o 7 (by decide) (by decide) lf_M_29 rfl d_M_touch_52 ?_
          refine v_iload (i := 4) o.ok d_M_touch_55 rfl ?_
          refine m_zald o 7 8 rfl rfl (by omega) d_M_touch_57 (fun i57 => ?_)
          (try simp only [clk, up, cpd, cpu, Nat.reduceEqDiff, false_and, if_false, and_self, if_true, true_and] at i57 ⊢)
          first | refine v_ifeq_b o.ok d_M_touch_58 (fun c58 => ?_) (fun c58 => ?_) | refine v_if_eq o.ok (by omega) d_M_touch_58 (fun c58 => ?_) (fun c58 => ?_)
          · refine v_iload_n (i := 3) o.ok d_M_touch_86 rfl rfl ?_
            refine v_istore_n (i := 3) (L' := [(0, _), (1, _), (2, _), (3, _), (4, _)]) (G' := []) o.ok d_M_touch_87 rfl (o.lt (by decide)) rfl rfl ?_
            refine v_iinc (i := 4) (L' := [(0, _), (1, _), (2, _), (3, _), (4, _)]) (G' := []) o.ok d_M_touch_88 rfl (o.lt (by decide)) rfl rfl ?_
            refine v_goto o.ok d_M_touch_91 ?_
            have z := ih (q + 1) (by omega) (by omega) hpn
            rw [cnt_s h0, old_s h0] at z
            first
              | (exfalso; omega)
              | (rw [b01_t (show M 7 q = 1 from by omega), if_pos (by omega)] at z; exact z)
              | (rw [b01_t (show M 7 q = 1 from by omega), if_neg (by omega)] at z; exact z)
              | (rw [b01_f (show ¬ M 7 q = 1 from by omega), if_neg (by omega)] at z; exact z)
          · refine v_iload_n (i := 3) o.ok d_M_touch_61 rfl rfl ?_
            refine v_if_lt o.ok (by omega) d_M_touch_62 (fun c62 => ?_) (fun c62 => ?_)
            · refine v_iload (i := 4) o.ok d_M_touch_81 rfl ?_
              refine v_goto o.ok d_M_touch_83 ?_
              refine v_istore_n (i := 3) (L' := [(0, _), (1, _), (2, _), (3, _), (4, _)]) (G' := []) o.ok d_M_touch_87 rfl (o.lt (by decide)) rfl rfl ?_
              refine v_iinc (i := 4) (L' := [(0, _), (1, _), (2, _), (3, _), (4, _)]) (G' := []) o.ok d_M_touch_88 rfl (o.lt (by decide)) rfl rfl ?_
              refine v_goto o.ok d_M_touch_91 ?_
              have z := ih (q + 1) (by omega) (by omega) hpn
              rw [cnt_s h0, old_s h0] at z
              first
                | (exfalso; omega)
                | (rw [b01_t (show M 7 q = 1 from by omega), if_pos (by omega)] at z; exact z)
                | (rw [b01_t (show M 7 q = 1 from by omega), if_neg (by omega)] at z; exact z)
                | (rw [b01_f (show ¬ M 7 q = 1 from by omega), if_neg (by omega)] at z; exact z)
            · refine v_aload_n (i := 0) o.ok d_M_touch_65 rfl rfl ?_
              refine m_geta o 9 (by decide) (by decide) lf_M_35 rfl d_M_touch_66 ?_
              refine v_iload (i := 4) o.ok d_M_touch_69 rfl ?_
              refine m_iald o 9 8 rfl rfl (by omega) d_M_touch_71 (fun i71 => ?_)
              (try simp only [clk, up, cpd, cpu, Nat.reduceEqDiff, false_and, if_false, and_self, if_true, true_and] at i71 ⊢)
              refine v_aload_n (i := 0) o.ok d_M_touch_72 rfl rfl ?_
              refine m_geta o 9 (by decide) (by decide) lf_M_35 rfl d_M_touch_73 ?_
              refine v_iload_n (i := 3) o.ok d_M_touch_76 rfl rfl ?_
              refine m_iald o 9 8 rfl rfl (by omega) d_M_touch_77 (fun i77 => ?_)
              (try simp only [clk, up, cpd, cpu, Nat.reduceEqDiff, false_and, if_false, and_self, if_true, true_and] at i77 ⊢)
              refine v_icmp_ge o.ok (by omega) (by omega) d_M_touch_78 (fun c78 => ?_) (fun c78 => ?_)
              · refine v_iload_n (i := 3) o.ok d_M_touch_86 rfl rfl ?_
                refine v_istore_n (i := 3) (L' := [(0, _), (1, _), (2, _), (3, _), (4, _)]) (G' := []) o.ok d_M_touch_87 rfl (o.lt (by decide)) rfl rfl ?_
                refine v_iinc (i := 4) (L' := [(0, _), (1, _), (2, _), (3, _), (4, _)]) (G' := []) o.ok d_M_touch_88 rfl (o.lt (by decide)) rfl rfl ?_
                refine v_goto o.ok d_M_touch_91 ?_
                have z := ih (q + 1) (by omega) (by omega) hpn
                rw [cnt_s h0, old_s h0] at z
                first
                  | (exfalso; omega)
                  | (rw [b01_t (show M 7 q = 1 from by omega), if_pos (by omega)] at z; exact z)
                  | (rw [b01_t (show M 7 q = 1 from by omega), if_neg (by omega)] at z; exact z)
                  | (rw [b01_f (show ¬ M 7 q = 1 from by omega), if_neg (by omega)] at z; exact z)
              · refine v_iload (i := 4) o.ok d_M_touch_81 rfl ?_
                refine v_goto o.ok d_M_touch_83 ?_
                refine v_istore_n (i := 3) (L' := [(0, _), (1, _), (2, _), (3, _), (4, _)]) (G' := []) o.ok d_M_touch_87 rfl (o.lt (by decide)) rfl rfl ?_
                refine v_iinc (i := 4) (L' := [(0, _), (1, _), (2, _), (3, _), (4, _)]) (G' := []) o.ok d_M_touch_88 rfl (o.lt (by decide)) rfl rfl ?_
                refine v_goto o.ok d_M_touch_91 ?_
                have z := ih (q + 1) (by omega) (by omega) hpn
                rw [cnt_s h0, old_s h0] at z
                first
                  | (exfalso; omega)
                  | (rw [b01_t (show M 7 q = 1 from by omega), if_pos (by omega)] at z; exact z)
                  | (rw [b01_t (show M 7 q = 1 from by omega), if_neg (by omega)] at z; exact z)
                  | (rw [b01_f (show ¬ M 7 q = 1 from by omega), if_neg (by omega)] at z; exact z)
        · refine v_iconst o.ok d_M_touch_44 ?_
          refine v_goto o.ok d_M_touch_45 ?_
          refine v_iadd o.ok d_M_touch_49 ?_
          refine v_istore_n (i := 2) (L' := [(0, _), (1, _), (2, _), (3, _), (4, _)]) (G' := []) o.ok d_M_touch_50 rfl (o.lt (by decide)) rfl rfl ?_
          refine v_aload_n (i := 0) o.ok d_M_touch_51 rfl rfl ?_
          refine m_geta o 7 (by decide) (by decide) lf_M_29 rfl d_M_touch_52 ?_
          refine v_iload (i := 4) o.ok d_M_touch_55 rfl ?_
          refine m_zald o 7 8 rfl rfl (by omega) d_M_touch_57 (fun i57 => ?_)
          (try simp only [clk, up, cpd, cpu, Nat.reduceEqDiff, false_and, if_false, and_self, if_true, true_and] at i57 ⊢)
          first | refine v_ifeq_b o.ok d_M_touch_58 (fun c58 => ?_) (fun c58 => ?_) | refine v_if_eq o.ok (by omega) d_M_touch_58 (fun c58 => ?_) (fun c58 => ?_)
          · refine v_iload_n (i := 3) o.ok d_M_touch_86 rfl rfl ?_
            refine v_istore_n (i := 3) (L' := [(0, _), (1, _), (2, _), (3, _), (4, _)]) (G' := []) o.ok d_M_touch_87 rfl (o.lt (by decide)) rfl rfl ?_
            refine v_iinc (i := 4) (L' := [(0, _), (1, _), (2, _), (3, _), (4, _)]) (G' := []) o.ok d_M_touch_88 rfl (o.lt (by decide)) rfl rfl ?_
            refine v_goto o.ok d_M_touch_91 ?_
            have z := ih (q + 1) (by omega) (by omega) hpn
            rw [cnt_s h0, old_s h0] at z
            first
              | (exfalso; omega)
              | (rw [b01_t (show M 7 q = 1 from by omega), if_pos (by omega)] at z; exact z)
              | (rw [b01_t (show M 7 q = 1 from by omega), if_neg (by omega)] at z; exact z)
              | (rw [b01_f (show ¬ M 7 q = 1 from by omega), if_neg (by omega)] at z; exact z)
          · refine v_iload_n (i := 3) o.ok d_M_touch_61 rfl rfl ?_
            refine v_if_lt o.ok (by omega) d_M_touch_62 (fun c62 => ?_) (fun c62 => ?_)
            · refine v_iload (i := 4) o.ok d_M_touch_81 rfl ?_
              refine v_goto o.ok d_M_touch_83 ?_
              refine v_istore_n (i := 3) (L' := [(0, _), (1, _), (2, _), (3, _), (4, _)]) (G' := []) o.ok d_M_touch_87 rfl (o.lt (by decide)) rfl rfl ?_
              refine v_iinc (i := 4) (L' := [(0, _), (1, _), (2, _), (3, _), (4, _)]) (G' := []) o.ok d_M_touch_88 rfl (o.lt (by decide)) rfl rfl ?_
              refine v_goto o.ok d_M_touch_91 ?_
              have z := ih (q + 1) (by omega) (by omega) hpn
              rw [cnt_s h0, old_s h0] at z
              first
                | (exfalso; omega)
                | (rw [b01_t (show M 7 q = 1 from by omega), if_pos (by omega)] at z; exact z)
                | (rw [b01_t (show M 7 q = 1 from by omega), if_neg (by omega)] at z; exact z)
                | (rw [b01_f (show ¬ M 7 q = 1 from by omega), if_neg (by omega)] at z; exact z)
            · refine v_aload_n (i := 0) o.ok d_M_touch_65 rfl rfl ?_
              refine m_geta o 9 (by decide) (by decide) lf_M_35 rfl d_M_touch_66 ?_
              refine v_iload (i := 4) o.ok d_M_touch_69 rfl ?_
              refine m_iald o 9 8 rfl rfl (by omega) d_M_touch_71 (fun i71 => ?_)
              (try simp only [clk, up, cpd, cpu, Nat.reduceEqDiff, false_and, if_false, and_self, if_true, true_and] at i71 ⊢)
              refine v_aload_n (i := 0) o.ok d_M_touch_72 rfl rfl ?_
              refine m_geta o 9 (by decide) (by decide) lf_M_35 rfl d_M_touch_73 ?_
              refine v_iload_n (i := 3) o.ok d_M_touch_76 rfl rfl ?_
              refine m_iald o 9 8 rfl rfl (by omega) d_M_touch_77 (fun i77 => ?_)
              (try simp only [clk, up, cpd, cpu, Nat.reduceEqDiff, false_and, if_false, and_self, if_true, true_and] at i77 ⊢)
              refine v_icmp_ge o.ok (by omega) (by omega) d_M_touch_78 (fun c78 => ?_) (fun c78 => ?_)
              · refine v_iload_n (i := 3) o.ok d_M_touch_86 rfl rfl ?_
                refine v_istore_n (i := 3) (L' := [(0, _), (1, _), (2, _), (3, _), (4, _)]) (G' := []) o.ok d_M_touch_87 rfl (o.lt (by decide)) rfl rfl ?_
                refine v_iinc (i := 4) (L' := [(0, _), (1, _), (2, _), (3, _), (4, _)]) (G' := []) o.ok d_M_touch_88 rfl (o.lt (by decide)) rfl rfl ?_
                refine v_goto o.ok d_M_touch_91 ?_
                have z := ih (q + 1) (by omega) (by omega) hpn
                rw [cnt_s h0, old_s h0] at z
                first
                  | (exfalso; omega)
                  | (rw [b01_t (show M 7 q = 1 from by omega), if_pos (by omega)] at z; exact z)
                  | (rw [b01_t (show M 7 q = 1 from by omega), if_neg (by omega)] at z; exact z)
                  | (rw [b01_f (show ¬ M 7 q = 1 from by omega), if_neg (by omega)] at z; exact z)
              · refine v_iload (i := 4) o.ok d_M_touch_81 rfl ?_
                refine v_goto o.ok d_M_touch_83 ?_
                refine v_istore_n (i := 3) (L' := [(0, _), (1, _), (2, _), (3, _), (4, _)]) (G' := []) o.ok d_M_touch_87 rfl (o.lt (by decide)) rfl rfl ?_
                refine v_iinc (i := 4) (L' := [(0, _), (1, _), (2, _), (3, _), (4, _)]) (G' := []) o.ok d_M_touch_88 rfl (o.lt (by decide)) rfl rfl ?_
                refine v_goto o.ok d_M_touch_91 ?_
                have z := ih (q + 1) (by omega) (by omega) hpn
                rw [cnt_s h0, old_s h0] at z
                first
                  | (exfalso; omega)
                  | (rw [b01_t (show M 7 q = 1 from by omega), if_pos (by omega)] at z; exact z)
                  | (rw [b01_t (show M 7 q = 1 from by omega), if_neg (by omega)] at z; exact z)
                  | (rw [b01_f (show ¬ M 7 q = 1 from by omega), if_neg (by omega)] at z; exact z)
  refine v_aload_n (i := 0) o.ok d_M_touch_0 rfl rfl ?_
  refine v_dup o.ok d_M_touch_1 rfl ?_
  refine m_geti o 10 (by decide) rfl lf_M_108 rfl d_M_touch_2 (fun i2 => ?_)
  (try simp only [clk, up, cpd, cpu, Nat.reduceEqDiff, false_and, if_false, and_self, if_true, true_and] at i2 ⊢)
  refine v_iconst o.ok d_M_touch_5 ?_
  refine v_iadd o.ok d_M_touch_6 ?_
  refine m_puti o 10 (by decide) rfl rfl rfl lf_M_108 rfl (by omega) d_M_touch_7 ?_
  refine v_aload_n (i := 0) o.ok d_M_touch_10 rfl rfl ?_
  refine m_geta o 7 (by decide) (by decide) lf_M_29 rfl d_M_touch_11 ?_
  refine v_iload_n (i := 1) o.ok d_M_touch_14 rfl rfl ?_
  refine m_zald o 7 8 rfl rfl (by omega) d_M_touch_15 (fun i15 => ?_)
  (try simp only [clk, up, cpd, cpu, Nat.reduceEqDiff, false_and, if_false, and_self, if_true, true_and] at i15 ⊢)
  first | refine v_ifne_b o.ok d_M_touch_16 (fun c16 => ?_) (fun c16 => ?_) | refine v_if_ne o.ok (by omega) d_M_touch_16 (fun c16 => ?_) (fun c16 => ?_)
  · refine fin _ ?_ rfl _ rfl rfl
    unfold tch0
    rw [if_pos (show M 7 p = 1 from by omega)]
    rfl
  · refine v_iconst o.ok d_M_touch_19 ?_
    refine v_istore_n (i := 2) (L' := [(0, _), (1, _), (2, _)]) (G' := []) o.ok d_M_touch_20 rfl (o.lt (by decide)) rfl rfl ?_
    refine v_iconst o.ok d_M_touch_21 ?_
    refine v_istore_n (i := 3) (L' := [(0, _), (1, _), (2, _), (3, _)]) (G' := []) o.ok d_M_touch_22 rfl (o.lt (by decide)) rfl rfl ?_
    refine v_iconst o.ok d_M_touch_23 ?_
    refine v_istore (i := 4) (L' := [(0, _), (1, _), (2, _), (3, _), (4, _)]) (G' := []) o.ok d_M_touch_24 (o.lt (by decide)) rfl rfl ?_
    exact sc 8 0 (by omega) (by omega) (by omega)

