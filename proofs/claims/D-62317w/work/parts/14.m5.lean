set_option maxHeartbeats 4000000 in
set_option maxRecDepth 20000 in
theorem c_M_undoes (t pt : Int) (M : MSt) (hw : WF M) (ht : 0 ≤ t ∧ t < M 22 0) (hpt : InR pt) : MF y_M_undoes (wsOf y_M_undoes b_M_undoes 5 (some .int)) 3 [t, pt] M (some (undoes M t pt).1) ((undoes M t pt).2) := by
  refine MCon.of (by decide) rfl (Nat.le_of_ble_eq_true rfl) ?_
  intro X E o
  show V X (RelM E M) 0 [(0, .ref (Em.x E)), (1, J (t)), (2, J (pt))] [] []
  have lp : ∀ (n : Nat) (c : Int) (M1 : MSt), WF M1 → 0 ≤ t ∧ t < M1 22 0 → (n : Int) ≤ M1 12 0 → 0 ≤ c → c + n ≤ 300 → c + (undN t pt n M1).1 = (undoes M t pt).1 → (undN t pt n M1).2 = (undoes M t pt).2 → V X (RelM E M1) 10 [(0, .ref (Em.x E)), (1, J t), (2, J pt), (3, J c), (4, J ((n : Int) - 1))] [] [] := by
    intro n
    induction n with
    | zero =>
      intro c M1 w1 ht hn h0 h1 h2 h3
      refine v_iload (i := 4) o.ok d_M_undoes_10 rfl ?_
      refine v_if_lt o.ok (by omega) d_M_undoes_12 (fun c12 => ?_) (fun c12 => ?_)
      · refine v_iload_n (i := 3) o.ok d_M_undoes_79 rfl rfl ?_
        refine m_iret o d_M_undoes_80 ⟨congrArg some (by rw [← h2]; show c = c + 0; omega), h3⟩
      · exfalso; omega
    | succ n ih =>
      intro c M1 w1 ht hn h0 h1 h2 h3
      have hb := w1.base
      have hr := w1.recs
      have hm := w1.many
      have hby := w1.bys n (by omega) (by omega)
      rw [show ((n + 1 : Nat) : Int) - 1 = (n : Int) from by omega]
      have e4 : ∀ K : MSt, V X (RelM E K) 10 [(0, .ref (Em.x E)), (1, J t), (2, J pt), (3, J c), (4, J ((n : Int) - 1))] [] [] → V X (RelM E K) 10 [(0, .ref (Em.x E)), (1, J t), (2, J pt), (3, J c), (4, J ((n : Int) + -1))] [] [] := fun K k => k
      refine v_iload (i := 4) o.ok d_M_undoes_10 rfl ?_
      refine v_if_lt o.ok (by omega) d_M_undoes_12 (fun c12 => ?_) (fun c12 => ?_)
      · exfalso; omega
      · refine v_aload_n (i := 0) o.ok d_M_undoes_15 rfl rfl ?_
        refine m_geti o 11 (by decide) rfl lf_M_115 rfl d_M_undoes_16 (fun i16 => ?_)
        (try simp only [clk, up, cpd, cpu, Nat.reduceEqDiff, false_and, if_false, and_self, if_true, true_and] at i16 ⊢)
        refine v_iload (i := 4) o.ok d_M_undoes_19 rfl ?_
        refine v_iadd o.ok d_M_undoes_21 ?_
        refine v_iconst o.ok d_M_undoes_22 ?_
        refine v_iadd o.ok d_M_undoes_23 ?_
        refine v_iload_n (i := 2) o.ok d_M_undoes_24 rfl rfl ?_
        refine v_icmp_le o.ok (by omega) (by omega) d_M_undoes_25 (fun c25 => ?_) (fun c25 => ?_)
        · refine v_iinc (i := 4) (L' := [(0, _), (1, _), (2, _), (3, _), (4, _)]) (G' := []) o.ok d_M_undoes_73 rfl (o.lt (by decide)) rfl rfl ?_
          refine v_goto o.ok d_M_undoes_76 ?_
          first
            | (have hc : pt < M1 11 0 + (n : Int) + 1 ∧ Opn M1 (n : Int) ∧ InS M1 t (M1 15 (n : Int)) := ⟨by omega, by assumption, by first | exact Or.inr (by assumption) | exact Or.inl (by assumption)⟩
               rw [undN_t hc] at h2 h3
               have e1 : s_und M1 t n 12 0 = M1 12 0 + 1 := und_n.1
               have e3 : s_und M1 t n 22 0 = M1 22 0 := und_o rfl rfl
               exact ih (c + 1) (s_und M1 t n) (w1.und (by omega) (by omega) hc.2.1 ht) (by rw [e3]; exact ht) (by omega) (by omega) (by omega) (by rw [← h2]; show c + 1 + (undN t pt n (s_und M1 t n)).1 = c + ((undN t pt n (s_und M1 t n)).1 + 1); omega) h3)
            | (have hc : ¬ (pt < M1 11 0 + (n : Int) + 1 ∧ Opn M1 (n : Int) ∧ InS M1 t (M1 15 (n : Int))) := (fun q => by
                 obtain ⟨q1, q2, q3⟩ := q
                 first
                   | omega
                   | exact absurd q2 (by assumption)
                   | (rcases q3 with q3 | q3; omega; exact absurd q3 (by assumption)))
               rw [undN_f hc] at h2 h3
               exact ih c M1 w1 ht (by omega) h0 (by omega) h2 h3)
        · refine v_aload_n (i := 0) o.ok d_M_undoes_28 rfl rfl ?_
          refine v_iload (i := 4) o.ok d_M_undoes_29 rfl ?_
          refine m_cf o (c_M_open n M1 w1.par (by omega) hby hr hb) q_M_open lm_M_144 d_M_undoes_31 (by decide) rfl (Nat.le_of_ble_eq_true rfl) rfl ?_
          first | refine v_ifeq_b o.ok d_M_undoes_34 (fun c34 => ?_) (fun c34 => ?_) | refine v_if_eq o.ok (by omega) d_M_undoes_34 (fun c34 => ?_) (fun c34 => ?_)
          · refine v_iinc (i := 4) (L' := [(0, _), (1, _), (2, _), (3, _), (4, _)]) (G' := []) o.ok d_M_undoes_73 rfl (o.lt (by decide)) rfl rfl ?_
            refine v_goto o.ok d_M_undoes_76 ?_
            first
              | (have hc : pt < M1 11 0 + (n : Int) + 1 ∧ Opn M1 (n : Int) ∧ InS M1 t (M1 15 (n : Int)) := ⟨by omega, by assumption, by first | exact Or.inr (by assumption) | exact Or.inl (by assumption)⟩
                 rw [undN_t hc] at h2 h3
                 have e1 : s_und M1 t n 12 0 = M1 12 0 + 1 := und_n.1
                 have e3 : s_und M1 t n 22 0 = M1 22 0 := und_o rfl rfl
                 exact ih (c + 1) (s_und M1 t n) (w1.und (by omega) (by omega) hc.2.1 ht) (by rw [e3]; exact ht) (by omega) (by omega) (by omega) (by rw [← h2]; show c + 1 + (undN t pt n (s_und M1 t n)).1 = c + ((undN t pt n (s_und M1 t n)).1 + 1); omega) h3)
              | (have hc : ¬ (pt < M1 11 0 + (n : Int) + 1 ∧ Opn M1 (n : Int) ∧ InS M1 t (M1 15 (n : Int))) := (fun q => by
                   obtain ⟨q1, q2, q3⟩ := q
                   first
                     | omega
                     | exact absurd q2 (by assumption)
                     | (rcases q3 with q3 | q3; omega; exact absurd q3 (by assumption)))
                 rw [undN_f hc] at h2 h3
                 exact ih c M1 w1 ht (by omega) h0 (by omega) h2 h3)
          · refine v_aload_n (i := 0) o.ok d_M_undoes_37 rfl rfl ?_
            refine m_geta o 15 (by decide) (by decide) lf_M_41 rfl d_M_undoes_38 ?_
            refine v_iload (i := 4) o.ok d_M_undoes_41 rfl ?_
            refine m_iald o 15 301 rfl rfl (by omega) d_M_undoes_43 (fun i43 => ?_)
            (try simp only [clk, up, cpd, cpu, Nat.reduceEqDiff, false_and, if_false, and_self, if_true, true_and] at i43 ⊢)
            refine v_iload_n (i := 1) o.ok d_M_undoes_44 rfl rfl ?_
            refine v_icmp_eq o.ok (by omega) (by omega) d_M_undoes_45 (fun c45 => ?_) (fun c45 => ?_)
            · refine v_aload_n (i := 0) o.ok d_M_undoes_63 rfl rfl ?_
              refine v_iload_n (i := 1) o.ok d_M_undoes_64 rfl rfl ?_
              refine v_iload (i := 4) o.ok d_M_undoes_65 rfl ?_
              refine m_cfv o (c_M_undo t n M1 (by omega) (by omega) (w1.abt n (by omega) (by omega) (Or.inl (And.left (by assumption)))) (by omega) hr hb w1.pg) q_M_undo lm_M_248 d_M_undoes_67 (by decide) rfl (Nat.le_of_ble_eq_true rfl) rfl ?_
              refine v_iinc (i := 3) (L' := [(0, _), (1, _), (2, _), (3, _), (4, _)]) (G' := []) o.ok d_M_undoes_70 rfl (o.lt (by decide)) rfl rfl ?_
              refine v_iinc (i := 4) (L' := [(0, _), (1, _), (2, _), (3, _), (4, _)]) (G' := []) o.ok d_M_undoes_73 rfl (o.lt (by decide)) rfl rfl ?_
              refine v_goto o.ok d_M_undoes_76 ?_
              first
                | (have hc : pt < M1 11 0 + (n : Int) + 1 ∧ Opn M1 (n : Int) ∧ InS M1 t (M1 15 (n : Int)) := ⟨by omega, by assumption, by first | exact Or.inr (by assumption) | exact Or.inl (by assumption)⟩
                   rw [undN_t hc] at h2 h3
                   have e1 : s_und M1 t n 12 0 = M1 12 0 + 1 := und_n.1
                   have e3 : s_und M1 t n 22 0 = M1 22 0 := und_o rfl rfl
                   exact ih (c + 1) (s_und M1 t n) (w1.und (by omega) (by omega) hc.2.1 ht) (by rw [e3]; exact ht) (by omega) (by omega) (by omega) (by rw [← h2]; show c + 1 + (undN t pt n (s_und M1 t n)).1 = c + ((undN t pt n (s_und M1 t n)).1 + 1); omega) h3)
                | (have hc : ¬ (pt < M1 11 0 + (n : Int) + 1 ∧ Opn M1 (n : Int) ∧ InS M1 t (M1 15 (n : Int))) := (fun q => by
                     obtain ⟨q1, q2, q3⟩ := q
                     first
                       | omega
                       | exact absurd q2 (by assumption)
                       | (rcases q3 with q3 | q3; omega; exact absurd q3 (by assumption)))
                   rw [undN_f hc] at h2 h3
                   exact ih c M1 w1 ht (by omega) h0 (by omega) h2 h3)
            · refine v_aload_n (i := 0) o.ok d_M_undoes_48 rfl rfl ?_
              refine v_iload_n (i := 1) o.ok d_M_undoes_49 rfl rfl ?_
              refine v_aload_n (i := 0) o.ok d_M_undoes_50 rfl rfl ?_
              refine m_geta o 15 (by decide) (by decide) lf_M_41 rfl d_M_undoes_51 ?_
              refine v_iload (i := 4) o.ok d_M_undoes_54 rfl ?_
              refine m_iald o 15 301 rfl rfl (by omega) d_M_undoes_56 (fun i56 => ?_)
              (try simp only [clk, up, cpd, cpu, Nat.reduceEqDiff, false_and, if_false, and_self, if_true, true_and] at i56 ⊢)
              refine m_cf o (c_M_above t (M1 15 n) M1 w1.par hby (by omega)) q_M_above lm_M_187 d_M_undoes_57 (by decide) rfl (Nat.le_of_ble_eq_true rfl) rfl ?_
              first | refine v_ifeq_b o.ok d_M_undoes_60 (fun c60 => ?_) (fun c60 => ?_) | refine v_if_eq o.ok (by omega) d_M_undoes_60 (fun c60 => ?_) (fun c60 => ?_)
              · refine v_iinc (i := 4) (L' := [(0, _), (1, _), (2, _), (3, _), (4, _)]) (G' := []) o.ok d_M_undoes_73 rfl (o.lt (by decide)) rfl rfl ?_
                refine v_goto o.ok d_M_undoes_76 ?_
                first
                  | (have hc : pt < M1 11 0 + (n : Int) + 1 ∧ Opn M1 (n : Int) ∧ InS M1 t (M1 15 (n : Int)) := ⟨by omega, by assumption, by first | exact Or.inr (by assumption) | exact Or.inl (by assumption)⟩
                     rw [undN_t hc] at h2 h3
                     have e1 : s_und M1 t n 12 0 = M1 12 0 + 1 := und_n.1
                     have e3 : s_und M1 t n 22 0 = M1 22 0 := und_o rfl rfl
                     exact ih (c + 1) (s_und M1 t n) (w1.und (by omega) (by omega) hc.2.1 ht) (by rw [e3]; exact ht) (by omega) (by omega) (by omega) (by rw [← h2]; show c + 1 + (undN t pt n (s_und M1 t n)).1 = c + ((undN t pt n (s_und M1 t n)).1 + 1); omega) h3)
                  | (have hc : ¬ (pt < M1 11 0 + (n : Int) + 1 ∧ Opn M1 (n : Int) ∧ InS M1 t (M1 15 (n : Int))) := (fun q => by
                       obtain ⟨q1, q2, q3⟩ := q
                       first
                         | omega
                         | exact absurd q2 (by assumption)
                         | (rcases q3 with q3 | q3; omega; exact absurd q3 (by assumption)))
                     rw [undN_f hc] at h2 h3
                     exact ih c M1 w1 ht (by omega) h0 (by omega) h2 h3)
              · refine v_aload_n (i := 0) o.ok d_M_undoes_63 rfl rfl ?_
                refine v_iload_n (i := 1) o.ok d_M_undoes_64 rfl rfl ?_
                refine v_iload (i := 4) o.ok d_M_undoes_65 rfl ?_
                refine m_cfv o (c_M_undo t n M1 (by omega) (by omega) (w1.abt n (by omega) (by omega) (Or.inl (And.left (by assumption)))) (by omega) hr hb w1.pg) q_M_undo lm_M_248 d_M_undoes_67 (by decide) rfl (Nat.le_of_ble_eq_true rfl) rfl ?_
                refine v_iinc (i := 3) (L' := [(0, _), (1, _), (2, _), (3, _), (4, _)]) (G' := []) o.ok d_M_undoes_70 rfl (o.lt (by decide)) rfl rfl ?_
                refine v_iinc (i := 4) (L' := [(0, _), (1, _), (2, _), (3, _), (4, _)]) (G' := []) o.ok d_M_undoes_73 rfl (o.lt (by decide)) rfl rfl ?_
                refine v_goto o.ok d_M_undoes_76 ?_
                first
                  | (have hc : pt < M1 11 0 + (n : Int) + 1 ∧ Opn M1 (n : Int) ∧ InS M1 t (M1 15 (n : Int)) := ⟨by omega, by assumption, by first | exact Or.inr (by assumption) | exact Or.inl (by assumption)⟩
                     rw [undN_t hc] at h2 h3
                     have e1 : s_und M1 t n 12 0 = M1 12 0 + 1 := und_n.1
                     have e3 : s_und M1 t n 22 0 = M1 22 0 := und_o rfl rfl
                     exact ih (c + 1) (s_und M1 t n) (w1.und (by omega) (by omega) hc.2.1 ht) (by rw [e3]; exact ht) (by omega) (by omega) (by omega) (by rw [← h2]; show c + 1 + (undN t pt n (s_und M1 t n)).1 = c + ((undN t pt n (s_und M1 t n)).1 + 1); omega) h3)
                  | (have hc : ¬ (pt < M1 11 0 + (n : Int) + 1 ∧ Opn M1 (n : Int) ∧ InS M1 t (M1 15 (n : Int))) := (fun q => by
                       obtain ⟨q1, q2, q3⟩ := q
                       first
                         | omega
                         | exact absurd q2 (by assumption)
                         | (rcases q3 with q3 | q3; omega; exact absurd q3 (by assumption)))
                     rw [undN_f hc] at h2 h3
                     exact ih c M1 w1 ht (by omega) h0 (by omega) h2 h3)
  have hr := hw.recs
  refine v_iconst o.ok d_M_undoes_0 ?_
  refine v_istore_n (i := 3) (L' := [(0, _), (1, _), (2, _), (3, _)]) (G' := []) o.ok d_M_undoes_1 rfl (o.lt (by decide)) rfl rfl ?_
  refine v_aload_n (i := 0) o.ok d_M_undoes_2 rfl rfl ?_
  refine m_geti o 12 (by decide) rfl lf_M_118 rfl d_M_undoes_3 (fun i3 => ?_)
  (try simp only [clk, up, cpd, cpu, Nat.reduceEqDiff, false_and, if_false, and_self, if_true, true_and] at i3 ⊢)
  refine v_iconst o.ok d_M_undoes_6 ?_
  refine v_isub o.ok d_M_undoes_7 ?_
  refine v_istore (i := 4) (L' := [(0, _), (1, _), (2, _), (3, _), (4, _)]) (G' := []) o.ok d_M_undoes_8 (o.lt (by decide)) rfl rfl ?_
  have z := lp (M 12 0).toNat 0 M hw ht (by omega) (by omega) (by omega) (by unfold undoes; omega) rfl
  rw [show (((M 12 0).toNat : Nat) : Int) = M 12 0 from by omega] at z
  exact z
set_option maxHeartbeats 4000000 in
set_option maxRecDepth 20000 in
theorem c_M_unlock (t : Int) (M : MSt) (ht : 0 ≤ t ∧ t < 60) : MF y_M_unlock (wsOf y_M_unlock b_M_unlock 3 none) 0 [t] M (none) (ulk M t) := by
  refine MCon.of (by decide) rfl (Nat.le_of_ble_eq_true rfl) ?_
  intro X E o
  show V X (RelM E M) 0 [(0, .ref (Em.x E)), (1, J (t))] [] []
  have lp : ∀ (n : Nat) (k : Int), 0 ≤ k → k + n = 33 → V X (RelM E (ulkN M t k)) 2 [(0, .ref (Em.x E)), (1, J t), (2, J k)] [] [] := by
    intro n
    induction n with
    | zero =>
      intro k h0 h1
      refine v_iload_n (i := 2) o.ok d_M_unlock_2 rfl rfl ?_
      refine v_bipush o.ok d_M_unlock_3 rfl ?_
      refine v_icmp_ge o.ok (by omega) (by omega) d_M_unlock_5 (fun c5 => ?_) (fun c5 => ?_)
      · refine m_vret o d_M_unlock_26 ⟨rfl, by rw [show k = 33 from by omega]; rfl⟩
      · exfalso; omega
    | succ n ih =>
      intro k h0 h1
      refine v_iload_n (i := 2) o.ok d_M_unlock_2 rfl rfl ?_
      refine v_bipush o.ok d_M_unlock_3 rfl ?_
      refine v_icmp_ge o.ok (by omega) (by omega) d_M_unlock_5 (fun c5 => ?_) (fun c5 => ?_)
      · exfalso; omega
      · refine v_aload_n (i := 0) o.ok d_M_unlock_8 rfl rfl ?_
        refine m_geta o 26 (by decide) (by decide) lf_M_71 rfl d_M_unlock_9 ?_
        refine v_bipush o.ok d_M_unlock_12 rfl ?_
        refine v_iload_n (i := 1) o.ok d_M_unlock_14 rfl rfl ?_
        refine v_imul o.ok d_M_unlock_15 ?_
        refine v_iload_n (i := 2) o.ok d_M_unlock_16 rfl rfl ?_
        refine v_iadd o.ok d_M_unlock_17 ?_
        refine v_iconst o.ok d_M_unlock_18 ?_
        refine m_iast o 26 1980 rfl rfl (by omega) (by omega) d_M_unlock_19 ?_
        refine v_iinc (i := 2) (L' := [(0, _), (1, _), (2, _)]) (G' := []) o.ok d_M_unlock_20 rfl (o.lt (by decide)) rfl rfl ?_
        refine v_goto o.ok d_M_unlock_23 ?_
        rw [ulkN_s M t h0]
        exact ih _ (by omega) (by omega)
  refine v_iconst o.ok d_M_unlock_0 ?_
  refine v_istore_n (i := 2) (L' := [(0, _), (1, _), (2, _)]) (G' := []) o.ok d_M_unlock_1 rfl (o.lt (by decide)) rfl rfl ?_
  have z := lp 33 0 (by omega) (by omega)
  rw [ulkN_0] at z
  exact z

