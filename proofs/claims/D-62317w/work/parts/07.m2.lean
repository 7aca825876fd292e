set_option maxHeartbeats 4000000 in
set_option maxRecDepth 20000 in
theorem c_M_above (a t : Int) (M : MSt) (hp : ParOk M) (ht : 0 ≤ t ∧ t < M 22 0) (ha : InR a) : MF y_M_above (wsOf y_M_above b_M_above 6 (some .boolean)) 0 [a, t] M (some (b01 (Abv M a t))) (M) := by
  refine MCon.of (by decide) rfl (Nat.le_of_ble_eq_true rfl) ?_
  intro X E o
  show V X (RelM E M) 0 [(0, .ref (Em.x E)), (1, J (a)), (2, J (t))] [] []
  have lp : ∀ (n : Nat) (y x k : Int), 0 ≤ k → k + n = 4 → -1 ≤ x → x < t → (y = 0 ∨ y = 1) → ((y = 1 ∨ abvN M a n x) ↔ Abv M a t) → V X (RelM E M) 13 [(0, .ref (Em.x E)), (1, J a), (2, J t), (3, J y), (4, J x), (5, J k)] [] [] := by
    intro n
    induction n with
    | zero =>
      intro y x k h0 h1 h2 h3 h4 h5
      have hm := hp.2.1
      have h6 : y = b01 (Abv M a t) := by
        rcases h4 with h | h
        · rw [b01_f (fun q => by rcases h5.mpr q with q | q; omega; exact q)]; exact h
        · rw [b01_t (h5.mp (Or.inl h))]; exact h
      refine v_iload (i := 5) o.ok d_M_above_13 rfl ?_
      refine v_iconst o.ok d_M_above_15 ?_
      refine v_icmp_ge o.ok (by omega) (by omega) d_M_above_16 (fun c16 => ?_) (fun c16 => ?_)
      · refine v_iload_n (i := 3) o.ok d_M_above_55 rfl rfl ?_
        refine m_zret o (by first | exact b01_or _ | omega | simp) d_M_above_56 ⟨congrArg some h6, rfl⟩
      · exfalso; omega
    | succ n ih =>
      intro y x k h0 h1 h2 h3 h4 h5
      have hm := hp.2.1
      unfold abvN at h5
      refine v_iload (i := 5) o.ok d_M_above_13 rfl ?_
      refine v_iconst o.ok d_M_above_15 ?_
      refine v_icmp_ge o.ok (by omega) (by omega) d_M_above_16 (fun c16 => ?_) (fun c16 => ?_)
      · exfalso; omega
      · refine v_iload (i := 4) o.ok d_M_above_19 rfl ?_
        refine v_if_lt o.ok (by omega) d_M_above_21 (fun c21 => ?_) (fun c21 => ?_)
        · have h6 : y = b01 (Abv M a t) := by
                  rcases h4 with h | h
                  · rw [b01_f (fun q => by rcases h5.mpr q with q | q <;> omega)]; exact h
                  · rw [b01_t (h5.mp (Or.inl h))]; exact h
          refine v_iload_n (i := 3) o.ok d_M_above_55 rfl rfl ?_
          refine m_zret o (by first | exact b01_or _ | omega | simp) d_M_above_56 ⟨congrArg some h6, rfl⟩
        · have hq := hp.2.2 x (by omega) (by omega)
          refine v_iload_n (i := 3) o.ok d_M_above_24 rfl rfl ?_
          refine v_if_ne o.ok (by omega) d_M_above_25 (fun c25 => ?_) (fun c25 => ?_)
          · refine v_iconst o.ok d_M_above_34 ?_
            refine v_goto o.ok d_M_above_35 ?_
            refine v_istore_n (i := 3) (L' := [(0, _), (1, _), (2, _), (3, _), (4, _), (5, _)]) (G' := []) o.ok d_M_above_39 rfl (o.lt (by decide)) rfl rfl ?_
            refine v_aload_n (i := 0) o.ok d_M_above_40 rfl rfl ?_
            refine m_geta o 24 (by decide) (by decide) lf_M_65 rfl d_M_above_41 ?_
            refine v_iload (i := 4) o.ok d_M_above_44 rfl ?_
            refine m_iald o 24 60 rfl rfl (by omega) d_M_above_46 (fun i46 => ?_)
            refine v_istore (i := 4) (L' := [(0, _), (1, _), (2, _), (3, _), (4, _), (5, _)]) (G' := []) o.ok d_M_above_47 (o.lt (by decide)) rfl rfl ?_
            refine v_iinc (i := 5) (L' := [(0, _), (1, _), (2, _), (3, _), (4, _), (5, _)]) (G' := []) o.ok d_M_above_49 rfl (o.lt (by decide)) rfl rfl ?_
            refine v_goto o.ok d_M_above_52 ?_
            refine ih _ _ _ (by omega) (by omega) (by omega) (by omega) (by first | exact Or.inr rfl | exact Or.inl rfl) ?_
            rw [← h5]
            constructor
            · intro q
              rcases q with q | q
              · first | exact absurd q (by decide) | (rcases h4 with h | h <;> first | exact Or.inl h | exact Or.inr ⟨by omega, Or.inl (by omega)⟩)
              · exact Or.inr ⟨by omega, Or.inr q⟩
            · intro q
              rcases q with q | ⟨-, q | q⟩
              · first | exact Or.inl rfl | omega
              · first | exact Or.inl rfl | omega
              · exact Or.inr q
          · refine v_iload (i := 4) o.ok d_M_above_28 rfl ?_
            refine v_iload_n (i := 1) o.ok d_M_above_30 rfl rfl ?_
            refine v_icmp_ne o.ok (by omega) (by omega) d_M_above_31 (fun c31 => ?_) (fun c31 => ?_)
            · refine v_iconst o.ok d_M_above_38 ?_
              refine v_istore_n (i := 3) (L' := [(0, _), (1, _), (2, _), (3, _), (4, _), (5, _)]) (G' := []) o.ok d_M_above_39 rfl (o.lt (by decide)) rfl rfl ?_
              refine v_aload_n (i := 0) o.ok d_M_above_40 rfl rfl ?_
              refine m_geta o 24 (by decide) (by decide) lf_M_65 rfl d_M_above_41 ?_
              refine v_iload (i := 4) o.ok d_M_above_44 rfl ?_
              refine m_iald o 24 60 rfl rfl (by omega) d_M_above_46 (fun i46 => ?_)
              refine v_istore (i := 4) (L' := [(0, _), (1, _), (2, _), (3, _), (4, _), (5, _)]) (G' := []) o.ok d_M_above_47 (o.lt (by decide)) rfl rfl ?_
              refine v_iinc (i := 5) (L' := [(0, _), (1, _), (2, _), (3, _), (4, _), (5, _)]) (G' := []) o.ok d_M_above_49 rfl (o.lt (by decide)) rfl rfl ?_
              refine v_goto o.ok d_M_above_52 ?_
              refine ih _ _ _ (by omega) (by omega) (by omega) (by omega) (by first | exact Or.inr rfl | exact Or.inl rfl) ?_
              rw [← h5]
              constructor
              · intro q
                rcases q with q | q
                · first | exact absurd q (by decide) | (rcases h4 with h | h <;> first | exact Or.inl h | exact Or.inr ⟨by omega, Or.inl (by omega)⟩)
                · exact Or.inr ⟨by omega, Or.inr q⟩
              · intro q
                rcases q with q | ⟨-, q | q⟩
                · first | exact Or.inl rfl | omega
                · first | exact Or.inl rfl | omega
                · exact Or.inr q
            · refine v_iconst o.ok d_M_above_34 ?_
              refine v_goto o.ok d_M_above_35 ?_
              refine v_istore_n (i := 3) (L' := [(0, _), (1, _), (2, _), (3, _), (4, _), (5, _)]) (G' := []) o.ok d_M_above_39 rfl (o.lt (by decide)) rfl rfl ?_
              refine v_aload_n (i := 0) o.ok d_M_above_40 rfl rfl ?_
              refine m_geta o 24 (by decide) (by decide) lf_M_65 rfl d_M_above_41 ?_
              refine v_iload (i := 4) o.ok d_M_above_44 rfl ?_
              refine m_iald o 24 60 rfl rfl (by omega) d_M_above_46 (fun i46 => ?_)
              refine v_istore (i := 4) (L' := [(0, _), (1, _), (2, _), (3, _), (4, _), (5, _)]) (G' := []) o.ok d_M_above_47 (o.lt (by decide)) rfl rfl ?_
              refine v_iinc (i := 5) (L' := [(0, _), (1, _), (2, _), (3, _), (4, _), (5, _)]) (G' := []) o.ok d_M_above_49 rfl (o.lt (by decide)) rfl rfl ?_
              refine v_goto o.ok d_M_above_52 ?_
              refine ih _ _ _ (by omega) (by omega) (by omega) (by omega) (by first | exact Or.inr rfl | exact Or.inl rfl) ?_
              rw [← h5]
              constructor
              · intro q
                rcases q with q | q
                · first | exact absurd q (by decide) | (rcases h4 with h | h <;> first | exact Or.inl h | exact Or.inr ⟨by omega, Or.inl (by omega)⟩)
                · exact Or.inr ⟨by omega, Or.inr q⟩
              · intro q
                rcases q with q | ⟨-, q | q⟩
                · first | exact Or.inl rfl | omega
                · first | exact Or.inl rfl | omega
                · exact Or.inr q
  have hm := hp.2.1
  have hq := hp.2.2 t ht.1 ht.2
  refine v_iconst o.ok d_M_above_0 ?_
  refine v_istore_n (i := 3) (L' := [(0, _), (1, _), (2, _), (3, _)]) (G' := []) o.ok d_M_above_1 rfl (o.lt (by decide)) rfl rfl ?_
  refine v_aload_n (i := 0) o.ok d_M_above_2 rfl rfl ?_
  refine m_geta o 24 (by decide) (by decide) lf_M_65 rfl d_M_above_3 ?_
  refine v_iload_n (i := 2) o.ok d_M_above_6 rfl rfl ?_
  refine m_iald o 24 60 rfl rfl (by omega) d_M_above_7 (fun i7 => ?_)
  refine v_istore (i := 4) (L' := [(0, _), (1, _), (2, _), (3, _), (4, _)]) (G' := []) o.ok d_M_above_8 (o.lt (by decide)) rfl rfl ?_
  refine v_iconst o.ok d_M_above_10 ?_
  refine v_istore (i := 5) (L' := [(0, _), (1, _), (2, _), (3, _), (4, _), (5, _)]) (G' := []) o.ok d_M_above_11 (o.lt (by decide)) rfl rfl ?_
  exact lp 4 0 (M 24 t) 0 (by omega) (by omega) (by omega) (by omega) (Or.inl rfl) ⟨fun q => by rcases q with q | q; omega; exact q, fun q => Or.inr q⟩
set_option maxHeartbeats 4000000 in
set_option maxRecDepth 20000 in
theorem c_M_depth (t : Int) (M : MSt) (hp : ParOk M) (ht : 0 ≤ t ∧ t < M 22 0) : MF y_M_depth (wsOf y_M_depth b_M_depth 5 (some .int)) 0 [t] M (some (dep M t)) (M) := by
  refine MCon.of (by decide) rfl (Nat.le_of_ble_eq_true rfl) ?_
  intro X E o
  show V X (RelM E M) 0 [(0, .ref (Em.x E)), (1, J (t))] [] []
  have lp : ∀ (n : Nat) (y x k : Int), 0 ≤ k → k + n = 4 → -1 ≤ x → x < t → y + depN M n x = dep M t → V X (RelM E M) 12 [(0, .ref (Em.x E)), (1, J t), (2, J y), (3, J x), (4, J k)] [] [] := by
    intro n
    induction n with
    | zero =>
      intro y x k h0 h1 h2 h3 h4
      have hm := hp.2.1
      unfold depN at h4
      refine v_iload (i := 4) o.ok d_M_depth_12 rfl ?_
      refine v_iconst o.ok d_M_depth_14 ?_
      refine v_icmp_ge o.ok (by omega) (by omega) d_M_depth_15 (fun c15 => ?_) (fun c15 => ?_)
      · refine v_iload_n (i := 2) o.ok d_M_depth_38 rfl rfl ?_
        refine m_iret o d_M_depth_39 ⟨congrArg some (by omega), rfl⟩
      · exfalso; omega
    | succ n ih =>
      intro y x k h0 h1 h2 h3 h4
      have hm := hp.2.1
      unfold depN at h4
      refine v_iload (i := 4) o.ok d_M_depth_12 rfl ?_
      refine v_iconst o.ok d_M_depth_14 ?_
      refine v_icmp_ge o.ok (by omega) (by omega) d_M_depth_15 (fun c15 => ?_) (fun c15 => ?_)
      · exfalso; omega
      · refine v_iload_n (i := 3) o.ok d_M_depth_18 rfl rfl ?_
        refine v_if_lt o.ok (by omega) d_M_depth_19 (fun c19 => ?_) (fun c19 => ?_)
        · rw [if_neg (by omega)] at h4
          refine v_iload_n (i := 2) o.ok d_M_depth_38 rfl rfl ?_
          refine m_iret o d_M_depth_39 ⟨congrArg some (by omega), rfl⟩
        · rw [if_pos (by omega)] at h4
          have hq := hp.2.2 x (by omega) (by omega)
          refine v_iinc (i := 2) (L' := [(0, _), (1, _), (2, _), (3, _), (4, _)]) (G' := []) o.ok d_M_depth_22 rfl (o.lt (by decide)) rfl rfl ?_
          refine v_aload_n (i := 0) o.ok d_M_depth_25 rfl rfl ?_
          refine m_geta o 24 (by decide) (by decide) lf_M_65 rfl d_M_depth_26 ?_
          refine v_iload_n (i := 3) o.ok d_M_depth_29 rfl rfl ?_
          refine m_iald o 24 60 rfl rfl (by omega) d_M_depth_30 (fun i30 => ?_)
          refine v_istore_n (i := 3) (L' := [(0, _), (1, _), (2, _), (3, _), (4, _)]) (G' := []) o.ok d_M_depth_31 rfl (o.lt (by decide)) rfl rfl ?_
          refine v_iinc (i := 4) (L' := [(0, _), (1, _), (2, _), (3, _), (4, _)]) (G' := []) o.ok d_M_depth_32 rfl (o.lt (by decide)) rfl rfl ?_
          refine v_goto o.ok d_M_depth_35 ?_
          exact ih _ _ _ (by omega) (by omega) (by omega) (by omega) (by omega)
  have hm := hp.2.1
  have hq := hp.2.2 t ht.1 ht.2
  refine v_iconst o.ok d_M_depth_0 ?_
  refine v_istore_n (i := 2) (L' := [(0, _), (1, _), (2, _)]) (G' := []) o.ok d_M_depth_1 rfl (o.lt (by decide)) rfl rfl ?_
  refine v_aload_n (i := 0) o.ok d_M_depth_2 rfl rfl ?_
  refine m_geta o 24 (by decide) (by decide) lf_M_65 rfl d_M_depth_3 ?_
  refine v_iload_n (i := 1) o.ok d_M_depth_6 rfl rfl ?_
  refine m_iald o 24 60 rfl rfl (by omega) d_M_depth_7 (fun i7 => ?_)
  refine v_istore_n (i := 3) (L' := [(0, _), (1, _), (2, _), (3, _)]) (G' := []) o.ok d_M_depth_8 rfl (o.lt (by decide)) rfl rfl ?_
  refine v_iconst o.ok d_M_depth_9 ?_
  refine v_istore (i := 4) (L' := [(0, _), (1, _), (2, _), (3, _), (4, _)]) (G' := []) o.ok d_M_depth_10 (o.lt (by decide)) rfl rfl ?_
  exact lp 4 1 (M 24 t) 0 (by omega) (by omega) (by omega) (by omega) rfl
set_option maxHeartbeats 4000000 in
set_option maxRecDepth 20000 in
theorem c_M_undone (u : Int) (M : MSt) (hu : 0 ≤ u ∧ u ≤ 300) (hr : 0 ≤ M 12 0 ∧ M 12 0 ≤ 300) (hb : 0 ≤ M 11 0 ∧ M 11 0 ≤ 1000000) : MF y_M_undone (wsOf y_M_undone b_M_undone 4 (some .boolean)) 0 [u] M (some (b01 (Und M u))) (M) := by
  refine MCon.of (by decide) rfl (Nat.le_of_ble_eq_true rfl) ?_
  intro X E o
  show V X (RelM E M) 0 [(0, .ref (Em.x E)), (1, J (u))] [] []
  have lp : ∀ (n : Nat) (r : Int), u + 1 ≤ r → (r ≤ M 12 0 ∨ r = u + 1) → M 12 0 - r ≤ n → V X (RelM E M) 6 [(0, .ref (Em.x E)), (1, J u), (2, J (b01 (exB (fun r => M 14 r = 3 ∧ M 17 r = M 11 0 + u + 1) (u + 1) r))), (3, J r)] [] [] := by
    intro n
    induction n with
    | zero =>
      intro r h0 h1 h2
      refine v_iload_n (i := 3) o.ok d_M_undone_6 rfl rfl ?_
      refine v_aload_n (i := 0) o.ok d_M_undone_7 rfl rfl ?_
      refine m_geti o 12 (by decide) rfl lf_M_118 rfl d_M_undone_8 (fun i8 => ?_)
      refine v_icmp_ge o.ok (by omega) (by omega) d_M_undone_11 (fun c11 => ?_) (fun c11 => ?_)
      · refine v_iload_n (i := 2) o.ok d_M_undone_57 rfl rfl ?_
        refine m_zret o (by first | exact b01_or _ | omega | simp) d_M_undone_58 ⟨congrArg some (b01_c (by unfold Und; rcases h1 with h1 | h1; rw [show r = M 12 0 from by omega]; exact ⟨fun q => absurd q (exB_nil (by omega)), fun q => absurd q (exB_nil (by omega))⟩)), rfl⟩
      · exfalso; omega
    | succ n ih =>
      intro r h0 h1 h2
      refine v_iload_n (i := 3) o.ok d_M_undone_6 rfl rfl ?_
      refine v_aload_n (i := 0) o.ok d_M_undone_7 rfl rfl ?_
      refine m_geti o 12 (by decide) rfl lf_M_118 rfl d_M_undone_8 (fun i8 => ?_)
      refine v_icmp_ge o.ok (by omega) (by omega) d_M_undone_11 (fun c11 => ?_) (fun c11 => ?_)
      · have e : (exB (fun r => M 14 r = 3 ∧ M 17 r = M 11 0 + u + 1) (u + 1) r) ↔ Und M u := by
                unfold Und
                rcases h1 with h1 | h1
                · rw [show r = M 12 0 from by omega]
                · exact ⟨fun q => absurd q (exB_nil (by omega)), fun q => absurd q (exB_nil (by omega))⟩
        refine v_iload_n (i := 2) o.ok d_M_undone_57 rfl rfl ?_
        refine m_zret o (by first | exact b01_or _ | omega | simp) d_M_undone_58 ⟨congrArg some (b01_c e), rfl⟩
      · refine v_iload_n (i := 2) o.ok d_M_undone_14 rfl rfl ?_
        first | refine v_ifne_b o.ok d_M_undone_15 (fun c15 => ?_) (fun c15 => ?_) | refine v_if_ne o.ok (by omega) d_M_undone_15 (fun c15 => ?_) (fun c15 => ?_)
        · refine v_iconst o.ok d_M_undone_45 ?_
          refine v_goto o.ok d_M_undone_46 ?_
          refine v_istore_n (i := 2) (L' := [(0, _), (1, _), (2, _), (3, _)]) (G' := []) o.ok d_M_undone_50 rfl (o.lt (by decide)) rfl rfl ?_
          refine v_iinc (i := 3) (L' := [(0, _), (1, _), (2, _), (3, _)]) (G' := []) o.ok d_M_undone_51 rfl (o.lt (by decide)) rfl rfl ?_
          refine v_goto o.ok d_M_undone_54 ?_
          have q := ih (r + 1) (by omega) (by omega) (by omega)
          first
            | (rw [exB_t (by omega) (Or.inl (by assumption))] at q; exact q)
            | (rw [exB_t (by omega) (Or.inr ⟨by omega, by omega⟩)] at q; exact q)
            | (rw [exB_f (by omega) (by assumption) (fun h => by obtain ⟨h1, h2⟩ := h; omega)] at q; exact q)
        · refine v_aload_n (i := 0) o.ok d_M_undone_18 rfl rfl ?_
          refine m_geta o 14 (by decide) (by decide) lf_M_38 rfl d_M_undone_19 ?_
          refine v_iload_n (i := 3) o.ok d_M_undone_22 rfl rfl ?_
          refine m_iald o 14 301 rfl rfl (by omega) d_M_undone_23 (fun i23 => ?_)
          refine v_iconst o.ok d_M_undone_24 ?_
          refine v_icmp_ne o.ok (by omega) (by omega) d_M_undone_25 (fun c25 => ?_) (fun c25 => ?_)
          · refine v_iconst o.ok d_M_undone_49 ?_
            refine v_istore_n (i := 2) (L' := [(0, _), (1, _), (2, _), (3, _)]) (G' := []) o.ok d_M_undone_50 rfl (o.lt (by decide)) rfl rfl ?_
            refine v_iinc (i := 3) (L' := [(0, _), (1, _), (2, _), (3, _)]) (G' := []) o.ok d_M_undone_51 rfl (o.lt (by decide)) rfl rfl ?_
            refine v_goto o.ok d_M_undone_54 ?_
            have q := ih (r + 1) (by omega) (by omega) (by omega)
            first
              | (rw [exB_t (by omega) (Or.inl (by assumption))] at q; exact q)
              | (rw [exB_t (by omega) (Or.inr ⟨by omega, by omega⟩)] at q; exact q)
              | (rw [exB_f (by omega) (by assumption) (fun h => by obtain ⟨h1, h2⟩ := h; omega)] at q; exact q)
          · refine v_aload_n (i := 0) o.ok d_M_undone_28 rfl rfl ?_
            refine m_geta o 17 (by decide) (by decide) lf_M_47 rfl d_M_undone_29 ?_
            refine v_iload_n (i := 3) o.ok d_M_undone_32 rfl rfl ?_
            refine m_iald o 17 301 rfl rfl (by omega) d_M_undone_33 (fun i33 => ?_)
            refine v_aload_n (i := 0) o.ok d_M_undone_34 rfl rfl ?_
            refine m_geti o 11 (by decide) rfl lf_M_115 rfl d_M_undone_35 (fun i35 => ?_)
            refine v_iload_n (i := 1) o.ok d_M_undone_38 rfl rfl ?_
            refine v_iadd o.ok d_M_undone_39 ?_
            refine v_iconst o.ok d_M_undone_40 ?_
            refine v_iadd o.ok d_M_undone_41 ?_
            refine v_icmp_ne o.ok (by omega) (by omega) d_M_undone_42 (fun c42 => ?_) (fun c42 => ?_)
            · refine v_iconst o.ok d_M_undone_49 ?_
              refine v_istore_n (i := 2) (L' := [(0, _), (1, _), (2, _), (3, _)]) (G' := []) o.ok d_M_undone_50 rfl (o.lt (by decide)) rfl rfl ?_
              refine v_iinc (i := 3) (L' := [(0, _), (1, _), (2, _), (3, _)]) (G' := []) o.ok d_M_undone_51 rfl (o.lt (by decide)) rfl rfl ?_
              refine v_goto o.ok d_M_undone_54 ?_
              have q := ih (r + 1) (by omega) (by omega) (by omega)
              first
                | (rw [exB_t (by omega) (Or.inl (by assumption))] at q; exact q)
                | (rw [exB_t (by omega) (Or.inr ⟨by omega, by omega⟩)] at q; exact q)
                | (rw [exB_f (by omega) (by assumption) (fun h => by obtain ⟨h1, h2⟩ := h; omega)] at q; exact q)
            · refine v_iconst o.ok d_M_undone_45 ?_
              refine v_goto o.ok d_M_undone_46 ?_
              refine v_istore_n (i := 2) (L' := [(0, _), (1, _), (2, _), (3, _)]) (G' := []) o.ok d_M_undone_50 rfl (o.lt (by decide)) rfl rfl ?_
              refine v_iinc (i := 3) (L' := [(0, _), (1, _), (2, _), (3, _)]) (G' := []) o.ok d_M_undone_51 rfl (o.lt (by decide)) rfl rfl ?_
              refine v_goto o.ok d_M_undone_54 ?_
              have q := ih (r + 1) (by omega) (by omega) (by omega)
              first
                | (rw [exB_t (by omega) (Or.inl (by assumption))] at q; exact q)
                | (rw [exB_t (by omega) (Or.inr ⟨by omega, by omega⟩)] at q; exact q)
                | (rw [exB_f (by omega) (by assumption) (fun h => by obtain ⟨h1, h2⟩ := h; omega)] at q; exact q)
  refine v_iconst o.ok d_M_undone_0 ?_
  refine v_istore_n (i := 2) (L' := [(0, _), (1, _), (2, _)]) (G' := []) o.ok d_M_undone_1 rfl (o.lt (by decide)) rfl rfl ?_
  refine v_iload_n (i := 1) o.ok d_M_undone_2 rfl rfl ?_
  refine v_iconst o.ok d_M_undone_3 ?_
  refine v_iadd o.ok d_M_undone_4 ?_
  refine v_istore_n (i := 3) (L' := [(0, _), (1, _), (2, _), (3, _)]) (G' := []) o.ok d_M_undone_5 rfl (o.lt (by decide)) rfl rfl ?_
  have q := lp (M 12 0 - (u + 1)).toNat (u + 1) (by omega) (by omega) (by omega)
  rw [b01_f (exB_nil (by omega))] at q
  exact q
set_option maxHeartbeats 4000000 in
set_option maxRecDepth 20000 in
theorem c_M_open (r : Int) (M : MSt) (hp : ParOk M) (h : 0 ≤ r ∧ r ≤ 300) (hby : 0 ≤ M 15 r ∧ M 15 r < M 22 0) (hr : 0 ≤ M 12 0 ∧ M 12 0 ≤ 300) (hb : 0 ≤ M 11 0 ∧ M 11 0 ≤ 1000000) : MF y_M_open (wsOf y_M_open b_M_open 2 (some .boolean)) 1 [r] M (some (b01 (Opn M r))) (M) := by
  refine MCon.of (by decide) rfl (Nat.le_of_ble_eq_true rfl) ?_
  intro X E o
  show V X (RelM E M) 0 [(0, .ref (Em.x E)), (1, J (r))] [] []
  have hm := hp.2.1
  have ht := top_bd hp hby.1 hby.2
  refine v_aload_n (i := 0) o.ok d_M_open_0 rfl rfl ?_
  refine m_geta o 14 (by decide) (by decide) lf_M_38 rfl d_M_open_1 ?_
  refine v_iload_n (i := 1) o.ok d_M_open_4 rfl rfl ?_
  refine m_iald o 14 301 rfl rfl (by omega) d_M_open_5 (fun i5 => ?_)
  refine v_iconst o.ok d_M_open_6 ?_
  refine v_icmp_ne o.ok (by omega) (by omega) d_M_open_7 (fun c7 => ?_) (fun c7 => ?_)
  · refine v_iconst o.ok d_M_open_60 ?_
    refine m_zret o (by first | exact b01_or _ | omega | simp) d_M_open_61 ⟨congrArg some (by first | exact (b01_t (by unfold Opn; first | exact ⟨by omega, by omega, by omega, by assumption⟩ | (intro q; first | exact absurd (by assumption) q.2.2.2 | omega))).symm | exact (b01_f (by unfold Opn; first | exact ⟨by omega, by omega, by omega, by assumption⟩ | (intro q; first | exact absurd (by assumption) q.2.2.2 | omega))).symm), rfl⟩
  · refine v_aload_n (i := 0) o.ok d_M_open_10 rfl rfl ?_
    refine m_geta o 23 (by decide) (by decide) lf_M_62 rfl d_M_open_11 ?_
    refine v_aload_n (i := 0) o.ok d_M_open_14 rfl rfl ?_
    refine v_aload_n (i := 0) o.ok d_M_open_15 rfl rfl ?_
    refine m_geta o 15 (by decide) (by decide) lf_M_41 rfl d_M_open_16 ?_
    refine v_iload_n (i := 1) o.ok d_M_open_19 rfl rfl ?_
    refine m_iald o 15 301 rfl rfl (by omega) d_M_open_20 (fun i20 => ?_)
    refine m_cf o (c_M_top (M 15 r) M hp hby) q_M_top lm_M_136 d_M_open_21 (by decide) rfl (Nat.le_of_ble_eq_true rfl) rfl ?_
    refine m_iald o 23 60 rfl rfl (by omega) d_M_open_24 (fun i24 => ?_)
    refine v_iconst o.ok d_M_open_25 ?_
    refine v_icmp_eq o.ok (by omega) (by omega) d_M_open_26 (fun c26 => ?_) (fun c26 => ?_)
    · refine v_iconst o.ok d_M_open_60 ?_
      refine m_zret o (by first | exact b01_or _ | omega | simp) d_M_open_61 ⟨congrArg some (by first | exact (b01_t (by unfold Opn; first | exact ⟨by omega, by omega, by omega, by assumption⟩ | (intro q; first | exact absurd (by assumption) q.2.2.2 | omega))).symm | exact (b01_f (by unfold Opn; first | exact ⟨by omega, by omega, by omega, by assumption⟩ | (intro q; first | exact absurd (by assumption) q.2.2.2 | omega))).symm), rfl⟩
    · refine v_aload_n (i := 0) o.ok d_M_open_29 rfl rfl ?_
      refine m_geta o 23 (by decide) (by decide) lf_M_62 rfl d_M_open_30 ?_
      refine v_aload_n (i := 0) o.ok d_M_open_33 rfl rfl ?_
      refine v_aload_n (i := 0) o.ok d_M_open_34 rfl rfl ?_
      refine m_geta o 15 (by decide) (by decide) lf_M_41 rfl d_M_open_35 ?_
      refine v_iload_n (i := 1) o.ok d_M_open_38 rfl rfl ?_
      refine m_iald o 15 301 rfl rfl (by omega) d_M_open_39 (fun i39 => ?_)
      refine m_cf o (c_M_top (M 15 r) M hp hby) q_M_top lm_M_136 d_M_open_40 (by decide) rfl (Nat.le_of_ble_eq_true rfl) rfl ?_
      refine m_iald o 23 60 rfl rfl (by omega) d_M_open_43 (fun i43 => ?_)
      refine v_iconst o.ok d_M_open_44 ?_
      refine v_icmp_eq o.ok (by omega) (by omega) d_M_open_45 (fun c45 => ?_) (fun c45 => ?_)
      · refine v_iconst o.ok d_M_open_60 ?_
        refine m_zret o (by first | exact b01_or _ | omega | simp) d_M_open_61 ⟨congrArg some (by first | exact (b01_t (by unfold Opn; first | exact ⟨by omega, by omega, by omega, by assumption⟩ | (intro q; first | exact absurd (by assumption) q.2.2.2 | omega))).symm | exact (b01_f (by unfold Opn; first | exact ⟨by omega, by omega, by omega, by assumption⟩ | (intro q; first | exact absurd (by assumption) q.2.2.2 | omega))).symm), rfl⟩
      · refine v_aload_n (i := 0) o.ok d_M_open_48 rfl rfl ?_
        refine v_iload_n (i := 1) o.ok d_M_open_49 rfl rfl ?_
        refine m_cf o (c_M_undone r M h hr hb) q_M_undone lm_M_140 d_M_open_50 (by decide) rfl (Nat.le_of_ble_eq_true rfl) rfl ?_
        first | refine v_ifne_b o.ok d_M_open_53 (fun c53 => ?_) (fun c53 => ?_) | refine v_if_ne o.ok (by omega) d_M_open_53 (fun c53 => ?_) (fun c53 => ?_)
        · refine v_iconst o.ok d_M_open_60 ?_
          refine m_zret o (by first | exact b01_or _ | omega | simp) d_M_open_61 ⟨congrArg some (by first | exact (b01_t (by unfold Opn; first | exact ⟨by omega, by omega, by omega, by assumption⟩ | (intro q; first | exact absurd (by assumption) q.2.2.2 | omega))).symm | exact (b01_f (by unfold Opn; first | exact ⟨by omega, by omega, by omega, by assumption⟩ | (intro q; first | exact absurd (by assumption) q.2.2.2 | omega))).symm), rfl⟩
        · refine v_iconst o.ok d_M_open_56 ?_
          refine v_goto o.ok d_M_open_57 ?_
          refine m_zret o (by first | exact b01_or _ | omega | simp) d_M_open_61 ⟨congrArg some (by first | exact (b01_t (by unfold Opn; first | exact ⟨by omega, by omega, by omega, by assumption⟩ | (intro q; first | exact absurd (by assumption) q.2.2.2 | omega))).symm | exact (b01_f (by unfold Opn; first | exact ⟨by omega, by omega, by omega, by assumption⟩ | (intro q; first | exact absurd (by assumption) q.2.2.2 | omega))).symm), rfl⟩
set_option maxHeartbeats 4000000 in
set_option maxRecDepth 20000 in
theorem c_M_opens (M : MSt) (hp : ParOk M) (hby : ∀ r, 0 ≤ r → r < M 12 0 → 0 ≤ M 15 r ∧ M 15 r < M 22 0) (hr : 0 ≤ M 12 0 ∧ M 12 0 ≤ 300) (hb : 0 ≤ M 11 0 ∧ M 11 0 ≤ 1000000) : MF y_M_opens (wsOf y_M_opens b_M_opens 3 (some .int)) 2 [] M (some (opens M)) (M) := by
  refine MCon.of (by decide) rfl (Nat.le_of_ble_eq_true rfl) ?_
  intro X E o
  show V X (RelM E M) 0 [(0, .ref (Em.x E))] [] []
  have lp : ∀ (n : Nat) (r : Int), 0 ≤ r → r ≤ M 12 0 → M 12 0 - r ≤ n → V X (RelM E M) 4 [(0, .ref (Em.x E)), (1, J (cnt (Opn M) r)), (2, J r)] [] [] := by
    intro n
    induction n with
    | zero =>
      intro r h0 h1 h2
      refine v_iload_n (i := 2) o.ok d_M_opens_4 rfl rfl ?_
      refine v_aload_n (i := 0) o.ok d_M_opens_5 rfl rfl ?_
      refine m_geti o 12 (by decide) rfl lf_M_118 rfl d_M_opens_6 (fun i6 => ?_)
      refine v_icmp_ge o.ok (by omega) (by omega) d_M_opens_9 (fun c9 => ?_) (fun c9 => ?_)
      · refine v_iload_n (i := 1) o.ok d_M_opens_34 rfl rfl ?_
        refine m_iret o d_M_opens_35 ⟨congrArg some (by rw [show r = M 12 0 from by omega]; rfl), rfl⟩
      · exfalso; omega
    | succ n ih =>
      intro r h0 h1 h2
      refine v_iload_n (i := 2) o.ok d_M_opens_4 rfl rfl ?_
      refine v_aload_n (i := 0) o.ok d_M_opens_5 rfl rfl ?_
      refine m_geti o 12 (by decide) rfl lf_M_118 rfl d_M_opens_6 (fun i6 => ?_)
      refine v_icmp_ge o.ok (by omega) (by omega) d_M_opens_9 (fun c9 => ?_) (fun c9 => ?_)
      · refine v_iload_n (i := 1) o.ok d_M_opens_34 rfl rfl ?_
        refine m_iret o d_M_opens_35 ⟨congrArg some (by rw [show r = M 12 0 from by omega]; rfl), rfl⟩
      · refine v_iload_n (i := 1) o.ok d_M_opens_12 rfl rfl ?_
        refine v_aload_n (i := 0) o.ok d_M_opens_13 rfl rfl ?_
        refine v_iload_n (i := 2) o.ok d_M_opens_14 rfl rfl ?_
        refine m_cf o (c_M_open r M hp (by omega) (hby r (by omega) (by omega)) hr hb) q_M_open lm_M_144 d_M_opens_15 (by decide) rfl (Nat.le_of_ble_eq_true rfl) rfl ?_
        first | refine v_ifeq_b o.ok d_M_opens_18 (fun c18 => ?_) (fun c18 => ?_) | refine v_if_eq o.ok (by omega) d_M_opens_18 (fun c18 => ?_) (fun c18 => ?_)
        · refine v_iconst o.ok d_M_opens_25 ?_
          refine v_iadd o.ok d_M_opens_26 ?_
          refine v_istore_n (i := 1) (L' := [(0, _), (1, _), (2, _)]) (G' := []) o.ok d_M_opens_27 rfl (o.lt (by decide)) rfl rfl ?_
          refine v_iinc (i := 2) (L' := [(0, _), (1, _), (2, _)]) (G' := []) o.ok d_M_opens_28 rfl (o.lt (by decide)) rfl rfl ?_
          refine v_goto o.ok d_M_opens_31 ?_
          have q := ih (r + 1) (by omega) (by omega) (by omega)
          rw [cnt_s h0] at q
          first | (rw [b01_t (by assumption)] at q; exact q) | (rw [b01_f (by assumption)] at q; exact q)
        · refine v_iconst o.ok d_M_opens_21 ?_
          refine v_goto o.ok d_M_opens_22 ?_
          refine v_iadd o.ok d_M_opens_26 ?_
          refine v_istore_n (i := 1) (L' := [(0, _), (1, _), (2, _)]) (G' := []) o.ok d_M_opens_27 rfl (o.lt (by decide)) rfl rfl ?_
          refine v_iinc (i := 2) (L' := [(0, _), (1, _), (2, _)]) (G' := []) o.ok d_M_opens_28 rfl (o.lt (by decide)) rfl rfl ?_
          refine v_goto o.ok d_M_opens_31 ?_
          have q := ih (r + 1) (by omega) (by omega) (by omega)
          rw [cnt_s h0] at q
          first | (rw [b01_t (by assumption)] at q; exact q) | (rw [b01_f (by assumption)] at q; exact q)
  refine v_iconst o.ok d_M_opens_0 ?_
  refine v_istore_n (i := 1) (L' := [(0, _), (1, _)]) (G' := []) o.ok d_M_opens_1 rfl (o.lt (by decide)) rfl rfl ?_
  refine v_iconst o.ok d_M_opens_2 ?_
  refine v_istore_n (i := 2) (L' := [(0, _), (1, _), (2, _)]) (G' := []) o.ok d_M_opens_3 rfl (o.lt (by decide)) rfl rfl ?_
  exact lp (M 12 0).toNat 0 (by omega) (by omega) (by omega)
set_option maxHeartbeats 4000000 in
set_option maxRecDepth 20000 in
theorem c_M_lives (M : MSt) (hm : 0 ≤ M 22 0 ∧ M 22 0 ≤ 60) : MF y_M_lives (wsOf y_M_lives b_M_lives 3 (some .int)) 1 [] M (some (lives M)) (M) := by
  refine MCon.of (by decide) rfl (Nat.le_of_ble_eq_true rfl) ?_
  intro X E o
  show V X (RelM E M) 0 [(0, .ref (Em.x E))] [] []
  have lp : ∀ (n : Nat) (r : Int), 0 ≤ r → r ≤ M 22 0 → M 22 0 - r ≤ n → V X (RelM E M) 4 [(0, .ref (Em.x E)), (1, J (cnt (Liv M) r)), (2, J r)] [] [] := by
    intro n
    induction n with
    | zero =>
      intro r h0 h1 h2
      refine v_iload_n (i := 2) o.ok d_M_lives_4 rfl rfl ?_
      refine v_aload_n (i := 0) o.ok d_M_lives_5 rfl rfl ?_
      refine m_geti o 22 (by decide) rfl lf_M_147 rfl d_M_lives_6 (fun i6 => ?_)
      refine v_icmp_ge o.ok (by omega) (by omega) d_M_lives_9 (fun c9 => ?_) (fun c9 => ?_)
      · refine v_iload_n (i := 1) o.ok d_M_lives_34 rfl rfl ?_
        refine m_iret o d_M_lives_35 ⟨congrArg some (by rw [show r = M 22 0 from by omega]; rfl), rfl⟩
      · exfalso; omega
    | succ n ih =>
      intro r h0 h1 h2
      refine v_iload_n (i := 2) o.ok d_M_lives_4 rfl rfl ?_
      refine v_aload_n (i := 0) o.ok d_M_lives_5 rfl rfl ?_
      refine m_geti o 22 (by decide) rfl lf_M_147 rfl d_M_lives_6 (fun i6 => ?_)
      refine v_icmp_ge o.ok (by omega) (by omega) d_M_lives_9 (fun c9 => ?_) (fun c9 => ?_)
      · refine v_iload_n (i := 1) o.ok d_M_lives_34 rfl rfl ?_
        refine m_iret o d_M_lives_35 ⟨congrArg some (by rw [show r = M 22 0 from by omega]; rfl), rfl⟩
      · refine v_iload_n (i := 1) o.ok d_M_lives_12 rfl rfl ?_
        refine v_aload_n (i := 0) o.ok d_M_lives_13 rfl rfl ?_
        refine v_iload_n (i := 2) o.ok d_M_lives_14 rfl rfl ?_
        refine m_cf o (c_M_live r M (by omega)) q_M_live lm_M_150 d_M_lives_15 (by decide) rfl (Nat.le_of_ble_eq_true rfl) rfl ?_
        first | refine v_ifeq_b o.ok d_M_lives_18 (fun c18 => ?_) (fun c18 => ?_) | refine v_if_eq o.ok (by omega) d_M_lives_18 (fun c18 => ?_) (fun c18 => ?_)
        · refine v_iconst o.ok d_M_lives_25 ?_
          refine v_iadd o.ok d_M_lives_26 ?_
          refine v_istore_n (i := 1) (L' := [(0, _), (1, _), (2, _)]) (G' := []) o.ok d_M_lives_27 rfl (o.lt (by decide)) rfl rfl ?_
          refine v_iinc (i := 2) (L' := [(0, _), (1, _), (2, _)]) (G' := []) o.ok d_M_lives_28 rfl (o.lt (by decide)) rfl rfl ?_
          refine v_goto o.ok d_M_lives_31 ?_
          have q := ih (r + 1) (by omega) (by omega) (by omega)
          rw [cnt_s h0] at q
          first | (rw [b01_t (by assumption)] at q; exact q) | (rw [b01_f (by assumption)] at q; exact q)
        · refine v_iconst o.ok d_M_lives_21 ?_
          refine v_goto o.ok d_M_lives_22 ?_
          refine v_iadd o.ok d_M_lives_26 ?_
          refine v_istore_n (i := 1) (L' := [(0, _), (1, _), (2, _)]) (G' := []) o.ok d_M_lives_27 rfl (o.lt (by decide)) rfl rfl ?_
          refine v_iinc (i := 2) (L' := [(0, _), (1, _), (2, _)]) (G' := []) o.ok d_M_lives_28 rfl (o.lt (by decide)) rfl rfl ?_
          refine v_goto o.ok d_M_lives_31 ?_
          have q := ih (r + 1) (by omega) (by omega) (by omega)
          rw [cnt_s h0] at q
          first | (rw [b01_t (by assumption)] at q; exact q) | (rw [b01_f (by assumption)] at q; exact q)
  refine v_iconst o.ok d_M_lives_0 ?_
  refine v_istore_n (i := 1) (L' := [(0, _), (1, _)]) (G' := []) o.ok d_M_lives_1 rfl (o.lt (by decide)) rfl rfl ?_
  refine v_iconst o.ok d_M_lives_2 ?_
  refine v_istore_n (i := 2) (L' := [(0, _), (1, _), (2, _)]) (G' := []) o.ok d_M_lives_3 rfl (o.lt (by decide)) rfl rfl ?_
  exact lp (M 22 0).toNat 0 (by omega) (by omega) (by omega)
set_option maxHeartbeats 4000000 in
set_option maxRecDepth 20000 in
theorem c_M_full (M : MSt) (hp : ParOk M) (hby : ∀ r, 0 ≤ r → r < M 12 0 → 0 ≤ M 15 r ∧ M 15 r < M 22 0) (hr : 0 ≤ M 12 0 ∧ M 12 0 ≤ 300) (hb : 0 ≤ M 11 0 ∧ M 11 0 ≤ 1000000) : MF y_M_full (wsOf y_M_full b_M_full 1 (some .boolean)) 3 [] M (some (b01 (Ful M))) (M) := by
  refine MCon.of (by decide) rfl (Nat.le_of_ble_eq_true rfl) ?_
  intro X E o
  show V X (RelM E M) 0 [(0, .ref (Em.x E))] [] []
  have h1 := opens_bd hr.1
  have h2 := lives_bd hp.1
  have h3 := hp.2.1
  refine v_aload_n (i := 0) o.ok d_M_full_0 rfl rfl ?_
  refine m_geti o 12 (by decide) rfl lf_M_118 rfl d_M_full_1 (fun i1 => ?_)
  refine v_aload_n (i := 0) o.ok d_M_full_4 rfl rfl ?_
  refine m_cf o (c_M_opens M hp hby hr hb) q_M_opens lm_M_153 d_M_full_5 (by decide) rfl (Nat.le_of_ble_eq_true rfl) rfl ?_
  refine v_iadd o.ok d_M_full_8 ?_
  refine v_aload_n (i := 0) o.ok d_M_full_9 rfl rfl ?_
  refine m_cf o (c_M_lives M ⟨hp.1, hp.2.1⟩) q_M_lives lm_M_156 d_M_full_10 (by decide) rfl (Nat.le_of_ble_eq_true rfl) rfl ?_
  refine v_iadd o.ok d_M_full_13 ?_
  refine v_iconst o.ok d_M_full_14 ?_
  refine v_iadd o.ok d_M_full_15 ?_
  refine v_sipush o.ok d_M_full_16 rfl ?_
  refine v_icmp_le o.ok (by omega) (by omega) d_M_full_19 (fun c19 => ?_) (fun c19 => ?_)
  · refine v_iconst o.ok d_M_full_26 ?_
    refine m_zret o (by first | exact b01_or _ | omega | simp) d_M_full_27 ⟨congrArg some (by first | exact (b01_t (by unfold Ful; omega)).symm | exact (b01_f (by unfold Ful; omega)).symm), rfl⟩
  · refine v_iconst o.ok d_M_full_22 ?_
    refine v_goto o.ok d_M_full_23 ?_
    refine m_zret o (by first | exact b01_or _ | omega | simp) d_M_full_27 ⟨congrArg some (by first | exact (b01_t (by unfold Ful; omega)).symm | exact (b01_f (by unfold Ful; omega)).symm), rfl⟩
set_option maxHeartbeats 4000000 in
set_option maxRecDepth 20000 in
theorem c_M_busy (t : Int) (M : MSt) (ht : InR t) (hm : 0 ≤ M 22 0 ∧ M 22 0 ≤ 60) : MF y_M_busy (wsOf y_M_busy b_M_busy 4 (some .boolean)) 1 [t] M (some (b01 (Bsy M t))) (M) := by
  refine MCon.of (by decide) rfl (Nat.le_of_ble_eq_true rfl) ?_
  intro X E o
  show V X (RelM E M) 0 [(0, .ref (Em.x E)), (1, J (t))] [] []
  have lp : ∀ (n : Nat) (u : Int), 0 ≤ u → u ≤ M 22 0 → M 22 0 - u ≤ n → V X (RelM E M) 4 [(0, .ref (Em.x E)), (1, J t), (2, J (b01 (exB (fun u => Liv M u ∧ M 24 u = t) 0 u))), (3, J u)] [] [] := by
    intro n
    induction n with
    | zero =>
      intro u h0 h1 h2
      refine v_iload_n (i := 3) o.ok d_M_busy_4 rfl rfl ?_
      refine v_aload_n (i := 0) o.ok d_M_busy_5 rfl rfl ?_
      refine m_geti o 22 (by decide) rfl lf_M_147 rfl d_M_busy_6 (fun i6 => ?_)
      refine v_icmp_ge o.ok (by omega) (by omega) d_M_busy_9 (fun c9 => ?_) (fun c9 => ?_)
      · refine v_iload_n (i := 2) o.ok d_M_busy_46 rfl rfl ?_
        refine m_zret o (by first | exact b01_or _ | omega | simp) d_M_busy_47 ⟨congrArg some (by rw [show u = M 22 0 from by omega]; rfl), rfl⟩
      · exfalso; omega
    | succ n ih =>
      intro u h0 h1 h2
      refine v_iload_n (i := 3) o.ok d_M_busy_4 rfl rfl ?_
      refine v_aload_n (i := 0) o.ok d_M_busy_5 rfl rfl ?_
      refine m_geti o 22 (by decide) rfl lf_M_147 rfl d_M_busy_6 (fun i6 => ?_)
      refine v_icmp_ge o.ok (by omega) (by omega) d_M_busy_9 (fun c9 => ?_) (fun c9 => ?_)
      · refine v_iload_n (i := 2) o.ok d_M_busy_46 rfl rfl ?_
        refine m_zret o (by first | exact b01_or _ | omega | simp) d_M_busy_47 ⟨congrArg some (by rw [show u = M 22 0 from by omega]; rfl), rfl⟩
      · refine v_iload_n (i := 2) o.ok d_M_busy_12 rfl rfl ?_
        first | refine v_ifne_b o.ok d_M_busy_13 (fun c13 => ?_) (fun c13 => ?_) | refine v_if_ne o.ok (by omega) d_M_busy_13 (fun c13 => ?_) (fun c13 => ?_)
        · refine v_iconst o.ok d_M_busy_34 ?_
          refine v_goto o.ok d_M_busy_35 ?_
          refine v_istore_n (i := 2) (L' := [(0, _), (1, _), (2, _), (3, _)]) (G' := []) o.ok d_M_busy_39 rfl (o.lt (by decide)) rfl rfl ?_
          refine v_iinc (i := 3) (L' := [(0, _), (1, _), (2, _), (3, _)]) (G' := []) o.ok d_M_busy_40 rfl (o.lt (by decide)) rfl rfl ?_
          refine v_goto o.ok d_M_busy_43 ?_
          have q := ih (u + 1) (by omega) (by omega) (by omega)
          first
            | (rw [exB_t (by omega) (Or.inl (by assumption))] at q; exact q)
            | (rw [exB_t (by omega) (Or.inr ⟨by assumption, by omega⟩)] at q; exact q)
            | (rw [exB_f (by omega) (by assumption) (fun h => by obtain ⟨h1, h2⟩ := h; first | exact absurd h1 (by assumption) | omega)] at q; exact q)
        · refine v_aload_n (i := 0) o.ok d_M_busy_16 rfl rfl ?_
          refine v_iload_n (i := 3) o.ok d_M_busy_17 rfl rfl ?_
          refine m_cf o (c_M_live u M (by omega)) q_M_live lm_M_150 d_M_busy_18 (by decide) rfl (Nat.le_of_ble_eq_true rfl) rfl ?_
          first | refine v_ifeq_b o.ok d_M_busy_21 (fun c21 => ?_) (fun c21 => ?_) | refine v_if_eq o.ok (by omega) d_M_busy_21 (fun c21 => ?_) (fun c21 => ?_)
          · refine v_iconst o.ok d_M_busy_38 ?_
            refine v_istore_n (i := 2) (L' := [(0, _), (1, _), (2, _), (3, _)]) (G' := []) o.ok d_M_busy_39 rfl (o.lt (by decide)) rfl rfl ?_
            refine v_iinc (i := 3) (L' := [(0, _), (1, _), (2, _), (3, _)]) (G' := []) o.ok d_M_busy_40 rfl (o.lt (by decide)) rfl rfl ?_
            refine v_goto o.ok d_M_busy_43 ?_
            have q := ih (u + 1) (by omega) (by omega) (by omega)
            first
              | (rw [exB_t (by omega) (Or.inl (by assumption))] at q; exact q)
              | (rw [exB_t (by omega) (Or.inr ⟨by assumption, by omega⟩)] at q; exact q)
              | (rw [exB_f (by omega) (by assumption) (fun h => by obtain ⟨h1, h2⟩ := h; first | exact absurd h1 (by assumption) | omega)] at q; exact q)
          · refine v_aload_n (i := 0) o.ok d_M_busy_24 rfl rfl ?_
            refine m_geta o 24 (by decide) (by decide) lf_M_65 rfl d_M_busy_25 ?_
            refine v_iload_n (i := 3) o.ok d_M_busy_28 rfl rfl ?_
            refine m_iald o 24 60 rfl rfl (by omega) d_M_busy_29 (fun i29 => ?_)
            refine v_iload_n (i := 1) o.ok d_M_busy_30 rfl rfl ?_
            refine v_icmp_ne o.ok (by omega) (by omega) d_M_busy_31 (fun c31 => ?_) (fun c31 => ?_)
            · refine v_iconst o.ok d_M_busy_38 ?_
              refine v_istore_n (i := 2) (L' := [(0, _), (1, _), (2, _), (3, _)]) (G' := []) o.ok d_M_busy_39 rfl (o.lt (by decide)) rfl rfl ?_
              refine v_iinc (i := 3) (L' := [(0, _), (1, _), (2, _), (3, _)]) (G' := []) o.ok d_M_busy_40 rfl (o.lt (by decide)) rfl rfl ?_
              refine v_goto o.ok d_M_busy_43 ?_
              have q := ih (u + 1) (by omega) (by omega) (by omega)
              first
                | (rw [exB_t (by omega) (Or.inl (by assumption))] at q; exact q)
                | (rw [exB_t (by omega) (Or.inr ⟨by assumption, by omega⟩)] at q; exact q)
                | (rw [exB_f (by omega) (by assumption) (fun h => by obtain ⟨h1, h2⟩ := h; first | exact absurd h1 (by assumption) | omega)] at q; exact q)
            · refine v_iconst o.ok d_M_busy_34 ?_
              refine v_goto o.ok d_M_busy_35 ?_
              refine v_istore_n (i := 2) (L' := [(0, _), (1, _), (2, _), (3, _)]) (G' := []) o.ok d_M_busy_39 rfl (o.lt (by decide)) rfl rfl ?_
              refine v_iinc (i := 3) (L' := [(0, _), (1, _), (2, _), (3, _)]) (G' := []) o.ok d_M_busy_40 rfl (o.lt (by decide)) rfl rfl ?_
              refine v_goto o.ok d_M_busy_43 ?_
              have q := ih (u + 1) (by omega) (by omega) (by omega)
              first
                | (rw [exB_t (by omega) (Or.inl (by assumption))] at q; exact q)
                | (rw [exB_t (by omega) (Or.inr ⟨by assumption, by omega⟩)] at q; exact q)
                | (rw [exB_f (by omega) (by assumption) (fun h => by obtain ⟨h1, h2⟩ := h; first | exact absurd h1 (by assumption) | omega)] at q; exact q)
  refine v_iconst o.ok d_M_busy_0 ?_
  refine v_istore_n (i := 2) (L' := [(0, _), (1, _), (2, _)]) (G' := []) o.ok d_M_busy_1 rfl (o.lt (by decide)) rfl rfl ?_
  refine v_iconst o.ok d_M_busy_2 ?_
  refine v_istore_n (i := 3) (L' := [(0, _), (1, _), (2, _), (3, _)]) (G' := []) o.ok d_M_busy_3 rfl (o.lt (by decide)) rfl rfl ?_
  have q := lp (M 22 0).toNat 0 (by omega) (by omega) (by omega)
  rw [b01_f (exB_nil (by omega))] at q
  exact q

