theorem r_write_01 (M : MSt) (p : Int) : (r_write M p).1 = 0 ∨ (r_write M p).1 = 1 := by
  by_cases h : (0 ≤ p ∧ p ≤ 7) ∧ M 7 p = 1 ∧ M 8 p = 1
  · rw [show r_write M p = (1, wrt M p) from pick_t h]; exact Or.inr rfl
  · rw [show r_write M p = (0, M) from pick_f h]; exact Or.inl rfl
theorem r_write_o {M : MSt} {p : Int} {f : Nat} (h : pgF f = false) : (r_write M p).2 f = M f := by
  by_cases hc : (0 ≤ p ∧ p ≤ 7) ∧ M 7 p = 1 ∧ M 8 p = 1
  · rw [show r_write M p = (1, wrt M p) from pick_t hc]; exact funext fun _ => wrt_o h
  · rw [show r_write M p = (0, M) from pick_f hc]
theorem wrN_bd (M : MSt) (n : Nat) : 0 ≤ (wrN M n).1 ∧ (wrN M n).1 ≤ n := by
  induction n with
  | zero => exact ⟨Int.le_refl _, Int.le_refl _⟩
  | succ n ih =>
    have := r_write_01 (wrN M n).2 n
    show 0 ≤ (wrN M n).1 + (r_write (wrN M n).2 n).1 ∧ (wrN M n).1 + (r_write (wrN M n).2 n).1 ≤ _
    omega
theorem wrN_o {M : MSt} {f : Nat} (h : pgF f = false) (n : Nat) : (wrN M n).2 f = M f := by
  induction n with
  | zero => rfl
  | succ n ih =>
    show (r_write (wrN M n).2 n).2 f = M f
    rw [r_write_o h, ih]
set_option maxHeartbeats 4000000 in
set_option maxRecDepth 20000 in
theorem c_M_archive (M : MSt) (hf : WF M) : MF y_M_archive (wsOf y_M_archive b_M_archive 3 (some .int)) 2 [] M (some (r_archive M).1) ((r_archive M).2) := by
  refine MCon.of (by decide) rfl (Nat.le_of_ble_eq_true rfl) ?_
  intro X E o
  show V X (RelM E M) 0 [(0, .ref (Em.x E))] [] []
  have hb := hf.base
  have hr := hf.recs
  have hlv := lives_bd hf.many.1
  have hmm := hf.many
  have lp : ¬ 0 < lives M → ∀ (n : Nat) (p : Nat), p + n = 8 → V X (RelM E (wrN M p).2) 13 [(0, .ref (Em.x E)), (1, J (wrN M p).1), (2, J (p : Int))] [] [] := by
    intro hl n
    induction n with
    | zero =>
      intro p hp
      have e : p = 8 := by omega
      subst e
      have e1 : (wrN M 8).2 11 0 = M 11 0 := congrFun (wrN_o rfl 8) 0
      have e2 : (wrN M 8).2 12 0 = M 12 0 := congrFun (wrN_o rfl 8) 0
      have el : lst (wrN M 8).2 = M 11 0 + M 12 0 := by unfold lst; rw [e1, e2]
      refine v_iload_n (i := 2) o.ok d_M_archive_13 rfl rfl ?_
      refine v_bipush o.ok d_M_archive_14 rfl ?_
      refine v_icmp_ge o.ok (by first | omega | (rw [el]; omega)) (by first | omega | (rw [el]; omega)) d_M_archive_16 (fun c16 => ?_) (fun c16 => ?_)
      · refine v_aload_n (i := 0) o.ok d_M_archive_41 rfl rfl ?_
        refine v_aload_n (i := 0) o.ok d_M_archive_42 rfl rfl ?_
        refine m_cf o (c_M_last _) q_M_last lm_M_128 d_M_archive_43 (by decide) rfl (Nat.le_of_ble_eq_true rfl) rfl ?_
        refine m_puti o 11 (by decide) rfl rfl rfl lf_M_115 rfl (by first | omega | (rw [el]; omega)) d_M_archive_46 ?_
        refine v_aload_n (i := 0) o.ok d_M_archive_49 rfl rfl ?_
        refine v_iconst o.ok d_M_archive_50 ?_
        refine m_puti o 12 (by decide) rfl rfl rfl lf_M_118 rfl (by first | omega | (rw [el]; omega)) d_M_archive_51 ?_
        refine v_aload_n (i := 0) o.ok d_M_archive_54 rfl rfl ?_
        refine v_aload_n (i := 0) o.ok d_M_archive_55 rfl rfl ?_
        refine m_geti o 11 (by decide) rfl lf_M_115 rfl d_M_archive_56 (fun i56 => ?_)
        (try simp only [clk, up, cpd, cpu, Nat.reduceEqDiff, false_and, if_false, and_self, if_true, true_and] at i56 ⊢)
        refine m_puti o 13 (by decide) rfl rfl rfl lf_M_105 rfl (by first | omega | (rw [el]; omega)) d_M_archive_59 ?_
        refine v_iload_n (i := 1) o.ok d_M_archive_62 rfl rfl ?_
        refine m_iret o d_M_archive_63 ?_
        have e : r_archive M = ((wrN M 8).1, arc (wrN M 8).2) := if_neg hl
        rw [e]
        exact ⟨rfl, rfl⟩
      · exfalso; omega
    | succ n ih =>
      intro p hp
      have h01 := r_write_01 (wrN M p).2 p
      refine v_iload_n (i := 2) o.ok d_M_archive_13 rfl rfl ?_
      refine v_bipush o.ok d_M_archive_14 rfl ?_
      refine v_icmp_ge o.ok (by omega) (by omega) d_M_archive_16 (fun c16 => ?_) (fun c16 => ?_)
      · exfalso; omega
      · refine v_iload_n (i := 1) o.ok d_M_archive_19 rfl rfl ?_
        refine v_aload_n (i := 0) o.ok d_M_archive_20 rfl rfl ?_
        refine v_iload_n (i := 2) o.ok d_M_archive_21 rfl rfl ?_
        refine m_cf o (c_M_write p _ ⟨by omega, by omega⟩) q_M_write lm_M_258 d_M_archive_22 (by decide) rfl (Nat.le_of_ble_eq_true rfl) rfl ?_
        refine v_if_eq o.ok (by omega) d_M_archive_25 (fun c25 => ?_) (fun c25 => ?_)
        · refine v_iconst o.ok d_M_archive_32 ?_
          refine v_iadd o.ok d_M_archive_33 ?_
          refine v_istore_n (i := 1) (L' := [(0, _), (1, _), (2, _)]) (G' := []) o.ok d_M_archive_34 rfl (o.lt (by decide)) rfl rfl ?_
          refine v_iinc (i := 2) (L' := [(0, _), (1, _), (2, _)]) (G' := []) o.ok d_M_archive_35 rfl (o.lt (by decide)) rfl rfl ?_
          refine v_goto o.ok d_M_archive_38 ?_
          have z := ih (p + 1) (by omega)
          have e5 : (wrN M (p + 1)).1 = (wrN M p).1 + (r_write (wrN M p).2 p).1 := rfl
          have e6 : ((p + 1 : Nat) : Int) = (p : Int) + 1 := by omega
          rw [e5, e6] at z
          first
            | (rw [show (r_write (wrN M p).2 p).1 = 0 from by omega] at z; exact z)
            | (rw [show (r_write (wrN M p).2 p).1 = 1 from by omega] at z; exact z)
        · refine v_iconst o.ok d_M_archive_28 ?_
          refine v_goto o.ok d_M_archive_29 ?_
          refine v_iadd o.ok d_M_archive_33 ?_
          refine v_istore_n (i := 1) (L' := [(0, _), (1, _), (2, _)]) (G' := []) o.ok d_M_archive_34 rfl (o.lt (by decide)) rfl rfl ?_
          refine v_iinc (i := 2) (L' := [(0, _), (1, _), (2, _)]) (G' := []) o.ok d_M_archive_35 rfl (o.lt (by decide)) rfl rfl ?_
          refine v_goto o.ok d_M_archive_38 ?_
          have z := ih (p + 1) (by omega)
          have e5 : (wrN M (p + 1)).1 = (wrN M p).1 + (r_write (wrN M p).2 p).1 := rfl
          have e6 : ((p + 1 : Nat) : Int) = (p : Int) + 1 := by omega
          rw [e5, e6] at z
          first
            | (rw [show (r_write (wrN M p).2 p).1 = 0 from by omega] at z; exact z)
            | (rw [show (r_write (wrN M p).2 p).1 = 1 from by omega] at z; exact z)
  refine v_aload_n (i := 0) o.ok d_M_archive_0 rfl rfl ?_
  refine m_cf o (c_M_lives M hmm) q_M_lives lm_M_156 d_M_archive_1 (by decide) rfl (Nat.le_of_ble_eq_true rfl) rfl ?_
  refine v_if_le o.ok (by omega) d_M_archive_4 (fun c4 => ?_) (fun c4 => ?_)
  · refine v_iconst o.ok d_M_archive_9 ?_
    refine v_istore_n (i := 1) (L' := [(0, _), (1, _)]) (G' := []) o.ok d_M_archive_10 rfl (o.lt (by decide)) rfl rfl ?_
    refine v_iconst o.ok d_M_archive_11 ?_
    refine v_istore_n (i := 2) (L' := [(0, _), (1, _), (2, _)]) (G' := []) o.ok d_M_archive_12 rfl (o.lt (by decide)) rfl rfl ?_
    exact lp (by omega) 8 0 rfl
  · refine v_iconst o.ok d_M_archive_7 ?_
    refine m_iret o d_M_archive_8 ?_
    have e : r_archive M = (-1, M) := if_pos (by omega)
    rw [e]
    exact ⟨rfl, rfl⟩
set_option maxHeartbeats 4000000 in
set_option maxRecDepth 20000 in
theorem c_M_frame (i : Int) (M : MSt) (hi : InR i) : MF y_M_frame (wsOf y_M_frame b_M_frame 5 (some .int)) 0 [i] M (some (o_frame M i)) (M) := by
  refine MCon.of (by decide) rfl (Nat.le_of_ble_eq_true rfl) ?_
  intro X E o
  show V X (RelM E M) 0 [(0, .ref (Em.x E)), (1, J (i))] [] []
  have fin : i < 0 ∨ frN M i 8 0 = -1 → o_frame M i = -1 := by
    intro h
    unfold o_frame
    by_cases h0 : i < 0
    · rw [if_pos h0]
    · rw [if_neg h0]
      rcases h with h | h
      · omega
      · exact h
  have lp : ∀ (n : Nat) (p : Int), 0 ≤ p → p + n = 8 → (i < 0 → p = 0) → frN M i 8 0 = frN M i n p → V X (RelM E M) 2 [(0, .ref (Em.x E)), (1, J i), (2, J p)] [] [] := by
    intro n
    induction n with
    | zero =>
      intro p h0 h1 h2 h3
      refine v_iload_n (i := 2) o.ok d_M_frame_2 rfl rfl ?_
      refine v_bipush o.ok d_M_frame_3 rfl ?_
      refine v_icmp_ge o.ok (by omega) (by omega) d_M_frame_5 (fun c5 => ?_) (fun c5 => ?_)
      · refine v_iconst o.ok d_M_frame_103 ?_
        refine m_iret o d_M_frame_104 ⟨congrArg some (fin (Or.inr h3)).symm, rfl⟩
      · exfalso; omega
    | succ n ih =>
      intro p h0 h1 h2 h3
      have inn : 0 ≤ i → ∀ (m : Nat) (q : Int), 0 ≤ q → q + m = 8 → V X (RelM E M) 17 [(0, .ref (Em.x E)), (1, J i), (2, J p), (3, J (cnt (fun q => M 7 q = 1 ∧ M 9 p < M 9 q) q)), (4, J q)] [] [] := by
        intro hi0 m
        induction m with
        | zero =>
          intro q g0 g1
          have e : q = 8 := by omega
          subst e
          have hc := cnt_bd (P := fun q => M 7 q = 1 ∧ M 9 p < M 9 q) (show (0 : Int) ≤ 8 by decide)
          have h4 : frN M i (n + 1) p = if M 7 p = 1 ∧ later M p = i then 2 * p + M 8 p else frN M i n (p + 1) := rfl
          have h5 : later M p = cnt (fun q => M 7 q = 1 ∧ M 9 p < M 9 q) 8 := rfl
          refine v_iload (i := 4) o.ok d_M_frame_17 rfl ?_
          refine v_bipush o.ok d_M_frame_19 rfl ?_
          refine v_icmp_ge o.ok (by omega) (by omega) d_M_frame_21 (fun c21 => ?_) (fun c21 => ?_)
          · refine v_aload_n (i := 0) o.ok d_M_frame_64 rfl rfl ?_
            refine m_geta o 7 (by decide) (by decide) lf_M_29 rfl d_M_frame_65 ?_
            refine v_iload_n (i := 2) o.ok d_M_frame_68 rfl rfl ?_
            refine m_zald o 7 8 rfl rfl (by omega) d_M_frame_69 (fun i69 => ?_)
            first | refine v_ifeq_b o.ok d_M_frame_70 (fun c70 => ?_) (fun c70 => ?_) | refine v_if_eq o.ok (by omega) d_M_frame_70 (fun c70 => ?_) (fun c70 => ?_)
            · refine v_iinc (i := 2) (L' := [(0, _), (1, _), (2, _), (3, _), (4, _)]) (G' := []) o.ok d_M_frame_97 rfl (o.lt (by decide)) rfl rfl ?_
              refine v_goto o.ok d_M_frame_100 ?_
              refine v_sel [0, 1, 2] [] (L' := [(0, _), (1, _), (2, _)]) (G' := []) rfl rfl ?_
              refine ih _ (by omega) (by omega) (by omega) ?_
              rw [h3, h4, if_neg (by omega)]
            · refine v_iload_n (i := 3) o.ok d_M_frame_73 rfl rfl ?_
              refine v_iload_n (i := 1) o.ok d_M_frame_74 rfl rfl ?_
              refine v_icmp_ne o.ok (by omega) (by omega) d_M_frame_75 (fun c75 => ?_) (fun c75 => ?_)
              · refine v_iinc (i := 2) (L' := [(0, _), (1, _), (2, _), (3, _), (4, _)]) (G' := []) o.ok d_M_frame_97 rfl (o.lt (by decide)) rfl rfl ?_
                refine v_goto o.ok d_M_frame_100 ?_
                refine v_sel [0, 1, 2] [] (L' := [(0, _), (1, _), (2, _)]) (G' := []) rfl rfl ?_
                refine ih _ (by omega) (by omega) (by omega) ?_
                rw [h3, h4, if_neg (by omega)]
              · refine v_iconst o.ok d_M_frame_78 ?_
                refine v_iload_n (i := 2) o.ok d_M_frame_79 rfl rfl ?_
                refine v_imul o.ok d_M_frame_80 ?_
                refine v_aload_n (i := 0) o.ok d_M_frame_81 rfl rfl ?_
                refine m_geta o 8 (by decide) (by decide) lf_M_32 rfl d_M_frame_82 ?_
                refine v_iload_n (i := 2) o.ok d_M_frame_85 rfl rfl ?_
                refine m_zald o 8 8 rfl rfl (by omega) d_M_frame_86 (fun i86 => ?_)
                first | refine v_ifeq_b o.ok d_M_frame_87 (fun c87 => ?_) (fun c87 => ?_) | refine v_if_eq o.ok (by omega) d_M_frame_87 (fun c87 => ?_) (fun c87 => ?_)
                · refine v_iconst o.ok d_M_frame_94 ?_
                  refine v_iadd o.ok d_M_frame_95 ?_
                  refine m_iret o d_M_frame_96 ⟨congrArg some (by unfold o_frame; rw [if_neg (by omega), h3, h4, if_pos (by omega)]; omega), rfl⟩
                · refine v_iconst o.ok d_M_frame_90 ?_
                  refine v_goto o.ok d_M_frame_91 ?_
                  refine v_iadd o.ok d_M_frame_95 ?_
                  refine m_iret o d_M_frame_96 ⟨congrArg some (by unfold o_frame; rw [if_neg (by omega), h3, h4, if_pos (by omega)]; omega), rfl⟩
          · exfalso; omega
        | succ m ihm =>
          intro q g0 g1
          have hc := cnt_bd (P := fun q => M 7 q = 1 ∧ M 9 p < M 9 q) g0
          refine v_iload (i := 4) o.ok d_M_frame_17 rfl ?_
          refine v_bipush o.ok d_M_frame_19 rfl ?_
          refine v_icmp_ge o.ok (by omega) (by omega) d_M_frame_21 (fun c21 => ?_) (fun c21 => ?_)
          · exfalso; omega
          · refine v_iload_n (i := 3) o.ok d_M_frame_24 rfl rfl ?_
            refine v_aload_n (i := 0) o.ok d_M_frame_25 rfl rfl ?_
            refine m_geta o 7 (by decide) (by decide) lf_M_29 rfl d_M_frame_26 ?_
            refine v_iload (i := 4) o.ok d_M_frame_29 rfl ?_
            refine m_zald o 7 8 rfl rfl (by omega) d_M_frame_31 (fun i31 => ?_)
            first | refine v_ifeq_b o.ok d_M_frame_32 (fun c32 => ?_) (fun c32 => ?_) | refine v_if_eq o.ok (by omega) d_M_frame_32 (fun c32 => ?_) (fun c32 => ?_)
            · refine v_iconst o.ok d_M_frame_55 ?_
              refine v_iadd o.ok d_M_frame_56 ?_
              refine v_istore_n (i := 3) (L' := [(0, _), (1, _), (2, _), (3, _), (4, _)]) (G' := []) o.ok d_M_frame_57 rfl (o.lt (by decide)) rfl rfl ?_
              refine v_iinc (i := 4) (L' := [(0, _), (1, _), (2, _), (3, _), (4, _)]) (G' := []) o.ok d_M_frame_58 rfl (o.lt (by decide)) rfl rfl ?_
              refine v_goto o.ok d_M_frame_61 ?_
              have z := ihm (q + 1) (by omega) (by omega)
              rw [cnt_s g0] at z
              first
                | (rw [b01_t (show M 7 q = 1 ∧ M 9 p < M 9 q from by omega)] at z; exact z)
                | (rw [b01_f (show ¬ (M 7 q = 1 ∧ M 9 p < M 9 q) from by omega)] at z; exact z)
            · refine v_aload_n (i := 0) o.ok d_M_frame_35 rfl rfl ?_
              refine m_geta o 9 (by decide) (by decide) lf_M_35 rfl d_M_frame_36 ?_
              refine v_iload (i := 4) o.ok d_M_frame_39 rfl ?_
              refine m_iald o 9 8 rfl rfl (by omega) d_M_frame_41 (fun i41 => ?_)
              refine v_aload_n (i := 0) o.ok d_M_frame_42 rfl rfl ?_
              refine m_geta o 9 (by decide) (by decide) lf_M_35 rfl d_M_frame_43 ?_
              refine v_iload_n (i := 2) o.ok d_M_frame_46 rfl rfl ?_
              refine m_iald o 9 8 rfl rfl (by omega) d_M_frame_47 (fun i47 => ?_)
              refine v_icmp_le o.ok (by omega) (by omega) d_M_frame_48 (fun c48 => ?_) (fun c48 => ?_)
              · refine v_iconst o.ok d_M_frame_55 ?_
                refine v_iadd o.ok d_M_frame_56 ?_
                refine v_istore_n (i := 3) (L' := [(0, _), (1, _), (2, _), (3, _), (4, _)]) (G' := []) o.ok d_M_frame_57 rfl (o.lt (by decide)) rfl rfl ?_
                refine v_iinc (i := 4) (L' := [(0, _), (1, _), (2, _), (3, _), (4, _)]) (G' := []) o.ok d_M_frame_58 rfl (o.lt (by decide)) rfl rfl ?_
                refine v_goto o.ok d_M_frame_61 ?_
                have z := ihm (q + 1) (by omega) (by omega)
                rw [cnt_s g0] at z
                first
                  | (rw [b01_t (show M 7 q = 1 ∧ M 9 p < M 9 q from by omega)] at z; exact z)
                  | (rw [b01_f (show ¬ (M 7 q = 1 ∧ M 9 p < M 9 q) from by omega)] at z; exact z)
              · refine v_iconst o.ok d_M_frame_51 ?_
                refine v_goto o.ok d_M_frame_52 ?_
                refine v_iadd o.ok d_M_frame_56 ?_
                refine v_istore_n (i := 3) (L' := [(0, _), (1, _), (2, _), (3, _), (4, _)]) (G' := []) o.ok d_M_frame_57 rfl (o.lt (by decide)) rfl rfl ?_
                refine v_iinc (i := 4) (L' := [(0, _), (1, _), (2, _), (3, _), (4, _)]) (G' := []) o.ok d_M_frame_58 rfl (o.lt (by decide)) rfl rfl ?_
                refine v_goto o.ok d_M_frame_61 ?_
                have z := ihm (q + 1) (by omega) (by omega)
                rw [cnt_s g0] at z
                first
                  | (rw [b01_t (show M 7 q = 1 ∧ M 9 p < M 9 q from by omega)] at z; exact z)
                  | (rw [b01_f (show ¬ (M 7 q = 1 ∧ M 9 p < M 9 q) from by omega)] at z; exact z)
      refine v_iload_n (i := 2) o.ok d_M_frame_2 rfl rfl ?_
      refine v_bipush o.ok d_M_frame_3 rfl ?_
      refine v_icmp_ge o.ok (by omega) (by omega) d_M_frame_5 (fun c5 => ?_) (fun c5 => ?_)
      · exfalso; omega
      · refine v_iload_n (i := 1) o.ok d_M_frame_8 rfl rfl ?_
        refine v_if_lt o.ok (by omega) d_M_frame_9 (fun c9 => ?_) (fun c9 => ?_)
        · refine v_iconst o.ok d_M_frame_103 ?_
          refine m_iret o d_M_frame_104 ⟨congrArg some (fin (Or.inl (by omega))).symm, rfl⟩
        · refine v_iconst o.ok d_M_frame_12 ?_
          refine v_istore_n (i := 3) (L' := [(0, _), (1, _), (2, _), (3, _)]) (G' := []) o.ok d_M_frame_13 rfl (o.lt (by decide)) rfl rfl ?_
          refine v_iconst o.ok d_M_frame_14 ?_
          refine v_istore (i := 4) (L' := [(0, _), (1, _), (2, _), (3, _), (4, _)]) (G' := []) o.ok d_M_frame_15 (o.lt (by decide)) rfl rfl ?_
          exact inn (by omega) 8 0 (by omega) (by omega)
  refine v_iconst o.ok d_M_frame_0 ?_
  refine v_istore_n (i := 2) (L' := [(0, _), (1, _), (2, _)]) (G' := []) o.ok d_M_frame_1 rfl (o.lt (by decide)) rfl rfl ?_
  exact lp 8 0 (by omega) (by omega) (fun _ => rfl) rfl
set_option maxHeartbeats 4000000 in
set_option maxRecDepth 20000 in
theorem c_M_begin (f : Int) (M : MSt) (hfr : InR f) (hf : WF M) : MF y_M_begin (wsOf y_M_begin b_M_begin 3 (some .int)) 4 [f] M (some (r_begin M f).1) ((r_begin M f).2) := by
  refine MCon.of (by decide) rfl (Nat.le_of_ble_eq_true rfl) ?_
  intro X E o
  show V X (RelM E M) 0 [(0, .ref (Em.x E)), (1, J (f))] [] []
  have hb := hf.base
  have hr := hf.recs
  have hm := hf.many
  have hdep : 0 ≤ f → f < M 22 0 → 1 ≤ dep M f ∧ dep M f ≤ 5 := by
    intro _ _
    have : ∀ (n : Nat) (x : Int), 0 ≤ depN M n x ∧ depN M n x ≤ n := by
      intro n
      induction n with
      | zero => intro x; exact ⟨Int.le_refl _, Int.le_refl _⟩
      | succ n ih =>
        intro x
        unfold depN
        split
        · have := ih (M 24 x); omega
        · omega
    have := this 4 (M 24 f)
    unfold dep
    omega
  have go : f = -1 ∨ (Act M f ∧ dep M f < 4) → M 22 0 ≠ 60 → V X (RelM E M) 38 [(0, .ref (Em.x E)), (1, J f)] [] [] := by
    intro h1 h2
    have hc : ¬ ((f ≠ -1 ∧ ¬ Act M f) ∨ M 22 0 = 60 ∨ (f ≠ -1 ∧ 4 ≤ dep M f)) := by
      rintro (⟨q1, q2⟩ | q | ⟨q1, q2⟩)
      · rcases h1 with h1 | h1; exact q1 h1; exact q2 h1.1
      · exact h2 q
      · rcases h1 with h1 | h1; exact q1 h1; omega
    have e0 : app (up (up M 23 (M 22 0) 1) 24 (M 22 0) f) 1 (M 22 0) f 15 (M 12 0) = M 22 0 := app_by (up (up M 23 (M 22 0) 1) 24 (M 22 0) f) 1 (M 22 0) f
    refine v_aload_n (i := 0) o.ok d_M_begin_38 rfl rfl ?_
    refine m_cf o (c_M_full M hf.par hf.bys hr hb) q_M_full lm_M_168 d_M_begin_39 (by decide) rfl (Nat.le_of_ble_eq_true rfl) rfl ?_
    first | refine v_ifeq_b o.ok d_M_begin_42 (fun c42 => ?_) (fun c42 => ?_) | refine v_if_eq o.ok (by omega) d_M_begin_42 (fun c42 => ?_) (fun c42 => ?_)
    · refine v_aload_n (i := 0) o.ok d_M_begin_48 rfl rfl ?_
      refine m_geta o 23 (by decide) (by decide) lf_M_62 rfl d_M_begin_49 ?_
      refine v_aload_n (i := 0) o.ok d_M_begin_52 rfl rfl ?_
      refine m_geti o 22 (by decide) rfl lf_M_147 rfl d_M_begin_53 (fun i53 => ?_)
      (try simp only [clk, up, cpd, cpu, Nat.reduceEqDiff, false_and, if_false, and_self, if_true, true_and] at i53 ⊢)
      refine v_iconst o.ok d_M_begin_56 ?_
      refine m_iast o 23 60 rfl rfl (by omega) (by omega) d_M_begin_57 ?_
      refine v_aload_n (i := 0) o.ok d_M_begin_58 rfl rfl ?_
      refine m_geta o 24 (by decide) (by decide) lf_M_65 rfl d_M_begin_59 ?_
      refine v_aload_n (i := 0) o.ok d_M_begin_62 rfl rfl ?_
      refine m_geti o 22 (by decide) rfl lf_M_147 rfl d_M_begin_63 (fun i63 => ?_)
      (try simp only [clk, up, cpd, cpu, Nat.reduceEqDiff, false_and, if_false, and_self, if_true, true_and] at i63 ⊢)
      refine v_iload_n (i := 1) o.ok d_M_begin_66 rfl rfl ?_
      refine m_iast o 24 60 rfl rfl (by omega) (by omega) d_M_begin_67 ?_
      refine v_aload_n (i := 0) o.ok d_M_begin_68 rfl rfl ?_
      refine v_iconst o.ok d_M_begin_69 ?_
      refine v_aload_n (i := 0) o.ok d_M_begin_70 rfl rfl ?_
      refine m_geti o 22 (by decide) rfl lf_M_147 rfl d_M_begin_71 (fun i71 => ?_)
      (try simp only [clk, up, cpd, cpu, Nat.reduceEqDiff, false_and, if_false, and_self, if_true, true_and] at i71 ⊢)
      skip
      refine v_iload_n (i := 1) o.ok d_M_begin_74 rfl rfl ?_
      refine m_cf o (c_M_append 1 (M 22 0) f (up (up M 23 (M 22 0) 1) 24 (M 22 0) f) hr (by decide) (by omega) hfr) q_M_append lm_M_121 d_M_begin_75 (by decide) rfl (Nat.le_of_ble_eq_true rfl) rfl ?_
      refine v_istore_n (i := 2) (L' := [(0, _), (1, _), (2, _)]) (G' := []) o.ok d_M_begin_78 rfl (o.lt (by decide)) rfl rfl ?_
      refine v_aload_n (i := 0) o.ok d_M_begin_79 rfl rfl ?_
      refine m_geta o 25 (by decide) (by decide) lf_M_68 rfl d_M_begin_80 ?_
      refine v_aload_n (i := 0) o.ok d_M_begin_83 rfl rfl ?_
      refine m_geti o 22 (by decide) rfl lf_M_147 rfl d_M_begin_84 (fun i84 => ?_)
      (try simp only [clk, up, cpd, cpu, Nat.reduceEqDiff, false_and, if_false, and_self, if_true, true_and] at i84 ⊢)
      rw [show app (up (up M 23 (M 22 0) 1) 24 (M 22 0) f) 1 (M 22 0) f 22 0 = M 22 0 from rfl]
      refine v_aload_n (i := 0) o.ok d_M_begin_87 rfl rfl ?_
      refine m_cf o (c_M_last' _ (M 11 0 + M 12 0 + 1) (by simp only [lst, app, up, Nat.reduceEqDiff, false_and, if_false, and_self, if_true]; omega)) q_M_last lm_M_128 d_M_begin_88 (by decide) rfl (Nat.le_of_ble_eq_true rfl) rfl ?_
      refine m_iast o 25 60 rfl rfl (by (have e9 : app (up (up M 23 (M 22 0) 1) 24 (M 22 0) f) 1 (M 22 0) f 22 0 = M 22 0 := rfl); omega) (by omega) d_M_begin_91 ?_
      refine v_aload_n (i := 0) o.ok d_M_begin_92 rfl rfl ?_
      refine v_dup o.ok d_M_begin_93 rfl ?_
      refine m_geti o 22 (by decide) rfl lf_M_147 rfl d_M_begin_94 (fun i94 => ?_)
      (try simp only [clk, up, cpd, cpu, Nat.reduceEqDiff, false_and, if_false, and_self, if_true, true_and] at i94 ⊢)
      refine v_iconst o.ok d_M_begin_97 ?_
      refine v_iadd o.ok d_M_begin_98 ?_
      refine m_puti o 22 (by decide) rfl rfl rfl lf_M_147 rfl (by (have e9 : app (up (up M 23 (M 22 0) 1) 24 (M 22 0) f) 1 (M 22 0) f 22 0 = M 22 0 := rfl); omega) d_M_begin_99 ?_
      refine v_aload_n (i := 0) o.ok d_M_begin_102 rfl rfl ?_
      refine m_geta o 15 (by decide) (by decide) lf_M_41 rfl d_M_begin_103 ?_
      refine v_iload_n (i := 2) o.ok d_M_begin_106 rfl rfl ?_
      refine m_iald o 15 301 rfl rfl (by omega) d_M_begin_107 (fun i107 => ?_)
      (try simp only [clk, up, cpd, cpu, Nat.reduceEqDiff, false_and, if_false, and_self, if_true, true_and] at i107 ⊢)
      refine m_iret o d_M_begin_108 ?_
      first
        | (have e : r_begin M f = (-5, M) := (pick_f hc).trans (pick_t (by assumption))
           rw [e]; exact ⟨rfl, rfl⟩)
        | (have e : r_begin M f = (M 22 0, bgn M f) := (pick_f hc).trans (pick_f (by assumption))
           rw [e]; exact ⟨congrArg some e0, rfl⟩)
    · refine v_bipush o.ok d_M_begin_45 rfl ?_
      refine m_iret o d_M_begin_47 ?_
      first
        | (have e : r_begin M f = (-5, M) := (pick_f hc).trans (pick_t (by assumption))
           rw [e]; exact ⟨rfl, rfl⟩)
        | (have e : r_begin M f = (M 22 0, bgn M f) := (pick_f hc).trans (pick_f (by assumption))
           rw [e]; exact ⟨congrArg some e0, rfl⟩)
  refine v_iload_n (i := 1) o.ok d_M_begin_0 rfl rfl ?_
  refine v_iconst o.ok d_M_begin_1 ?_
  refine v_icmp_eq o.ok (by omega) (by omega) d_M_begin_2 (fun c2 => ?_) (fun c2 => ?_)
  · refine v_aload_n (i := 0) o.ok d_M_begin_13 rfl rfl ?_
    refine m_geti o 22 (by decide) rfl lf_M_147 rfl d_M_begin_14 (fun i14 => ?_)
    (try simp only [clk, up, cpd, cpu, Nat.reduceEqDiff, false_and, if_false, and_self, if_true, true_and] at i14 ⊢)
    refine v_bipush o.ok d_M_begin_17 rfl ?_
    refine v_icmp_eq o.ok (by omega) (by omega) d_M_begin_19 (fun c19 => ?_) (fun c19 => ?_)
    · refine v_iconst o.ok d_M_begin_36 ?_
      refine m_iret o d_M_begin_37 ?_
      have e : r_begin M f = (-1, M) := pick_t (by first | exact Or.inl ⟨by omega, by assumption⟩ | exact Or.inr (Or.inl (by omega)) | exact Or.inr (Or.inr ⟨by omega, by omega⟩))
      rw [e]; exact ⟨rfl, rfl⟩
    · refine v_iload_n (i := 1) o.ok d_M_begin_22 rfl rfl ?_
      refine v_iconst o.ok d_M_begin_23 ?_
      refine v_icmp_eq o.ok (by omega) (by omega) d_M_begin_24 (fun c24 => ?_) (fun c24 => ?_)
      · refine go ?_ (by omega)
        first | exact Or.inl (by omega) | exact Or.inr ⟨by assumption, by omega⟩
      · exfalso; omega
  · refine v_aload_n (i := 0) o.ok d_M_begin_5 rfl rfl ?_
    refine v_iload_n (i := 1) o.ok d_M_begin_6 rfl rfl ?_
    refine m_cf o (c_M_active f M hfr hm.2) q_M_active lm_M_162 d_M_begin_7 (by decide) rfl (Nat.le_of_ble_eq_true rfl) rfl ?_
    first | refine v_ifeq_b o.ok d_M_begin_10 (fun c10 => ?_) (fun c10 => ?_) | refine v_if_eq o.ok (by omega) d_M_begin_10 (fun c10 => ?_) (fun c10 => ?_)
    · refine v_iconst o.ok d_M_begin_36 ?_
      refine m_iret o d_M_begin_37 ?_
      have e : r_begin M f = (-1, M) := pick_t (by first | exact Or.inl ⟨by omega, by assumption⟩ | exact Or.inr (Or.inl (by omega)) | exact Or.inr (Or.inr ⟨by omega, by omega⟩))
      rw [e]; exact ⟨rfl, rfl⟩
    · refine v_aload_n (i := 0) o.ok d_M_begin_13 rfl rfl ?_
      refine m_geti o 22 (by decide) rfl lf_M_147 rfl d_M_begin_14 (fun i14 => ?_)
      (try simp only [clk, up, cpd, cpu, Nat.reduceEqDiff, false_and, if_false, and_self, if_true, true_and] at i14 ⊢)
      refine v_bipush o.ok d_M_begin_17 rfl ?_
      refine v_icmp_eq o.ok (by omega) (by omega) d_M_begin_19 (fun c19 => ?_) (fun c19 => ?_)
      · refine v_iconst o.ok d_M_begin_36 ?_
        refine m_iret o d_M_begin_37 ?_
        have e : r_begin M f = (-1, M) := pick_t (by first | exact Or.inl ⟨by omega, by assumption⟩ | exact Or.inr (Or.inl (by omega)) | exact Or.inr (Or.inr ⟨by omega, by omega⟩))
        rw [e]; exact ⟨rfl, rfl⟩
      · refine v_iload_n (i := 1) o.ok d_M_begin_22 rfl rfl ?_
        refine v_iconst o.ok d_M_begin_23 ?_
        refine v_icmp_eq o.ok (by omega) (by omega) d_M_begin_24 (fun c24 => ?_) (fun c24 => ?_)
        · refine go ?_ (by omega)
          first | exact Or.inl (by omega) | exact Or.inr ⟨by assumption, by omega⟩
        · refine v_aload_n (i := 0) o.ok d_M_begin_27 rfl rfl ?_
          refine v_iload_n (i := 1) o.ok d_M_begin_28 rfl rfl ?_
          refine m_cf o (c_M_depth f M hf.par (And.left (by assumption))) q_M_depth lm_M_165 d_M_begin_29 (by decide) rfl (Nat.le_of_ble_eq_true rfl) rfl ?_
          refine v_iconst o.ok d_M_begin_32 ?_
          refine v_icmp_lt o.ok (by (have hA : 0 ≤ f ∧ f < M 22 0 := And.left (by assumption)); (have hd := hdep hA.1 hA.2); omega) (by (have hA : 0 ≤ f ∧ f < M 22 0 := And.left (by assumption)); (have hd := hdep hA.1 hA.2); omega) d_M_begin_33 (fun c33 => ?_) (fun c33 => ?_)
          · refine go ?_ (by omega)
            first | exact Or.inl (by omega) | exact Or.inr ⟨by assumption, by omega⟩
          · refine v_iconst o.ok d_M_begin_36 ?_
            refine m_iret o d_M_begin_37 ?_
            have e : r_begin M f = (-1, M) := pick_t (by first | exact Or.inl ⟨by omega, by assumption⟩ | exact Or.inr (Or.inl (by omega)) | exact Or.inr (Or.inr ⟨by omega, by omega⟩))
            rw [e]; exact ⟨rfl, rfl⟩

