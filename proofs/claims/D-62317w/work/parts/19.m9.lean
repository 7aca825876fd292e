def wr (z : Int) : Int := (Int32.ofInt z).toInt
theorem wr_in (z : Int) : InR (wr z) := i32_in _
theorem J_wr (z : Int) : J z = J (wr z) := by unfold J wr; rw [Int32.ofInt_toInt]
theorem wr_id {z : Int} (h : InR z) : wr z = z := i32_to h
theorem wr_add (a b : Int) : wr (wr a + b) = wr (a + b) := by
  unfold wr
  rw [Int32.ofInt_add, Int32.ofInt_toInt, Int32.ofInt_add]
section MRows2
variable {X : Cx} {E : Em} {M : MSt} {cc : ByteArray} {n lv : Nat} {rt : Option FieldType} {Q : Option Int → MSt → Prop} {pc nx tgt : Nat} {L L' : List (Nat × Value)} {G : List (Nat × Int64)} {st : List Value}
theorem m_putiw (o : OkM X E cc n rt lv Q) {i : Nat} {z : Int} (k : Nat) (hk : k < 39) (h0 : kndM k = 0) (hfin : (F_M k).2.2.2 = false) (hd0 : parseFieldDescriptor (F_M k).2.2.1 = some .int) (hf : Cond.fieldLink R_M i R_M (F_M k).2.1 (F_M k).2.2.1 ∈ tbG) (hF : (F_M k).1 = R_M) (d : dc cc pc (.putfield i) nx) (kk : V X (RelM E (up M k 0 (wr z))) nx L G st) (hn : pc + 3 = nx := by rfl) : V X (RelM E M) pc L G (J z :: .ref (Em.x E) :: st) := by
  rw [J_wr z]
  exact m_puti o k hk h0 hfin hd0 hf hF (wr_in z) d kk hn
end MRows2
set_option maxHeartbeats 4000000 in
set_option maxRecDepth 20000 in
theorem c_M_committed (t : Int) (M : MSt) (ht : InR t) (hr : 0 ≤ M 12 0 ∧ M 12 0 ≤ 300) : MF y_M_committed (wsOf y_M_committed b_M_committed 4 (some .boolean)) 0 [t] M (some (b01 (Cmt M t))) (M) := by
  refine MCon.of (by decide) rfl (Nat.le_of_ble_eq_true rfl) ?_
  intro X E o
  show V X (RelM E M) 0 [(0, .ref (Em.x E)), (1, J (t))] [] []
  have lp : ∀ (n : Nat) (r : Int), 0 ≤ r → r ≤ M 12 0 → M 12 0 - r ≤ n → V X (RelM E M) 4 [(0, .ref (Em.x E)), (1, J t), (2, J (b01 (exB (fun r => M 14 r = 4 ∧ M 15 r = t) 0 r))), (3, J r)] [] [] := by
    intro n
    induction n with
    | zero =>
      intro u h0 h1 h2
      refine v_iload_n (i := 3) o.ok d_M_committed_4 rfl rfl ?_
      refine v_aload_n (i := 0) o.ok d_M_committed_5 rfl rfl ?_
      refine m_geti o 12 (by decide) rfl lf_M_118 rfl d_M_committed_6 (fun i6 => ?_)
      refine v_icmp_ge o.ok (by omega) (by omega) d_M_committed_9 (fun c9 => ?_) (fun c9 => ?_)
      · refine v_iload_n (i := 2) o.ok d_M_committed_48 rfl rfl ?_
        refine m_zret o (by first | exact b01_or _ | omega | simp) d_M_committed_49 ⟨congrArg some (by rw [show u = M 12 0 from by omega]; rfl), rfl⟩
      · exfalso; omega
    | succ n ih =>
      intro u h0 h1 h2
      refine v_iload_n (i := 3) o.ok d_M_committed_4 rfl rfl ?_
      refine v_aload_n (i := 0) o.ok d_M_committed_5 rfl rfl ?_
      refine m_geti o 12 (by decide) rfl lf_M_118 rfl d_M_committed_6 (fun i6 => ?_)
      refine v_icmp_ge o.ok (by omega) (by omega) d_M_committed_9 (fun c9 => ?_) (fun c9 => ?_)
      · refine v_iload_n (i := 2) o.ok d_M_committed_48 rfl rfl ?_
        refine m_zret o (by first | exact b01_or _ | omega | simp) d_M_committed_49 ⟨congrArg some (by rw [show u = M 12 0 from by omega]; rfl), rfl⟩
      · refine v_iload_n (i := 2) o.ok d_M_committed_12 rfl rfl ?_
        first | refine v_ifne_b o.ok d_M_committed_13 (fun c13 => ?_) (fun c13 => ?_) | refine v_if_ne o.ok (by omega) d_M_committed_13 (fun c13 => ?_) (fun c13 => ?_)
        · refine v_iconst o.ok d_M_committed_36 ?_
          refine v_goto o.ok d_M_committed_37 ?_
          refine v_istore_n (i := 2) (L' := [(0, _), (1, _), (2, _), (3, _)]) (G' := []) o.ok d_M_committed_41 rfl (o.lt (by decide)) rfl rfl ?_
          refine v_iinc (i := 3) (L' := [(0, _), (1, _), (2, _), (3, _)]) (G' := []) o.ok d_M_committed_42 rfl (o.lt (by decide)) rfl rfl ?_
          refine v_goto o.ok d_M_committed_45 ?_
          have q := ih (u + 1) (by omega) (by omega) (by omega)
          first
            | (rw [exB_t (by omega) (Or.inl (by assumption))] at q; exact q)
            | (rw [exB_t (by omega) (Or.inr ⟨by omega, by omega⟩)] at q; exact q)
            | (rw [exB_f (by omega) (by assumption) (fun h => by obtain ⟨h1, h2⟩ := h; omega)] at q; exact q)
        · refine v_aload_n (i := 0) o.ok d_M_committed_16 rfl rfl ?_
          refine m_geta o 14 (by decide) (by decide) lf_M_38 rfl d_M_committed_17 ?_
          refine v_iload_n (i := 3) o.ok d_M_committed_20 rfl rfl ?_
          refine m_iald o 14 301 rfl rfl (by omega) d_M_committed_21 (fun i21 => ?_)
          refine v_iconst o.ok d_M_committed_22 ?_
          refine v_icmp_ne o.ok (by omega) (by omega) d_M_committed_23 (fun c23 => ?_) (fun c23 => ?_)
          · refine v_iconst o.ok d_M_committed_40 ?_
            refine v_istore_n (i := 2) (L' := [(0, _), (1, _), (2, _), (3, _)]) (G' := []) o.ok d_M_committed_41 rfl (o.lt (by decide)) rfl rfl ?_
            refine v_iinc (i := 3) (L' := [(0, _), (1, _), (2, _), (3, _)]) (G' := []) o.ok d_M_committed_42 rfl (o.lt (by decide)) rfl rfl ?_
            refine v_goto o.ok d_M_committed_45 ?_
            have q := ih (u + 1) (by omega) (by omega) (by omega)
            first
              | (rw [exB_t (by omega) (Or.inl (by assumption))] at q; exact q)
              | (rw [exB_t (by omega) (Or.inr ⟨by omega, by omega⟩)] at q; exact q)
              | (rw [exB_f (by omega) (by assumption) (fun h => by obtain ⟨h1, h2⟩ := h; omega)] at q; exact q)
          · refine v_aload_n (i := 0) o.ok d_M_committed_26 rfl rfl ?_
            refine m_geta o 15 (by decide) (by decide) lf_M_41 rfl d_M_committed_27 ?_
            refine v_iload_n (i := 3) o.ok d_M_committed_30 rfl rfl ?_
            refine m_iald o 15 301 rfl rfl (by omega) d_M_committed_31 (fun i31 => ?_)
            refine v_iload_n (i := 1) o.ok d_M_committed_32 rfl rfl ?_
            refine v_icmp_ne o.ok (by omega) (by omega) d_M_committed_33 (fun c33 => ?_) (fun c33 => ?_)
            · refine v_iconst o.ok d_M_committed_40 ?_
              refine v_istore_n (i := 2) (L' := [(0, _), (1, _), (2, _), (3, _)]) (G' := []) o.ok d_M_committed_41 rfl (o.lt (by decide)) rfl rfl ?_
              refine v_iinc (i := 3) (L' := [(0, _), (1, _), (2, _), (3, _)]) (G' := []) o.ok d_M_committed_42 rfl (o.lt (by decide)) rfl rfl ?_
              refine v_goto o.ok d_M_committed_45 ?_
              have q := ih (u + 1) (by omega) (by omega) (by omega)
              first
                | (rw [exB_t (by omega) (Or.inl (by assumption))] at q; exact q)
                | (rw [exB_t (by omega) (Or.inr ⟨by omega, by omega⟩)] at q; exact q)
                | (rw [exB_f (by omega) (by assumption) (fun h => by obtain ⟨h1, h2⟩ := h; omega)] at q; exact q)
            · refine v_iconst o.ok d_M_committed_36 ?_
              refine v_goto o.ok d_M_committed_37 ?_
              refine v_istore_n (i := 2) (L' := [(0, _), (1, _), (2, _), (3, _)]) (G' := []) o.ok d_M_committed_41 rfl (o.lt (by decide)) rfl rfl ?_
              refine v_iinc (i := 3) (L' := [(0, _), (1, _), (2, _), (3, _)]) (G' := []) o.ok d_M_committed_42 rfl (o.lt (by decide)) rfl rfl ?_
              refine v_goto o.ok d_M_committed_45 ?_
              have q := ih (u + 1) (by omega) (by omega) (by omega)
              first
                | (rw [exB_t (by omega) (Or.inl (by assumption))] at q; exact q)
                | (rw [exB_t (by omega) (Or.inr ⟨by omega, by omega⟩)] at q; exact q)
                | (rw [exB_f (by omega) (by assumption) (fun h => by obtain ⟨h1, h2⟩ := h; omega)] at q; exact q)
  refine v_iconst o.ok d_M_committed_0 ?_
  refine v_istore_n (i := 2) (L' := [(0, _), (1, _), (2, _)]) (G' := []) o.ok d_M_committed_1 rfl (o.lt (by decide)) rfl rfl ?_
  refine v_iconst o.ok d_M_committed_2 ?_
  refine v_istore_n (i := 3) (L' := [(0, _), (1, _), (2, _), (3, _)]) (G' := []) o.ok d_M_committed_3 rfl (o.lt (by decide)) rfl rfl ?_
  have q := lp (M 12 0).toNat 0 (by omega) (by omega) (by omega)
  rw [b01_f (exB_nil (by omega))] at q
  exact q
set_option maxHeartbeats 4000000 in
set_option maxRecDepth 20000 in
theorem c_M_commit (t : Int) (M : MSt) (ht : InR t) (hf : WF M) : MF y_M_commit (wsOf y_M_commit b_M_commit 6 (some .int)) 2 [t] M (some (r_commit M t).1) ((r_commit M t).2) := by
  refine MCon.of (by decide) rfl (Nat.le_of_ble_eq_true rfl) ?_
  intro X E o
  show V X (RelM E M) 0 [(0, .ref (Em.x E)), (1, J (t))] [] []
  have hb := hf.base
  have hr := hf.recs
  have hm := hf.many
  have fin : ∀ (h1 : Act M t) (h2 : ¬ Bsy M t), V X (RelM E (cm2 M t)) 128 [(0, .ref (Em.x E)), (1, J t), (2, J (M 12 0)), (3, J (M 24 t))] [] [] := by
    intro h1 h2
    have hp := hf.par.2.2 t h1.1.1 h1.1.2
    have el : lst (cm2 M t) = M 11 0 + M 12 0 + 1 := by
      unfold lst cm2
      split
      · show M 11 0 + (M 12 0 + 1) = _
        omega
      · show M 11 0 + (M 12 0 + 1) = _
        omega
    have e : r_commit M t = (0, cmt M t) := (pick_t h1).trans (pick_f h2)
    have ef : cm2 M t 13 0 = M 13 0 := by
      unfold cm2
      split <;> rfl
    have hlt : t < 60 := by have := h1.1.2; omega
    refine v_aload_n (i := 0) o.ok d_M_commit_128 rfl rfl ?_
    refine v_iload_n (i := 3) o.ok d_M_commit_129 rfl rfl ?_
    refine v_if_ge o.ok (by omega) d_M_commit_130 (fun c130 => ?_) (fun c130 => ?_)
    · refine v_aload_n (i := 0) o.ok d_M_commit_140 rfl rfl ?_
      refine m_geti o 13 (by decide) rfl lf_M_105 rfl d_M_commit_141 (fun i141 => ?_)
      (try rw [ef])
      (try rw [ef] at i141)
      refine m_puti o 13 (by decide) rfl rfl rfl lf_M_105 rfl (by omega) d_M_commit_144 ?_
      refine v_aload_n (i := 0) o.ok d_M_commit_147 rfl rfl ?_
      refine v_iload_n (i := 1) o.ok d_M_commit_148 rfl rfl ?_
      refine m_cfv o (c_M_unlock t _ ⟨h1.1.1, hlt⟩) q_M_unlock lm_M_245 d_M_commit_149 (by decide) rfl (Nat.le_of_ble_eq_true rfl) rfl ?_
      refine v_iconst o.ok d_M_commit_152 ?_
      refine m_iret o d_M_commit_153 ?_
      rw [e]
      refine ⟨rfl, ?_⟩
      show _ = cmt M t
      unfold cmt
      first | rw [if_pos (by omega)] | rw [if_neg (by omega)]
    · refine v_aload_n (i := 0) o.ok d_M_commit_133 rfl rfl ?_
      refine m_cf o (c_M_last' _ _ el) q_M_last lm_M_128 d_M_commit_134 (by decide) rfl (Nat.le_of_ble_eq_true rfl) rfl ?_
      refine v_goto o.ok d_M_commit_137 ?_
      (try rw [ef])
      (try rw [ef] at i141)
      refine m_puti o 13 (by decide) rfl rfl rfl lf_M_105 rfl (by omega) d_M_commit_144 ?_
      refine v_aload_n (i := 0) o.ok d_M_commit_147 rfl rfl ?_
      refine v_iload_n (i := 1) o.ok d_M_commit_148 rfl rfl ?_
      refine m_cfv o (c_M_unlock t _ ⟨h1.1.1, hlt⟩) q_M_unlock lm_M_245 d_M_commit_149 (by decide) rfl (Nat.le_of_ble_eq_true rfl) rfl ?_
      refine v_iconst o.ok d_M_commit_152 ?_
      refine m_iret o d_M_commit_153 ?_
      rw [e]
      refine ⟨rfl, ?_⟩
      show _ = cmt M t
      unfold cmt
      first | rw [if_pos (by omega)] | rw [if_neg (by omega)]
  have lp : ∀ (h1 : Act M t) (h2 : ¬ Bsy M t) (h3 : 0 ≤ M 24 t) (n : Nat) (k : Int), 0 ≤ k → k + n = 33 → V X (RelM E (inhN (cm1 M t) t (M 24 t) k)) 51 [(0, .ref (Em.x E)), (1, J t), (2, J (M 12 0)), (3, J (M 24 t)), (4, J k)] [] [] := by
    intro h1 h2 h3 n
    have hp := hf.par.2.2 t h1.1.1 h1.1.2
    have hlt := h1.1.2
    induction n with
    | zero =>
      intro k h4 h5
      refine v_iload (i := 4) o.ok d_M_commit_51 rfl ?_
      refine v_bipush o.ok d_M_commit_53 rfl ?_
      refine v_icmp_ge o.ok (by omega) (by omega) d_M_commit_55 (fun c55 => ?_) (fun c55 => ?_)
      · rw [show k = 33 from by omega, show inhN (cm1 M t) t (M 24 t) 33 = cm2 M t from (if_pos h3).symm]
        exact v_sel [0, 1, 2, 3] [] rfl rfl (fin h1 h2)
      · exfalso; omega
    | succ n ih =>
      intro k h4 h5
      have e1 : inhN (cm1 M t) t (M 24 t) k 26 (33 * t + k) = M 26 (33 * t + k) := by
        unfold inhN
        rw [if_neg (by omega)]
        rfl
      have e2 : inhN (cm1 M t) t (M 24 t) k 26 (33 * M 24 t + k) = M 26 (33 * M 24 t + k) := by
        unfold inhN
        rw [if_neg (by omega)]
        rfl
      have e3 := inhN_s (cm1 M t) t (M 24 t) h4
      refine v_iload (i := 4) o.ok d_M_commit_51 rfl ?_
      refine v_bipush o.ok d_M_commit_53 rfl ?_
      refine v_icmp_ge o.ok (by omega) (by omega) d_M_commit_55 (fun c55 => ?_) (fun c55 => ?_)
      · exfalso; omega
      · refine v_iload_n (i := 3) o.ok d_M_commit_58 rfl rfl ?_
        refine v_if_lt o.ok (by omega) d_M_commit_59 (fun c59 => ?_) (fun c59 => ?_)
        · exfalso; omega
        · refine v_aload_n (i := 0) o.ok d_M_commit_62 rfl rfl ?_
          refine m_geta o 26 (by decide) (by decide) lf_M_71 rfl d_M_commit_63 ?_
          refine v_bipush o.ok d_M_commit_66 rfl ?_
          refine v_iload_n (i := 1) o.ok d_M_commit_68 rfl rfl ?_
          refine v_imul o.ok d_M_commit_69 ?_
          refine v_iload (i := 4) o.ok d_M_commit_70 rfl ?_
          refine v_iadd o.ok d_M_commit_72 ?_
          refine m_iald o 26 1980 rfl rfl (by omega) d_M_commit_73 (fun i73 => ?_)
          rw [e1] at i73 ⊢
          refine v_istore (i := 5) (L' := [(0, _), (1, _), (2, _), (3, _), (4, _), (5, _)]) (G' := []) o.ok d_M_commit_74 (o.lt (by decide)) rfl rfl ?_
          refine v_aload_n (i := 0) o.ok d_M_commit_76 rfl rfl ?_
          refine m_geta o 26 (by decide) (by decide) lf_M_71 rfl d_M_commit_77 ?_
          refine v_bipush o.ok d_M_commit_80 rfl ?_
          refine v_iload_n (i := 3) o.ok d_M_commit_82 rfl rfl ?_
          refine v_imul o.ok d_M_commit_83 ?_
          refine v_iload (i := 4) o.ok d_M_commit_84 rfl ?_
          refine v_iadd o.ok d_M_commit_86 ?_
          refine v_iload (i := 5) o.ok d_M_commit_87 rfl ?_
          refine v_aload_n (i := 0) o.ok d_M_commit_89 rfl rfl ?_
          refine m_geta o 26 (by decide) (by decide) lf_M_71 rfl d_M_commit_90 ?_
          refine v_bipush o.ok d_M_commit_93 rfl ?_
          refine v_iload_n (i := 3) o.ok d_M_commit_95 rfl rfl ?_
          refine v_imul o.ok d_M_commit_96 ?_
          refine v_iload (i := 4) o.ok d_M_commit_97 rfl ?_
          refine v_iadd o.ok d_M_commit_99 ?_
          refine m_iald o 26 1980 rfl rfl (by omega) d_M_commit_100 (fun i100 => ?_)
          rw [e2] at i100 ⊢
          refine v_icmp_le o.ok (by omega) (by omega) d_M_commit_101 (fun c101 => ?_) (fun c101 => ?_)
          · refine v_aload_n (i := 0) o.ok d_M_commit_109 rfl rfl ?_
            refine m_geta o 26 (by decide) (by decide) lf_M_71 rfl d_M_commit_110 ?_
            refine v_bipush o.ok d_M_commit_113 rfl ?_
            refine v_iload_n (i := 3) o.ok d_M_commit_115 rfl rfl ?_
            refine v_imul o.ok d_M_commit_116 ?_
            refine v_iload (i := 4) o.ok d_M_commit_117 rfl ?_
            refine v_iadd o.ok d_M_commit_119 ?_
            refine m_iald o 26 1980 rfl rfl (by omega) d_M_commit_120 (fun i120 => ?_)
            (try rw [e2] at i120 ⊢)
            refine m_iast o 26 1980 rfl rfl (by omega) (by omega) d_M_commit_121 ?_
            refine v_iinc (i := 4) (L' := [(0, _), (1, _), (2, _), (3, _), (4, _), (5, _)]) (G' := []) o.ok d_M_commit_122 rfl (o.lt (by decide)) rfl rfl ?_
            refine v_goto o.ok d_M_commit_125 ?_
            refine v_sel [0, 1, 2, 3, 4] [] (L' := [(0, _), (1, _), (2, _), (3, _), (4, _)]) (G' := []) rfl rfl ?_
            have z := ih (k + 1) (by omega) (by omega)
            rw [← e3] at z
            first
              | (rw [if_pos (show cm1 M t 26 (33 * M 24 t + k) < cm1 M t 26 (33 * t + k) from (by assumption))] at z; exact z)
              | (rw [if_neg (show ¬ cm1 M t 26 (33 * M 24 t + k) < cm1 M t 26 (33 * t + k) from Int.not_lt.mpr (by assumption))] at z; exact z)
          · refine v_iload (i := 5) o.ok d_M_commit_104 rfl ?_
            refine v_goto o.ok d_M_commit_106 ?_
            (try rw [e2] at i120 ⊢)
            refine m_iast o 26 1980 rfl rfl (by omega) (by omega) d_M_commit_121 ?_
            refine v_iinc (i := 4) (L' := [(0, _), (1, _), (2, _), (3, _), (4, _), (5, _)]) (G' := []) o.ok d_M_commit_122 rfl (o.lt (by decide)) rfl rfl ?_
            refine v_goto o.ok d_M_commit_125 ?_
            refine v_sel [0, 1, 2, 3, 4] [] (L' := [(0, _), (1, _), (2, _), (3, _), (4, _)]) (G' := []) rfl rfl ?_
            have z := ih (k + 1) (by omega) (by omega)
            rw [← e3] at z
            first
              | (rw [if_pos (show cm1 M t 26 (33 * M 24 t + k) < cm1 M t 26 (33 * t + k) from (by assumption))] at z; exact z)
              | (rw [if_neg (show ¬ cm1 M t 26 (33 * M 24 t + k) < cm1 M t 26 (33 * t + k) from Int.not_lt.mpr (by assumption))] at z; exact z)
  refine v_aload_n (i := 0) o.ok d_M_commit_0 rfl rfl ?_
  refine v_iload_n (i := 1) o.ok d_M_commit_1 rfl rfl ?_
  refine m_cf o (c_M_active t M ht hm.2) q_M_active lm_M_162 d_M_commit_2 (by decide) rfl (Nat.le_of_ble_eq_true rfl) rfl ?_
  first | refine v_ifne_b o.ok d_M_commit_5 (fun c5 => ?_) (fun c5 => ?_) | refine v_if_ne o.ok (by omega) d_M_commit_5 (fun c5 => ?_) (fun c5 => ?_)
  · have hA : 0 ≤ t ∧ t < M 22 0 := And.left (by assumption)
    have hp := hf.par.2.2 t hA.1 hA.2
    refine v_aload_n (i := 0) o.ok d_M_commit_10 rfl rfl ?_
    refine v_iload_n (i := 1) o.ok d_M_commit_11 rfl rfl ?_
    refine m_cf o (c_M_busy t M ht hm) q_M_busy lm_M_233 d_M_commit_12 (by decide) rfl (Nat.le_of_ble_eq_true rfl) rfl ?_
    first | refine v_ifeq_b o.ok d_M_commit_15 (fun c15 => ?_) (fun c15 => ?_) | refine v_if_eq o.ok (by omega) d_M_commit_15 (fun c15 => ?_) (fun c15 => ?_)
    · refine v_aload_n (i := 0) o.ok d_M_commit_21 rfl rfl ?_
      refine v_iconst o.ok d_M_commit_22 ?_
      refine v_iload_n (i := 1) o.ok d_M_commit_23 rfl rfl ?_
      refine v_iconst o.ok d_M_commit_24 ?_
      refine m_cf o (c_M_append 4 t 0 M hr (by decide) ht (by decide)) q_M_append lm_M_121 d_M_commit_25 (by decide) rfl (Nat.le_of_ble_eq_true rfl) rfl ?_
      refine v_istore_n (i := 2) (L' := [(0, _), (1, _), (2, _)]) (G' := []) o.ok d_M_commit_28 rfl (o.lt (by decide)) rfl rfl ?_
      refine v_aload_n (i := 0) o.ok d_M_commit_29 rfl rfl ?_
      refine m_geta o 23 (by decide) (by decide) lf_M_62 rfl d_M_commit_30 ?_
      refine v_aload_n (i := 0) o.ok d_M_commit_33 rfl rfl ?_
      refine m_geta o 15 (by decide) (by decide) lf_M_41 rfl d_M_commit_34 ?_
      refine v_iload_n (i := 2) o.ok d_M_commit_37 rfl rfl ?_
      refine m_iald o 15 301 rfl rfl (by omega) d_M_commit_38 (fun i38 => ?_)
      rw [show app M 4 t 0 15 (M 12 0) = t from app_by _ _ _ _]
      refine v_iconst o.ok d_M_commit_39 ?_
      refine m_iast o 23 60 rfl rfl (by omega) (by omega) d_M_commit_40 ?_
      refine v_aload_n (i := 0) o.ok d_M_commit_41 rfl rfl ?_
      refine m_geta o 24 (by decide) (by decide) lf_M_65 rfl d_M_commit_42 ?_
      refine v_iload_n (i := 1) o.ok d_M_commit_45 rfl rfl ?_
      refine m_iald o 24 60 rfl rfl (by omega) d_M_commit_46 (fun i46 => ?_)
      rw [show up (app M 4 t 0) 23 t 3 24 t = M 24 t from rfl]
      refine v_istore_n (i := 3) (L' := [(0, _), (1, _), (2, _), (3, _)]) (G' := []) o.ok d_M_commit_47 rfl (o.lt (by decide)) rfl rfl ?_
      refine v_iconst o.ok d_M_commit_48 ?_
      refine v_istore (i := 4) (L' := [(0, _), (1, _), (2, _), (3, _), (4, _)]) (G' := []) o.ok d_M_commit_49 (o.lt (by decide)) rfl rfl ?_
      by_cases hpp : 0 ≤ M 24 t
      · have z := lp (by assumption) (by assumption) hpp 33 0 (by omega) (by omega)
        rw [inhN_0] at z
        exact z
      · have i45 : InR (M 24 t) := ⟨by omega, by omega⟩
        refine v_iload (i := 4) o.ok d_M_commit_51 rfl ?_
        refine v_bipush o.ok d_M_commit_53 rfl ?_
        refine v_icmp_ge o.ok (by decide) (by decide) d_M_commit_55 (fun c55 => absurd c55 (by decide)) (fun c55 => ?_)
        refine v_iload_n (i := 3) o.ok d_M_commit_58 rfl rfl ?_
        refine v_if_lt o.ok i45 d_M_commit_59 (fun c59 => ?_) (fun c59 => absurd c59 hpp)
        rw [show up (app M 4 t 0) 23 t 3 = cm2 M t from (if_neg hpp).symm]
        exact v_sel [0, 1, 2, 3] [] rfl rfl (fin (by assumption) (by assumption))
    · refine v_bipush o.ok d_M_commit_18 rfl ?_
      refine m_iret o d_M_commit_20 ?_
      first
        | (have e : r_commit M t = (-1, M) := pick_f (by assumption)
           rw [e]; exact ⟨rfl, rfl⟩)
        | (have e : r_commit M t = (-4, M) := (pick_t (by assumption)).trans (pick_t (by assumption))
           rw [e]; exact ⟨rfl, rfl⟩)
  · refine v_iconst o.ok d_M_commit_8 ?_
    refine m_iret o d_M_commit_9 ?_
    first
      | (have e : r_commit M t = (-1, M) := pick_f (by assumption)
         rw [e]; exact ⟨rfl, rfl⟩)
      | (have e : r_commit M t = (-4, M) := (pick_t (by assumption)).trans (pick_t (by assumption))
         rw [e]; exact ⟨rfl, rfl⟩)

