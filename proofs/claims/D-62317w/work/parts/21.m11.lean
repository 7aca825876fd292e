theorem scl_t {M : MSt} {n : Nat} {k : Int} (h : thr M k = 1) : scl M (n + 1) k = k :: scl M n (k + 1) := if_pos h
theorem scl_f {M : MSt} {n : Nat} {k : Int} (h : ¬ thr M k = 1) : scl M (n + 1) k = scl M n (k + 1) := if_neg h
def wnt (Z : MSt) (i : Int) : MSt := up (up Z 31 (Z 30 0) i) 30 0 (Z 30 0 + 1)
theorem Its.wnt {Z : MSt} {l : List Int} (h : Its Z l) (i : Int) : Its (wnt Z i) (l ++ [i]) := h.snoc i
theorem Its_nil {Z : MSt} (h : Z 30 0 = 0) : Its Z [] := ⟨h, fun k x hk => by simp at hk⟩
theorem Its.c {Z Z' : MSt} {l : List Int} (h : Its Z l) (h1 : Z' 30 = Z 30) (h2 : Z' 31 = Z 31) : Its Z' l := ⟨by rw [h1]; exact h.1, fun k x hk => by rw [h2]; exact h.2 k x hk⟩
theorem c_wantS (i : Int) (M Z : MSt) (hi : InR i) (hw : 0 ≤ Z 30 0 ∧ Z 30 0 < 33) : MF y_M_want (wsOf y_M_want b_M_want 2 none) 0 [i] (sset M Z) none (sset M (wnt Z i)) := by
  have h := c_M_want i (sset M Z) hi hw
  rw [sset_sc rfl, sset_sc rfl] at h
  exact h
theorem c_isTS (k : Int) (M Z : MSt) (hk : 0 ≤ k ∧ k ≤ 31) : MF y_M_isThereNow (wsOf y_M_isThereNow b_M_isThereNow 2 (some .boolean)) 0 [k] (sset M Z) (some (thr M k)) (sset M Z) := c_M_isThereNow k (sset M Z) hk
theorem c_nextS (k : Int) (M Z : MSt) (hk : 0 ≤ k ∧ k ≤ 31) : MF y_M_next (wsOf y_M_next b_M_next 3 (some .int)) 1 [k] (sset M Z) (some (nxt M k)) (sset M Z) := by
  rw [← nxt_sset M Z]
  exact c_M_next k (sset M Z) hk
/-- Z is M but for the request's own scratch -/
def Kp (M Z : MSt) : Prop := ∀ (f : Nat) (i : Int), f ≠ 30 → f ≠ 31 → f ≠ 32 → Z f i = M f i
theorem Kp.rf (M : MSt) : Kp M M := fun _ _ _ _ _ => rfl
theorem Kp.wnt {M Z : MSt} {x : Int} (h : Kp M Z) : Kp M (wnt Z x) := fun f i a b c => by
  show up (up Z 31 (Z 30 0) x) 30 0 (Z 30 0 + 1) f i = _
  rw [up_ne (fun q => a q.1), up_ne (fun q => b q.1)]
  exact h f i a b c
theorem Kp.w {M Z : MSt} {i x : Int} (h : Kp M Z) : Kp M (up Z 30 i x) := fun f j a b c => by rw [up_ne (fun q => a q.1)]; exact h f j a b c
theorem Kp.m {M Z : MSt} {i x : Int} (h : Kp M Z) : Kp M (up Z 32 i x) := fun f j a b c => by rw [up_ne (fun q => c q.1)]; exact h f j a b c
set_option maxHeartbeats 4000000 in
set_option maxRecDepth 20000 in
theorem c_M_needs (w a b : Int) (M : MSt) (h : ReqOk w a b) (hb : InR b) : MV y_M_needs (wsOf y_M_needs b_M_needs 6 none) 2 [w, a, b] M (fun M' => ∃ Z, M' = sset M Z ∧ Its Z (nds M w a b) ∧ Z 32 0 = mdo M w a ∧ Kp M Z) := by
  refine MCon.of (by decide) rfl (Nat.le_of_ble_eq_true rfl) ?_
  intro X E o
  show V X (RelM E M) 0 [(0, .ref (Em.x E)), (1, J (w)), (2, J (a)), (3, J (b))] [] []
  have ha : 0 ≤ a ∧ a ≤ 31 := by rcases h with h | h <;> omega
  have hw : 1 ≤ w ∧ w ≤ 4 := by rcases h with h | h <;> omega
  have hna := nxt_bd (M := M) ha.2
  have lp : w = 4 → ∀ (n : Nat) (k : Int) (Z : MSt) (l : List Int), a ≤ k → k + n = b + 1 → Its Z l → (l.length : Int) ≤ k - a → l ++ scl M n k = scl M (b - a + 1).toNat a → Z 32 0 = mdo M w a → Kp M Z → V X (RelM E (sset M Z)) 44 [(0, .ref (Em.x E)), (1, J w), (2, J a), (3, J b), (4, J (thr M a)), (5, J k)] [] [] := by
    intro hw4 n
    have hbb : a ≤ b ∧ b ≤ 31 := by rcases h with h | h <;> omega
    have hnb := nxt_bd (M := M) hbb.2
    induction n with
    | zero =>
      intro k Z l h0 h1 h2 h3 h4 h5 hK
      have hz := h2.1
      refine v_iload (i := 5) o.ok d_M_needs_44 rfl ?_
      refine v_iload_n (i := 3) o.ok d_M_needs_46 rfl rfl ?_
      refine v_icmp_gt o.ok (by omega) (by omega) d_M_needs_47 (fun c47 => ?_) (fun c47 => ?_)
      · refine v_aload_n (i := 0) o.ok d_M_needs_71 rfl rfl ?_
        refine v_aload_n (i := 0) o.ok d_M_needs_72 rfl rfl ?_
        refine v_iload_n (i := 3) o.ok d_M_needs_73 rfl rfl ?_
        refine m_cf o (c_nextS b M Z (by omega)) q_M_next lm_M_184 d_M_needs_74 (by decide) rfl (Nat.le_of_ble_eq_true rfl) rfl ?_
        refine m_cfv o (c_wantS (nxt M b) M Z (by omega) (by omega)) q_M_want lm_M_181 d_M_needs_77 (by decide) rfl (Nat.le_of_ble_eq_true rfl) rfl ?_
        refine v_goto o.ok d_M_needs_80 ?_
        refine m_vret o d_M_needs_143 ?_
        refine ⟨rfl, _, rfl, ?_, h5, hK.wnt⟩
        have e : nds M w a b = l ++ [nxt M b] := by
          unfold nds
          rw [if_pos hw4, ← h4]
          unfold scl
          rw [List.append_nil]
        rw [e]
        exact h2.wnt _
      · exfalso; omega
    | succ n ih =>
      intro k Z l h0 h1 h2 h3 h4 h5 hK
      have hz := h2.1
      refine v_iload (i := 5) o.ok d_M_needs_44 rfl ?_
      refine v_iload_n (i := 3) o.ok d_M_needs_46 rfl rfl ?_
      refine v_icmp_gt o.ok (by omega) (by omega) d_M_needs_47 (fun c47 => ?_) (fun c47 => ?_)
      · exfalso; omega
      · refine v_aload_n (i := 0) o.ok d_M_needs_50 rfl rfl ?_
        refine v_iload (i := 5) o.ok d_M_needs_51 rfl ?_
        refine m_cf o (c_isTS k M Z (by omega)) q_M_isThereNow lm_M_172 d_M_needs_53 (by decide) rfl (Nat.le_of_ble_eq_true rfl) rfl ?_
        refine V.get (fun H hR => (show thr M k = 0 ∨ thr M k = 1 from by rw [← thr_sset M Z]; unfold thr; split; exact hR.2.2.2.2.2.2 4 _ rfl; exact hR.2.2.2.2.2.2 1 _ rfl)) (fun i56 => ?_)
        refine v_if_eq o.ok (by omega) d_M_needs_56 (fun c56 => ?_) (fun c56 => ?_)
        · refine v_iinc (i := 5) (L' := [(0, _), (1, _), (2, _), (3, _), (4, _), (5, _)]) (G' := []) o.ok d_M_needs_65 rfl (o.lt (by decide)) rfl rfl ?_
          refine v_goto o.ok d_M_needs_68 ?_
          first
            | (rw [scl_t (by omega)] at h4
               exact ih (k + 1) _ (l ++ [k]) (by omega) (by omega) (h2.wnt k) (by rw [List.length_append]; simp; omega) (by rw [List.append_assoc]; exact h4) h5 hK.wnt)
            | (rw [scl_f (by omega)] at h4
               exact ih (k + 1) _ l (by omega) (by omega) h2 (by omega) h4 h5 hK)
        · refine v_aload_n (i := 0) o.ok d_M_needs_59 rfl rfl ?_
          refine v_iload (i := 5) o.ok d_M_needs_60 rfl ?_
          refine m_cfv o (c_wantS k M Z (by omega) (by omega)) q_M_want lm_M_181 d_M_needs_62 (by decide) rfl (Nat.le_of_ble_eq_true rfl) rfl ?_
          refine v_iinc (i := 5) (L' := [(0, _), (1, _), (2, _), (3, _), (4, _), (5, _)]) (G' := []) o.ok d_M_needs_65 rfl (o.lt (by decide)) rfl rfl ?_
          refine v_goto o.ok d_M_needs_68 ?_
          first
            | (rw [scl_t (by omega)] at h4
               exact ih (k + 1) _ (l ++ [k]) (by omega) (by omega) (h2.wnt k) (by rw [List.length_append]; simp; omega) (by rw [List.append_assoc]; exact h4) h5 hK.wnt)
            | (rw [scl_f (by omega)] at h4
               exact ih (k + 1) _ l (by omega) (by omega) h2 (by omega) h4 h5 hK)
  suffices H : ∀ Z, Kp M Z → V X (RelM E (sset M Z)) 0 [(0, .ref (Em.x E)), (1, J w), (2, J a), (3, J b)] [] [] by
    have := H M (Kp.rf M)
    rwa [sset_self] at this
  intro Z hK
  refine v_aload_n (i := 0) o.ok d_M_needs_0 rfl rfl ?_
  refine v_iconst o.ok d_M_needs_1 ?_
  refine m_puti o 30 (by decide) rfl rfl rfl lf_M_175 rfl (by omega) d_M_needs_2 ?_
  rw [sset_sc rfl]
  refine v_aload_n (i := 0) o.ok d_M_needs_5 rfl rfl ?_
  refine v_iload_n (i := 2) o.ok d_M_needs_6 rfl rfl ?_
  refine m_cf o (c_isTS a M _ ha) q_M_isThereNow lm_M_172 d_M_needs_7 (by decide) rfl (Nat.le_of_ble_eq_true rfl) rfl ?_
  refine V.get (fun H hR => (show thr M a = 0 ∨ thr M a = 1 from by rw [← thr_sset M (up Z 30 0 0)]; unfold thr; split; exact hR.2.2.2.2.2.2 4 _ rfl; exact hR.2.2.2.2.2.2 1 _ rfl)) (fun i10 => ?_)
  refine v_istore (i := 4) (L' := [(0, _), (1, _), (2, _), (3, _), (4, _)]) (G' := []) o.ok d_M_needs_10 (o.lt (by decide)) rfl rfl ?_
  refine v_aload_n (i := 0) o.ok d_M_needs_12 rfl rfl ?_
  refine v_iload_n (i := 1) o.ok d_M_needs_13 rfl rfl ?_
  refine v_iconst o.ok d_M_needs_14 ?_
  refine v_icmp_eq o.ok (by omega) (by omega) d_M_needs_15 (fun c15 => ?_) (fun c15 => ?_)
  · refine v_iconst o.ok d_M_needs_28 ?_
    refine v_goto o.ok d_M_needs_29 ?_
    refine m_puti o 32 (by decide) rfl rfl rfl lf_M_178 rfl (by omega) d_M_needs_33 ?_
    rw [sset_sc rfl]
    refine v_iload_n (i := 1) o.ok d_M_needs_36 rfl rfl ?_
    refine v_iconst o.ok d_M_needs_37 ?_
    refine v_icmp_ne o.ok (by omega) (by omega) d_M_needs_38 (fun c38 => ?_) (fun c38 => ?_)
    · refine v_iload_n (i := 1) o.ok d_M_needs_83 rfl rfl ?_
      refine v_iconst o.ok d_M_needs_84 ?_
      refine v_icmp_eq o.ok (by omega) (by omega) d_M_needs_85 (fun c85 => ?_) (fun c85 => ?_)
      · refine v_aload_n (i := 0) o.ok d_M_needs_98 rfl rfl ?_
        refine v_iload (i := 4) o.ok d_M_needs_99 rfl ?_
        refine v_if_eq o.ok (by omega) d_M_needs_101 (fun c101 => ?_) (fun c101 => ?_)
        · refine v_aload_n (i := 0) o.ok d_M_needs_108 rfl rfl ?_
          refine v_iload_n (i := 2) o.ok d_M_needs_109 rfl rfl ?_
          refine m_cf o (c_nextS a M _ ha) q_M_next lm_M_184 d_M_needs_110 (by decide) rfl (Nat.le_of_ble_eq_true rfl) rfl ?_
          refine m_cfv o (c_wantS _ M _ (by omega) ⟨by simp only [wnt, up, Nat.reduceEqDiff, false_and, if_false, and_self, if_true]; decide, by simp only [wnt, up, Nat.reduceEqDiff, false_and, if_false, and_self, if_true]; decide⟩) q_M_want lm_M_181 d_M_needs_113 (by decide) rfl (Nat.le_of_ble_eq_true rfl) rfl ?_
          refine v_goto o.ok d_M_needs_116 ?_
          refine m_vret o d_M_needs_143 ?_
          first
            | (exfalso; omega)
            | (refine ⟨rfl, _, rfl, ?_, ?_, by first | exact hK.w.m.wnt | exact hK.w.m.wnt.wnt⟩
               · unfold nds
                 rw [if_neg (by omega)]
                 first
                   | (rw [if_pos (by omega), if_pos (by omega)]; exact (Its_nil rfl).wnt _)
                   | (rw [if_pos (by omega), if_neg (by omega)]; exact (Its_nil rfl).wnt _)
                   | (rw [if_neg (by omega), if_pos (by omega)]; exact ((Its_nil rfl).wnt _).wnt _)
                   | (rw [if_neg (by omega), if_neg (by omega)]; exact (Its_nil rfl).wnt _)
               · unfold mdo
                 first
                   | (rw [if_pos (by omega)]; rfl)
                   | (rw [if_neg (by omega)]; rfl))
        · refine v_iload_n (i := 2) o.ok d_M_needs_104 rfl rfl ?_
          refine v_goto o.ok d_M_needs_105 ?_
          refine m_cfv o (c_wantS _ M _ (by omega) ⟨by simp only [wnt, up, Nat.reduceEqDiff, false_and, if_false, and_self, if_true]; decide, by simp only [wnt, up, Nat.reduceEqDiff, false_and, if_false, and_self, if_true]; decide⟩) q_M_want lm_M_181 d_M_needs_113 (by decide) rfl (Nat.le_of_ble_eq_true rfl) rfl ?_
          refine v_goto o.ok d_M_needs_116 ?_
          refine m_vret o d_M_needs_143 ?_
          first
            | (exfalso; omega)
            | (refine ⟨rfl, _, rfl, ?_, ?_, by first | exact hK.w.m.wnt | exact hK.w.m.wnt.wnt⟩
               · unfold nds
                 rw [if_neg (by omega)]
                 first
                   | (rw [if_pos (by omega), if_pos (by omega)]; exact (Its_nil rfl).wnt _)
                   | (rw [if_pos (by omega), if_neg (by omega)]; exact (Its_nil rfl).wnt _)
                   | (rw [if_neg (by omega), if_pos (by omega)]; exact ((Its_nil rfl).wnt _).wnt _)
                   | (rw [if_neg (by omega), if_neg (by omega)]; exact (Its_nil rfl).wnt _)
               · unfold mdo
                 first
                   | (rw [if_pos (by omega)]; rfl)
                   | (rw [if_neg (by omega)]; rfl))
      · refine v_iload_n (i := 1) o.ok d_M_needs_88 rfl rfl ?_
        refine v_iconst o.ok d_M_needs_89 ?_
        refine v_icmp_ne o.ok (by omega) (by omega) d_M_needs_90 (fun c90 => ?_) (fun c90 => ?_)
        · refine v_iload_n (i := 1) o.ok d_M_needs_119 rfl rfl ?_
          refine v_iconst o.ok d_M_needs_120 ?_
          refine v_icmp_eq o.ok (by omega) (by omega) d_M_needs_121 (fun c121 => ?_) (fun c121 => ?_)
          · refine v_aload_n (i := 0) o.ok d_M_needs_129 rfl rfl ?_
            refine v_aload_n (i := 0) o.ok d_M_needs_130 rfl rfl ?_
            refine v_iload_n (i := 2) o.ok d_M_needs_131 rfl rfl ?_
            refine m_cf o (c_nextS a M _ ha) q_M_next lm_M_184 d_M_needs_132 (by decide) rfl (Nat.le_of_ble_eq_true rfl) rfl ?_
            refine m_cfv o (c_wantS _ M _ (by omega) ⟨by simp only [wnt, up, Nat.reduceEqDiff, false_and, if_false, and_self, if_true]; decide, by simp only [wnt, up, Nat.reduceEqDiff, false_and, if_false, and_self, if_true]; decide⟩) q_M_want lm_M_181 d_M_needs_135 (by decide) rfl (Nat.le_of_ble_eq_true rfl) rfl ?_
            refine v_aload_n (i := 0) o.ok d_M_needs_138 rfl rfl ?_
            refine v_iload_n (i := 2) o.ok d_M_needs_139 rfl rfl ?_
            refine m_cfv o (c_wantS _ M _ (by omega) ⟨by simp only [wnt, up, Nat.reduceEqDiff, false_and, if_false, and_self, if_true]; decide, by simp only [wnt, up, Nat.reduceEqDiff, false_and, if_false, and_self, if_true]; decide⟩) q_M_want lm_M_181 d_M_needs_140 (by decide) rfl (Nat.le_of_ble_eq_true rfl) rfl ?_
            refine m_vret o d_M_needs_143 ?_
            first
              | (exfalso; omega)
              | (refine ⟨rfl, _, rfl, ?_, ?_, by first | exact hK.w.m.wnt | exact hK.w.m.wnt.wnt⟩
                 · unfold nds
                   rw [if_neg (by omega)]
                   first
                     | (rw [if_pos (by omega), if_pos (by omega)]; exact (Its_nil rfl).wnt _)
                     | (rw [if_pos (by omega), if_neg (by omega)]; exact (Its_nil rfl).wnt _)
                     | (rw [if_neg (by omega), if_pos (by omega)]; exact ((Its_nil rfl).wnt _).wnt _)
                     | (rw [if_neg (by omega), if_neg (by omega)]; exact (Its_nil rfl).wnt _)
                 · unfold mdo
                   first
                     | (rw [if_pos (by omega)]; rfl)
                     | (rw [if_neg (by omega)]; rfl))
          · refine v_iload (i := 4) o.ok d_M_needs_124 rfl ?_
            refine v_if_ne o.ok (by omega) d_M_needs_126 (fun c126 => ?_) (fun c126 => ?_)
            · refine v_aload_n (i := 0) o.ok d_M_needs_138 rfl rfl ?_
              refine v_iload_n (i := 2) o.ok d_M_needs_139 rfl rfl ?_
              refine m_cfv o (c_wantS _ M _ (by omega) ⟨by simp only [wnt, up, Nat.reduceEqDiff, false_and, if_false, and_self, if_true]; decide, by simp only [wnt, up, Nat.reduceEqDiff, false_and, if_false, and_self, if_true]; decide⟩) q_M_want lm_M_181 d_M_needs_140 (by decide) rfl (Nat.le_of_ble_eq_true rfl) rfl ?_
              refine m_vret o d_M_needs_143 ?_
              first
                | (exfalso; omega)
                | (refine ⟨rfl, _, rfl, ?_, ?_, by first | exact hK.w.m.wnt | exact hK.w.m.wnt.wnt⟩
                   · unfold nds
                     rw [if_neg (by omega)]
                     first
                       | (rw [if_pos (by omega), if_pos (by omega)]; exact (Its_nil rfl).wnt _)
                       | (rw [if_pos (by omega), if_neg (by omega)]; exact (Its_nil rfl).wnt _)
                       | (rw [if_neg (by omega), if_pos (by omega)]; exact ((Its_nil rfl).wnt _).wnt _)
                       | (rw [if_neg (by omega), if_neg (by omega)]; exact (Its_nil rfl).wnt _)
                   · unfold mdo
                     first
                       | (rw [if_pos (by omega)]; rfl)
                       | (rw [if_neg (by omega)]; rfl))
            · refine v_aload_n (i := 0) o.ok d_M_needs_129 rfl rfl ?_
              refine v_aload_n (i := 0) o.ok d_M_needs_130 rfl rfl ?_
              refine v_iload_n (i := 2) o.ok d_M_needs_131 rfl rfl ?_
              refine m_cf o (c_nextS a M _ ha) q_M_next lm_M_184 d_M_needs_132 (by decide) rfl (Nat.le_of_ble_eq_true rfl) rfl ?_
              refine m_cfv o (c_wantS _ M _ (by omega) ⟨by simp only [wnt, up, Nat.reduceEqDiff, false_and, if_false, and_self, if_true]; decide, by simp only [wnt, up, Nat.reduceEqDiff, false_and, if_false, and_self, if_true]; decide⟩) q_M_want lm_M_181 d_M_needs_135 (by decide) rfl (Nat.le_of_ble_eq_true rfl) rfl ?_
              refine v_aload_n (i := 0) o.ok d_M_needs_138 rfl rfl ?_
              refine v_iload_n (i := 2) o.ok d_M_needs_139 rfl rfl ?_
              refine m_cfv o (c_wantS _ M _ (by omega) ⟨by simp only [wnt, up, Nat.reduceEqDiff, false_and, if_false, and_self, if_true]; decide, by simp only [wnt, up, Nat.reduceEqDiff, false_and, if_false, and_self, if_true]; decide⟩) q_M_want lm_M_181 d_M_needs_140 (by decide) rfl (Nat.le_of_ble_eq_true rfl) rfl ?_
              refine m_vret o d_M_needs_143 ?_
              first
                | (exfalso; omega)
                | (refine ⟨rfl, _, rfl, ?_, ?_, by first | exact hK.w.m.wnt | exact hK.w.m.wnt.wnt⟩
                   · unfold nds
                     rw [if_neg (by omega)]
                     first
                       | (rw [if_pos (by omega), if_pos (by omega)]; exact (Its_nil rfl).wnt _)
                       | (rw [if_pos (by omega), if_neg (by omega)]; exact (Its_nil rfl).wnt _)
                       | (rw [if_neg (by omega), if_pos (by omega)]; exact ((Its_nil rfl).wnt _).wnt _)
                       | (rw [if_neg (by omega), if_neg (by omega)]; exact (Its_nil rfl).wnt _)
                   · unfold mdo
                     first
                       | (rw [if_pos (by omega)]; rfl)
                       | (rw [if_neg (by omega)]; rfl))
        · refine v_iload (i := 4) o.ok d_M_needs_93 rfl ?_
          refine v_if_ne o.ok (by omega) d_M_needs_95 (fun c95 => ?_) (fun c95 => ?_)
          · refine v_iload_n (i := 1) o.ok d_M_needs_119 rfl rfl ?_
            refine v_iconst o.ok d_M_needs_120 ?_
            refine v_icmp_eq o.ok (by omega) (by omega) d_M_needs_121 (fun c121 => ?_) (fun c121 => ?_)
            · refine v_aload_n (i := 0) o.ok d_M_needs_129 rfl rfl ?_
              refine v_aload_n (i := 0) o.ok d_M_needs_130 rfl rfl ?_
              refine v_iload_n (i := 2) o.ok d_M_needs_131 rfl rfl ?_
              refine m_cf o (c_nextS a M _ ha) q_M_next lm_M_184 d_M_needs_132 (by decide) rfl (Nat.le_of_ble_eq_true rfl) rfl ?_
              refine m_cfv o (c_wantS _ M _ (by omega) ⟨by simp only [wnt, up, Nat.reduceEqDiff, false_and, if_false, and_self, if_true]; decide, by simp only [wnt, up, Nat.reduceEqDiff, false_and, if_false, and_self, if_true]; decide⟩) q_M_want lm_M_181 d_M_needs_135 (by decide) rfl (Nat.le_of_ble_eq_true rfl) rfl ?_
              refine v_aload_n (i := 0) o.ok d_M_needs_138 rfl rfl ?_
              refine v_iload_n (i := 2) o.ok d_M_needs_139 rfl rfl ?_
              refine m_cfv o (c_wantS _ M _ (by omega) ⟨by simp only [wnt, up, Nat.reduceEqDiff, false_and, if_false, and_self, if_true]; decide, by simp only [wnt, up, Nat.reduceEqDiff, false_and, if_false, and_self, if_true]; decide⟩) q_M_want lm_M_181 d_M_needs_140 (by decide) rfl (Nat.le_of_ble_eq_true rfl) rfl ?_
              refine m_vret o d_M_needs_143 ?_
              first
                | (exfalso; omega)
                | (refine ⟨rfl, _, rfl, ?_, ?_, by first | exact hK.w.m.wnt | exact hK.w.m.wnt.wnt⟩
                   · unfold nds
                     rw [if_neg (by omega)]
                     first
                       | (rw [if_pos (by omega), if_pos (by omega)]; exact (Its_nil rfl).wnt _)
                       | (rw [if_pos (by omega), if_neg (by omega)]; exact (Its_nil rfl).wnt _)
                       | (rw [if_neg (by omega), if_pos (by omega)]; exact ((Its_nil rfl).wnt _).wnt _)
                       | (rw [if_neg (by omega), if_neg (by omega)]; exact (Its_nil rfl).wnt _)
                   · unfold mdo
                     first
                       | (rw [if_pos (by omega)]; rfl)
                       | (rw [if_neg (by omega)]; rfl))
            · refine v_iload (i := 4) o.ok d_M_needs_124 rfl ?_
              refine v_if_ne o.ok (by omega) d_M_needs_126 (fun c126 => ?_) (fun c126 => ?_)
              · refine v_aload_n (i := 0) o.ok d_M_needs_138 rfl rfl ?_
                refine v_iload_n (i := 2) o.ok d_M_needs_139 rfl rfl ?_
                refine m_cfv o (c_wantS _ M _ (by omega) ⟨by simp only [wnt, up, Nat.reduceEqDiff, false_and, if_false, and_self, if_true]; decide, by simp only [wnt, up, Nat.reduceEqDiff, false_and, if_false, and_self, if_true]; decide⟩) q_M_want lm_M_181 d_M_needs_140 (by decide) rfl (Nat.le_of_ble_eq_true rfl) rfl ?_
                refine m_vret o d_M_needs_143 ?_
                first
                  | (exfalso; omega)
                  | (refine ⟨rfl, _, rfl, ?_, ?_, by first | exact hK.w.m.wnt | exact hK.w.m.wnt.wnt⟩
                     · unfold nds
                       rw [if_neg (by omega)]
                       first
                         | (rw [if_pos (by omega), if_pos (by omega)]; exact (Its_nil rfl).wnt _)
                         | (rw [if_pos (by omega), if_neg (by omega)]; exact (Its_nil rfl).wnt _)
                         | (rw [if_neg (by omega), if_pos (by omega)]; exact ((Its_nil rfl).wnt _).wnt _)
                         | (rw [if_neg (by omega), if_neg (by omega)]; exact (Its_nil rfl).wnt _)
                     · unfold mdo
                       first
                         | (rw [if_pos (by omega)]; rfl)
                         | (rw [if_neg (by omega)]; rfl))
              · refine v_aload_n (i := 0) o.ok d_M_needs_129 rfl rfl ?_
                refine v_aload_n (i := 0) o.ok d_M_needs_130 rfl rfl ?_
                refine v_iload_n (i := 2) o.ok d_M_needs_131 rfl rfl ?_
                refine m_cf o (c_nextS a M _ ha) q_M_next lm_M_184 d_M_needs_132 (by decide) rfl (Nat.le_of_ble_eq_true rfl) rfl ?_
                refine m_cfv o (c_wantS _ M _ (by omega) ⟨by simp only [wnt, up, Nat.reduceEqDiff, false_and, if_false, and_self, if_true]; decide, by simp only [wnt, up, Nat.reduceEqDiff, false_and, if_false, and_self, if_true]; decide⟩) q_M_want lm_M_181 d_M_needs_135 (by decide) rfl (Nat.le_of_ble_eq_true rfl) rfl ?_
                refine v_aload_n (i := 0) o.ok d_M_needs_138 rfl rfl ?_
                refine v_iload_n (i := 2) o.ok d_M_needs_139 rfl rfl ?_
                refine m_cfv o (c_wantS _ M _ (by omega) ⟨by simp only [wnt, up, Nat.reduceEqDiff, false_and, if_false, and_self, if_true]; decide, by simp only [wnt, up, Nat.reduceEqDiff, false_and, if_false, and_self, if_true]; decide⟩) q_M_want lm_M_181 d_M_needs_140 (by decide) rfl (Nat.le_of_ble_eq_true rfl) rfl ?_
                refine m_vret o d_M_needs_143 ?_
                first
                  | (exfalso; omega)
                  | (refine ⟨rfl, _, rfl, ?_, ?_, by first | exact hK.w.m.wnt | exact hK.w.m.wnt.wnt⟩
                     · unfold nds
                       rw [if_neg (by omega)]
                       first
                         | (rw [if_pos (by omega), if_pos (by omega)]; exact (Its_nil rfl).wnt _)
                         | (rw [if_pos (by omega), if_neg (by omega)]; exact (Its_nil rfl).wnt _)
                         | (rw [if_neg (by omega), if_pos (by omega)]; exact ((Its_nil rfl).wnt _).wnt _)
                         | (rw [if_neg (by omega), if_neg (by omega)]; exact (Its_nil rfl).wnt _)
                     · unfold mdo
                       first
                         | (rw [if_pos (by omega)]; rfl)
                         | (rw [if_neg (by omega)]; rfl))
          · refine v_aload_n (i := 0) o.ok d_M_needs_98 rfl rfl ?_
            refine v_iload (i := 4) o.ok d_M_needs_99 rfl ?_
            refine v_if_eq o.ok (by omega) d_M_needs_101 (fun c101 => ?_) (fun c101 => ?_)
            · refine v_aload_n (i := 0) o.ok d_M_needs_108 rfl rfl ?_
              refine v_iload_n (i := 2) o.ok d_M_needs_109 rfl rfl ?_
              refine m_cf o (c_nextS a M _ ha) q_M_next lm_M_184 d_M_needs_110 (by decide) rfl (Nat.le_of_ble_eq_true rfl) rfl ?_
              refine m_cfv o (c_wantS _ M _ (by omega) ⟨by simp only [wnt, up, Nat.reduceEqDiff, false_and, if_false, and_self, if_true]; decide, by simp only [wnt, up, Nat.reduceEqDiff, false_and, if_false, and_self, if_true]; decide⟩) q_M_want lm_M_181 d_M_needs_113 (by decide) rfl (Nat.le_of_ble_eq_true rfl) rfl ?_
              refine v_goto o.ok d_M_needs_116 ?_
              refine m_vret o d_M_needs_143 ?_
              first
                | (exfalso; omega)
                | (refine ⟨rfl, _, rfl, ?_, ?_, by first | exact hK.w.m.wnt | exact hK.w.m.wnt.wnt⟩
                   · unfold nds
                     rw [if_neg (by omega)]
                     first
                       | (rw [if_pos (by omega), if_pos (by omega)]; exact (Its_nil rfl).wnt _)
                       | (rw [if_pos (by omega), if_neg (by omega)]; exact (Its_nil rfl).wnt _)
                       | (rw [if_neg (by omega), if_pos (by omega)]; exact ((Its_nil rfl).wnt _).wnt _)
                       | (rw [if_neg (by omega), if_neg (by omega)]; exact (Its_nil rfl).wnt _)
                   · unfold mdo
                     first
                       | (rw [if_pos (by omega)]; rfl)
                       | (rw [if_neg (by omega)]; rfl))
            · refine v_iload_n (i := 2) o.ok d_M_needs_104 rfl rfl ?_
              refine v_goto o.ok d_M_needs_105 ?_
              refine m_cfv o (c_wantS _ M _ (by omega) ⟨by simp only [wnt, up, Nat.reduceEqDiff, false_and, if_false, and_self, if_true]; decide, by simp only [wnt, up, Nat.reduceEqDiff, false_and, if_false, and_self, if_true]; decide⟩) q_M_want lm_M_181 d_M_needs_113 (by decide) rfl (Nat.le_of_ble_eq_true rfl) rfl ?_
              refine v_goto o.ok d_M_needs_116 ?_
              refine m_vret o d_M_needs_143 ?_
              first
                | (exfalso; omega)
                | (refine ⟨rfl, _, rfl, ?_, ?_, by first | exact hK.w.m.wnt | exact hK.w.m.wnt.wnt⟩
                   · unfold nds
                     rw [if_neg (by omega)]
                     first
                       | (rw [if_pos (by omega), if_pos (by omega)]; exact (Its_nil rfl).wnt _)
                       | (rw [if_pos (by omega), if_neg (by omega)]; exact (Its_nil rfl).wnt _)
                       | (rw [if_neg (by omega), if_pos (by omega)]; exact ((Its_nil rfl).wnt _).wnt _)
                       | (rw [if_neg (by omega), if_neg (by omega)]; exact (Its_nil rfl).wnt _)
                   · unfold mdo
                     first
                       | (rw [if_pos (by omega)]; rfl)
                       | (rw [if_neg (by omega)]; rfl))
    · refine v_iload_n (i := 2) o.ok d_M_needs_41 rfl rfl ?_
      refine v_istore (i := 5) (L' := [(0, _), (1, _), (2, _), (3, _), (4, _), (5, _)]) (G' := []) o.ok d_M_needs_42 (o.lt (by decide)) rfl rfl ?_
      refine lp (by omega) (b - a + 1).toNat a _ [] (Int.le_refl _) (by rcases h with h | h <;> omega) (Its_nil rfl) (by simp) rfl ?_ hK.w.m
      unfold mdo
      first | (exfalso; omega) | (rw [if_neg (by omega)]; rfl)
  · refine v_iload_n (i := 1) o.ok d_M_needs_18 rfl rfl ?_
    refine v_iconst o.ok d_M_needs_19 ?_
    refine v_icmp_ne o.ok (by omega) (by omega) d_M_needs_20 (fun c20 => ?_) (fun c20 => ?_)
    · refine v_iconst o.ok d_M_needs_32 ?_
      refine m_puti o 32 (by decide) rfl rfl rfl lf_M_178 rfl (by omega) d_M_needs_33 ?_
      rw [sset_sc rfl]
      refine v_iload_n (i := 1) o.ok d_M_needs_36 rfl rfl ?_
      refine v_iconst o.ok d_M_needs_37 ?_
      refine v_icmp_ne o.ok (by omega) (by omega) d_M_needs_38 (fun c38 => ?_) (fun c38 => ?_)
      · refine v_iload_n (i := 1) o.ok d_M_needs_83 rfl rfl ?_
        refine v_iconst o.ok d_M_needs_84 ?_
        refine v_icmp_eq o.ok (by omega) (by omega) d_M_needs_85 (fun c85 => ?_) (fun c85 => ?_)
        · refine v_aload_n (i := 0) o.ok d_M_needs_98 rfl rfl ?_
          refine v_iload (i := 4) o.ok d_M_needs_99 rfl ?_
          refine v_if_eq o.ok (by omega) d_M_needs_101 (fun c101 => ?_) (fun c101 => ?_)
          · refine v_aload_n (i := 0) o.ok d_M_needs_108 rfl rfl ?_
            refine v_iload_n (i := 2) o.ok d_M_needs_109 rfl rfl ?_
            refine m_cf o (c_nextS a M _ ha) q_M_next lm_M_184 d_M_needs_110 (by decide) rfl (Nat.le_of_ble_eq_true rfl) rfl ?_
            refine m_cfv o (c_wantS _ M _ (by omega) ⟨by simp only [wnt, up, Nat.reduceEqDiff, false_and, if_false, and_self, if_true]; decide, by simp only [wnt, up, Nat.reduceEqDiff, false_and, if_false, and_self, if_true]; decide⟩) q_M_want lm_M_181 d_M_needs_113 (by decide) rfl (Nat.le_of_ble_eq_true rfl) rfl ?_
            refine v_goto o.ok d_M_needs_116 ?_
            refine m_vret o d_M_needs_143 ?_
            first
              | (exfalso; omega)
              | (refine ⟨rfl, _, rfl, ?_, ?_, by first | exact hK.w.m.wnt | exact hK.w.m.wnt.wnt⟩
                 · unfold nds
                   rw [if_neg (by omega)]
                   first
                     | (rw [if_pos (by omega), if_pos (by omega)]; exact (Its_nil rfl).wnt _)
                     | (rw [if_pos (by omega), if_neg (by omega)]; exact (Its_nil rfl).wnt _)
                     | (rw [if_neg (by omega), if_pos (by omega)]; exact ((Its_nil rfl).wnt _).wnt _)
                     | (rw [if_neg (by omega), if_neg (by omega)]; exact (Its_nil rfl).wnt _)
                 · unfold mdo
                   first
                     | (rw [if_pos (by omega)]; rfl)
                     | (rw [if_neg (by omega)]; rfl))
          · refine v_iload_n (i := 2) o.ok d_M_needs_104 rfl rfl ?_
            refine v_goto o.ok d_M_needs_105 ?_
            refine m_cfv o (c_wantS _ M _ (by omega) ⟨by simp only [wnt, up, Nat.reduceEqDiff, false_and, if_false, and_self, if_true]; decide, by simp only [wnt, up, Nat.reduceEqDiff, false_and, if_false, and_self, if_true]; decide⟩) q_M_want lm_M_181 d_M_needs_113 (by decide) rfl (Nat.le_of_ble_eq_true rfl) rfl ?_
            refine v_goto o.ok d_M_needs_116 ?_
            refine m_vret o d_M_needs_143 ?_
            first
              | (exfalso; omega)
              | (refine ⟨rfl, _, rfl, ?_, ?_, by first | exact hK.w.m.wnt | exact hK.w.m.wnt.wnt⟩
                 · unfold nds
                   rw [if_neg (by omega)]
                   first
                     | (rw [if_pos (by omega), if_pos (by omega)]; exact (Its_nil rfl).wnt _)
                     | (rw [if_pos (by omega), if_neg (by omega)]; exact (Its_nil rfl).wnt _)
                     | (rw [if_neg (by omega), if_pos (by omega)]; exact ((Its_nil rfl).wnt _).wnt _)
                     | (rw [if_neg (by omega), if_neg (by omega)]; exact (Its_nil rfl).wnt _)
                 · unfold mdo
                   first
                     | (rw [if_pos (by omega)]; rfl)
                     | (rw [if_neg (by omega)]; rfl))
        · refine v_iload_n (i := 1) o.ok d_M_needs_88 rfl rfl ?_
          refine v_iconst o.ok d_M_needs_89 ?_
          refine v_icmp_ne o.ok (by omega) (by omega) d_M_needs_90 (fun c90 => ?_) (fun c90 => ?_)
          · refine v_iload_n (i := 1) o.ok d_M_needs_119 rfl rfl ?_
            refine v_iconst o.ok d_M_needs_120 ?_
            refine v_icmp_eq o.ok (by omega) (by omega) d_M_needs_121 (fun c121 => ?_) (fun c121 => ?_)
            · refine v_aload_n (i := 0) o.ok d_M_needs_129 rfl rfl ?_
              refine v_aload_n (i := 0) o.ok d_M_needs_130 rfl rfl ?_
              refine v_iload_n (i := 2) o.ok d_M_needs_131 rfl rfl ?_
              refine m_cf o (c_nextS a M _ ha) q_M_next lm_M_184 d_M_needs_132 (by decide) rfl (Nat.le_of_ble_eq_true rfl) rfl ?_
              refine m_cfv o (c_wantS _ M _ (by omega) ⟨by simp only [wnt, up, Nat.reduceEqDiff, false_and, if_false, and_self, if_true]; decide, by simp only [wnt, up, Nat.reduceEqDiff, false_and, if_false, and_self, if_true]; decide⟩) q_M_want lm_M_181 d_M_needs_135 (by decide) rfl (Nat.le_of_ble_eq_true rfl) rfl ?_
              refine v_aload_n (i := 0) o.ok d_M_needs_138 rfl rfl ?_
              refine v_iload_n (i := 2) o.ok d_M_needs_139 rfl rfl ?_
              refine m_cfv o (c_wantS _ M _ (by omega) ⟨by simp only [wnt, up, Nat.reduceEqDiff, false_and, if_false, and_self, if_true]; decide, by simp only [wnt, up, Nat.reduceEqDiff, false_and, if_false, and_self, if_true]; decide⟩) q_M_want lm_M_181 d_M_needs_140 (by decide) rfl (Nat.le_of_ble_eq_true rfl) rfl ?_
              refine m_vret o d_M_needs_143 ?_
              first
                | (exfalso; omega)
                | (refine ⟨rfl, _, rfl, ?_, ?_, by first | exact hK.w.m.wnt | exact hK.w.m.wnt.wnt⟩
                   · unfold nds
                     rw [if_neg (by omega)]
                     first
                       | (rw [if_pos (by omega), if_pos (by omega)]; exact (Its_nil rfl).wnt _)
                       | (rw [if_pos (by omega), if_neg (by omega)]; exact (Its_nil rfl).wnt _)
                       | (rw [if_neg (by omega), if_pos (by omega)]; exact ((Its_nil rfl).wnt _).wnt _)
                       | (rw [if_neg (by omega), if_neg (by omega)]; exact (Its_nil rfl).wnt _)
                   · unfold mdo
                     first
                       | (rw [if_pos (by omega)]; rfl)
                       | (rw [if_neg (by omega)]; rfl))
            · refine v_iload (i := 4) o.ok d_M_needs_124 rfl ?_
              refine v_if_ne o.ok (by omega) d_M_needs_126 (fun c126 => ?_) (fun c126 => ?_)
              · refine v_aload_n (i := 0) o.ok d_M_needs_138 rfl rfl ?_
                refine v_iload_n (i := 2) o.ok d_M_needs_139 rfl rfl ?_
                refine m_cfv o (c_wantS _ M _ (by omega) ⟨by simp only [wnt, up, Nat.reduceEqDiff, false_and, if_false, and_self, if_true]; decide, by simp only [wnt, up, Nat.reduceEqDiff, false_and, if_false, and_self, if_true]; decide⟩) q_M_want lm_M_181 d_M_needs_140 (by decide) rfl (Nat.le_of_ble_eq_true rfl) rfl ?_
                refine m_vret o d_M_needs_143 ?_
                first
                  | (exfalso; omega)
                  | (refine ⟨rfl, _, rfl, ?_, ?_, by first | exact hK.w.m.wnt | exact hK.w.m.wnt.wnt⟩
                     · unfold nds
                       rw [if_neg (by omega)]
                       first
                         | (rw [if_pos (by omega), if_pos (by omega)]; exact (Its_nil rfl).wnt _)
                         | (rw [if_pos (by omega), if_neg (by omega)]; exact (Its_nil rfl).wnt _)
                         | (rw [if_neg (by omega), if_pos (by omega)]; exact ((Its_nil rfl).wnt _).wnt _)
                         | (rw [if_neg (by omega), if_neg (by omega)]; exact (Its_nil rfl).wnt _)
                     · unfold mdo
                       first
                         | (rw [if_pos (by omega)]; rfl)
                         | (rw [if_neg (by omega)]; rfl))
              · refine v_aload_n (i := 0) o.ok d_M_needs_129 rfl rfl ?_
                refine v_aload_n (i := 0) o.ok d_M_needs_130 rfl rfl ?_
                refine v_iload_n (i := 2) o.ok d_M_needs_131 rfl rfl ?_
                refine m_cf o (c_nextS a M _ ha) q_M_next lm_M_184 d_M_needs_132 (by decide) rfl (Nat.le_of_ble_eq_true rfl) rfl ?_
                refine m_cfv o (c_wantS _ M _ (by omega) ⟨by simp only [wnt, up, Nat.reduceEqDiff, false_and, if_false, and_self, if_true]; decide, by simp only [wnt, up, Nat.reduceEqDiff, false_and, if_false, and_self, if_true]; decide⟩) q_M_want lm_M_181 d_M_needs_135 (by decide) rfl (Nat.le_of_ble_eq_true rfl) rfl ?_
                refine v_aload_n (i := 0) o.ok d_M_needs_138 rfl rfl ?_
                refine v_iload_n (i := 2) o.ok d_M_needs_139 rfl rfl ?_
                refine m_cfv o (c_wantS _ M _ (by omega) ⟨by simp only [wnt, up, Nat.reduceEqDiff, false_and, if_false, and_self, if_true]; decide, by simp only [wnt, up, Nat.reduceEqDiff, false_and, if_false, and_self, if_true]; decide⟩) q_M_want lm_M_181 d_M_needs_140 (by decide) rfl (Nat.le_of_ble_eq_true rfl) rfl ?_
                refine m_vret o d_M_needs_143 ?_
                first
                  | (exfalso; omega)
                  | (refine ⟨rfl, _, rfl, ?_, ?_, by first | exact hK.w.m.wnt | exact hK.w.m.wnt.wnt⟩
                     · unfold nds
                       rw [if_neg (by omega)]
                       first
                         | (rw [if_pos (by omega), if_pos (by omega)]; exact (Its_nil rfl).wnt _)
                         | (rw [if_pos (by omega), if_neg (by omega)]; exact (Its_nil rfl).wnt _)
                         | (rw [if_neg (by omega), if_pos (by omega)]; exact ((Its_nil rfl).wnt _).wnt _)
                         | (rw [if_neg (by omega), if_neg (by omega)]; exact (Its_nil rfl).wnt _)
                     · unfold mdo
                       first
                         | (rw [if_pos (by omega)]; rfl)
                         | (rw [if_neg (by omega)]; rfl))
          · refine v_iload (i := 4) o.ok d_M_needs_93 rfl ?_
            refine v_if_ne o.ok (by omega) d_M_needs_95 (fun c95 => ?_) (fun c95 => ?_)
            · refine v_iload_n (i := 1) o.ok d_M_needs_119 rfl rfl ?_
              refine v_iconst o.ok d_M_needs_120 ?_
              refine v_icmp_eq o.ok (by omega) (by omega) d_M_needs_121 (fun c121 => ?_) (fun c121 => ?_)
              · refine v_aload_n (i := 0) o.ok d_M_needs_129 rfl rfl ?_
                refine v_aload_n (i := 0) o.ok d_M_needs_130 rfl rfl ?_
                refine v_iload_n (i := 2) o.ok d_M_needs_131 rfl rfl ?_
                refine m_cf o (c_nextS a M _ ha) q_M_next lm_M_184 d_M_needs_132 (by decide) rfl (Nat.le_of_ble_eq_true rfl) rfl ?_
                refine m_cfv o (c_wantS _ M _ (by omega) ⟨by simp only [wnt, up, Nat.reduceEqDiff, false_and, if_false, and_self, if_true]; decide, by simp only [wnt, up, Nat.reduceEqDiff, false_and, if_false, and_self, if_true]; decide⟩) q_M_want lm_M_181 d_M_needs_135 (by decide) rfl (Nat.le_of_ble_eq_true rfl) rfl ?_
                refine v_aload_n (i := 0) o.ok d_M_needs_138 rfl rfl ?_
                refine v_iload_n (i := 2) o.ok d_M_needs_139 rfl rfl ?_
                refine m_cfv o (c_wantS _ M _ (by omega) ⟨by simp only [wnt, up, Nat.reduceEqDiff, false_and, if_false, and_self, if_true]; decide, by simp only [wnt, up, Nat.reduceEqDiff, false_and, if_false, and_self, if_true]; decide⟩) q_M_want lm_M_181 d_M_needs_140 (by decide) rfl (Nat.le_of_ble_eq_true rfl) rfl ?_
                refine m_vret o d_M_needs_143 ?_
                first
                  | (exfalso; omega)
                  | (refine ⟨rfl, _, rfl, ?_, ?_, by first | exact hK.w.m.wnt | exact hK.w.m.wnt.wnt⟩
                     · unfold nds
                       rw [if_neg (by omega)]
                       first
                         | (rw [if_pos (by omega), if_pos (by omega)]; exact (Its_nil rfl).wnt _)
                         | (rw [if_pos (by omega), if_neg (by omega)]; exact (Its_nil rfl).wnt _)
                         | (rw [if_neg (by omega), if_pos (by omega)]; exact ((Its_nil rfl).wnt _).wnt _)
                         | (rw [if_neg (by omega), if_neg (by omega)]; exact (Its_nil rfl).wnt _)
                     · unfold mdo
                       first
                         | (rw [if_pos (by omega)]; rfl)
                         | (rw [if_neg (by omega)]; rfl))
              · refine v_iload (i := 4) o.ok d_M_needs_124 rfl ?_
                refine v_if_ne o.ok (by omega) d_M_needs_126 (fun c126 => ?_) (fun c126 => ?_)
                · refine v_aload_n (i := 0) o.ok d_M_needs_138 rfl rfl ?_
                  refine v_iload_n (i := 2) o.ok d_M_needs_139 rfl rfl ?_
                  refine m_cfv o (c_wantS _ M _ (by omega) ⟨by simp only [wnt, up, Nat.reduceEqDiff, false_and, if_false, and_self, if_true]; decide, by simp only [wnt, up, Nat.reduceEqDiff, false_and, if_false, and_self, if_true]; decide⟩) q_M_want lm_M_181 d_M_needs_140 (by decide) rfl (Nat.le_of_ble_eq_true rfl) rfl ?_
                  refine m_vret o d_M_needs_143 ?_
                  first
                    | (exfalso; omega)
                    | (refine ⟨rfl, _, rfl, ?_, ?_, by first | exact hK.w.m.wnt | exact hK.w.m.wnt.wnt⟩
                       · unfold nds
                         rw [if_neg (by omega)]
                         first
                           | (rw [if_pos (by omega), if_pos (by omega)]; exact (Its_nil rfl).wnt _)
                           | (rw [if_pos (by omega), if_neg (by omega)]; exact (Its_nil rfl).wnt _)
                           | (rw [if_neg (by omega), if_pos (by omega)]; exact ((Its_nil rfl).wnt _).wnt _)
                           | (rw [if_neg (by omega), if_neg (by omega)]; exact (Its_nil rfl).wnt _)
                       · unfold mdo
                         first
                           | (rw [if_pos (by omega)]; rfl)
                           | (rw [if_neg (by omega)]; rfl))
                · refine v_aload_n (i := 0) o.ok d_M_needs_129 rfl rfl ?_
                  refine v_aload_n (i := 0) o.ok d_M_needs_130 rfl rfl ?_
                  refine v_iload_n (i := 2) o.ok d_M_needs_131 rfl rfl ?_
                  refine m_cf o (c_nextS a M _ ha) q_M_next lm_M_184 d_M_needs_132 (by decide) rfl (Nat.le_of_ble_eq_true rfl) rfl ?_
                  refine m_cfv o (c_wantS _ M _ (by omega) ⟨by simp only [wnt, up, Nat.reduceEqDiff, false_and, if_false, and_self, if_true]; decide, by simp only [wnt, up, Nat.reduceEqDiff, false_and, if_false, and_self, if_true]; decide⟩) q_M_want lm_M_181 d_M_needs_135 (by decide) rfl (Nat.le_of_ble_eq_true rfl) rfl ?_
                  refine v_aload_n (i := 0) o.ok d_M_needs_138 rfl rfl ?_
                  refine v_iload_n (i := 2) o.ok d_M_needs_139 rfl rfl ?_
                  refine m_cfv o (c_wantS _ M _ (by omega) ⟨by simp only [wnt, up, Nat.reduceEqDiff, false_and, if_false, and_self, if_true]; decide, by simp only [wnt, up, Nat.reduceEqDiff, false_and, if_false, and_self, if_true]; decide⟩) q_M_want lm_M_181 d_M_needs_140 (by decide) rfl (Nat.le_of_ble_eq_true rfl) rfl ?_
                  refine m_vret o d_M_needs_143 ?_
                  first
                    | (exfalso; omega)
                    | (refine ⟨rfl, _, rfl, ?_, ?_, by first | exact hK.w.m.wnt | exact hK.w.m.wnt.wnt⟩
                       · unfold nds
                         rw [if_neg (by omega)]
                         first
                           | (rw [if_pos (by omega), if_pos (by omega)]; exact (Its_nil rfl).wnt _)
                           | (rw [if_pos (by omega), if_neg (by omega)]; exact (Its_nil rfl).wnt _)
                           | (rw [if_neg (by omega), if_pos (by omega)]; exact ((Its_nil rfl).wnt _).wnt _)
                           | (rw [if_neg (by omega), if_neg (by omega)]; exact (Its_nil rfl).wnt _)
                       · unfold mdo
                         first
                           | (rw [if_pos (by omega)]; rfl)
                           | (rw [if_neg (by omega)]; rfl))
            · refine v_aload_n (i := 0) o.ok d_M_needs_98 rfl rfl ?_
              refine v_iload (i := 4) o.ok d_M_needs_99 rfl ?_
              refine v_if_eq o.ok (by omega) d_M_needs_101 (fun c101 => ?_) (fun c101 => ?_)
              · refine v_aload_n (i := 0) o.ok d_M_needs_108 rfl rfl ?_
                refine v_iload_n (i := 2) o.ok d_M_needs_109 rfl rfl ?_
                refine m_cf o (c_nextS a M _ ha) q_M_next lm_M_184 d_M_needs_110 (by decide) rfl (Nat.le_of_ble_eq_true rfl) rfl ?_
                refine m_cfv o (c_wantS _ M _ (by omega) ⟨by simp only [wnt, up, Nat.reduceEqDiff, false_and, if_false, and_self, if_true]; decide, by simp only [wnt, up, Nat.reduceEqDiff, false_and, if_false, and_self, if_true]; decide⟩) q_M_want lm_M_181 d_M_needs_113 (by decide) rfl (Nat.le_of_ble_eq_true rfl) rfl ?_
                refine v_goto o.ok d_M_needs_116 ?_
                refine m_vret o d_M_needs_143 ?_
                first
                  | (exfalso; omega)
                  | (refine ⟨rfl, _, rfl, ?_, ?_, by first | exact hK.w.m.wnt | exact hK.w.m.wnt.wnt⟩
                     · unfold nds
                       rw [if_neg (by omega)]
                       first
                         | (rw [if_pos (by omega), if_pos (by omega)]; exact (Its_nil rfl).wnt _)
                         | (rw [if_pos (by omega), if_neg (by omega)]; exact (Its_nil rfl).wnt _)
                         | (rw [if_neg (by omega), if_pos (by omega)]; exact ((Its_nil rfl).wnt _).wnt _)
                         | (rw [if_neg (by omega), if_neg (by omega)]; exact (Its_nil rfl).wnt _)
                     · unfold mdo
                       first
                         | (rw [if_pos (by omega)]; rfl)
                         | (rw [if_neg (by omega)]; rfl))
              · refine v_iload_n (i := 2) o.ok d_M_needs_104 rfl rfl ?_
                refine v_goto o.ok d_M_needs_105 ?_
                refine m_cfv o (c_wantS _ M _ (by omega) ⟨by simp only [wnt, up, Nat.reduceEqDiff, false_and, if_false, and_self, if_true]; decide, by simp only [wnt, up, Nat.reduceEqDiff, false_and, if_false, and_self, if_true]; decide⟩) q_M_want lm_M_181 d_M_needs_113 (by decide) rfl (Nat.le_of_ble_eq_true rfl) rfl ?_
                refine v_goto o.ok d_M_needs_116 ?_
                refine m_vret o d_M_needs_143 ?_
                first
                  | (exfalso; omega)
                  | (refine ⟨rfl, _, rfl, ?_, ?_, by first | exact hK.w.m.wnt | exact hK.w.m.wnt.wnt⟩
                     · unfold nds
                       rw [if_neg (by omega)]
                       first
                         | (rw [if_pos (by omega), if_pos (by omega)]; exact (Its_nil rfl).wnt _)
                         | (rw [if_pos (by omega), if_neg (by omega)]; exact (Its_nil rfl).wnt _)
                         | (rw [if_neg (by omega), if_pos (by omega)]; exact ((Its_nil rfl).wnt _).wnt _)
                         | (rw [if_neg (by omega), if_neg (by omega)]; exact (Its_nil rfl).wnt _)
                     · unfold mdo
                       first
                         | (rw [if_pos (by omega)]; rfl)
                         | (rw [if_neg (by omega)]; rfl))
      · refine v_iload_n (i := 2) o.ok d_M_needs_41 rfl rfl ?_
        refine v_istore (i := 5) (L' := [(0, _), (1, _), (2, _), (3, _), (4, _), (5, _)]) (G' := []) o.ok d_M_needs_42 (o.lt (by decide)) rfl rfl ?_
        refine lp (by omega) (b - a + 1).toNat a _ [] (Int.le_refl _) (by rcases h with h | h <;> omega) (Its_nil rfl) (by simp) rfl ?_ hK.w.m
        unfold mdo
        first | (exfalso; omega) | (rw [if_neg (by omega)]; rfl)
    · refine v_iload (i := 4) o.ok d_M_needs_23 rfl ?_
      refine v_if_eq o.ok (by omega) d_M_needs_25 (fun c25 => ?_) (fun c25 => ?_)
      · refine v_iconst o.ok d_M_needs_32 ?_
        refine m_puti o 32 (by decide) rfl rfl rfl lf_M_178 rfl (by omega) d_M_needs_33 ?_
        rw [sset_sc rfl]
        refine v_iload_n (i := 1) o.ok d_M_needs_36 rfl rfl ?_
        refine v_iconst o.ok d_M_needs_37 ?_
        refine v_icmp_ne o.ok (by omega) (by omega) d_M_needs_38 (fun c38 => ?_) (fun c38 => ?_)
        · refine v_iload_n (i := 1) o.ok d_M_needs_83 rfl rfl ?_
          refine v_iconst o.ok d_M_needs_84 ?_
          refine v_icmp_eq o.ok (by omega) (by omega) d_M_needs_85 (fun c85 => ?_) (fun c85 => ?_)
          · refine v_aload_n (i := 0) o.ok d_M_needs_98 rfl rfl ?_
            refine v_iload (i := 4) o.ok d_M_needs_99 rfl ?_
            refine v_if_eq o.ok (by omega) d_M_needs_101 (fun c101 => ?_) (fun c101 => ?_)
            · refine v_aload_n (i := 0) o.ok d_M_needs_108 rfl rfl ?_
              refine v_iload_n (i := 2) o.ok d_M_needs_109 rfl rfl ?_
              refine m_cf o (c_nextS a M _ ha) q_M_next lm_M_184 d_M_needs_110 (by decide) rfl (Nat.le_of_ble_eq_true rfl) rfl ?_
              refine m_cfv o (c_wantS _ M _ (by omega) ⟨by simp only [wnt, up, Nat.reduceEqDiff, false_and, if_false, and_self, if_true]; decide, by simp only [wnt, up, Nat.reduceEqDiff, false_and, if_false, and_self, if_true]; decide⟩) q_M_want lm_M_181 d_M_needs_113 (by decide) rfl (Nat.le_of_ble_eq_true rfl) rfl ?_
              refine v_goto o.ok d_M_needs_116 ?_
              refine m_vret o d_M_needs_143 ?_
              first
                | (exfalso; omega)
                | (refine ⟨rfl, _, rfl, ?_, ?_, by first | exact hK.w.m.wnt | exact hK.w.m.wnt.wnt⟩
                   · unfold nds
                     rw [if_neg (by omega)]
                     first
                       | (rw [if_pos (by omega), if_pos (by omega)]; exact (Its_nil rfl).wnt _)
                       | (rw [if_pos (by omega), if_neg (by omega)]; exact (Its_nil rfl).wnt _)
                       | (rw [if_neg (by omega), if_pos (by omega)]; exact ((Its_nil rfl).wnt _).wnt _)
                       | (rw [if_neg (by omega), if_neg (by omega)]; exact (Its_nil rfl).wnt _)
                   · unfold mdo
                     first
                       | (rw [if_pos (by omega)]; rfl)
                       | (rw [if_neg (by omega)]; rfl))
            · refine v_iload_n (i := 2) o.ok d_M_needs_104 rfl rfl ?_
              refine v_goto o.ok d_M_needs_105 ?_
              refine m_cfv o (c_wantS _ M _ (by omega) ⟨by simp only [wnt, up, Nat.reduceEqDiff, false_and, if_false, and_self, if_true]; decide, by simp only [wnt, up, Nat.reduceEqDiff, false_and, if_false, and_self, if_true]; decide⟩) q_M_want lm_M_181 d_M_needs_113 (by decide) rfl (Nat.le_of_ble_eq_true rfl) rfl ?_
              refine v_goto o.ok d_M_needs_116 ?_
              refine m_vret o d_M_needs_143 ?_
              first
                | (exfalso; omega)
                | (refine ⟨rfl, _, rfl, ?_, ?_, by first | exact hK.w.m.wnt | exact hK.w.m.wnt.wnt⟩
                   · unfold nds
                     rw [if_neg (by omega)]
                     first
                       | (rw [if_pos (by omega), if_pos (by omega)]; exact (Its_nil rfl).wnt _)
                       | (rw [if_pos (by omega), if_neg (by omega)]; exact (Its_nil rfl).wnt _)
                       | (rw [if_neg (by omega), if_pos (by omega)]; exact ((Its_nil rfl).wnt _).wnt _)
                       | (rw [if_neg (by omega), if_neg (by omega)]; exact (Its_nil rfl).wnt _)
                   · unfold mdo
                     first
                       | (rw [if_pos (by omega)]; rfl)
                       | (rw [if_neg (by omega)]; rfl))
          · refine v_iload_n (i := 1) o.ok d_M_needs_88 rfl rfl ?_
            refine v_iconst o.ok d_M_needs_89 ?_
            refine v_icmp_ne o.ok (by omega) (by omega) d_M_needs_90 (fun c90 => ?_) (fun c90 => ?_)
            · refine v_iload_n (i := 1) o.ok d_M_needs_119 rfl rfl ?_
              refine v_iconst o.ok d_M_needs_120 ?_
              refine v_icmp_eq o.ok (by omega) (by omega) d_M_needs_121 (fun c121 => ?_) (fun c121 => ?_)
              · refine v_aload_n (i := 0) o.ok d_M_needs_129 rfl rfl ?_
                refine v_aload_n (i := 0) o.ok d_M_needs_130 rfl rfl ?_
                refine v_iload_n (i := 2) o.ok d_M_needs_131 rfl rfl ?_
                refine m_cf o (c_nextS a M _ ha) q_M_next lm_M_184 d_M_needs_132 (by decide) rfl (Nat.le_of_ble_eq_true rfl) rfl ?_
                refine m_cfv o (c_wantS _ M _ (by omega) ⟨by simp only [wnt, up, Nat.reduceEqDiff, false_and, if_false, and_self, if_true]; decide, by simp only [wnt, up, Nat.reduceEqDiff, false_and, if_false, and_self, if_true]; decide⟩) q_M_want lm_M_181 d_M_needs_135 (by decide) rfl (Nat.le_of_ble_eq_true rfl) rfl ?_
                refine v_aload_n (i := 0) o.ok d_M_needs_138 rfl rfl ?_
                refine v_iload_n (i := 2) o.ok d_M_needs_139 rfl rfl ?_
                refine m_cfv o (c_wantS _ M _ (by omega) ⟨by simp only [wnt, up, Nat.reduceEqDiff, false_and, if_false, and_self, if_true]; decide, by simp only [wnt, up, Nat.reduceEqDiff, false_and, if_false, and_self, if_true]; decide⟩) q_M_want lm_M_181 d_M_needs_140 (by decide) rfl (Nat.le_of_ble_eq_true rfl) rfl ?_
                refine m_vret o d_M_needs_143 ?_
                first
                  | (exfalso; omega)
                  | (refine ⟨rfl, _, rfl, ?_, ?_, by first | exact hK.w.m.wnt | exact hK.w.m.wnt.wnt⟩
                     · unfold nds
                       rw [if_neg (by omega)]
                       first
                         | (rw [if_pos (by omega), if_pos (by omega)]; exact (Its_nil rfl).wnt _)
                         | (rw [if_pos (by omega), if_neg (by omega)]; exact (Its_nil rfl).wnt _)
                         | (rw [if_neg (by omega), if_pos (by omega)]; exact ((Its_nil rfl).wnt _).wnt _)
                         | (rw [if_neg (by omega), if_neg (by omega)]; exact (Its_nil rfl).wnt _)
                     · unfold mdo
                       first
                         | (rw [if_pos (by omega)]; rfl)
                         | (rw [if_neg (by omega)]; rfl))
              · refine v_iload (i := 4) o.ok d_M_needs_124 rfl ?_
                refine v_if_ne o.ok (by omega) d_M_needs_126 (fun c126 => ?_) (fun c126 => ?_)
                · refine v_aload_n (i := 0) o.ok d_M_needs_138 rfl rfl ?_
                  refine v_iload_n (i := 2) o.ok d_M_needs_139 rfl rfl ?_
                  refine m_cfv o (c_wantS _ M _ (by omega) ⟨by simp only [wnt, up, Nat.reduceEqDiff, false_and, if_false, and_self, if_true]; decide, by simp only [wnt, up, Nat.reduceEqDiff, false_and, if_false, and_self, if_true]; decide⟩) q_M_want lm_M_181 d_M_needs_140 (by decide) rfl (Nat.le_of_ble_eq_true rfl) rfl ?_
                  refine m_vret o d_M_needs_143 ?_
                  first
                    | (exfalso; omega)
                    | (refine ⟨rfl, _, rfl, ?_, ?_, by first | exact hK.w.m.wnt | exact hK.w.m.wnt.wnt⟩
                       · unfold nds
                         rw [if_neg (by omega)]
                         first
                           | (rw [if_pos (by omega), if_pos (by omega)]; exact (Its_nil rfl).wnt _)
                           | (rw [if_pos (by omega), if_neg (by omega)]; exact (Its_nil rfl).wnt _)
                           | (rw [if_neg (by omega), if_pos (by omega)]; exact ((Its_nil rfl).wnt _).wnt _)
                           | (rw [if_neg (by omega), if_neg (by omega)]; exact (Its_nil rfl).wnt _)
                       · unfold mdo
                         first
                           | (rw [if_pos (by omega)]; rfl)
                           | (rw [if_neg (by omega)]; rfl))
                · refine v_aload_n (i := 0) o.ok d_M_needs_129 rfl rfl ?_
                  refine v_aload_n (i := 0) o.ok d_M_needs_130 rfl rfl ?_
                  refine v_iload_n (i := 2) o.ok d_M_needs_131 rfl rfl ?_
                  refine m_cf o (c_nextS a M _ ha) q_M_next lm_M_184 d_M_needs_132 (by decide) rfl (Nat.le_of_ble_eq_true rfl) rfl ?_
                  refine m_cfv o (c_wantS _ M _ (by omega) ⟨by simp only [wnt, up, Nat.reduceEqDiff, false_and, if_false, and_self, if_true]; decide, by simp only [wnt, up, Nat.reduceEqDiff, false_and, if_false, and_self, if_true]; decide⟩) q_M_want lm_M_181 d_M_needs_135 (by decide) rfl (Nat.le_of_ble_eq_true rfl) rfl ?_
                  refine v_aload_n (i := 0) o.ok d_M_needs_138 rfl rfl ?_
                  refine v_iload_n (i := 2) o.ok d_M_needs_139 rfl rfl ?_
                  refine m_cfv o (c_wantS _ M _ (by omega) ⟨by simp only [wnt, up, Nat.reduceEqDiff, false_and, if_false, and_self, if_true]; decide, by simp only [wnt, up, Nat.reduceEqDiff, false_and, if_false, and_self, if_true]; decide⟩) q_M_want lm_M_181 d_M_needs_140 (by decide) rfl (Nat.le_of_ble_eq_true rfl) rfl ?_
                  refine m_vret o d_M_needs_143 ?_
                  first
                    | (exfalso; omega)
                    | (refine ⟨rfl, _, rfl, ?_, ?_, by first | exact hK.w.m.wnt | exact hK.w.m.wnt.wnt⟩
                       · unfold nds
                         rw [if_neg (by omega)]
                         first
                           | (rw [if_pos (by omega), if_pos (by omega)]; exact (Its_nil rfl).wnt _)
                           | (rw [if_pos (by omega), if_neg (by omega)]; exact (Its_nil rfl).wnt _)
                           | (rw [if_neg (by omega), if_pos (by omega)]; exact ((Its_nil rfl).wnt _).wnt _)
                           | (rw [if_neg (by omega), if_neg (by omega)]; exact (Its_nil rfl).wnt _)
                       · unfold mdo
                         first
                           | (rw [if_pos (by omega)]; rfl)
                           | (rw [if_neg (by omega)]; rfl))
            · refine v_iload (i := 4) o.ok d_M_needs_93 rfl ?_
              refine v_if_ne o.ok (by omega) d_M_needs_95 (fun c95 => ?_) (fun c95 => ?_)
              · refine v_iload_n (i := 1) o.ok d_M_needs_119 rfl rfl ?_
                refine v_iconst o.ok d_M_needs_120 ?_
                refine v_icmp_eq o.ok (by omega) (by omega) d_M_needs_121 (fun c121 => ?_) (fun c121 => ?_)
                · refine v_aload_n (i := 0) o.ok d_M_needs_129 rfl rfl ?_
                  refine v_aload_n (i := 0) o.ok d_M_needs_130 rfl rfl ?_
                  refine v_iload_n (i := 2) o.ok d_M_needs_131 rfl rfl ?_
                  refine m_cf o (c_nextS a M _ ha) q_M_next lm_M_184 d_M_needs_132 (by decide) rfl (Nat.le_of_ble_eq_true rfl) rfl ?_
                  refine m_cfv o (c_wantS _ M _ (by omega) ⟨by simp only [wnt, up, Nat.reduceEqDiff, false_and, if_false, and_self, if_true]; decide, by simp only [wnt, up, Nat.reduceEqDiff, false_and, if_false, and_self, if_true]; decide⟩) q_M_want lm_M_181 d_M_needs_135 (by decide) rfl (Nat.le_of_ble_eq_true rfl) rfl ?_
                  refine v_aload_n (i := 0) o.ok d_M_needs_138 rfl rfl ?_
                  refine v_iload_n (i := 2) o.ok d_M_needs_139 rfl rfl ?_
                  refine m_cfv o (c_wantS _ M _ (by omega) ⟨by simp only [wnt, up, Nat.reduceEqDiff, false_and, if_false, and_self, if_true]; decide, by simp only [wnt, up, Nat.reduceEqDiff, false_and, if_false, and_self, if_true]; decide⟩) q_M_want lm_M_181 d_M_needs_140 (by decide) rfl (Nat.le_of_ble_eq_true rfl) rfl ?_
                  refine m_vret o d_M_needs_143 ?_
                  first
                    | (exfalso; omega)
                    | (refine ⟨rfl, _, rfl, ?_, ?_, by first | exact hK.w.m.wnt | exact hK.w.m.wnt.wnt⟩
                       · unfold nds
                         rw [if_neg (by omega)]
                         first
                           | (rw [if_pos (by omega), if_pos (by omega)]; exact (Its_nil rfl).wnt _)
                           | (rw [if_pos (by omega), if_neg (by omega)]; exact (Its_nil rfl).wnt _)
                           | (rw [if_neg (by omega), if_pos (by omega)]; exact ((Its_nil rfl).wnt _).wnt _)
                           | (rw [if_neg (by omega), if_neg (by omega)]; exact (Its_nil rfl).wnt _)
                       · unfold mdo
                         first
                           | (rw [if_pos (by omega)]; rfl)
                           | (rw [if_neg (by omega)]; rfl))
                · refine v_iload (i := 4) o.ok d_M_needs_124 rfl ?_
                  refine v_if_ne o.ok (by omega) d_M_needs_126 (fun c126 => ?_) (fun c126 => ?_)
                  · refine v_aload_n (i := 0) o.ok d_M_needs_138 rfl rfl ?_
                    refine v_iload_n (i := 2) o.ok d_M_needs_139 rfl rfl ?_
                    refine m_cfv o (c_wantS _ M _ (by omega) ⟨by simp only [wnt, up, Nat.reduceEqDiff, false_and, if_false, and_self, if_true]; decide, by simp only [wnt, up, Nat.reduceEqDiff, false_and, if_false, and_self, if_true]; decide⟩) q_M_want lm_M_181 d_M_needs_140 (by decide) rfl (Nat.le_of_ble_eq_true rfl) rfl ?_
                    refine m_vret o d_M_needs_143 ?_
                    first
                      | (exfalso; omega)
                      | (refine ⟨rfl, _, rfl, ?_, ?_, by first | exact hK.w.m.wnt | exact hK.w.m.wnt.wnt⟩
                         · unfold nds
                           rw [if_neg (by omega)]
                           first
                             | (rw [if_pos (by omega), if_pos (by omega)]; exact (Its_nil rfl).wnt _)
                             | (rw [if_pos (by omega), if_neg (by omega)]; exact (Its_nil rfl).wnt _)
                             | (rw [if_neg (by omega), if_pos (by omega)]; exact ((Its_nil rfl).wnt _).wnt _)
                             | (rw [if_neg (by omega), if_neg (by omega)]; exact (Its_nil rfl).wnt _)
                         · unfold mdo
                           first
                             | (rw [if_pos (by omega)]; rfl)
                             | (rw [if_neg (by omega)]; rfl))
                  · refine v_aload_n (i := 0) o.ok d_M_needs_129 rfl rfl ?_
                    refine v_aload_n (i := 0) o.ok d_M_needs_130 rfl rfl ?_
                    refine v_iload_n (i := 2) o.ok d_M_needs_131 rfl rfl ?_
                    refine m_cf o (c_nextS a M _ ha) q_M_next lm_M_184 d_M_needs_132 (by decide) rfl (Nat.le_of_ble_eq_true rfl) rfl ?_
                    refine m_cfv o (c_wantS _ M _ (by omega) ⟨by simp only [wnt, up, Nat.reduceEqDiff, false_and, if_false, and_self, if_true]; decide, by simp only [wnt, up, Nat.reduceEqDiff, false_and, if_false, and_self, if_true]; decide⟩) q_M_want lm_M_181 d_M_needs_135 (by decide) rfl (Nat.le_of_ble_eq_true rfl) rfl ?_
                    refine v_aload_n (i := 0) o.ok d_M_needs_138 rfl rfl ?_
                    refine v_iload_n (i := 2) o.ok d_M_needs_139 rfl rfl ?_
                    refine m_cfv o (c_wantS _ M _ (by omega) ⟨by simp only [wnt, up, Nat.reduceEqDiff, false_and, if_false, and_self, if_true]; decide, by simp only [wnt, up, Nat.reduceEqDiff, false_and, if_false, and_self, if_true]; decide⟩) q_M_want lm_M_181 d_M_needs_140 (by decide) rfl (Nat.le_of_ble_eq_true rfl) rfl ?_
                    refine m_vret o d_M_needs_143 ?_
                    first
                      | (exfalso; omega)
                      | (refine ⟨rfl, _, rfl, ?_, ?_, by first | exact hK.w.m.wnt | exact hK.w.m.wnt.wnt⟩
                         · unfold nds
                           rw [if_neg (by omega)]
                           first
                             | (rw [if_pos (by omega), if_pos (by omega)]; exact (Its_nil rfl).wnt _)
                             | (rw [if_pos (by omega), if_neg (by omega)]; exact (Its_nil rfl).wnt _)
                             | (rw [if_neg (by omega), if_pos (by omega)]; exact ((Its_nil rfl).wnt _).wnt _)
                             | (rw [if_neg (by omega), if_neg (by omega)]; exact (Its_nil rfl).wnt _)
                         · unfold mdo
                           first
                             | (rw [if_pos (by omega)]; rfl)
                             | (rw [if_neg (by omega)]; rfl))
              · refine v_aload_n (i := 0) o.ok d_M_needs_98 rfl rfl ?_
                refine v_iload (i := 4) o.ok d_M_needs_99 rfl ?_
                refine v_if_eq o.ok (by omega) d_M_needs_101 (fun c101 => ?_) (fun c101 => ?_)
                · refine v_aload_n (i := 0) o.ok d_M_needs_108 rfl rfl ?_
                  refine v_iload_n (i := 2) o.ok d_M_needs_109 rfl rfl ?_
                  refine m_cf o (c_nextS a M _ ha) q_M_next lm_M_184 d_M_needs_110 (by decide) rfl (Nat.le_of_ble_eq_true rfl) rfl ?_
                  refine m_cfv o (c_wantS _ M _ (by omega) ⟨by simp only [wnt, up, Nat.reduceEqDiff, false_and, if_false, and_self, if_true]; decide, by simp only [wnt, up, Nat.reduceEqDiff, false_and, if_false, and_self, if_true]; decide⟩) q_M_want lm_M_181 d_M_needs_113 (by decide) rfl (Nat.le_of_ble_eq_true rfl) rfl ?_
                  refine v_goto o.ok d_M_needs_116 ?_
                  refine m_vret o d_M_needs_143 ?_
                  first
                    | (exfalso; omega)
                    | (refine ⟨rfl, _, rfl, ?_, ?_, by first | exact hK.w.m.wnt | exact hK.w.m.wnt.wnt⟩
                       · unfold nds
                         rw [if_neg (by omega)]
                         first
                           | (rw [if_pos (by omega), if_pos (by omega)]; exact (Its_nil rfl).wnt _)
                           | (rw [if_pos (by omega), if_neg (by omega)]; exact (Its_nil rfl).wnt _)
                           | (rw [if_neg (by omega), if_pos (by omega)]; exact ((Its_nil rfl).wnt _).wnt _)
                           | (rw [if_neg (by omega), if_neg (by omega)]; exact (Its_nil rfl).wnt _)
                       · unfold mdo
                         first
                           | (rw [if_pos (by omega)]; rfl)
                           | (rw [if_neg (by omega)]; rfl))
                · refine v_iload_n (i := 2) o.ok d_M_needs_104 rfl rfl ?_
                  refine v_goto o.ok d_M_needs_105 ?_
                  refine m_cfv o (c_wantS _ M _ (by omega) ⟨by simp only [wnt, up, Nat.reduceEqDiff, false_and, if_false, and_self, if_true]; decide, by simp only [wnt, up, Nat.reduceEqDiff, false_and, if_false, and_self, if_true]; decide⟩) q_M_want lm_M_181 d_M_needs_113 (by decide) rfl (Nat.le_of_ble_eq_true rfl) rfl ?_
                  refine v_goto o.ok d_M_needs_116 ?_
                  refine m_vret o d_M_needs_143 ?_
                  first
                    | (exfalso; omega)
                    | (refine ⟨rfl, _, rfl, ?_, ?_, by first | exact hK.w.m.wnt | exact hK.w.m.wnt.wnt⟩
                       · unfold nds
                         rw [if_neg (by omega)]
                         first
                           | (rw [if_pos (by omega), if_pos (by omega)]; exact (Its_nil rfl).wnt _)
                           | (rw [if_pos (by omega), if_neg (by omega)]; exact (Its_nil rfl).wnt _)
                           | (rw [if_neg (by omega), if_pos (by omega)]; exact ((Its_nil rfl).wnt _).wnt _)
                           | (rw [if_neg (by omega), if_neg (by omega)]; exact (Its_nil rfl).wnt _)
                       · unfold mdo
                         first
                           | (rw [if_pos (by omega)]; rfl)
                           | (rw [if_neg (by omega)]; rfl))
        · refine v_iload_n (i := 2) o.ok d_M_needs_41 rfl rfl ?_
          refine v_istore (i := 5) (L' := [(0, _), (1, _), (2, _), (3, _), (4, _), (5, _)]) (G' := []) o.ok d_M_needs_42 (o.lt (by decide)) rfl rfl ?_
          refine lp (by omega) (b - a + 1).toNat a _ [] (Int.le_refl _) (by rcases h with h | h <;> omega) (Its_nil rfl) (by simp) rfl ?_ hK.w.m
          unfold mdo
          first | (exfalso; omega) | (rw [if_neg (by omega)]; rfl)
      · refine v_iconst o.ok d_M_needs_28 ?_
        refine v_goto o.ok d_M_needs_29 ?_
        refine m_puti o 32 (by decide) rfl rfl rfl lf_M_178 rfl (by omega) d_M_needs_33 ?_
        rw [sset_sc rfl]
        refine v_iload_n (i := 1) o.ok d_M_needs_36 rfl rfl ?_
        refine v_iconst o.ok d_M_needs_37 ?_
        refine v_icmp_ne o.ok (by omega) (by omega) d_M_needs_38 (fun c38 => ?_) (fun c38 => ?_)
        · refine v_iload_n (i := 1) o.ok d_M_needs_83 rfl rfl ?_
          refine v_iconst o.ok d_M_needs_84 ?_
          refine v_icmp_eq o.ok (by omega) (by omega) d_M_needs_85 (fun c85 => ?_) (fun c85 => ?_)
          · refine v_aload_n (i := 0) o.ok d_M_needs_98 rfl rfl ?_
            refine v_iload (i := 4) o.ok d_M_needs_99 rfl ?_
            refine v_if_eq o.ok (by omega) d_M_needs_101 (fun c101 => ?_) (fun c101 => ?_)
            · refine v_aload_n (i := 0) o.ok d_M_needs_108 rfl rfl ?_
              refine v_iload_n (i := 2) o.ok d_M_needs_109 rfl rfl ?_
              refine m_cf o (c_nextS a M _ ha) q_M_next lm_M_184 d_M_needs_110 (by decide) rfl (Nat.le_of_ble_eq_true rfl) rfl ?_
              refine m_cfv o (c_wantS _ M _ (by omega) ⟨by simp only [wnt, up, Nat.reduceEqDiff, false_and, if_false, and_self, if_true]; decide, by simp only [wnt, up, Nat.reduceEqDiff, false_and, if_false, and_self, if_true]; decide⟩) q_M_want lm_M_181 d_M_needs_113 (by decide) rfl (Nat.le_of_ble_eq_true rfl) rfl ?_
              refine v_goto o.ok d_M_needs_116 ?_
              refine m_vret o d_M_needs_143 ?_
              first
                | (exfalso; omega)
                | (refine ⟨rfl, _, rfl, ?_, ?_, by first | exact hK.w.m.wnt | exact hK.w.m.wnt.wnt⟩
                   · unfold nds
                     rw [if_neg (by omega)]
                     first
                       | (rw [if_pos (by omega), if_pos (by omega)]; exact (Its_nil rfl).wnt _)
                       | (rw [if_pos (by omega), if_neg (by omega)]; exact (Its_nil rfl).wnt _)
                       | (rw [if_neg (by omega), if_pos (by omega)]; exact ((Its_nil rfl).wnt _).wnt _)
                       | (rw [if_neg (by omega), if_neg (by omega)]; exact (Its_nil rfl).wnt _)
                   · unfold mdo
                     first
                       | (rw [if_pos (by omega)]; rfl)
                       | (rw [if_neg (by omega)]; rfl))
            · refine v_iload_n (i := 2) o.ok d_M_needs_104 rfl rfl ?_
              refine v_goto o.ok d_M_needs_105 ?_
              refine m_cfv o (c_wantS _ M _ (by omega) ⟨by simp only [wnt, up, Nat.reduceEqDiff, false_and, if_false, and_self, if_true]; decide, by simp only [wnt, up, Nat.reduceEqDiff, false_and, if_false, and_self, if_true]; decide⟩) q_M_want lm_M_181 d_M_needs_113 (by decide) rfl (Nat.le_of_ble_eq_true rfl) rfl ?_
              refine v_goto o.ok d_M_needs_116 ?_
              refine m_vret o d_M_needs_143 ?_
              first
                | (exfalso; omega)
                | (refine ⟨rfl, _, rfl, ?_, ?_, by first | exact hK.w.m.wnt | exact hK.w.m.wnt.wnt⟩
                   · unfold nds
                     rw [if_neg (by omega)]
                     first
                       | (rw [if_pos (by omega), if_pos (by omega)]; exact (Its_nil rfl).wnt _)
                       | (rw [if_pos (by omega), if_neg (by omega)]; exact (Its_nil rfl).wnt _)
                       | (rw [if_neg (by omega), if_pos (by omega)]; exact ((Its_nil rfl).wnt _).wnt _)
                       | (rw [if_neg (by omega), if_neg (by omega)]; exact (Its_nil rfl).wnt _)
                   · unfold mdo
                     first
                       | (rw [if_pos (by omega)]; rfl)
                       | (rw [if_neg (by omega)]; rfl))
          · refine v_iload_n (i := 1) o.ok d_M_needs_88 rfl rfl ?_
            refine v_iconst o.ok d_M_needs_89 ?_
            refine v_icmp_ne o.ok (by omega) (by omega) d_M_needs_90 (fun c90 => ?_) (fun c90 => ?_)
            · refine v_iload_n (i := 1) o.ok d_M_needs_119 rfl rfl ?_
              refine v_iconst o.ok d_M_needs_120 ?_
              refine v_icmp_eq o.ok (by omega) (by omega) d_M_needs_121 (fun c121 => ?_) (fun c121 => ?_)
              · refine v_aload_n (i := 0) o.ok d_M_needs_129 rfl rfl ?_
                refine v_aload_n (i := 0) o.ok d_M_needs_130 rfl rfl ?_
                refine v_iload_n (i := 2) o.ok d_M_needs_131 rfl rfl ?_
                refine m_cf o (c_nextS a M _ ha) q_M_next lm_M_184 d_M_needs_132 (by decide) rfl (Nat.le_of_ble_eq_true rfl) rfl ?_
                refine m_cfv o (c_wantS _ M _ (by omega) ⟨by simp only [wnt, up, Nat.reduceEqDiff, false_and, if_false, and_self, if_true]; decide, by simp only [wnt, up, Nat.reduceEqDiff, false_and, if_false, and_self, if_true]; decide⟩) q_M_want lm_M_181 d_M_needs_135 (by decide) rfl (Nat.le_of_ble_eq_true rfl) rfl ?_
                refine v_aload_n (i := 0) o.ok d_M_needs_138 rfl rfl ?_
                refine v_iload_n (i := 2) o.ok d_M_needs_139 rfl rfl ?_
                refine m_cfv o (c_wantS _ M _ (by omega) ⟨by simp only [wnt, up, Nat.reduceEqDiff, false_and, if_false, and_self, if_true]; decide, by simp only [wnt, up, Nat.reduceEqDiff, false_and, if_false, and_self, if_true]; decide⟩) q_M_want lm_M_181 d_M_needs_140 (by decide) rfl (Nat.le_of_ble_eq_true rfl) rfl ?_
                refine m_vret o d_M_needs_143 ?_
                first
                  | (exfalso; omega)
                  | (refine ⟨rfl, _, rfl, ?_, ?_, by first | exact hK.w.m.wnt | exact hK.w.m.wnt.wnt⟩
                     · unfold nds
                       rw [if_neg (by omega)]
                       first
                         | (rw [if_pos (by omega), if_pos (by omega)]; exact (Its_nil rfl).wnt _)
                         | (rw [if_pos (by omega), if_neg (by omega)]; exact (Its_nil rfl).wnt _)
                         | (rw [if_neg (by omega), if_pos (by omega)]; exact ((Its_nil rfl).wnt _).wnt _)
                         | (rw [if_neg (by omega), if_neg (by omega)]; exact (Its_nil rfl).wnt _)
                     · unfold mdo
                       first
                         | (rw [if_pos (by omega)]; rfl)
                         | (rw [if_neg (by omega)]; rfl))
              · refine v_iload (i := 4) o.ok d_M_needs_124 rfl ?_
                refine v_if_ne o.ok (by omega) d_M_needs_126 (fun c126 => ?_) (fun c126 => ?_)
                · refine v_aload_n (i := 0) o.ok d_M_needs_138 rfl rfl ?_
                  refine v_iload_n (i := 2) o.ok d_M_needs_139 rfl rfl ?_
                  refine m_cfv o (c_wantS _ M _ (by omega) ⟨by simp only [wnt, up, Nat.reduceEqDiff, false_and, if_false, and_self, if_true]; decide, by simp only [wnt, up, Nat.reduceEqDiff, false_and, if_false, and_self, if_true]; decide⟩) q_M_want lm_M_181 d_M_needs_140 (by decide) rfl (Nat.le_of_ble_eq_true rfl) rfl ?_
                  refine m_vret o d_M_needs_143 ?_
                  first
                    | (exfalso; omega)
                    | (refine ⟨rfl, _, rfl, ?_, ?_, by first | exact hK.w.m.wnt | exact hK.w.m.wnt.wnt⟩
                       · unfold nds
                         rw [if_neg (by omega)]
                         first
                           | (rw [if_pos (by omega), if_pos (by omega)]; exact (Its_nil rfl).wnt _)
                           | (rw [if_pos (by omega), if_neg (by omega)]; exact (Its_nil rfl).wnt _)
                           | (rw [if_neg (by omega), if_pos (by omega)]; exact ((Its_nil rfl).wnt _).wnt _)
                           | (rw [if_neg (by omega), if_neg (by omega)]; exact (Its_nil rfl).wnt _)
                       · unfold mdo
                         first
                           | (rw [if_pos (by omega)]; rfl)
                           | (rw [if_neg (by omega)]; rfl))
                · refine v_aload_n (i := 0) o.ok d_M_needs_129 rfl rfl ?_
                  refine v_aload_n (i := 0) o.ok d_M_needs_130 rfl rfl ?_
                  refine v_iload_n (i := 2) o.ok d_M_needs_131 rfl rfl ?_
                  refine m_cf o (c_nextS a M _ ha) q_M_next lm_M_184 d_M_needs_132 (by decide) rfl (Nat.le_of_ble_eq_true rfl) rfl ?_
                  refine m_cfv o (c_wantS _ M _ (by omega) ⟨by simp only [wnt, up, Nat.reduceEqDiff, false_and, if_false, and_self, if_true]; decide, by simp only [wnt, up, Nat.reduceEqDiff, false_and, if_false, and_self, if_true]; decide⟩) q_M_want lm_M_181 d_M_needs_135 (by decide) rfl (Nat.le_of_ble_eq_true rfl) rfl ?_
                  refine v_aload_n (i := 0) o.ok d_M_needs_138 rfl rfl ?_
                  refine v_iload_n (i := 2) o.ok d_M_needs_139 rfl rfl ?_
                  refine m_cfv o (c_wantS _ M _ (by omega) ⟨by simp only [wnt, up, Nat.reduceEqDiff, false_and, if_false, and_self, if_true]; decide, by simp only [wnt, up, Nat.reduceEqDiff, false_and, if_false, and_self, if_true]; decide⟩) q_M_want lm_M_181 d_M_needs_140 (by decide) rfl (Nat.le_of_ble_eq_true rfl) rfl ?_
                  refine m_vret o d_M_needs_143 ?_
                  first
                    | (exfalso; omega)
                    | (refine ⟨rfl, _, rfl, ?_, ?_, by first | exact hK.w.m.wnt | exact hK.w.m.wnt.wnt⟩
                       · unfold nds
                         rw [if_neg (by omega)]
                         first
                           | (rw [if_pos (by omega), if_pos (by omega)]; exact (Its_nil rfl).wnt _)
                           | (rw [if_pos (by omega), if_neg (by omega)]; exact (Its_nil rfl).wnt _)
                           | (rw [if_neg (by omega), if_pos (by omega)]; exact ((Its_nil rfl).wnt _).wnt _)
                           | (rw [if_neg (by omega), if_neg (by omega)]; exact (Its_nil rfl).wnt _)
                       · unfold mdo
                         first
                           | (rw [if_pos (by omega)]; rfl)
                           | (rw [if_neg (by omega)]; rfl))
            · refine v_iload (i := 4) o.ok d_M_needs_93 rfl ?_
              refine v_if_ne o.ok (by omega) d_M_needs_95 (fun c95 => ?_) (fun c95 => ?_)
              · refine v_iload_n (i := 1) o.ok d_M_needs_119 rfl rfl ?_
                refine v_iconst o.ok d_M_needs_120 ?_
                refine v_icmp_eq o.ok (by omega) (by omega) d_M_needs_121 (fun c121 => ?_) (fun c121 => ?_)
                · refine v_aload_n (i := 0) o.ok d_M_needs_129 rfl rfl ?_
                  refine v_aload_n (i := 0) o.ok d_M_needs_130 rfl rfl ?_
                  refine v_iload_n (i := 2) o.ok d_M_needs_131 rfl rfl ?_
                  refine m_cf o (c_nextS a M _ ha) q_M_next lm_M_184 d_M_needs_132 (by decide) rfl (Nat.le_of_ble_eq_true rfl) rfl ?_
                  refine m_cfv o (c_wantS _ M _ (by omega) ⟨by simp only [wnt, up, Nat.reduceEqDiff, false_and, if_false, and_self, if_true]; decide, by simp only [wnt, up, Nat.reduceEqDiff, false_and, if_false, and_self, if_true]; decide⟩) q_M_want lm_M_181 d_M_needs_135 (by decide) rfl (Nat.le_of_ble_eq_true rfl) rfl ?_
                  refine v_aload_n (i := 0) o.ok d_M_needs_138 rfl rfl ?_
                  refine v_iload_n (i := 2) o.ok d_M_needs_139 rfl rfl ?_
                  refine m_cfv o (c_wantS _ M _ (by omega) ⟨by simp only [wnt, up, Nat.reduceEqDiff, false_and, if_false, and_self, if_true]; decide, by simp only [wnt, up, Nat.reduceEqDiff, false_and, if_false, and_self, if_true]; decide⟩) q_M_want lm_M_181 d_M_needs_140 (by decide) rfl (Nat.le_of_ble_eq_true rfl) rfl ?_
                  refine m_vret o d_M_needs_143 ?_
                  first
                    | (exfalso; omega)
                    | (refine ⟨rfl, _, rfl, ?_, ?_, by first | exact hK.w.m.wnt | exact hK.w.m.wnt.wnt⟩
                       · unfold nds
                         rw [if_neg (by omega)]
                         first
                           | (rw [if_pos (by omega), if_pos (by omega)]; exact (Its_nil rfl).wnt _)
                           | (rw [if_pos (by omega), if_neg (by omega)]; exact (Its_nil rfl).wnt _)
                           | (rw [if_neg (by omega), if_pos (by omega)]; exact ((Its_nil rfl).wnt _).wnt _)
                           | (rw [if_neg (by omega), if_neg (by omega)]; exact (Its_nil rfl).wnt _)
                       · unfold mdo
                         first
                           | (rw [if_pos (by omega)]; rfl)
                           | (rw [if_neg (by omega)]; rfl))
                · refine v_iload (i := 4) o.ok d_M_needs_124 rfl ?_
                  refine v_if_ne o.ok (by omega) d_M_needs_126 (fun c126 => ?_) (fun c126 => ?_)
                  · refine v_aload_n (i := 0) o.ok d_M_needs_138 rfl rfl ?_
                    refine v_iload_n (i := 2) o.ok d_M_needs_139 rfl rfl ?_
                    refine m_cfv o (c_wantS _ M _ (by omega) ⟨by simp only [wnt, up, Nat.reduceEqDiff, false_and, if_false, and_self, if_true]; decide, by simp only [wnt, up, Nat.reduceEqDiff, false_and, if_false, and_self, if_true]; decide⟩) q_M_want lm_M_181 d_M_needs_140 (by decide) rfl (Nat.le_of_ble_eq_true rfl) rfl ?_
                    refine m_vret o d_M_needs_143 ?_
                    first
                      | (exfalso; omega)
                      | (refine ⟨rfl, _, rfl, ?_, ?_, by first | exact hK.w.m.wnt | exact hK.w.m.wnt.wnt⟩
                         · unfold nds
                           rw [if_neg (by omega)]
                           first
                             | (rw [if_pos (by omega), if_pos (by omega)]; exact (Its_nil rfl).wnt _)
                             | (rw [if_pos (by omega), if_neg (by omega)]; exact (Its_nil rfl).wnt _)
                             | (rw [if_neg (by omega), if_pos (by omega)]; exact ((Its_nil rfl).wnt _).wnt _)
                             | (rw [if_neg (by omega), if_neg (by omega)]; exact (Its_nil rfl).wnt _)
                         · unfold mdo
                           first
                             | (rw [if_pos (by omega)]; rfl)
                             | (rw [if_neg (by omega)]; rfl))
                  · refine v_aload_n (i := 0) o.ok d_M_needs_129 rfl rfl ?_
                    refine v_aload_n (i := 0) o.ok d_M_needs_130 rfl rfl ?_
                    refine v_iload_n (i := 2) o.ok d_M_needs_131 rfl rfl ?_
                    refine m_cf o (c_nextS a M _ ha) q_M_next lm_M_184 d_M_needs_132 (by decide) rfl (Nat.le_of_ble_eq_true rfl) rfl ?_
                    refine m_cfv o (c_wantS _ M _ (by omega) ⟨by simp only [wnt, up, Nat.reduceEqDiff, false_and, if_false, and_self, if_true]; decide, by simp only [wnt, up, Nat.reduceEqDiff, false_and, if_false, and_self, if_true]; decide⟩) q_M_want lm_M_181 d_M_needs_135 (by decide) rfl (Nat.le_of_ble_eq_true rfl) rfl ?_
                    refine v_aload_n (i := 0) o.ok d_M_needs_138 rfl rfl ?_
                    refine v_iload_n (i := 2) o.ok d_M_needs_139 rfl rfl ?_
                    refine m_cfv o (c_wantS _ M _ (by omega) ⟨by simp only [wnt, up, Nat.reduceEqDiff, false_and, if_false, and_self, if_true]; decide, by simp only [wnt, up, Nat.reduceEqDiff, false_and, if_false, and_self, if_true]; decide⟩) q_M_want lm_M_181 d_M_needs_140 (by decide) rfl (Nat.le_of_ble_eq_true rfl) rfl ?_
                    refine m_vret o d_M_needs_143 ?_
                    first
                      | (exfalso; omega)
                      | (refine ⟨rfl, _, rfl, ?_, ?_, by first | exact hK.w.m.wnt | exact hK.w.m.wnt.wnt⟩
                         · unfold nds
                           rw [if_neg (by omega)]
                           first
                             | (rw [if_pos (by omega), if_pos (by omega)]; exact (Its_nil rfl).wnt _)
                             | (rw [if_pos (by omega), if_neg (by omega)]; exact (Its_nil rfl).wnt _)
                             | (rw [if_neg (by omega), if_pos (by omega)]; exact ((Its_nil rfl).wnt _).wnt _)
                             | (rw [if_neg (by omega), if_neg (by omega)]; exact (Its_nil rfl).wnt _)
                         · unfold mdo
                           first
                             | (rw [if_pos (by omega)]; rfl)
                             | (rw [if_neg (by omega)]; rfl))
              · refine v_aload_n (i := 0) o.ok d_M_needs_98 rfl rfl ?_
                refine v_iload (i := 4) o.ok d_M_needs_99 rfl ?_
                refine v_if_eq o.ok (by omega) d_M_needs_101 (fun c101 => ?_) (fun c101 => ?_)
                · refine v_aload_n (i := 0) o.ok d_M_needs_108 rfl rfl ?_
                  refine v_iload_n (i := 2) o.ok d_M_needs_109 rfl rfl ?_
                  refine m_cf o (c_nextS a M _ ha) q_M_next lm_M_184 d_M_needs_110 (by decide) rfl (Nat.le_of_ble_eq_true rfl) rfl ?_
                  refine m_cfv o (c_wantS _ M _ (by omega) ⟨by simp only [wnt, up, Nat.reduceEqDiff, false_and, if_false, and_self, if_true]; decide, by simp only [wnt, up, Nat.reduceEqDiff, false_and, if_false, and_self, if_true]; decide⟩) q_M_want lm_M_181 d_M_needs_113 (by decide) rfl (Nat.le_of_ble_eq_true rfl) rfl ?_
                  refine v_goto o.ok d_M_needs_116 ?_
                  refine m_vret o d_M_needs_143 ?_
                  first
                    | (exfalso; omega)
                    | (refine ⟨rfl, _, rfl, ?_, ?_, by first | exact hK.w.m.wnt | exact hK.w.m.wnt.wnt⟩
                       · unfold nds
                         rw [if_neg (by omega)]
                         first
                           | (rw [if_pos (by omega), if_pos (by omega)]; exact (Its_nil rfl).wnt _)
                           | (rw [if_pos (by omega), if_neg (by omega)]; exact (Its_nil rfl).wnt _)
                           | (rw [if_neg (by omega), if_pos (by omega)]; exact ((Its_nil rfl).wnt _).wnt _)
                           | (rw [if_neg (by omega), if_neg (by omega)]; exact (Its_nil rfl).wnt _)
                       · unfold mdo
                         first
                           | (rw [if_pos (by omega)]; rfl)
                           | (rw [if_neg (by omega)]; rfl))
                · refine v_iload_n (i := 2) o.ok d_M_needs_104 rfl rfl ?_
                  refine v_goto o.ok d_M_needs_105 ?_
                  refine m_cfv o (c_wantS _ M _ (by omega) ⟨by simp only [wnt, up, Nat.reduceEqDiff, false_and, if_false, and_self, if_true]; decide, by simp only [wnt, up, Nat.reduceEqDiff, false_and, if_false, and_self, if_true]; decide⟩) q_M_want lm_M_181 d_M_needs_113 (by decide) rfl (Nat.le_of_ble_eq_true rfl) rfl ?_
                  refine v_goto o.ok d_M_needs_116 ?_
                  refine m_vret o d_M_needs_143 ?_
                  first
                    | (exfalso; omega)
                    | (refine ⟨rfl, _, rfl, ?_, ?_, by first | exact hK.w.m.wnt | exact hK.w.m.wnt.wnt⟩
                       · unfold nds
                         rw [if_neg (by omega)]
                         first
                           | (rw [if_pos (by omega), if_pos (by omega)]; exact (Its_nil rfl).wnt _)
                           | (rw [if_pos (by omega), if_neg (by omega)]; exact (Its_nil rfl).wnt _)
                           | (rw [if_neg (by omega), if_pos (by omega)]; exact ((Its_nil rfl).wnt _).wnt _)
                           | (rw [if_neg (by omega), if_neg (by omega)]; exact (Its_nil rfl).wnt _)
                       · unfold mdo
                         first
                           | (rw [if_pos (by omega)]; rfl)
                           | (rw [if_neg (by omega)]; rfl))
        · refine v_iload_n (i := 2) o.ok d_M_needs_41 rfl rfl ?_
          refine v_istore (i := 5) (L' := [(0, _), (1, _), (2, _), (3, _), (4, _), (5, _)]) (G' := []) o.ok d_M_needs_42 (o.lt (by decide)) rfl rfl ?_
          refine lp (by omega) (b - a + 1).toNat a _ [] (Int.le_refl _) (by rcases h with h | h <;> omega) (Its_nil rfl) (by simp) rfl ?_ hK.w.m
          unfold mdo
          first | (exfalso; omega) | (rw [if_neg (by omega)]; rfl)
/-- the first lock of a list that t may not get now; -1: none -/
noncomputable def flkL (M : MSt) (t m : Int) : List Int → Int
  | [] => -1
  | x :: xs => pick (M 26 (33 * t + x) < m ∧ ¬ May M t x m) x (flkL M t m xs)
noncomputable def lckM (M : MSt) (t : Int) : Int := mdo M (M 27 t) (M 28 t)
noncomputable def lck (M : MSt) (t : Int) : Int := flkL M t (lckM M t) (nds M (M 27 t) (M 28 t) (M 29 t))
/-- after look: what the scratch says of those that wait -/
def Lkd (M Z : MSt) (b : Int) : Prop := ∀ t, 0 ≤ t → t < b → (M 23 t = 2 → Z 33 t = lck M t ∧ Z 34 t = lckM M t) ∧ (M 23 t ≠ 2 → Z 33 t = -1)
theorem flkL_bd {M : MSt} {t m : Int} : ∀ l : List Int, (∀ x ∈ l, 0 ≤ x ∧ x ≤ 32) → -1 ≤ flkL M t m l ∧ flkL M t m l ≤ 32 := by
  intro l
  induction l with
  | nil => intro _; exact ⟨by show (-1 : Int) ≤ -1; decide, by show (-1 : Int) ≤ 32; decide⟩
  | cons x xs ih =>
    intro h
    unfold flkL
    by_cases hc : M 26 (33 * t + x) < m ∧ ¬ May M t x m
    · rw [pick_t hc]; have := h x List.mem_cons_self; omega
    · rw [pick_f hc]; exact ih (fun y hy => h y (List.mem_cons_of_mem _ hy))
theorem lck_bd {M : MSt} {t : Int} (h : ReqOk (M 27 t) (M 28 t) (M 29 t)) : -1 ≤ lck M t ∧ lck M t ≤ 32 := flkL_bd _ (nds_bd h).2
theorem mdo_12 (M : MSt) (w a : Int) : mdo M w a = 1 ∨ mdo M w a = 2 := by
  unfold mdo
  split
  · exact Or.inr rfl
  · exact Or.inl rfl
theorem May_sset (M Z : MSt) (t i m : Int) : May (sset M Z) t i m ↔ May M t i m := by
  have hA := fun u => Abv_c (M := sset M Z) (M' := M) (sset_n (f := 24) rfl) u t
  have e : (fun u => Bar (sset M Z) u t i m) = (fun u => Bar M u t i m) := by
    funext u
    unfold Bar
    rw [hA u, sset_n (f := 26) rfl]
  unfold May
  rw [e, sset_n (f := 22) rfl]
theorem c_mayS (t i m : Int) (M Z : MSt) (hp : ParOk M) (ht : 0 ≤ t ∧ t < M 22 0) (hi : 0 ≤ i ∧ i ≤ 32) (hm : m = 1 ∨ m = 2) : MF y_M_may (wsOf y_M_may b_M_may 6 (some .boolean)) 2 [t, i, m] (sset M Z) (some (b01 (May M t i m))) (sset M Z) := by
  rw [← b01_c (May_sset M Z t i m)]
  exact c_M_may t i m (sset M Z) hp ht hi hm

