/-! requests -/
/-- a live one's state moves between 1 and 2 -/
theorem WF.live {M M' : MSt} {t : Int} (h : WF M) (hs : M 23 t = 1 ∨ M 23 t = 2) (e : ∀ u, u ≠ t → M' 23 u = M 23 u) (e2 : M' 23 t = 1 ∨ M' 23 t = 2)
    (h1 : M 14 = M' 14) (h2 : M 17 = M' 17) (h3 : M 11 0 = M' 11 0) (h4 : M 12 0 = M' 12 0) (h6 : M 15 = M' 15) (h7 : M 24 = M' 24) (h8 : M 22 0 = M' 22 0) (h9 : M 16 = M' 16) (h13 : M 10 0 = M' 10 0) (h14 : M 0 0 = M' 0 0)
    (hr : ∀ u, 0 ≤ u → u < M' 22 0 → M' 23 u = 2 → ReqOk (M' 27 u) (M' 28 u) (M' 29 u)) : WF M' := by
  have es : ∀ u, (M' 23 u ≠ 3 ↔ M 23 u ≠ 3) ∧ (M' 23 u ≠ 4 ↔ M 23 u ≠ 4) ∧ (Liv M' u ↔ Liv M u) := by
    intro u
    unfold Liv
    by_cases hu : u = t
    · subst hu; omega
    · rw [e u hu]; exact ⟨Iff.rfl, Iff.rfl, Iff.rfl⟩
  have eo : opens M' = opens M := by
    unfold opens
    rw [← h4]
    refine cnt_ext fun i _ _ => ?_
    unfold Opn
    rw [Und_c h1 h2 h3 h4 i, ← h1, ← h6, ← top_c h7, (es _).1, (es _).2.1]
  have el : lives M' = lives M := by
    unfold lives
    rw [← h8]
    exact cnt_ext fun i _ _ => (es i).2.2
  refine ⟨?_, ?_, ?_, ?_, ?_, ?_, hr⟩
  · unfold ParOk; rw [← h7, ← h8]; exact h.1
  · rw [eo, el, ← h4]; exact h.2.1
  · rw [← h3]; exact h.2.2.1
  · rw [← h4, ← h6, ← h8, ← h1, ← h9]; exact h.2.2.2.1
  · rw [← h13, ← h4]; exact h.2.2.2.2.1
  · rw [← h14]; exact h.2.2.2.2.2.1
noncomputable def styN (t : Int) : Nat → MSt → Int × MSt
  | 0, M => (pick (Liv M t) (-2) (-3), M)
  | n + 1, M => pick (Liv M t) (pick (vic M t < 0) (-2, M) (styN t n (abt M (vic M t)).2)) (-3, M)
def sty0 (M : MSt) (t w a b : Int) : MSt := up (up (up (up M 23 t 2) 27 t w) 28 t a) 29 t b
noncomputable def sty (M : MSt) (t w a b : Int) : Int × MSt := styN t 60 (sty0 M t w a b)
theorem up_same2 {M : MSt} {k k' : Nat} {i z j : Int} (h : k ≠ k') : up M k i z k' j = M k' j := up_ne (fun q => h q.1.symm)
theorem sty0_wf {M : MSt} {t w a b : Int} (h : WF M) (hs : M 23 t = 1 ∨ M 23 t = 2) (hq : ReqOk w a b) : WF (sty0 M t w a b) := by
  have est : ∀ u, sty0 M t w a b 23 u = if u = t then 2 else M 23 u := by
    intro u
    unfold sty0
    rw [up_same2 (by decide), up_same2 (by decide), up_same2 (by decide)]
    unfold up
    by_cases e : u = t
    · rw [if_pos ⟨rfl, e⟩, if_pos e]
    · rw [if_neg (fun q => e q.2), if_neg e]
  refine h.live hs (fun u hu => by rw [est, if_neg hu]) (Or.inr (by rw [est, if_pos rfl])) rfl rfl rfl rfl rfl rfl rfl rfl rfl rfl (fun u h0 h1 h2 => ?_)
  by_cases e : u = t
  · subst e
    have e1 : sty0 M u w a b 27 u = w := by unfold sty0; rw [up_same2 (by decide), up_same2 (by decide), up_same]
    have e2 : sty0 M u w a b 28 u = a := by unfold sty0; rw [up_same2 (by decide), up_same]
    have e3 : sty0 M u w a b 29 u = b := by unfold sty0; rw [up_same]
    rw [e1, e2, e3]
    exact hq
  · rw [est, if_neg e] at h2
    have e1 : sty0 M t w a b 27 u = M 27 u := by unfold sty0; rw [up_same2 (by decide), up_same2 (by decide), up_ne (fun q => e q.2), up_same2 (by decide)]
    have e2 : sty0 M t w a b 28 u = M 28 u := by unfold sty0; rw [up_same2 (by decide), up_ne (fun q => e q.2), up_same2 (by decide), up_same2 (by decide)]
    have e3 : sty0 M t w a b 29 u = M 29 u := by unfold sty0; rw [up_ne (fun q => e q.2), up_same2 (by decide), up_same2 (by decide), up_same2 (by decide)]
    rw [e1, e2, e3]
    exact h.req u h0 h1 h2
set_option maxHeartbeats 4000000 in
set_option maxRecDepth 20000 in
theorem c_M_stays (t w a b : Int) (M Z0 : MSt) (hf : WF M) (ht : 0 ≤ t ∧ t < M 22 0) (hs : M 23 t = 1 ∨ M 23 t = 2) (hq : ReqOk w a b) (hb : InR b) : MI y_M_stays (wsOf y_M_stays b_M_stays 7 (some .int)) 5 [t, w, a, b] (sset M Z0) (fun z M' => z = (sty M t w a b).1 ∧ ∃ Z, M' = sset (sty M t w a b).2 Z) := by
  refine MCon.of (by decide) rfl (Nat.le_of_ble_eq_true rfl) ?_
  intro X E o
  show V X (RelM E (sset M Z0)) 0 [(0, .ref (Em.x E)), (1, J (t)), (2, J (w)), (3, J (a)), (4, J (b))] [] []
  have hm := hf.many
  have haw : InR w ∧ InR a := by rcases hq with h | h <;> exact ⟨⟨by omega, by omega⟩, by omega, by omega⟩
  have lp : ∀ (n : Nat) (tn : Int) (S Z : MSt), 0 ≤ tn → tn + n = 60 → WF S → S 22 0 = M 22 0 → styN t n S = sty M t w a b → V X (RelM E (sset S Z)) 32 [(0, .ref (Em.x E)), (1, J t), (2, J w), (3, J a), (4, J b), (5, J tn)] [] [] := by
    intro n
    induction n with
    | zero =>
      intro tn S Z h0 h1 wS em he
      refine v_iload (i := 5) o.ok d_M_stays_32 rfl ?_
      refine v_bipush o.ok d_M_stays_34 rfl ?_
      refine v_icmp_ge o.ok (by omega) (by omega) d_M_stays_36 (fun c36 => ?_) (fun c36 => ?_)
      · refine v_aload_n (i := 0) o.ok d_M_stays_75 rfl rfl ?_
        refine v_iload_n (i := 1) o.ok d_M_stays_76 rfl rfl ?_
        refine m_cf o (c_M_live t (sset S Z) (by omega)) q_M_live lm_M_150 d_M_stays_77 (by decide) rfl (Nat.le_of_ble_eq_true rfl) rfl ?_
        first | refine v_ifeq_b o.ok d_M_stays_80 (fun c80 => ?_) (fun c80 => ?_) | refine v_if_eq o.ok (by omega) d_M_stays_80 (fun c80 => ?_) (fun c80 => ?_)
        · refine v_bipush o.ok d_M_stays_88 rfl ?_
          refine m_iret o d_M_stays_90 ?_
          refine ⟨_, rfl, ?_, Z, by rw [← he]; rfl⟩
          rw [← he]
          show _ = pick _ _ _
          first | rw [pick_t (by assumption)] | rw [pick_f (by assumption)]
        · refine v_bipush o.ok d_M_stays_83 rfl ?_
          refine v_goto o.ok d_M_stays_85 ?_
          refine m_iret o d_M_stays_90 ?_
          refine ⟨_, rfl, ?_, Z, by rw [← he]; rfl⟩
          rw [← he]
          show _ = pick _ _ _
          first | rw [pick_t (by assumption)] | rw [pick_f (by assumption)]
      · exfalso; omega
    | succ n ih =>
      intro tn S Z h0 h1 wS em he
      have hv := vic_bd (M := S) (t := t) wS.many.1
      have he2 : styN t (n + 1) S = pick (Liv S t) (pick (vic S t < 0) (-2, S) (styN t n (abt S (vic S t)).2)) (-3, S) := rfl
      refine v_iload (i := 5) o.ok d_M_stays_32 rfl ?_
      refine v_bipush o.ok d_M_stays_34 rfl ?_
      refine v_icmp_ge o.ok (by omega) (by omega) d_M_stays_36 (fun c36 => ?_) (fun c36 => ?_)
      · exfalso; omega
      · refine v_aload_n (i := 0) o.ok d_M_stays_39 rfl rfl ?_
        refine v_iload_n (i := 1) o.ok d_M_stays_40 rfl rfl ?_
        refine m_cf o (c_M_live t (sset S Z) (by omega)) q_M_live lm_M_150 d_M_stays_41 (by decide) rfl (Nat.le_of_ble_eq_true rfl) rfl ?_
        first | refine v_ifeq_b o.ok d_M_stays_44 (fun c44 => ?_) (fun c44 => ?_) | refine v_if_eq o.ok (by omega) d_M_stays_44 (fun c44 => ?_) (fun c44 => ?_)
        · refine v_aload_n (i := 0) o.ok d_M_stays_75 rfl rfl ?_
          refine v_iload_n (i := 1) o.ok d_M_stays_76 rfl rfl ?_
          refine m_cf o (c_M_live t (sset S Z) (by omega)) q_M_live lm_M_150 d_M_stays_77 (by decide) rfl (Nat.le_of_ble_eq_true rfl) rfl ?_
          first | refine v_ifeq_b o.ok d_M_stays_80 (fun c80 => ?_) (fun c80 => ?_) | refine v_if_eq o.ok (by omega) d_M_stays_80 (fun c80 => ?_) (fun c80 => ?_)
          · refine v_bipush o.ok d_M_stays_88 rfl ?_
            refine m_iret o d_M_stays_90 ?_
            first
              | (have hl : Liv S t := by assumption
                 rw [he2, pick_t hl, pick_t (by omega)] at he
                 exact ⟨_, rfl, by rw [← he], Z1, by rw [← he]⟩)
              | (have hl : ¬ Liv S t := by assumption
                 rw [he2, pick_f hl] at he
                 exact ⟨_, rfl, by rw [← he], Z, by rw [← he]⟩)
          · exfalso; have c1 : ¬ Liv (sset S Z) t := by assumption
            have c2 : Liv (sset S Z) t := by assumption
            exact c1 c2
        · refine v_aload_n (i := 0) o.ok d_M_stays_47 rfl rfl ?_
          refine v_iload_n (i := 1) o.ok d_M_stays_48 rfl rfl ?_
          refine m_ci o (c_M_victim t S Z wS (by omega)) q_M_victim lm_M_227 d_M_stays_49 (by decide) rfl (Nat.le_of_ble_eq_true rfl) rfl (fun z49 M49 h49 => ?_)
          obtain ⟨rfl, Z1, rfl⟩ := h49
          refine v_istore (i := 6) (L' := [(0, _), (1, _), (2, _), (3, _), (4, _), (5, _), (6, _)]) (G' := []) o.ok d_M_stays_52 (o.lt (by decide)) rfl rfl ?_
          refine v_iload (i := 6) o.ok d_M_stays_54 rfl ?_
          refine v_if_ge o.ok (by omega) d_M_stays_56 (fun c56 => ?_) (fun c56 => ?_)
          · refine v_aload_n (i := 0) o.ok d_M_stays_62 rfl rfl ?_
            refine v_iload (i := 6) o.ok d_M_stays_63 rfl ?_
            refine m_ci o (c_M_aborts (vic S t) (sset S Z1) wS.sst ⟨by omega, (by show vic S t < S 22 0; omega)⟩) q_M_aborts lm_M_230 d_M_stays_65 (by decide) rfl (Nat.le_of_ble_eq_true rfl) rfl (fun z65 M65 h65 => ?_)
            obtain ⟨e65, Z2, rfl⟩ := h65
            rw [sset_abt]
            dsimp only
            rw [sset_sset]
            refine v_pop o.ok d_M_stays_68 rfl ?_
            refine v_iinc (i := 5) (L' := [(0, _), (1, _), (2, _), (3, _), (4, _), (5, _), (6, _)]) (G' := []) o.ok d_M_stays_69 rfl (o.lt (by decide)) rfl rfl ?_
            refine v_goto o.ok d_M_stays_72 ?_
            have hl : Liv S t := by assumption
            rw [he2, pick_t hl, pick_f (by omega)] at he
            refine v_sel [0, 1, 2, 3, 4, 5] [] (L' := [(0, _), (1, _), (2, _), (3, _), (4, _), (5, _)]) (G' := []) rfl rfl ?_
            refine ih (tn + 1) (abt S (vic S t)).2 Z2 (by omega) (by omega) (abt_wf wS ⟨by omega, by omega⟩) ?_ he
            rw [← em]
            exact congrFun (abt_o (f := 22) rfl rfl (by decide) (by decide)) 0
          · refine v_bipush o.ok d_M_stays_59 rfl ?_
            refine m_iret o d_M_stays_61 ?_
            first
              | (have hl : Liv S t := by assumption
                 rw [he2, pick_t hl, pick_t (by omega)] at he
                 exact ⟨_, rfl, by rw [← he], Z1, by rw [← he]⟩)
              | (have hl : ¬ Liv S t := by assumption
                 rw [he2, pick_f hl] at he
                 exact ⟨_, rfl, by rw [← he], Z, by rw [← he]⟩)
  refine v_aload_n (i := 0) o.ok d_M_stays_0 rfl rfl ?_
  refine m_geta o 23 (by decide) (by decide) lf_M_62 rfl d_M_stays_1 ?_
  refine v_iload_n (i := 1) o.ok d_M_stays_4 rfl rfl ?_
  refine v_iconst o.ok d_M_stays_5 ?_
  refine m_iast o 23 60 rfl rfl (by omega) (by omega) d_M_stays_6 ?_
  refine v_aload_n (i := 0) o.ok d_M_stays_7 rfl rfl ?_
  refine m_geta o 27 (by decide) (by decide) lf_M_74 rfl d_M_stays_8 ?_
  refine v_iload_n (i := 1) o.ok d_M_stays_11 rfl rfl ?_
  refine v_iload_n (i := 2) o.ok d_M_stays_12 rfl rfl ?_
  refine m_iast o 27 60 rfl rfl (by omega) (by omega) d_M_stays_13 ?_
  refine v_aload_n (i := 0) o.ok d_M_stays_14 rfl rfl ?_
  refine m_geta o 28 (by decide) (by decide) lf_M_77 rfl d_M_stays_15 ?_
  refine v_iload_n (i := 1) o.ok d_M_stays_18 rfl rfl ?_
  refine v_iload_n (i := 3) o.ok d_M_stays_19 rfl rfl ?_
  refine m_iast o 28 60 rfl rfl (by omega) (by omega) d_M_stays_20 ?_
  refine v_aload_n (i := 0) o.ok d_M_stays_21 rfl rfl ?_
  refine m_geta o 29 (by decide) (by decide) lf_M_80 rfl d_M_stays_22 ?_
  refine v_iload_n (i := 1) o.ok d_M_stays_25 rfl rfl ?_
  refine v_iload (i := 4) o.ok d_M_stays_26 rfl ?_
  refine m_iast o 29 60 rfl rfl (by omega) (by omega) d_M_stays_28 ?_
  refine v_iconst o.ok d_M_stays_29 ?_
  refine v_istore (i := 5) (L' := [(0, _), (1, _), (2, _), (3, _), (4, _), (5, _)]) (G' := []) o.ok d_M_stays_30 (o.lt (by decide)) rfl rfl ?_
  have e : up (up (up (up (sset M Z0) 23 t 2) 27 t w) 28 t a) 29 t b = sset (sty0 M t w a b) Z0 := by
    rw [sset_up rfl, sset_up rfl, sset_up rfl, sset_up rfl]
    rfl
  rw [e]
  exact lp 60 0 _ Z0 (by omega) (by omega) (sty0_wf hf hs hq) rfl rfl

