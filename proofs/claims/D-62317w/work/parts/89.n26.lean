/-! a request is made -/
theorem styN_1 (t : Int) : ∀ (n : Nat) (M : MSt), (styN t n M).1 = pick (Liv (styN t n M).2 t) (-2) (-3) := by
  intro n
  induction n with
  | zero => intro M; rfl
  | succ n ih =>
    intro M
    rw [styN_s]
    by_cases h1 : Liv M t
    · rw [pick_t h1]
      by_cases h2 : vic M t < 0
      · rw [pick_t h2]
        show (-2 : Int) = pick (Liv M t) (-2) (-3)
        rw [pick_t h1]
      · rw [pick_f h2]
        exact ih _
    · rw [pick_f h1]
      show (-3 : Int) = pick (Liv M t) (-2) (-3)
      rw [pick_f h1]
theorem styN_o {t : Int} {f : Nat} (h : pgF f = false) (h1 : lgF f = false) (h2 : f ≠ 23) (h3 : f ≠ 26) : ∀ (n : Nat) (M : MSt), (styN t n M).2 f = M f := by
  intro n
  induction n with
  | zero => intro M; rfl
  | succ n ih =>
    intro M
    rw [styN_s]
    by_cases h4 : Liv M t
    · rw [pick_t h4]
      by_cases h5 : vic M t < 0
      · rw [pick_t h5]
      · rw [pick_f h5, ih, abt_o h h1 h2 h3]
    · rw [pick_f h4]
theorem ReqOk.w {w a b : Int} (h : ReqOk w a b) : 1 ≤ w ∧ w ≤ 4 := by
  rcases h with h | h <;> omega
theorem nds_st1 (M : MSt) (t w a b : Int) : nds (up M 23 t 1) w a b = nds M w a b := nds_c (M := up M 23 t 1) (M' := M) (fun _ => rfl)
theorem mdo_st1 (M : MSt) (t w a : Int) : mdo (up M 23 t 1) w a = mdo M w a := rfl
theorem Sim.liv {N M : MSt} (h : Sim N M) {t : Int} (ht : inM M t) : N 35 t = M 23 t := (h.t.2 t ht.1 ht.2).1.2.2.2.2
theorem k_make (D : GD) (A : ASt) (t w a b mb mc : Int) (N0 : MSt) (A0 : ASt) (N M : MSt) (h : Sim N0 M) (hI : Inv mb mc M) (hb : mb ≤ 300) (hc : mc ≤ 900000) (hba : M 11 0 ≤ 1000000) (ht : inM M t) (hl : Liv M t) (hq : ReqOk w a b) (hN : N = qN N0 t w a b) (hA : Fwd N0 A0 N A) {X : Cx} {g0 : GSt}
    (o : OkG X D y_S_make.cls b_S_make 3 (some .int) (8) g0 (QN D fun r A1 N1 => ∃ x, r = some x ∧ x = J (req M t w a b).1 ∧ Fwd N0 A0 N1 A1 ∧ Sim N1 (req M t w a b).2)) : V X (RelN D A N) 5 [(0, rq A 0 0), (1, rq A 11 t), (2, rq A 13 t)] [] [] := by
  have hS1 : Sim (up N 35 t 1) (up M 23 t 1) := by rw [hN]; exact h.act1 ht hl
  have hI1 := hI.st1 hl
  have ent : N 51 0 = M 22 0 := by rw [hN, qN_o (by decide) (by decide) (by decide)]; exact h.t.1.2
  have hvt : 0 ≤ t ∧ t < N 51 0 := by rw [ent]; exact ht
  obtain ⟨qa, qf, qs⟩ := qN_t N0 t w a b
  rw [← hN] at qa qf qs
  have hA1 : AskOk (up N 35 t 1) (up M 23 t 1) := ⟨hS1, hI1.1.1, hI1.1.2.1, hI1.2.1.1⟩
  have n1 : ∀ (f : Nat) (i : Int), f ≠ 35 → up N 35 t 1 f i = N f i := fun f i e => up_ne (fun z => e z.1)
  have hq1 : ReqOk (up N 35 t 1 40 t) (up N 35 t 1 41 t) (up N 35 t 1 42 t) := by
    rw [n1 _ _ (by decide), n1 _ _ (by decide), n1 _ _ (by decide), qa, qf, qs]; exact hq
  have hF1 : Fwd N0 A0 (up N 35 t 1) A := hA.eq (n1 _ _ (by decide)) (n1 _ _ (by decide)) (n1 _ _ (by decide))
  have k21 : ∀ (w0 : Int64) (N3 : MSt), AskR (up N 35 t 1) (up M 23 t 1) t (mdo M w a) 1 (nds M w a b) w0 N3 → V X (RelN D A N3) 21 [(0, rq A 0 0), (1, rq A 11 t), (2, rq A 13 t)] [] [.long w0] := by
    intro w0 N3 hR
    have hz := hR.zero
    have hac := akL_acq (t := t) (m := mdo M w a) (nds M w a b) (up M 23 t 1)
    obtain ⟨r1, r2, -, -⟩ := hR
    rw [hac.1] at r2
    rw [hac.2] at hz
    have hI2 : Inv mb mc (acqL t (mdo M w a) (nds M w a b) (up M 23 t 1)).2 := Inv.acq (mdo_12 M w a) _ _ hI1 ht (Or.inl (up_same _ _ _ _)) (nds_bd hq).2
    have m2 : ∀ (f : Nat) (i : Int), f ≠ 26 → (acqL t (mdo M w a) (nds M w a b) (up M 23 t 1)).2 f i = up M 23 t 1 f i := fun f i e => acqL_o e _ _ i
    have ht2 : inM (acqL t (mdo M w a) (nds M w a b) (up M 23 t 1)).2 t := ⟨ht.1, by rw [m2 _ _ (by decide)]; exact ht.2⟩
    have hs2 : (acqL t (mdo M w a) (nds M w a b) (up M 23 t 1)).2 23 t = 1 := by rw [m2 _ _ (by decide)]; exact up_same _ _ _ _
    have hb2 : (acqL t (mdo M w a) (nds M w a b) (up M 23 t 1)).2 11 0 ≤ 1000000 := by rw [m2 _ _ (by decide)]; exact hba
    have hl2 := hI2.1.2.2.2.1.lvt hI2.1.1 ht2 (Or.inl hs2)
    have hw2 := hI2.wf hb hc hb2
    have n3 : ∀ (f : Nat) (i : Int), f ≠ 35 → f ≠ 39 → N3 f i = N f i := fun f i e e2 => (r1 f i e2).trans (n1 f i e)
    have qa3 : N3 40 t = w := (n3 _ _ (by decide) (by decide)).trans qa
    have qf3 : N3 41 t = a := (n3 _ _ (by decide) (by decide)).trans qf
    have qs3 : N3 42 t = b := (n3 _ _ (by decide) (by decide)).trans qs
    have hvt3 : 0 ≤ t ∧ t < N3 51 0 := by rw [n3 _ _ (by decide) (by decide)]; exact hvt
    have hF3 : Fwd N0 A0 N3 A := hA.eq (n3 _ _ (by decide) (by decide)) (n3 _ _ (by decide) (by decide)) (n3 _ _ (by decide) (by decide))
    have hq3 : ReqOk (N3 40 t) (N3 41 t) (N3 42 t) := by rw [qa3, qf3, qs3]; exact hq
    have hI4 := hI2.sty0 (Or.inl hs2) hq
    have hS4 := r2.1.wai ht2 (Or.inl hs2) qa3 qf3 (fun _ => qs3)
    have hvt4 : 0 ≤ t ∧ t < up N3 35 t 2 51 0 := hvt3
    have hb4 : sty0 (acqL t (mdo M w a) (nds M w a b) (up M 23 t 1)).2 t w a b 11 0 ≤ 1000000 := hb2
    have ht4 : inM (sty0 (acqL t (mdo M w a) (nds M w a b) (up M 23 t 1)).2 t w a b) t := ht2
    have hF4 : Fwd N0 A0 (up N3 35 t 2) A := hF3
    have hI5 := Inv.styN (t := t) 60 _ hI4
    have ht5 : inM (styN t 60 (sty0 (acqL t (mdo M w a) (nds M w a b) (up M 23 t 1)).2 t w a b)).2 t := ⟨ht.1, by rw [styN_o rfl rfl (by decide) (by decide)]; exact ht4.2⟩
    have hst5 := hI5.1.2.2.1 t ht5.1 ht5.2
    have k35 : w0 ≠ 0 → V X (RelN D A N3) 35 [(0, rq A 0 0), (1, rq A 11 t), (2, rq A 13 t)] [] [] := by
      intro hw0
      have e0 : (acqL t (mdo M w a) (nds M w a b) (up M 23 t 1)).1 = 0 := Classical.byContradiction fun q => hw0 (hz.mpr q)
      have er : req M t w a b = styN t 60 (sty0 (acqL t (mdo M w a) (nds M w a b) (up M 23 t 1)).2 t w a b) := by
        unfold req
        rw [if_pos e0]
        rfl
      have e1 := styN_1 t 60 (sty0 (acqL t (mdo M w a) (nds M w a b) (up M 23 t 1)).2 t w a b)
      refine v_aload_nq (i := 1) o.ok d_S_make_35 rfl rfl ?_
      refine n_getQ o 2 (by decide) ls_S_195 d_S_make_36 ?_
      refine n_putr o 35 20 rfl rfl rfl (by decide) rfl lf_S_182 (by first | rfl | exact hvt3 | exact hvt4 | exact hvt5 | exact hvs5) (by exact Or.inr (show (1 : Int) ≤ 2 ∧ (2 : Int) < 5 by decide)) d_S_make_39 ?_
      refine v_aload_nq (i := 0) o.ok d_S_make_42 rfl rfl ?_
      refine v_aload_nq (i := 1) o.ok d_S_make_43 rfl rfl ?_
      refine n_cV o 1 (tg := 0) rfl (by decide) (by decide) (by first | rfl | exact hvt3 | exact hvt4 | exact hvt5 | exact hvs5) (c_S_circles D A t mb mc (up N3 35 t 2) (sty0 (acqL t (mdo M w a) (nds M w a b) (up M 23 t 1)).2 t w a b) hS4 hI4 hb hc hb4 ht4) q_S_circles lm_S_263 d_S_make_44 (by decide) rfl (by first | exact Nat.le_of_ble_eq_true rfl | (simp only [List.map_cons, List.map_nil, cat_rf, J_cat, List.sum_cons, List.sum_nil, cat_lg, cat_rr]; decide)) rfl (n_u (fun A44 N44 h44 => ?_))
      obtain ⟨hfw, hsm⟩ := h44
      have es5 := hsm.liv ht5
      have hvt5 : 0 ≤ t ∧ t < N44 51 0 := (by rw [hsm.t.1.2]; exact ht5)
      have hvs5 : Vld N44 20 (N44 35 t) := (by rw [es5]; exact hst5)
      (try simp only [rq])
      refine v_sel [0, 1] [] rfl rfl ?_
      rw [← hfw.1.fo (tg := 0) (v := 0) (by decide), ← hfw.1.ft (v := t) (by exact hvt3.2)]
      refine v_aload_nq (i := 1) o.ok d_S_make_47 rfl rfl ?_
      refine n_getr o 35 20 rfl rfl rfl (by decide) lf_S_182 (by first | rfl | exact hvt3 | exact hvt4 | exact hvt5 | exact hvs5) d_S_make_48 (fun r48 => ?_)
      refine n_cQ o (by first | rfl | exact hvt3 | exact hvt4 | exact hvt5 | exact hvs5) (c_Q_live D A44 (N44 35 t) N44 (by rw [es5]; exact hst5)) q_Q_live lm_S_186 d_S_make_51 (by decide) rfl (by first | exact Nat.le_of_ble_eq_true rfl | (simp only [List.map_cons, List.map_nil, cat_rf, J_cat, List.sum_cons, List.sum_nil, cat_lg, cat_rr]; decide)) rfl (n_f ?_)
      first | refine v_ifeq_b o.ok d_S_make_54 (fun c54 => ?_) (fun c54 => ?_) | refine v_if_eq o.ok (by omega) d_S_make_54 (fun c54 => ?_) (fun c54 => ?_)
      · refine v_bipush o.ok d_S_make_62 rfl ?_
        refine n_iret o d_S_make_64 ⟨by
          rw [er, e1]
          first
            | rw [pick_t (show Liv _ t by unfold Liv; rw [← es5]; assumption)]
            | rw [pick_f (show ¬ Liv _ t by unfold Liv; rw [← es5]; assumption)], hF4.tr hfw, by rw [er]; exact hsm⟩
      · refine v_bipush o.ok d_S_make_57 rfl ?_
        refine v_goto o.ok d_S_make_59 ?_
        refine n_iret o d_S_make_64 ⟨by
          rw [er, e1]
          first
            | rw [pick_t (show Liv _ t by unfold Liv; rw [← es5]; assumption)]
            | rw [pick_f (show ¬ Liv _ t by unfold Liv; rw [← es5]; assumption)], hF4.tr hfw, by rw [er]; exact hsm⟩
    refine v_lconst o.ok d_S_make_21 rfl ?_
    refine v_lcmp o.ok d_S_make_22 ?_
    rw [lcm_e]
    refine v_if_ne o.ok (by exact cmI_r _ _) d_S_make_23 (fun c23 => ?_) (fun c23 => ?_)
    · exact k35 (fun z => absurd (cmI_0.mpr z) (by assumption))
    · have e0 : ¬ (acqL t (mdo M w a) (nds M w a b) (up M 23 t 1)).1 = 0 := hz.mp (cmI_0.mp (by assumption))
      have er : req M t w a b = act (acqL t (mdo M w a) (nds M w a b) (up M 23 t 1)).2 t w a b := (by
        unfold req
        rw [if_neg e0])
      refine v_aload_nq (i := 2) o.ok d_S_make_26 rfl rfl ?_
      refine v_aload_nq (i := 0) o.ok d_S_make_27 rfl rfl ?_
      refine v_aload_nq (i := 1) o.ok d_S_make_28 rfl rfl ?_
      refine n_actc o r2.1 hw2 ht2 hl2 hq3 d_S_make_29 (by decide) (by first | exact Nat.le_of_ble_eq_true rfl | (simp only [List.map_cons, List.map_nil, cat_rf, J_cat, List.sum_cons, List.sum_nil, cat_lg, cat_rr]; decide)) (fun A4 N4 hf4 hs4 => ?_)
      rw [qa3, qf3, qs3] at hs4 ⊢
      rw [← er] at hs4 ⊢
      exact n_iret o d_S_make_34 ⟨rfl, hF3.tr hf4, hs4⟩
  refine v_aload_nq (i := 1) o.ok d_S_make_5 rfl rfl ?_
  refine n_getQ o 1 (by decide) ls_S_244 d_S_make_6 ?_
  refine n_putr o 35 20 rfl rfl rfl (by decide) rfl lf_S_182 (by first | rfl | exact hvt) (by exact Or.inr (show (1 : Int) ≤ 1 ∧ (1 : Int) < 5 by decide)) d_S_make_9 ?_
  refine v_aload_nq (i := 2) o.ok d_S_make_12 rfl rfl ?_
  refine v_aload_nq (i := 0) o.ok d_S_make_13 rfl rfl ?_
  refine v_aload_nq (i := 1) o.ok d_S_make_14 rfl rfl ?_
  refine v_iconst o.ok d_S_make_15 ?_
  refine n_askc o hA1 ht hq1 (Or.inr rfl) d_S_make_16 (by decide) (by first | exact Nat.le_of_ble_eq_true rfl | (simp only [List.map_cons, List.map_nil, cat_rf, J_cat, List.sum_cons, List.sum_nil, cat_lg, cat_rr]; decide)) (fun w0 N3 hR => ?_)
  have hR : AskR (up N 35 t 1) (up M 23 t 1) t (mdo (up M 23 t 1) (up N 35 t 1 40 t) (up N 35 t 1 41 t)) 1 (nds (up M 23 t 1) (up N 35 t 1 40 t) (up N 35 t 1 41 t) (up N 35 t 1 42 t)) w0 N3 := hR
  rw [n1 _ _ (by decide), n1 _ _ (by decide), n1 _ _ (by decide), qa, qf, qs, nds_st1, mdo_st1] at hR
  exact k21 w0 N3 hR

