theorem cntN_0 {P : Int → Prop} : ∀ n : Nat, cntN P n = 0 → ∀ i, 0 ≤ i → i < (n : Int) → ¬ P i := by
  intro n
  induction n with
  | zero => intro _ i a b; omega
  | succ n ih =>
    intro h i a b
    have e : cntN P (n + 1) = cntN P n + b01 (P n) := rfl
    have h1 := cntN_bd (P := P) n
    have h2 := b01_or (P n)
    by_cases c : i = n
    · rw [c]; intro q; rw [b01_t q] at e; omega
    · exact ih (by omega) i a (by omega)
theorem no_live {M : MSt} (h : lives M = 0) (hm : 0 ≤ M 22 0) {t : Int} (ht : inM M t) : ¬ Liv M t := cntN_0 (P := Liv M) (M 22 0).toNat h t ht.1 (by have := ht.2; omega)
theorem no_open {M : MSt} (hw : WF M) (hs : StOk M) (h : lives M = 0) : opens M = 0 := by
  refine cnt_none (fun i a b z => ?_)
  have hb := hw.bys i a b
  have ht := top_bd hw.par hb.1 hb.2
  have hin : inM M (top M (M 15 i)) := ⟨ht.1, by omega⟩
  have h1 := hs _ hin.1 hin.2
  have h2 := z.2.1
  have h3 := z.2.2.1
  exact no_live h hw.many.1 hin (by unfold Liv; omega)
theorem Sim_arc {N M : MSt} (h : Sim N M) (hw : WF M) (hs : StOk M) (hl : lives M = 0) : Sim (up (up (up N 4 0 (N 4 0 + N 3 0)) 3 0 0) 5 0 (N 4 0 + N 3 0)) (arc M) := by
  have el : N 4 0 + N 3 0 = lst M := by unfold lst; rw [h.l.1.1, h.l.1.2.1]
  have hnl : ∀ t, 0 ≤ t → t < M 22 0 → ¬ LvT M t := fun t a b z => by
    have ht := top_bd hw.par a b
    exact no_live hl hw.many.1 ⟨ht.1, by omega⟩ z
  refine ⟨?_, ⟨⟨?_, rfl, Int.le_refl _, ?_⟩, fun r a b => ?_⟩, ⟨fun r a b => ?_, fun t a b c => ?_⟩, ?_, ?_, ?_, ?_⟩
  · obtain ⟨⟨a, b, c⟩, d⟩ := h.p
    refine ⟨⟨a, b, ?_⟩, d⟩
    show N 4 0 + N 3 0 = lst M
    exact el
  · show N 4 0 + N 3 0 = lst M
    exact el
  · have := h.l.1.2.2
    show (0 : Int) ≤ N 50 0
    omega
  · have b : r < 0 := b
    omega
  · have b : r < 0 := b
    omega
  · exact absurd c (hnl t a b)
  · exact h.t.c rfl rfl rfl rfl rfl rfl rfl rfl rfl rfl rfl rfl rfl rfl rfl rfl rfl rfl rfl rfl rfl
  · show N 6 0 = opens (arc M)
    rw [h.cc.1, no_open hw hs hl]
    rfl
  · show N 7 0 = lives (arc M)
    rw [h.cc.2.1]
    exact (lives_c rfl rfl).symm
  · exact h.cc.2.2
theorem wrN_wf {M : MSt} (h : WF M) (n : Nat) : WF (wrN M n).2 := by
  have o : ∀ f : Nat, pgF f = false → (wrN M n).2 f = M f := fun f e => wrN_o e n
  have ck : (wrN M n).2 10 0 = M 10 0 := by
    induction n with
    | zero => rfl
    | succ n ih =>
      show (r_write (wrN M n).2 n).2 10 0 = _
      unfold r_write
      by_cases c : (0 ≤ (n : Int) ∧ (n : Int) ≤ 7) ∧ (wrN M n).2 7 n = 1 ∧ (wrN M n).2 8 n = 1
      · rw [pick_t c]; exact (wrt_g (M := (wrN M n).2) (p := n) (f := 10) (by decide) (by decide) (by decide) (by decide) (by decide)).trans (ih (fun f e => wrN_o e n))
      · rw [pick_f c]; exact ih (fun f e => wrN_o e n)
  exact WF.c (o _ rfl).symm (o _ rfl).symm (congrFun (o _ rfl) 0).symm (congrFun (o _ rfl) 0).symm (o _ rfl).symm (o _ rfl).symm (o _ rfl).symm (congrFun (o _ rfl) 0).symm (o _ rfl).symm (o _ rfl).symm (o _ rfl).symm (o _ rfl).symm ck.symm (congrFun (o _ rfl) 0).symm h
set_option maxHeartbeats 4000000 in
set_option maxRecDepth 20000 in
theorem c_S_archive (D : GD) (A : ASt) (N M : MSt) (h : Sim N M) (hi : IvM M) : NX D y_S_archive (wsOf y_S_archive b_S_archive 3 (some .int)) (4) [rq A 0 (0)] A N (fun x A1 N1 => x = J (r_archive M).1 ∧ Fwd N A N1 A1 ∧ Sim N1 (r_archive M).2) := by
  refine NCon.of (by decide) (by simp [cat_rf, J_cat]) (Nat.le_of_ble_eq_true rfl) ?_
  intro X g0 o
  show V X (RelN D A N) 0 [(0, rq A 0 (0))] [] []
  have hw := hi.1
  have hs := hi.2.2.1
  have hn := h.nums hw
  have el : N 7 0 = lives M := h.cc.2.1
  have lp : ∀ (n : Nat) (k : Nat) (N1 : MSt), k + n = 8 → Sim N1 (wrN M k).2 → (∀ f i, f ≠ 5 → f ≠ 11 → f ≠ 12 → f ≠ 14 → f ≠ 17 → N1 f i = N f i) → lives M = 0 → V X (RelN D A N1) 13 [(0, rq A 0 0), (1, J (wrN M k).1), (2, J (k : Int))] [] [] := by
    intro n
    induction n with
    | zero =>
      intro k N1 h1 h2 h3 h4
      have hk : k = 8 := (by omega)
      subst hk
      have hbd := wrN_bd M 8
      have er : r_archive M = ((wrN M 8).1, arc (wrN M 8).2) := if_neg (by omega)
      have eg : N1 4 0 = N 4 0 := h3 _ _ (by decide) (by decide) (by decide) (by decide) (by decide)
      have ere : N1 3 0 = N 3 0 := h3 _ _ (by decide) (by decide) (by decide) (by decide) (by decide)
      have ow : ∀ f : Nat, pgF f = false → (wrN M 8).2 f = M f := fun f e => wrN_o e 8
      have hsa := Sim_arc h2 (wrN_wf hw 8) (fun t a b => by rw [congrFun (ow 22 rfl) 0] at b; rw [ow 23 rfl]; exact hs t a b) (by rw [lives_c (ow _ rfl) (congrFun (ow _ rfl) 0)]; exact h4)
      refine v_iload_n (i := 2) o.ok d_S_archive_13 rfl rfl ?_
      refine v_bipush o.ok d_S_archive_14 rfl ?_
      refine v_icmp_ge o.ok (by have := hn.1; have := hn.2.2.2.1; omega) (by have := hn.1; have := hn.2.2.2.1; omega) d_S_archive_16 (fun c16 => ?_) (fun c16 => ?_)
      · refine v_aload_nq (i := 0) o.ok d_S_archive_41 rfl rfl ?_
        refine v_aload_nq (i := 0) o.ok d_S_archive_42 rfl rfl ?_
        refine n_cV o 1 (tg := 0) rfl (by decide) (by decide) (by first | rfl | assumption | exact And.intro (by omega) (by omega)) (c_S_last D A N1 (by rw [ere]; exact hn.1) (by rw [eg]; exact hn.2.2.2.1)) q_S_last lm_S_250 d_S_archive_43 (by decide) rfl (by first | exact Nat.le_of_ble_eq_true rfl | (simp only [List.map_cons, List.map_nil, cat_rf, J_cat, List.sum_cons, List.sum_nil, cat_lg, cat_rr]; decide)) rfl (n_f ?_)
        refine n_puti o 4 rfl rfl rfl rfl lf_S_99 (by first | rfl | assumption | exact And.intro (by omega) (by omega)) (by have := hn.1; have := hn.2.2.2.1; omega) d_S_archive_46 ?_
        refine v_aload_nq (i := 0) o.ok d_S_archive_49 rfl rfl ?_
        refine v_iconst o.ok d_S_archive_50 ?_
        refine n_puti o 3 rfl rfl rfl rfl lf_S_95 (by first | rfl | assumption | exact And.intro (by omega) (by omega)) (by have := hn.1; have := hn.2.2.2.1; omega) d_S_archive_51 ?_
        refine v_aload_nq (i := 0) o.ok d_S_archive_54 rfl rfl ?_
        refine v_aload_nq (i := 0) o.ok d_S_archive_55 rfl rfl ?_
        refine n_geti o 4 rfl rfl rfl lf_S_99 (by first | rfl | assumption | exact And.intro (by omega) (by omega)) d_S_archive_56 (fun i56 => ?_)
        (try simp only [up, Nat.reduceEqDiff, false_and, if_false, and_self, if_true, true_and, and_true] at i56 ⊢)
        refine n_puti o 5 rfl rfl rfl rfl lf_S_75 (by first | rfl | assumption | exact And.intro (by omega) (by omega)) (by have := hn.1; have := hn.2.2.2.1; omega) d_S_archive_59 ?_
        refine v_iload_n (i := 1) o.ok d_S_archive_62 rfl rfl ?_
        refine n_iret o d_S_archive_63 ⟨by rw [er], ⟨Ext.rf N A, by rw [up_ne (by simp), up_ne (by simp), up_ne (by simp), h3 _ _ (by decide) (by decide) (by decide) (by decide) (by decide)]; exact Int.le_refl _, by rw [up_ne (by simp), up_ne (by simp), up_ne (by simp), h3 _ _ (by decide) (by decide) (by decide) (by decide) (by decide)]; exact Int.le_refl _, by rw [up_ne (by simp), up_ne (by simp), up_ne (by simp), h3 _ _ (by decide) (by decide) (by decide) (by decide) (by decide)]⟩, by rw [er]; exact hsa⟩
      · exfalso; omega
    | succ n ih =>
      intro k N1 h1 h2 h3 h4
      have hbd := wrN_bd M k
      have hw1 := r_write_01 (wrN M k).2 k
      have es : (wrN M (k + 1)).1 = (wrN M k).1 + (r_write (wrN M k).2 k).1 := rfl
      have ih1 := ih (k + 1) (wN N1 (wrN M k).2 k) (by omega) (wN_sim h2) (fun f i a b c d e => by rw [wN_o a b c d e]; exact h3 f i a b c d e) h4
      rw [es] at ih1
      refine v_iload_n (i := 2) o.ok d_S_archive_13 rfl rfl ?_
      refine v_bipush o.ok d_S_archive_14 rfl ?_
      refine v_icmp_ge o.ok (by omega) (by omega) d_S_archive_16 (fun c16 => ?_) (fun c16 => ?_)
      · exfalso; omega
      · refine v_iload_n (i := 1) o.ok d_S_archive_19 rfl rfl ?_
        refine v_aload_nq (i := 0) o.ok d_S_archive_20 rfl rfl ?_
        refine v_iload_n (i := 2) o.ok d_S_archive_21 rfl rfl ?_
        refine n_cV o 1 (tg := 0) rfl (by decide) (by decide) (by first | rfl | assumption | exact And.intro (by omega) (by omega)) (c_S_write D A k N1 (wrN M k).2 h2 (by omega)) q_S_write lm_S_306 d_S_archive_22 (by decide) rfl (by first | exact Nat.le_of_ble_eq_true rfl | (simp only [List.map_cons, List.map_nil, cat_rf, J_cat, List.sum_cons, List.sum_nil, cat_lg, cat_rr]; decide)) rfl (n_f ?_)
        refine v_if_eq o.ok (by omega) d_S_archive_25 (fun c25 => ?_) (fun c25 => ?_)
        · refine v_iconst o.ok d_S_archive_32 ?_
          refine v_iadd o.ok d_S_archive_33 ?_
          refine v_istore_n (i := 1) (L' := [(0, _), (1, _), (2, _)]) (G' := []) o.ok d_S_archive_34 rfl (o.lt (by decide)) rfl rfl ?_
          refine v_iinc (i := 2) (L' := [(0, _), (1, _), (2, _)]) (G' := []) o.ok d_S_archive_35 rfl (o.lt (by decide)) rfl rfl ?_
          refine v_goto o.ok d_S_archive_38 ?_
          first
            | (rw [show (r_write (wrN M k).2 k).1 = 1 from by omega] at ih1; exact ih1)
            | (rw [show (r_write (wrN M k).2 k).1 = 0 from by omega] at ih1; exact ih1)
        · refine v_iconst o.ok d_S_archive_28 ?_
          refine v_goto o.ok d_S_archive_29 ?_
          refine v_iadd o.ok d_S_archive_33 ?_
          refine v_istore_n (i := 1) (L' := [(0, _), (1, _), (2, _)]) (G' := []) o.ok d_S_archive_34 rfl (o.lt (by decide)) rfl rfl ?_
          refine v_iinc (i := 2) (L' := [(0, _), (1, _), (2, _)]) (G' := []) o.ok d_S_archive_35 rfl (o.lt (by decide)) rfl rfl ?_
          refine v_goto o.ok d_S_archive_38 ?_
          first
            | (rw [show (r_write (wrN M k).2 k).1 = 1 from by omega] at ih1; exact ih1)
            | (rw [show (r_write (wrN M k).2 k).1 = 0 from by omega] at ih1; exact ih1)
  refine v_aload_nq (i := 0) o.ok d_S_archive_0 rfl rfl ?_
  refine n_geti o 7 rfl rfl rfl lf_S_109 (by first | rfl | assumption | exact And.intro (by omega) (by omega)) d_S_archive_1 (fun i1 => ?_)
  (try simp only [up, Nat.reduceEqDiff, false_and, if_false, and_self, if_true, true_and, and_true] at i1 ⊢)
  refine v_if_le o.ok (by omega) d_S_archive_4 (fun c4 => ?_) (fun c4 => ?_)
  · refine v_iconst o.ok d_S_archive_9 ?_
    refine v_istore_n (i := 1) (L' := [(0, _), (1, _)]) (G' := []) o.ok d_S_archive_10 rfl (o.lt (by decide)) rfl rfl ?_
    refine v_iconst o.ok d_S_archive_11 ?_
    refine v_istore_n (i := 2) (L' := [(0, _), (1, _), (2, _)]) (G' := []) o.ok d_S_archive_12 rfl (o.lt (by decide)) rfl rfl ?_
    exact lp 8 0 N (by omega) h (fun _ _ _ _ _ _ _ => rfl) (by have := hw.ob; omega)
  · have er : r_archive M = (-1, M) := if_pos (by omega)
    refine v_iconst o.ok d_S_archive_7 ?_
    refine n_iret o d_S_archive_8 ⟨by rw [er], Fwd.rf N A, by rw [er]; exact h⟩

