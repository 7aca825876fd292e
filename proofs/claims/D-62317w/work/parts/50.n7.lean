def StOk (M : MSt) : Prop := ∀ t, 0 ≤ t → t < M 22 0 → 1 ≤ M 23 t ∧ M 23 t < 5
def LkOk (M : MSt) : Prop := ∀ t i, 0 ≤ t → t < M 22 0 → 0 ≤ i → i < 33 → 0 ≤ M 26 (33 * t + i) ∧ M 26 (33 * t + i) ≤ 2
/-- the live children of t -/
def lcP (M : MSt) (t u : Int) : Prop := inM M u ∧ Liv M u ∧ M 24 u = t
set_option maxHeartbeats 4000000 in
set_option maxRecDepth 20000 in
theorem c_T_liveChildren (D : GD) (A : ASt) (t : Int) (N M : MSt) (h : SimT N M) (hp : ParOk M) (hs : StOk M) (ht : 0 ≤ t ∧ t < M 22 0) : NX D y_T_liveChildren (wsOf y_T_liveChildren b_T_liveChildren 4 (some .long)) (1) [rq A 11 (t)] A N (fun x A1 N1 => ∃ w, x = .long w ∧ (A1 = A ∧ N1 = N) ∧ ∀ u, lb w u ↔ lcP M t u) := by
  refine NCon.of (by decide) (by simp [cat_rf, J_cat]) (Nat.le_of_ble_eq_true rfl) ?_
  intro X g0 o
  show V X (RelN D A N) 0 [(0, rq A 11 (t))] [] []
  have e2 : N 51 0 = M 22 0 := h.1.2
  have hm := hp.2.1
  have lp : ∀ (n : Nat) (c : Int) (w : Int64), c < n → (c = -1 ∨ ((0 ≤ c ∧ c < M 22 0) ∧ M 24 c = t)) → (∀ u, lb w u ↔ lcP M t u ∧ c < u) → V X (RelN D A N) 7 [(0, rq A 11 t), (3, rq A 11 c)] [(1, w)] [] := by
    intro n
    induction n with
    | zero =>
      intro c w h0 h1 h2
      refine v_aload_nq (i := 3) o.ok d_T_liveChildren_7 rfl rfl ?_
      refine n_ifnull o.ok d_T_liveChildren_8 (fun c8 => ?_) (fun c8 => ?_)
      · refine v_lload_n (i := 1) o.ok d_T_liveChildren_38 rfl rfl ?_
        refine n_lret o d_T_liveChildren_39 ⟨w, rfl, ⟨rfl, rfl⟩, fun u => by rw [h2 u]; exact ⟨fun z => z.1, fun z => ⟨z, by have := z.1.1; omega⟩⟩⟩
      · exfalso; omega
    | succ n ih =>
      intro c w h0 h1 h2
      by_cases hc : c < 0
      · skip
        refine v_aload_nq (i := 3) o.ok d_T_liveChildren_7 rfl rfl ?_
        refine n_ifnull o.ok d_T_liveChildren_8 (fun c8 => ?_) (fun c8 => ?_)
        · refine v_lload_n (i := 1) o.ok d_T_liveChildren_38 rfl rfl ?_
          refine n_lret o d_T_liveChildren_39 ⟨w, rfl, ⟨rfl, rfl⟩, fun u => by rw [h2 u]; exact ⟨fun z => z.1, fun z => ⟨z, by have := z.1.1; omega⟩⟩⟩
        · exfalso; omega
      · have h1 : (0 ≤ c ∧ c < M 22 0) ∧ M 24 c = t := (by rcases h1 with z | z; omega; exact z)
        have hT := h.2 c h1.1.1 h1.1.2
        have eS := hT.1.2.2.2.2
        have hst := hs c h1.1.1 h1.1.2
        have hvs : Vld N 20 (N 35 c) := (by rw [eS]; exact hst)
        have hsb := hT.2.2.2.1 (by rw [h1.2]; exact ht.1)
        rw [h1.2] at hsb
        have key : ∀ w', (∀ u, lb w' u ↔ lcP M t u ∧ c ≤ u) → V X (RelN D A N) 30 [(0, rq A 11 t), (3, rq A 11 c)] [(1, w')] [] := by
          intro w' hw
          refine v_aload_nq (i := 3) o.ok d_T_liveChildren_30 rfl rfl ?_
          refine n_getr o 38 11 rfl rfl rfl (by decide) lf_T_44 (by first | rfl | assumption | exact And.intro (by omega) (by omega)) d_T_liveChildren_31 (fun r31 => ?_)
          refine v_astore_nq (i := 3) (L' := [(0, _), (3, _)]) (G' := [(1, _)]) o.ok d_T_liveChildren_34 rfl (o.lt (by decide)) rfl rfl ?_
          refine v_goto o.ok d_T_liveChildren_35 ?_
          refine ih (N 38 c) w' (by rcases hsb with z | z <;> omega) (by rcases hsb with z | z; exact Or.inl z.1; exact Or.inr ⟨⟨z.1, by omega⟩, z.2.2.1⟩) (fun u => ?_)
          rw [hw u]
          refine ⟨fun z => ⟨z.1, by rcases hsb with y | y <;> omega⟩, fun z => ⟨z.1, ?_⟩⟩
          have hu := z.1.1.1
          rcases hsb with y | y
          · exact Decidable.byContradiction fun q => y.2 u hu (by omega) z.1.2.2
          · exact Decidable.byContradiction fun q => (by have := y.2.2.2 u hu (by omega) z.1.2.2; omega)
        refine v_aload_nq (i := 3) o.ok d_T_liveChildren_7 rfl rfl ?_
        refine n_ifnull o.ok d_T_liveChildren_8 (fun c8 => ?_) (fun c8 => ?_)
        · exfalso; omega
        · refine v_aload_nq (i := 3) o.ok d_T_liveChildren_11 rfl rfl ?_
          refine n_getr o 35 20 rfl rfl rfl (by decide) lf_T_15 (by first | exact hvs | exact And.intro (by omega) (by omega)) d_T_liveChildren_12 (fun r12 => ?_)
          refine n_cQ o (by first | exact hvs | exact And.intro (by omega) (by omega)) (c_Q_live D A (N 35 c) N (by rw [eS]; exact hst)) q_Q_live lm_T_47 d_T_liveChildren_15 (by decide) rfl (by first | exact Nat.le_of_ble_eq_true rfl | (simp only [List.map_cons, List.map_nil, cat_rf, J_cat, List.sum_cons, List.sum_nil, cat_lg, cat_rr]; decide)) rfl (n_f ?_)
          first | refine v_ifeq_b o.ok d_T_liveChildren_18 (fun c18 => ?_) (fun c18 => ?_) | refine v_if_eq o.ok (by omega) d_T_liveChildren_18 (fun c18 => ?_) (fun c18 => ?_)
          · refine key _ (fun u => ?_)
            first
              | (have hl : Liv M c := (by rw [eS] at c18; exact c18)
                 show lb (w ||| (1 : Int64) <<< ((Int32.ofInt c).toInt64 &&& 63)) u ↔ _
                 rw [lb_or, lb_sh (by omega), h2 u]
                 constructor
                 · intro z
                   rcases z with z | z
                   · exact ⟨z.1, by omega⟩
                   · rw [z]; exact ⟨⟨h1.1, hl, h1.2⟩, Int.le_refl _⟩
                 · intro z
                   by_cases e : u = c
                   · exact Or.inr e
                   · exact Or.inl ⟨z.1, by omega⟩)
              | (have hl : ¬ Liv M c := (by rw [eS] at c18; exact c18)
                 rw [h2 u]
                 constructor
                 · intro z; exact ⟨z.1, by omega⟩
                 · intro z
                   by_cases e : u = c
                   · rw [e] at z; exact absurd z.1.2.1 hl
                   · exact ⟨z.1, by omega⟩)
          · refine v_lload_n (i := 1) o.ok d_T_liveChildren_21 rfl rfl ?_
            refine v_lconst o.ok d_T_liveChildren_22 rfl ?_
            refine v_aload_nq (i := 3) o.ok d_T_liveChildren_23 rfl rfl ?_
            refine n_numT o lf_T_24 (by first | exact hvs | exact And.intro (by omega) (by omega)) d_T_liveChildren_24 ?_
            refine v_lshl o.ok d_T_liveChildren_27 ?_
            refine v_lor o.ok d_T_liveChildren_28 ?_
            refine v_lstore_n (i := 1) (L' := [(0, _), (3, _)]) (G' := [(1, _)]) o.ok d_T_liveChildren_29 rfl (o.lt (by decide)) rfl rfl ?_
            refine key _ (fun u => ?_)
            first
              | (have hl : Liv M c := (by rw [eS] at c18; exact c18)
                 show lb (w ||| (1 : Int64) <<< ((Int32.ofInt c).toInt64 &&& 63)) u ↔ _
                 rw [lb_or, lb_sh (by omega), h2 u]
                 constructor
                 · intro z
                   rcases z with z | z
                   · exact ⟨z.1, by omega⟩
                   · rw [z]; exact ⟨⟨h1.1, hl, h1.2⟩, Int.le_refl _⟩
                 · intro z
                   by_cases e : u = c
                   · exact Or.inr e
                   · exact Or.inl ⟨z.1, by omega⟩)
              | (have hl : ¬ Liv M c := (by rw [eS] at c18; exact c18)
                 rw [h2 u]
                 constructor
                 · intro z; exact ⟨z.1, by omega⟩
                 · intro z
                   by_cases e : u = c
                   · rw [e] at z; exact absurd z.1.2.1 hl
                   · exact ⟨z.1, by omega⟩)
  have hch := (h.2 t ht.1 ht.2).2.2.1
  refine v_lconst o.ok d_T_liveChildren_0 rfl ?_
  refine v_lstore_n (i := 1) (L' := [(0, _)]) (G' := [(1, _)]) o.ok d_T_liveChildren_1 rfl (o.lt (by decide)) rfl rfl ?_
  refine v_aload_nq (i := 0) o.ok d_T_liveChildren_2 rfl rfl ?_
  refine n_getr o 37 11 rfl rfl rfl (by decide) lf_T_41 (by first | rfl | assumption | exact And.intro (by omega) (by omega)) d_T_liveChildren_3 (fun r3 => ?_)
  refine v_astore_nq (i := 3) (L' := [(0, _), (3, _)]) (G' := [(1, _)]) o.ok d_T_liveChildren_6 rfl (o.lt (by decide)) rfl rfl ?_
  refine lp 60 (N 37 t) 0 (by rcases hch with z | z <;> omega) (by rcases hch with z | z; exact Or.inl z.1; exact Or.inr ⟨⟨z.1, z.2.1⟩, z.2.2.1⟩) (fun u => ?_)
  refine ⟨fun z => absurd z (lb_0 u), fun z => ?_⟩
  exfalso
  rcases hch with y | y
  · exact y.2 u z.1.1.1 z.1.1.2 z.1.2.2
  · have := y.2.2.2 u z.1.1.1 z.1.1.2 z.1.2.2
    have := z.2
    omega
theorem Bsy_lc {M : MSt} {t : Int} {w : Int64} (h : ∀ u, lb w u ↔ lcP M t u) : w = 0 ↔ ¬ Bsy M t := by
  rw [lb_z]
  constructor
  · rintro q ⟨u, u1, u2, u3, u4⟩
    exact q u ((h u).mpr ⟨⟨u1, u2⟩, u3, u4⟩)
  · intro q u z
    have z := (h u).mp z
    exact q ⟨u, z.1.1, z.1.2, z.2.1, z.2.2⟩
set_option maxHeartbeats 4000000 in
set_option maxRecDepth 20000 in
theorem c_S_barN (D : GD) (A : ASt) (N : MSt) : NF D y_S_bar (wsOf y_S_bar b_S_bar 1 (some .int)) (2) [rq A 11 (-1)] A N (J (-1)) (N) := by
  refine NCon.of (by decide) (by simp [cat_rf, J_cat]) (Nat.le_of_ble_eq_true rfl) ?_
  intro X g0 o
  show V X (RelN D A N) 0 [(0, rq A 11 (-1))] [] []
  refine v_aload_nq (i := 0) o.ok d_S_bar_0 rfl rfl ?_
  refine n_ifnull o.ok d_S_bar_1 (fun c1 => ?_) (fun c1 => ?_)
  · refine v_iconst o.ok d_S_bar_14 ?_
    refine n_iret o d_S_bar_15 ⟨rfl, rfl, rfl⟩
  · exfalso; omega
set_option maxHeartbeats 4000000 in
set_option maxRecDepth 20000 in
theorem c_S_bar (D : GD) (A : ASt) (t : Int) (N M : MSt) (h : SimT N M) (hp : ParOk M) (hs : StOk M) (ht : 0 ≤ t ∧ t < M 22 0) : NF D y_S_bar (wsOf y_S_bar b_S_bar 1 (some .int)) (2) [rq A 11 (t)] A N (J (bar M t)) (N) := by
  refine NCon.of (by decide) (by simp [cat_rf, J_cat]) (Nat.le_of_ble_eq_true rfl) ?_
  intro X g0 o
  show V X (RelN D A N) 0 [(0, rq A 11 (t))] [] []
  have e2 : N 51 0 = M 22 0 := h.1.2
  have eS := (h.2 t ht.1 ht.2).1.2.2.2.2
  have hst := hs t ht.1 ht.2
  have hA : Act M t ↔ N 35 t = 1 := (by unfold Act; rw [eS]; exact ⟨fun z => z.2, fun z => ⟨ht, z⟩⟩)
  refine v_aload_nq (i := 0) o.ok d_S_bar_0 rfl rfl ?_
  refine n_ifnull o.ok d_S_bar_1 (fun c1 => ?_) (fun c1 => ?_)
  · exfalso; omega
  · refine v_aload_nq (i := 0) o.ok d_S_bar_4 rfl rfl ?_
    refine n_getr o 35 20 rfl rfl rfl (by decide) lf_S_182 (by first | rfl | assumption | exact And.intro (by omega) (by omega)) d_S_bar_5 (fun r5 => ?_)
    refine n_getQ o 1 (by decide) ls_S_244 d_S_bar_8 ?_
    refine n_injQ o (fun j11 => ?_)
    refine n_acmp_eq o.ok j11 (by first | assumption | exact Or.inr (And.intro (by omega) (by omega)) | exact Or.inr (And.intro (by decide) (by decide))) (by first | assumption | exact Or.inr (And.intro (by omega) (by omega)) | exact Or.inr (And.intro (by decide) (by decide))) d_S_bar_11 (fun c11 => ?_) (fun c11 => ?_)
    · refine v_aload_nq (i := 0) o.ok d_S_bar_16 rfl rfl ?_
      refine n_cV o 4 (tg := 11) rfl (by decide) (by decide) (by first | rfl | assumption | exact And.intro (by omega) (by omega)) (c_T_liveChildren D A t N M h hp hs ht) q_T_liveChildren lm_S_191 d_S_bar_17 (by decide) rfl (by first | exact Nat.le_of_ble_eq_true rfl | (simp only [List.map_cons, List.map_nil, cat_rf, J_cat, List.sum_cons, List.sum_nil, cat_lg, cat_rr]; decide)) rfl (n_x (fun x17 A17 N17 h17 => ?_))
      obtain ⟨w, rfl, ⟨rfl, rfl⟩, hw⟩ := h17
      refine v_lconst o.ok d_S_bar_20 rfl ?_
      refine v_lcmp o.ok d_S_bar_21 ?_
      rw [lcm_e]
      refine v_if_eq o.ok (by exact cmI_r _ _) d_S_bar_22 (fun c22 => ?_) (fun c22 => ?_)
      · refine v_iconst o.ok d_S_bar_30 ?_
        refine n_iret o d_S_bar_31 ⟨congrArg J (by
          unfold bar
          first
            | exact (pick_f (fun q => by have := hA.mp q; omega)).symm
            | (rw [pick_t (hA.mpr (by omega))]
               first
                 | exact (pick_f ((Bsy_lc hw).mp (cmI_0.mp (by assumption)))).symm
                 | exact (pick_t (Classical.byContradiction fun q => absurd (cmI_0.mpr ((Bsy_lc hw).mpr q)) (by assumption))).symm)), rfl, rfl⟩
      · refine v_bipush o.ok d_S_bar_25 rfl ?_
        refine v_goto o.ok d_S_bar_27 ?_
        refine n_iret o d_S_bar_31 ⟨congrArg J (by
          unfold bar
          first
            | exact (pick_f (fun q => by have := hA.mp q; omega)).symm
            | (rw [pick_t (hA.mpr (by omega))]
               first
                 | exact (pick_f ((Bsy_lc hw).mp (cmI_0.mp (by assumption)))).symm
                 | exact (pick_t (Classical.byContradiction fun q => absurd (cmI_0.mpr ((Bsy_lc hw).mpr q)) (by assumption))).symm)), rfl, rfl⟩
    · refine v_iconst o.ok d_S_bar_14 ?_
      refine n_iret o d_S_bar_15 ⟨congrArg J (by
        unfold bar
        first
          | exact (pick_f (fun q => by have := hA.mp q; omega)).symm
          | (rw [pick_t (hA.mpr (by omega))]
             first
               | exact (pick_f ((Bsy_lc hw).mp (cmI_0.mp (by assumption)))).symm
               | exact (pick_t (Classical.byContradiction fun q => absurd (cmI_0.mpr ((Bsy_lc hw).mpr q)) (by assumption))).symm)), rfl, rfl⟩

