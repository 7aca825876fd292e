/-- the ones that hold t up at a lock -/
def skP (M : MSt) (t i m u : Int) : Prop := M 26 (33 * t + i) < m ∧ inM M u ∧ Bar M u t i m
theorem May_sk {M : MSt} {t i m : Int} : May M t i m ↔ ∀ u, inM M u → ¬ Bar M u t i m := by
  unfold May exB
  exact ⟨fun h u hu hb => h ⟨u, hu.1, hu.2, hb⟩, fun h ⟨u, a, b, c⟩ => h u ⟨a, b⟩ c⟩
noncomputable def skN (N M : MSt) (t i m g : Int) : MSt := pick (g = 1 ∧ M 26 (33 * t + i) < m ∧ May M t i m) (up N 39 (33 * t + i) m) N
theorem Bar_iff {M : MSt} {u t i m : Int} (hm : m = 1 ∨ m = 2) (hl : 0 ≤ M 26 (33 * u + i) ∧ M 26 (33 * u + i) ≤ 2) : Bar M u t i m ↔ 2 - m < M 26 (33 * u + i) ∧ ¬ InS M u t := by
  unfold Bar InS
  constructor
  · rintro ⟨a, b, c, d⟩
    refine ⟨by omega, fun z => ?_⟩
    rcases z with z | z
    · exact a z.symm
    · exact d z
  · rintro ⟨a, b⟩
    exact ⟨fun z => b (Or.inl z.symm), by omega, by omega, fun z => b (Or.inr z)⟩
set_option maxHeartbeats 4000000 in
set_option maxRecDepth 20000 in
theorem c_S_seek (D : GD) (A : ASt) (t i m g : Int) (N M : MSt) (h : SimT N M) (hp : ParOk M) (hd : DepOk M) (hL : LkOk M) (ht : 0 ≤ t ∧ t < M 22 0) (hi : 0 ≤ i ∧ i < 33) (hm : m = 1 ∨ m = 2) (hg : g = 0 ∨ g = 1) : NX D y_S_seek (wsOf y_S_seek b_S_seek 9 (some .long)) (1) [rq A 0 (0), rq A 11 (t), J (i), J (m), J (g)] A N (fun x A1 N1 => ∃ w, x = .long w ∧ (A1 = A ∧ N1 = skN N M t i m g) ∧ ∀ u, lb w u ↔ skP M t i m u) := by
  refine NCon.of (by decide) (by simp [cat_rf, J_cat]) (Nat.le_of_ble_eq_true rfl) ?_
  intro X g0 o
  show V X (RelN D A N) 0 [(0, rq A 0 (0)), (1, rq A 11 (t)), (2, J (i)), (3, J (m)), (4, J (g))] [] []
  have e2 : N 51 0 = M 22 0 := h.1.2
  have e1 : N 8 0 = M 22 0 := h.1.1
  have hmn := hp.2.1
  have eL : ∀ u, inM M u → N 39 (33 * u + i) = M 26 (33 * u + i) := fun u hu => (h.2 u hu.1 hu.2).2.1 i hi.1 hi.2
  have hlt := hL t i ht.1 ht.2 hi.1 hi.2
  have eT := eL t ht
  have lp : ∀ (n : Nat) (c : Int) (w : Int64), M 26 (33 * t + i) < m → 0 ≤ c → c + n = M 22 0 → (∀ u, lb w u ↔ (inM M u ∧ Bar M u t i m) ∧ u < c) → V X (RelN D A N) 18 [(0, rq A 0 0), (1, rq A 11 t), (2, J i), (3, J m), (4, J g), (7, J c)] [(5, w)] [] := by
    intro n
    induction n with
    | zero =>
      intro c w hlk h0 h1 h2
      have hw : ∀ u, lb w u ↔ skP M t i m u := fun u => by
        rw [h2 u]
        exact ⟨fun z => ⟨hlk, z.1⟩, fun z => ⟨z.2, by have := z.2.1.2; omega⟩⟩
      have hmay : w = 0 ↔ May M t i m := by
        rw [lb_z, May_sk]
        exact ⟨fun z u hu hb => z u ((hw u).mpr ⟨hlk, hu, hb⟩), fun z u hu => z u ((hw u).mp hu).2.1 ((hw u).mp hu).2.2⟩
      refine v_iload (i := 7) o.ok d_S_seek_18 rfl ?_
      refine v_aload_nq (i := 0) o.ok d_S_seek_20 rfl rfl ?_
      refine n_geti o 8 rfl rfl rfl lf_S_50 (by first | rfl | assumption | exact And.intro (by omega) (by omega)) d_S_seek_21 (fun i21 => ?_)
      refine v_icmp_ge o.ok (by omega) (by omega) d_S_seek_24 (fun c24 => ?_) (fun c24 => ?_)
      · refine v_lload (i := 5) o.ok d_S_seek_73 rfl ?_
        refine v_lconst o.ok d_S_seek_75 rfl ?_
        refine v_lcmp o.ok d_S_seek_76 ?_
        rw [lcm_e]
        refine v_if_ne o.ok (by exact cmI_r _ _) d_S_seek_77 (fun c77 => ?_) (fun c77 => ?_)
        · refine v_lload (i := 5) o.ok d_S_seek_93 rfl ?_
          refine n_lret o d_S_seek_95 ⟨w, rfl, ⟨rfl, by
            unfold skN
            first
              | exact (pick_t ⟨by omega, hlk, hmay.mp (cmI_0.mp (by assumption))⟩).symm
              | exact (pick_f (fun q => by have := q.1; omega)).symm
              | exact (pick_f (fun q => absurd (cmI_0.mpr (hmay.mpr q.2.2)) (by assumption))).symm⟩, hw⟩
        · refine v_iload (i := 4) o.ok d_S_seek_80 rfl ?_
          refine v_if_eq o.ok (by omega) d_S_seek_82 (fun c82 => ?_) (fun c82 => ?_)
          · refine v_lload (i := 5) o.ok d_S_seek_93 rfl ?_
            refine n_lret o d_S_seek_95 ⟨w, rfl, ⟨rfl, by
              unfold skN
              first
                | exact (pick_t ⟨by omega, hlk, hmay.mp (cmI_0.mp (by assumption))⟩).symm
                | exact (pick_f (fun q => by have := q.1; omega)).symm
                | exact (pick_f (fun q => absurd (cmI_0.mpr (hmay.mpr q.2.2)) (by assumption))).symm⟩, hw⟩
          · refine v_aload_nq (i := 1) o.ok d_S_seek_85 rfl rfl ?_
            refine n_lks o lf_S_174 (by first | rfl | assumption | exact And.intro (by omega) (by omega)) d_S_seek_86 ?_
            refine v_iload_n (i := 2) o.ok d_S_seek_89 rfl rfl ?_
            refine v_iload_n (i := 3) o.ok d_S_seek_90 rfl rfl ?_
            refine v_i2b o.ok d_S_seek_91 (by omega) ?_
            refine n_last o (by first | rfl | assumption | exact And.intro (by omega) (by omega)) (by omega) (by omega) d_S_seek_92 ?_
            refine v_lload (i := 5) o.ok d_S_seek_93 rfl ?_
            refine n_lret o d_S_seek_95 ⟨w, rfl, ⟨rfl, by
              unfold skN
              first
                | exact (pick_t ⟨by omega, hlk, hmay.mp (cmI_0.mp (by assumption))⟩).symm
                | exact (pick_f (fun q => by have := q.1; omega)).symm
                | exact (pick_f (fun q => absurd (cmI_0.mpr (hmay.mpr q.2.2)) (by assumption))).symm⟩, hw⟩
      · exfalso; omega
    | succ n ih =>
      intro c w hlk h0 h1 h2
      have hc : inM M c := ⟨h0, by omega⟩
      have eC := eL c hc
      have hlc := hL c i hc.1 hc.2 hi.1 hi.2
      have hB := Bar_iff (t := t) hm hlc
      refine v_iload (i := 7) o.ok d_S_seek_18 rfl ?_
      refine v_aload_nq (i := 0) o.ok d_S_seek_20 rfl rfl ?_
      refine n_geti o 8 rfl rfl rfl lf_S_50 (by first | rfl | assumption | exact And.intro (by omega) (by omega)) d_S_seek_21 (fun i21 => ?_)
      refine v_icmp_ge o.ok (by omega) (by omega) d_S_seek_24 (fun c24 => ?_) (fun c24 => ?_)
      · exfalso; omega
      · refine v_aload_nq (i := 0) o.ok d_S_seek_27 rfl rfl ?_
        refine n_s5 o lf_S_30 d_S_seek_28 ?_
        refine v_iload (i := 7) o.ok d_S_seek_31 rfl ?_
        refine n_aT o (by omega) (by omega) d_S_seek_33 ?_
        refine v_astoreq (i := 8) (L' := [(0, _), (1, _), (2, _), (3, _), (4, _), (7, _), (8, _)]) (G' := [(5, _)]) o.ok d_S_seek_34 (o.lt (by decide)) rfl rfl ?_
        refine v_aloadq (i := 8) o.ok d_S_seek_36 rfl ?_
        refine n_lks o lf_S_174 (by first | rfl | assumption | exact And.intro (by omega) (by omega)) d_S_seek_38 ?_
        refine v_iload_n (i := 2) o.ok d_S_seek_41 rfl rfl ?_
        refine n_lald o (by first | rfl | assumption | exact And.intro (by omega) (by omega)) (by omega) d_S_seek_42 (fun i42 => ?_)
        rw [eC] at i42 ⊢
        refine v_iconst o.ok d_S_seek_43 ?_
        refine v_iload_n (i := 3) o.ok d_S_seek_44 rfl rfl ?_
        refine v_isub o.ok d_S_seek_45 ?_
        refine v_icmp_le o.ok (by omega) (by omega) d_S_seek_46 (fun c46 => ?_) (fun c46 => ?_)
        · refine v_iinc (i := 7) (L' := [(0, _), (1, _), (2, _), (3, _), (4, _), (7, _), (8, _)]) (G' := [(5, _)]) o.ok d_S_seek_67 rfl (o.lt (by decide)) rfl rfl ?_
          refine v_goto o.ok d_S_seek_70 ?_
          refine v_sel [0, 1, 2, 3, 4, 7] [5] rfl rfl (ih (c + 1) _ hlk (by omega) (by omega) (fun u => ?_))
          first
            | (have hb : ¬ Bar M c t i m := (fun z => by have := (hB.mp z).1; omega)
               rw [h2 u]
               exact ⟨fun z => ⟨z.1, by omega⟩, fun z => ⟨z.1, Decidable.byContradiction fun q => hb (by have := z.1.2; rw [show u = c from by omega] at this; exact this)⟩⟩)
            | (have hb : ¬ Bar M c t i m := (fun z => (hB.mp z).2 (by assumption))
               rw [h2 u]
               exact ⟨fun z => ⟨z.1, by omega⟩, fun z => ⟨z.1, Decidable.byContradiction fun q => hb (by have := z.1.2; rw [show u = c from by omega] at this; exact this)⟩⟩)
            | (have hb : Bar M c t i m := hB.mpr ⟨by omega, by assumption⟩
               show lb (w ||| (1 : Int64) <<< ((Int32.ofInt c).toInt64 &&& 63)) u ↔ _
               rw [lb_or, lb_sh (by omega), h2 u]
               constructor
               · intro z
                 rcases z with z | z
                 · exact ⟨z.1, by omega⟩
                 · rw [z]; exact ⟨⟨hc, hb⟩, by omega⟩
               · intro z
                 by_cases e : u = c
                 · exact Or.inr e
                 · exact Or.inl ⟨z.1, by omega⟩)
        · refine v_aload_nq (i := 1) o.ok d_S_seek_49 rfl rfl ?_
          refine v_aloadq (i := 8) o.ok d_S_seek_50 rfl ?_
          refine n_cV o 4 (tg := 11) rfl (by decide) (by decide) (by first | rfl | assumption | exact And.intro (by omega) (by omega)) (c_T_under D A t c N M h hp hd ht hc) q_T_under lm_S_178 d_S_seek_52 (by decide) rfl (by first | exact Nat.le_of_ble_eq_true rfl | (simp only [List.map_cons, List.map_nil, cat_rf, J_cat, List.sum_cons, List.sum_nil, cat_lg, cat_rr]; decide)) rfl (n_f ?_)
          first | refine v_ifne_b o.ok d_S_seek_55 (fun c55 => ?_) (fun c55 => ?_) | refine v_if_ne o.ok (by omega) d_S_seek_55 (fun c55 => ?_) (fun c55 => ?_)
          · refine v_iinc (i := 7) (L' := [(0, _), (1, _), (2, _), (3, _), (4, _), (7, _), (8, _)]) (G' := [(5, _)]) o.ok d_S_seek_67 rfl (o.lt (by decide)) rfl rfl ?_
            refine v_goto o.ok d_S_seek_70 ?_
            refine v_sel [0, 1, 2, 3, 4, 7] [5] rfl rfl (ih (c + 1) _ hlk (by omega) (by omega) (fun u => ?_))
            first
              | (have hb : ¬ Bar M c t i m := (fun z => by have := (hB.mp z).1; omega)
                 rw [h2 u]
                 exact ⟨fun z => ⟨z.1, by omega⟩, fun z => ⟨z.1, Decidable.byContradiction fun q => hb (by have := z.1.2; rw [show u = c from by omega] at this; exact this)⟩⟩)
              | (have hb : ¬ Bar M c t i m := (fun z => (hB.mp z).2 (by assumption))
                 rw [h2 u]
                 exact ⟨fun z => ⟨z.1, by omega⟩, fun z => ⟨z.1, Decidable.byContradiction fun q => hb (by have := z.1.2; rw [show u = c from by omega] at this; exact this)⟩⟩)
              | (have hb : Bar M c t i m := hB.mpr ⟨by omega, by assumption⟩
                 show lb (w ||| (1 : Int64) <<< ((Int32.ofInt c).toInt64 &&& 63)) u ↔ _
                 rw [lb_or, lb_sh (by omega), h2 u]
                 constructor
                 · intro z
                   rcases z with z | z
                   · exact ⟨z.1, by omega⟩
                   · rw [z]; exact ⟨⟨hc, hb⟩, by omega⟩
                 · intro z
                   by_cases e : u = c
                   · exact Or.inr e
                   · exact Or.inl ⟨z.1, by omega⟩)
          · refine v_lload (i := 5) o.ok d_S_seek_58 rfl ?_
            refine v_lconst o.ok d_S_seek_60 rfl ?_
            refine v_iload (i := 7) o.ok d_S_seek_61 rfl ?_
            refine v_lshl o.ok d_S_seek_63 ?_
            refine v_lor o.ok d_S_seek_64 ?_
            refine v_lstore (i := 5) (L' := [(0, _), (1, _), (2, _), (3, _), (4, _), (7, _), (8, _)]) (G' := [(5, _)]) o.ok d_S_seek_65 (o.lt (by decide)) rfl rfl ?_
            refine v_iinc (i := 7) (L' := [(0, _), (1, _), (2, _), (3, _), (4, _), (7, _), (8, _)]) (G' := [(5, _)]) o.ok d_S_seek_67 rfl (o.lt (by decide)) rfl rfl ?_
            refine v_goto o.ok d_S_seek_70 ?_
            refine v_sel [0, 1, 2, 3, 4, 7] [5] rfl rfl (ih (c + 1) _ hlk (by omega) (by omega) (fun u => ?_))
            first
              | (have hb : ¬ Bar M c t i m := (fun z => by have := (hB.mp z).1; omega)
                 rw [h2 u]
                 exact ⟨fun z => ⟨z.1, by omega⟩, fun z => ⟨z.1, Decidable.byContradiction fun q => hb (by have := z.1.2; rw [show u = c from by omega] at this; exact this)⟩⟩)
              | (have hb : ¬ Bar M c t i m := (fun z => (hB.mp z).2 (by assumption))
                 rw [h2 u]
                 exact ⟨fun z => ⟨z.1, by omega⟩, fun z => ⟨z.1, Decidable.byContradiction fun q => hb (by have := z.1.2; rw [show u = c from by omega] at this; exact this)⟩⟩)
              | (have hb : Bar M c t i m := hB.mpr ⟨by omega, by assumption⟩
                 show lb (w ||| (1 : Int64) <<< ((Int32.ofInt c).toInt64 &&& 63)) u ↔ _
                 rw [lb_or, lb_sh (by omega), h2 u]
                 constructor
                 · intro z
                   rcases z with z | z
                   · exact ⟨z.1, by omega⟩
                   · rw [z]; exact ⟨⟨hc, hb⟩, by omega⟩
                 · intro z
                   by_cases e : u = c
                   · exact Or.inr e
                   · exact Or.inl ⟨z.1, by omega⟩)
  refine v_aload_nq (i := 1) o.ok d_S_seek_0 rfl rfl ?_
  refine n_lks o lf_S_174 (by first | rfl | assumption | exact And.intro (by omega) (by omega)) d_S_seek_1 ?_
  refine v_iload_n (i := 2) o.ok d_S_seek_4 rfl rfl ?_
  refine n_lald o (by first | rfl | assumption | exact And.intro (by omega) (by omega)) (by omega) d_S_seek_5 (fun i5 => ?_)
  rw [eT] at i5 ⊢
  refine v_iload_n (i := 3) o.ok d_S_seek_6 rfl rfl ?_
  refine v_icmp_lt o.ok (by omega) (by omega) d_S_seek_7 (fun c7 => ?_) (fun c7 => ?_)
  · refine v_lconst o.ok d_S_seek_12 rfl ?_
    refine v_lstore (i := 5) (L' := [(0, _), (1, _), (2, _), (3, _), (4, _)]) (G' := [(5, _)]) o.ok d_S_seek_13 (o.lt (by decide)) rfl rfl ?_
    refine v_iconst o.ok d_S_seek_15 ?_
    refine v_istore (i := 7) (L' := [(0, _), (1, _), (2, _), (3, _), (4, _), (7, _)]) (G' := [(5, _)]) o.ok d_S_seek_16 (o.lt (by decide)) rfl rfl ?_
    exact lp (M 22 0).toNat 0 0 (by omega) (by omega) (by have := hp.1; omega) (fun u => ⟨fun z => absurd z (lb_0 u), fun z => by have := z.1.1.1; omega⟩)
  · refine v_lconst o.ok d_S_seek_10 rfl ?_
    refine n_lret o d_S_seek_11 ⟨0, rfl, ⟨rfl, (pick_f (fun q => by have := q.2.1; omega)).symm⟩, fun u => ⟨fun z => absurd z (lb_0 u), fun z => by have := z.1; omega⟩⟩

