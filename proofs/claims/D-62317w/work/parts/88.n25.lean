set_option maxHeartbeats 4000000 in
set_option maxRecDepth 20000 in
theorem c_S_reach (D : GD) (A : ASt) (t : Int) (N M : MSt) (h : AskOk N M) (hs : StOk M) (hr : ReqA M) (ht : inM M t) : NX D y_S_reach (wsOf y_S_reach b_S_reach 8 (some .long)) (6) [rq A 0 (0), rq A 11 (t)] A N (fun x A1 N1 => ∃ w, x = .long w ∧ (A1 = A ∧ N1 = N) ∧ ∀ u, lb w u ↔ Fw M t u) := by
  refine NCon.of (by decide) (by simp [cat_rf, J_cat]) (Nat.le_of_ble_eq_true rfl) ?_
  intro X g0 o
  show V X (RelN D A N) 0 [(0, rq A 0 (0)), (1, rq A 11 (t))] [] []
  have hm60 := h.2.1.2.1
  have ent : N 51 0 = M 22 0 := h.1.t.1.2
  have hvt : 0 ≤ t ∧ t < N 51 0 := (by rw [ent]; exact ht)
  have k39 : ∀ (n : Nat), (∀ (i : Int) (all done : Int64), RcI M t i all done → i + n = 64 → V X (RelN D A N) 12 [(0, rq A 0 0), (1, rq A 11 t), (6, J i)] [(2, all), (4, done)] []) → ∀ (i : Int) (all done : Int64) (u : Int), RcI M t i all done → i + n = 63 → lb all u → ¬ lb done u → inM M u → V X (RelN D A N) 39 [(0, rq A 0 0), (1, rq A 11 t), (6, J i), (7, J u)] [(2, all), (4, done)] [] := by
    intro n ih i all done u hI hi hua hud hin
    have hle := hI.le h.2.1
    have hin1 := hin.1
    have hin2 := hin.2
    refine v_lload (i := 4) o.ok d_S_reach_39 rfl ?_
    refine v_lconst o.ok d_S_reach_41 rfl ?_
    refine v_iload (i := 7) o.ok d_S_reach_42 rfl ?_
    refine v_lshl o.ok d_S_reach_44 ?_
    refine v_lor o.ok d_S_reach_45 ?_
    refine v_lstore (i := 4) (L' := [(0, _), (1, _), (6, _), (7, _)]) (G' := [(2, _), (4, _)]) o.ok d_S_reach_46 (o.lt (by decide)) rfl rfl ?_
    refine v_lload_n (i := 2) o.ok d_S_reach_48 rfl rfl ?_
    refine v_aload_nq (i := 0) o.ok d_S_reach_49 rfl rfl ?_
    refine v_aload_nq (i := 0) o.ok d_S_reach_50 rfl rfl ?_
    refine n_s5 o lf_S_30 d_S_reach_51 ?_
    refine v_iload (i := 7) o.ok d_S_reach_54 rfl ?_
    refine n_aT o (by omega) (by omega) d_S_reach_56 ?_
    refine n_cV o 1 (tg := 0) rfl (by decide) (by decide) (by first | rfl | exact hvt) (c_S_leads D A u N M h hs hr hin) q_S_leads lm_S_208 d_S_reach_57 (by decide) rfl (by first | exact Nat.le_of_ble_eq_true rfl | (simp only [List.map_cons, List.map_nil, cat_rf, J_cat, List.sum_cons, List.sum_nil, cat_lg, cat_rr]; decide)) rfl (n_x (fun x57 A57 N57 h57 => ?_))
    obtain ⟨w, rfl, ⟨rfl, rfl⟩, hw⟩ := h57
    refine v_lor o.ok d_S_reach_60 ?_
    refine v_lstore_n (i := 2) (L' := [(0, _), (1, _), (6, _), (7, _)]) (G' := [(2, _), (4, _)]) o.ok d_S_reach_61 rfl (o.lt (by decide)) rfl rfl ?_
    refine v_iinc (i := 6) (L' := [(0, _), (1, _), (6, _), (7, _)]) (G' := [(2, _), (4, _)]) o.ok d_S_reach_62 rfl (o.lt (by decide)) rfl rfl ?_
    refine v_goto o.ok d_S_reach_65 ?_
    refine v_sel [0, 1, 6] [2, 4] rfl rfl (ih (i + 1) _ _ (hI.step hua hud hw (fun v => ?_) (fun v => lb_or _ _ v)) (by omega))
    show lb (done ||| (1 : Int64) <<< ((Int32.ofInt u).toInt64 &&& 63)) v ↔ _
    rw [lb_or, lb_sh (by omega)]
  have lp : ∀ (n : Nat) (i : Int) (all done : Int64), RcI M t i all done → i + n = 64 → V X (RelN D A N) 12 [(0, rq A 0 0), (1, rq A 11 t), (6, J i)] [(2, all), (4, done)] [] := by
    intro n
    induction n with
    | zero =>
      intro i all done hI hi
      exfalso
      have := hI.le h.2.1
      omega
    | succ n ih =>
      intro i all done hI hi
      have hle := hI.le h.2.1
      refine v_iload (i := 6) o.ok d_S_reach_12 rfl ?_
      refine v_bipush o.ok d_S_reach_14 rfl ?_
      refine v_icmp_ge o.ok (by omega) (by omega) d_S_reach_16 (fun c16 => ?_) (fun c16 => ?_)
      · exfalso; omega
      · refine v_lload_n (i := 2) o.ok d_S_reach_19 rfl rfl ?_
        refine v_lload (i := 4) o.ok d_S_reach_20 rfl ?_
        refine v_lcmp o.ok d_S_reach_22 ?_
        rw [lcm_e]
        refine v_if_eq o.ok (by exact cmI_r _ _) d_S_reach_23 (fun c23 => ?_) (fun c23 => ?_)
        · refine v_lload_n (i := 2) o.ok d_S_reach_68 rfl rfl ?_
          refine n_lret o d_S_reach_69 ⟨all, rfl, ⟨rfl, rfl⟩, hI.fin (cmI_0.mp (by assumption))⟩
        · refine v_lload_n (i := 2) o.ok d_S_reach_26 rfl rfl ?_
          refine v_lload (i := 4) o.ok d_S_reach_27 rfl ?_
          refine v_ldc2 o.ok o.1.2.1 (o.1.2.2.1 _ j_cl212) d_S_reach_29 ?_
          refine v_lxor o.ok d_S_reach_32 ?_
          refine v_land o.ok d_S_reach_33 ?_
          have hne : all ≠ done := (fun z => absurd (cmI_0.mpr z) (by assumption))
          refine n_ntz o (hI.more hne) d_S_reach_34 (by decide) (by first | exact Nat.le_of_ble_eq_true rfl | (simp only [List.map_cons, List.map_nil, cat_rf, J_cat, List.sum_cons, List.sum_nil, cat_lg, cat_rr]; decide)) (fun u hu => ?_)
          have hua := ((lb_and _ _ _).mp hu).1
          have hud := ((lb_not _ _).mp ((lb_and _ _ _).mp hu).2).2
          have hin := Fw_in (hI.2.2.1 u hua)
          have hin2 := hin.2
          have hin1 := hin.1
          refine v_istore (i := 7) (L' := [(0, _), (1, _), (6, _), (7, _)]) (G' := [(2, _), (4, _)]) o.ok d_S_reach_37 (o.lt (by decide)) rfl rfl ?_
          exact k39 n ih i all done u hI (by omega) hua hud hin
  refine v_aload_nq (i := 0) o.ok d_S_reach_0 rfl rfl ?_
  refine v_aload_nq (i := 1) o.ok d_S_reach_1 rfl rfl ?_
  refine n_cV o 1 (tg := 0) rfl (by decide) (by decide) (by first | rfl | exact hvt) (c_S_leads D A t N M h hs hr ht) q_S_leads lm_S_208 d_S_reach_2 (by decide) rfl (by first | exact Nat.le_of_ble_eq_true rfl | (simp only [List.map_cons, List.map_nil, cat_rf, J_cat, List.sum_cons, List.sum_nil, cat_lg, cat_rr]; decide)) rfl (n_x (fun x2 A2 N2 h2 => ?_))
  obtain ⟨w, rfl, ⟨rfl, rfl⟩, hw⟩ := h2
  refine v_lstore_n (i := 2) (L' := [(0, _), (1, _)]) (G' := [(2, _)]) o.ok d_S_reach_5 rfl (o.lt (by decide)) rfl rfl ?_
  refine v_lconst o.ok d_S_reach_6 rfl ?_
  refine v_lstore (i := 4) (L' := [(0, _), (1, _)]) (G' := [(2, _), (4, _)]) o.ok d_S_reach_7 (o.lt (by decide)) rfl rfl ?_
  refine v_iconst o.ok d_S_reach_9 ?_
  refine v_istore (i := 6) (L' := [(0, _), (1, _), (6, _)]) (G' := [(2, _), (4, _)]) o.ok d_S_reach_10 (o.lt (by decide)) rfl rfl ?_
  exact lp 64 0 w 0 (RcI.start hw) rfl
theorem lastN_s {P : Int → Prop} (n : Nat) : lastN P (n + 1) = pick (P (n : Int)) (n : Int) (lastN P n) := rfl
theorem styN_s (t : Int) (n : Nat) (M : MSt) : styN t (n + 1) M = pick (Liv M t) (pick (vic M t < 0) (-2, M) (styN t n (abt M (vic M t)).2)) (-3, M) := rfl
set_option maxHeartbeats 4000000 in
set_option maxRecDepth 20000 in
theorem c_S_circles (D : GD) (A : ASt) (t : Int) (b c : Int) (N M : MSt) (h : Sim N M) (hI : Inv b c M) (hb : b ≤ 300) (hc : c ≤ 900000) (hba : M 11 0 ≤ 1000000) (ht : inM M t) : NU D y_S_circles (wsOf y_S_circles b_S_circles 8 none) (7) [rq A 0 (0), rq A 11 (t)] A N (fun A1 N1 => Fwd N A N1 A1 ∧ Sim N1 (styN t 60 M).2) := by
  refine NCon.of (by decide) (by simp [cat_rf, J_cat]) (Nat.le_of_ble_eq_true rfl) ?_
  intro X g0 o
  show V X (RelN D A N) 0 [(0, rq A 0 (0)), (1, rq A 11 (t))] [] []
  have ex : ∀ (k : Int) (A1 : ASt) (N1 : MSt), 0 ≤ k → k ≤ 61 → Fwd N A N1 A1 → Sim N1 (styN t 60 M).2 → V X (RelN D A1 N1) 4 [(0, rq A1 0 0), (1, rq A1 11 t), (2, J 0), (3, J k)] [] [] := by
    intro k A1 N1 h0 h1 hF hS
    refine v_iload_n (i := 3) o.ok d_S_circles_4 rfl rfl ?_
    refine v_bipush o.ok d_S_circles_5 rfl ?_
    refine v_icmp_ge o.ok (by omega) (by omega) d_S_circles_7 (fun c7 => ?_) (fun c7 => ?_)
    · refine n_vret o d_S_circles_138 ⟨hF, hS⟩
    · refine v_iload_n (i := 2) o.ok d_S_circles_10 rfl rfl ?_
      first | refine v_ifeq_b o.ok d_S_circles_11 (fun c11 => ?_) (fun c11 => ?_) | refine v_if_eq o.ok (by omega) d_S_circles_11 (fun c11 => ?_) (fun c11 => ?_)
      · refine n_vret o d_S_circles_138 ⟨hF, hS⟩
      · exfalso; omega
  have lp : ∀ (n : Nat) (k : Int) (A1 : ASt) (N1 M1 : MSt), 0 ≤ k → k + n = 60 → Fwd N A N1 A1 → Sim N1 M1 → Inv b c M1 → M1 11 0 ≤ 1000000 → inM M1 t → (styN t n M1).2 = (styN t 60 M).2 → V X (RelN D A1 N1) 4 [(0, rq A1 0 0), (1, rq A1 11 t), (2, J 1), (3, J k)] [] [] := by
    intro n
    induction n with
    | zero =>
      intro k A1 N1 M1 hk0 hk hF hS hI1 hba1 ht1 he
      refine v_iload_n (i := 3) o.ok d_S_circles_4 rfl rfl ?_
      refine v_bipush o.ok d_S_circles_5 rfl ?_
      refine v_icmp_ge o.ok (by omega) (by omega) d_S_circles_7 (fun c7 => ?_) (fun c7 => ?_)
      · refine n_vret o d_S_circles_138 ⟨hF, by rw [← he]; exact hS⟩
      · exfalso; omega
    | succ n ih =>
      intro k A1 N1 M1 hk0 hk hF hS hI1 hba1 ht1 he
      have hA1 : AskOk N1 M1 := ⟨hS, hI1.1.1, hI1.1.2.1, hI1.2.1.1⟩
      have hs1 := hI1.1.2.2.1
      have hr1 := hI1.1.2.2.2.2
      have hw1 := hI1.wf hb hc hba1
      have ht1a := ht1.1
      have ht1b := ht1.2
      have hm60 := hI1.1.1.2.1
      have ent : N1 51 0 = M1 22 0 := hS.t.1.2
      have enm : N1 8 0 = M1 22 0 := hS.t.1.1
      have eS := (hS.t.2 t ht1.1 ht1.2).1.2.2.2.2
      have hst := hs1 t ht1.1 ht1.2
      have hvt : 0 ≤ t ∧ t < N1 51 0 := (by rw [ent]; exact ht1)
      have hvs : Vld N1 20 (N1 35 t) := (by rw [eS]; exact hst)
      by_cases hm : Liv M1 t ∧ Fw M1 t t
      · have hvb := lastN_bd (P := fun u => Fw M1 t u ∧ Fw M1 u t) (M1 22 0).toNat
        have ev : vic M1 t = lastN (fun u => Fw M1 t u ∧ Fw M1 u t) (M1 22 0).toNat := pick_t hm.2
        have hv0 : 0 ≤ vic M1 t := Int.not_lt.mp fun z => by
          rw [ev] at z
          exact hvb.2.2.2 z t ht1.1 (by omega) ⟨hm.2, hm.2⟩
        have hv1 : vic M1 t < M1 22 0 := by rw [ev]; omega
        have hvF : Fw M1 t (vic M1 t) := by
          have := hvb.2.2.1 (by rw [ev] at hv0; exact hv0)
          rw [ev]
          exact this.1
        have hvI : inM M1 (vic M1 t) := ⟨hv0, hv1⟩
        have hvL : LvT M1 (vic M1 t) := hI1.1.2.2.2.1.lvt hI1.1.1 hvI (Fw_liv hI1 hvF)
        rw [styN_s, pick_t hm.1, pick_f (by omega)] at he
        have k57 : ∀ (m : Nat) (u : Int) (all : Int64), (∀ v, lb all v ↔ Fw M1 t v) → 0 ≤ u → u + m = M1 22 0 → V X (RelN D A1 N1) 57 [(0, rq A1 0 0), (1, rq A1 11 t), (2, J 1), (3, J k), (6, J (lastN (fun u => Fw M1 t u ∧ Fw M1 u t) u.toNat)), (7, J u)] [(4, all)] [] := by
          intro m
          induction m with
          | zero =>
            intro u all hall hu0 hum
            have eu : u.toNat = (M1 22 0).toNat := by omega
            rw [eu, ← ev]
            refine v_iload (i := 7) o.ok d_S_circles_57 rfl ?_
            refine v_aload_nq (i := 0) o.ok d_S_circles_59 rfl rfl ?_
            refine n_geti o 8 rfl rfl rfl lf_S_50 (by first | rfl | exact hvt) d_S_circles_60 (fun i60 => ?_)
            rw [enm] at i60 ⊢
            refine v_icmp_ge o.ok (by omega) (by omega) d_S_circles_63 (fun c63 => ?_) (fun c63 => ?_)
            · refine v_iload (i := 6) o.ok d_S_circles_115 rfl ?_
              refine v_if_lt o.ok (by omega) d_S_circles_117 (fun c117 => ?_) (fun c117 => ?_)
              · exfalso; omega
              · refine v_aload_nq (i := 0) o.ok d_S_circles_120 rfl rfl ?_
                refine v_aload_nq (i := 0) o.ok d_S_circles_121 rfl rfl ?_
                refine n_s5 o lf_S_30 d_S_circles_122 ?_
                refine v_iload (i := 6) o.ok d_S_circles_125 rfl ?_
                refine n_aT o (by omega) (by omega) d_S_circles_127 ?_
                refine n_cV o 1 (tg := 0) rfl (by decide) (by decide) (by first | rfl | exact hvt) (c_S_fall D A1 (vic M1 t) N1 M1 hS hw1 hI1.1.2.1 hs1 hvI hvL) q_S_fall lm_S_224 d_S_circles_128 (by decide) rfl (by first | exact Nat.le_of_ble_eq_true rfl | (simp only [List.map_cons, List.map_nil, cat_rf, J_cat, List.sum_cons, List.sum_nil, cat_lg, cat_rr]; decide)) rfl (n_x (fun x128 A128 N128 h128 => ?_))
                obtain ⟨rfl, hfw, hsm⟩ := h128
                refine v_pop o.ok d_S_circles_131 rfl ?_
                refine v_iinc (i := 3) (L' := [(0, _), (1, _), (2, _), (3, _), (6, _), (7, _)]) (G' := [(4, _)]) o.ok d_S_circles_132 rfl (o.lt (by decide)) rfl rfl ?_
                refine v_goto o.ok d_S_circles_135 ?_
                refine v_sel [0, 1, 2, 3] [] rfl rfl ?_
                (try simp only [rq])
                rw [← hfw.1.fo (tg := 0) (v := 0) (by decide), ← hfw.1.ft (v := t) (by omega)]
                exact ih (k + 1) A128 N128 (abt M1 (vic M1 t)).2 (by omega) (by omega) (hF.tr hfw) hsm (hI1.abt hvI) (by rw [abt_o rfl rfl (by decide) (by decide)]; exact hba1) ⟨ht1a, by rw [abt_o rfl rfl (by decide) (by decide)]; exact ht1b⟩ he
            · exfalso; omega
          | succ m ihm =>
            intro u all hall hu0 hum
            have hun : inM M1 u := ⟨hu0, by omega⟩
            have es : lastN (fun u => Fw M1 t u ∧ Fw M1 u t) (u + 1).toNat = pick (Fw M1 t u ∧ Fw M1 u t) u (lastN (fun u => Fw M1 t u ∧ Fw M1 u t) u.toNat) := by
              rw [show (u + 1).toNat = u.toNat + 1 from by omega, lastN_s, show ((u.toNat : Nat) : Int) = u from by omega]
            refine v_iload (i := 7) o.ok d_S_circles_57 rfl ?_
            refine v_aload_nq (i := 0) o.ok d_S_circles_59 rfl rfl ?_
            refine n_geti o 8 rfl rfl rfl lf_S_50 (by first | rfl | exact hvt) d_S_circles_60 (fun i60 => ?_)
            rw [enm] at i60 ⊢
            refine v_icmp_ge o.ok (by omega) (by omega) d_S_circles_63 (fun c63 => ?_) (fun c63 => ?_)
            · exfalso; omega
            · refine v_iload_n (i := 2) o.ok d_S_circles_66 rfl rfl ?_
              first | refine v_ifeq_b o.ok d_S_circles_67 (fun c67 => ?_) (fun c67 => ?_) | refine v_if_eq o.ok (by omega) d_S_circles_67 (fun c67 => ?_) (fun c67 => ?_)
              · exfalso; omega
              · refine v_lload (i := 4) o.ok d_S_circles_70 rfl ?_
                refine v_iload (i := 7) o.ok d_S_circles_72 rfl ?_
                refine v_lshr o.ok d_S_circles_74 ?_
                refine v_lconst o.ok d_S_circles_75 rfl ?_
                refine v_land o.ok d_S_circles_76 ?_
                refine v_lconst o.ok d_S_circles_77 rfl ?_
                refine v_lcmp o.ok d_S_circles_78 ?_
                rw [lcm_e]
                refine v_if_ne o.ok (by exact cmI_r _ _) d_S_circles_79 (fun c79 => ?_) (fun c79 => ?_)
                · refine v_iinc (i := 7) (L' := [(0, _), (1, _), (2, _), (3, _), (6, _), (7, _)]) (G' := [(4, _)]) o.ok d_S_circles_109 rfl (o.lt (by decide)) rfl rfl ?_
                  refine v_goto o.ok d_S_circles_112 ?_
                  first
                    | (have q1 : Fw M1 t u := (hall u).mp ((lb_sr (by omega)).mp (cmI_0.mp c79))
                       have q2 : Fw M1 u t := (hw t).mp ((lb_sr (by omega)).mp (cmI_0.mp c102))
                       have q := ihm (u + 1) all hall (by omega) (by omega)
                       rw [es, pick_t ⟨q1, q2⟩] at q
                       exact q)
                    | (have q2 : ¬ Fw M1 u t := fun z => c102 (cmI_0.mpr ((lb_sr (by omega)).mpr ((hw t).mpr z)))
                       have q := ihm (u + 1) all hall (by omega) (by omega)
                       rw [es, pick_f (fun z => q2 z.2)] at q
                       exact q)
                    | (have q1 : ¬ Fw M1 t u := fun z => c79 (cmI_0.mpr ((lb_sr (by omega)).mpr ((hall u).mpr z)))
                       have q := ihm (u + 1) all hall (by omega) (by omega)
                       rw [es, pick_f (fun z => q1 z.1)] at q
                       exact q)
                · refine v_aload_nq (i := 0) o.ok d_S_circles_82 rfl rfl ?_
                  refine v_aload_nq (i := 0) o.ok d_S_circles_83 rfl rfl ?_
                  refine n_s5 o lf_S_30 d_S_circles_84 ?_
                  refine v_iload (i := 7) o.ok d_S_circles_87 rfl ?_
                  refine n_aT o (by omega) (by omega) d_S_circles_89 ?_
                  refine n_cV o 1 (tg := 0) rfl (by decide) (by decide) (by first | rfl | exact hvt) (c_S_reach D A1 u N1 M1 hA1 hs1 hr1 hun) q_S_reach lm_S_220 d_S_circles_90 (by decide) rfl (by first | exact Nat.le_of_ble_eq_true rfl | (simp only [List.map_cons, List.map_nil, cat_rf, J_cat, List.sum_cons, List.sum_nil, cat_lg, cat_rr]; decide)) rfl (n_x (fun x90 A90 N90 h90 => ?_))
                  obtain ⟨w, rfl, ⟨eA, eN⟩, hw⟩ := h90
                  rw [eA, eN]
                  refine v_aload_nq (i := 1) o.ok d_S_circles_93 rfl rfl ?_
                  refine n_numT o lf_S_223 (by first | rfl | exact hvt) d_S_circles_94 ?_
                  refine v_lshr o.ok d_S_circles_97 ?_
                  refine v_lconst o.ok d_S_circles_98 rfl ?_
                  refine v_land o.ok d_S_circles_99 ?_
                  refine v_lconst o.ok d_S_circles_100 rfl ?_
                  refine v_lcmp o.ok d_S_circles_101 ?_
                  rw [lcm_e]
                  refine v_if_ne o.ok (by exact cmI_r _ _) d_S_circles_102 (fun c102 => ?_) (fun c102 => ?_)
                  · refine v_iinc (i := 7) (L' := [(0, _), (1, _), (2, _), (3, _), (6, _), (7, _)]) (G' := [(4, _)]) o.ok d_S_circles_109 rfl (o.lt (by decide)) rfl rfl ?_
                    refine v_goto o.ok d_S_circles_112 ?_
                    first
                      | (have q1 : Fw M1 t u := (hall u).mp ((lb_sr (by omega)).mp (cmI_0.mp c79))
                         have q2 : Fw M1 u t := (hw t).mp ((lb_sr (by omega)).mp (cmI_0.mp c102))
                         have q := ihm (u + 1) all hall (by omega) (by omega)
                         rw [es, pick_t ⟨q1, q2⟩] at q
                         exact q)
                      | (have q2 : ¬ Fw M1 u t := fun z => c102 (cmI_0.mpr ((lb_sr (by omega)).mpr ((hw t).mpr z)))
                         have q := ihm (u + 1) all hall (by omega) (by omega)
                         rw [es, pick_f (fun z => q2 z.2)] at q
                         exact q)
                      | (have q1 : ¬ Fw M1 t u := fun z => c79 (cmI_0.mpr ((lb_sr (by omega)).mpr ((hall u).mpr z)))
                         have q := ihm (u + 1) all hall (by omega) (by omega)
                         rw [es, pick_f (fun z => q1 z.1)] at q
                         exact q)
                  · refine v_iload (i := 7) o.ok d_S_circles_105 rfl ?_
                    refine v_istore (i := 6) (L' := [(0, _), (1, _), (2, _), (3, _), (6, _), (7, _)]) (G' := [(4, _)]) o.ok d_S_circles_107 (o.lt (by decide)) rfl rfl ?_
                    refine v_iinc (i := 7) (L' := [(0, _), (1, _), (2, _), (3, _), (6, _), (7, _)]) (G' := [(4, _)]) o.ok d_S_circles_109 rfl (o.lt (by decide)) rfl rfl ?_
                    refine v_goto o.ok d_S_circles_112 ?_
                    first
                      | (have q1 : Fw M1 t u := (hall u).mp ((lb_sr (by omega)).mp (cmI_0.mp c79))
                         have q2 : Fw M1 u t := (hw t).mp ((lb_sr (by omega)).mp (cmI_0.mp c102))
                         have q := ihm (u + 1) all hall (by omega) (by omega)
                         rw [es, pick_t ⟨q1, q2⟩] at q
                         exact q)
                      | (have q2 : ¬ Fw M1 u t := fun z => c102 (cmI_0.mpr ((lb_sr (by omega)).mpr ((hw t).mpr z)))
                         have q := ihm (u + 1) all hall (by omega) (by omega)
                         rw [es, pick_f (fun z => q2 z.2)] at q
                         exact q)
                      | (have q1 : ¬ Fw M1 t u := fun z => c79 (cmI_0.mpr ((lb_sr (by omega)).mpr ((hall u).mpr z)))
                         have q := ihm (u + 1) all hall (by omega) (by omega)
                         rw [es, pick_f (fun z => q1 z.1)] at q
                         exact q)
        refine v_iload_n (i := 3) o.ok d_S_circles_4 rfl rfl ?_
        refine v_bipush o.ok d_S_circles_5 rfl ?_
        refine v_icmp_ge o.ok (by omega) (by omega) d_S_circles_7 (fun c7 => ?_) (fun c7 => ?_)
        · exfalso; omega
        · refine v_iload_n (i := 2) o.ok d_S_circles_10 rfl rfl ?_
          first | refine v_ifeq_b o.ok d_S_circles_11 (fun c11 => ?_) (fun c11 => ?_) | refine v_if_eq o.ok (by omega) d_S_circles_11 (fun c11 => ?_) (fun c11 => ?_)
          · exfalso; omega
          · refine v_aload_nq (i := 0) o.ok d_S_circles_14 rfl rfl ?_
            refine v_aload_nq (i := 1) o.ok d_S_circles_15 rfl rfl ?_
            refine n_cV o 1 (tg := 0) rfl (by decide) (by decide) (by first | rfl | exact hvs | exact hvt) (c_S_reach D A1 t N1 M1 hA1 hs1 hr1 ht1) q_S_reach lm_S_220 d_S_circles_16 (by decide) rfl (by first | exact Nat.le_of_ble_eq_true rfl | (simp only [List.map_cons, List.map_nil, cat_rf, J_cat, List.sum_cons, List.sum_nil, cat_lg, cat_rr]; decide)) rfl (n_x (fun x16 A16 N16 h16 => ?_))
            obtain ⟨all, rfl, ⟨eA, eN⟩, hall⟩ := h16
            rw [eA, eN]
            refine v_lstore (i := 4) (L' := [(0, _), (1, _), (2, _), (3, _)]) (G' := [(4, _)]) o.ok d_S_circles_19 (o.lt (by decide)) rfl rfl ?_
            refine v_aload_nq (i := 1) o.ok d_S_circles_21 rfl rfl ?_
            refine n_getr o 35 20 rfl rfl rfl (by decide) lf_S_182 (by first | rfl | exact hvs | exact hvt) d_S_circles_22 (fun r22 => ?_)
            refine n_cQ o (by first | rfl | exact hvs | exact hvt) (c_Q_live D A1 (N1 35 t) N1 (by rw [eS]; exact hst)) q_Q_live lm_S_186 d_S_circles_25 (by decide) rfl (by first | exact Nat.le_of_ble_eq_true rfl | (simp only [List.map_cons, List.map_nil, cat_rf, J_cat, List.sum_cons, List.sum_nil, cat_lg, cat_rr]; decide)) rfl (n_f ?_)
            first | refine v_ifeq_b o.ok d_S_circles_28 (fun c28 => ?_) (fun c28 => ?_) | refine v_if_eq o.ok (by omega) d_S_circles_28 (fun c28 => ?_) (fun c28 => ?_)
            · exact absurd (show N1 35 t = 1 ∨ N1 35 t = 2 by rw [eS]; exact hm.1) c28
            · refine v_lload (i := 4) o.ok d_S_circles_31 rfl ?_
              refine v_aload_nq (i := 1) o.ok d_S_circles_33 rfl rfl ?_
              refine n_numT o lf_S_223 (by first | rfl | exact hvs | exact hvt) d_S_circles_34 ?_
              refine v_lshr o.ok d_S_circles_37 ?_
              refine v_lconst o.ok d_S_circles_38 rfl ?_
              refine v_land o.ok d_S_circles_39 ?_
              refine v_lconst o.ok d_S_circles_40 rfl ?_
              refine v_lcmp o.ok d_S_circles_41 ?_
              rw [lcm_e]
              refine v_if_ne o.ok (by exact cmI_r _ _) d_S_circles_42 (fun c42 => ?_) (fun c42 => ?_)
              · exact absurd (cmI_0.mpr ((lb_sr (by omega)).mpr ((hall t).mpr hm.2))) c42
              · refine v_iconst o.ok d_S_circles_45 ?_
                refine v_goto o.ok d_S_circles_46 ?_
                refine v_istore_n (i := 2) (L' := [(0, _), (1, _), (2, _), (3, _)]) (G' := [(4, _)]) o.ok d_S_circles_50 rfl (o.lt (by decide)) rfl rfl ?_
                refine v_iconst o.ok d_S_circles_51 ?_
                refine v_istore (i := 6) (L' := [(0, _), (1, _), (2, _), (3, _), (6, _)]) (G' := [(4, _)]) o.ok d_S_circles_52 (o.lt (by decide)) rfl rfl ?_
                refine v_iconst o.ok d_S_circles_54 ?_
                refine v_istore (i := 7) (L' := [(0, _), (1, _), (2, _), (3, _), (6, _), (7, _)]) (G' := [(4, _)]) o.ok d_S_circles_55 (o.lt (by decide)) rfl rfl ?_
                exact k57 (M1 22 0).toNat 0 all hall (by omega) (by omega)
      · have he2 : (styN t (n + 1) M1).2 = M1 := by
          rw [styN_s]
          by_cases hl : Liv M1 t
          · have : vic M1 t = -1 := pick_f (fun z => hm ⟨hl, z⟩)
            rw [pick_t hl, pick_t (by omega)]
          · rw [pick_f hl]
        have k50 : ∀ all : Int64, V X (RelN D A1 N1) 50 [(0, rq A1 0 0), (1, rq A1 11 t), (2, J 1), (3, J k)] [(4, all)] [J 0] := by
          intro all
          refine v_istore_n (i := 2) (L' := [(0, _), (1, _), (2, _), (3, _)]) (G' := [(4, _)]) o.ok d_S_circles_50 rfl (o.lt (by decide)) rfl rfl ?_
          refine v_iconst o.ok d_S_circles_51 ?_
          refine v_istore (i := 6) (L' := [(0, _), (1, _), (2, _), (3, _), (6, _)]) (G' := [(4, _)]) o.ok d_S_circles_52 (o.lt (by decide)) rfl rfl ?_
          refine v_iconst o.ok d_S_circles_54 ?_
          refine v_istore (i := 7) (L' := [(0, _), (1, _), (2, _), (3, _), (6, _), (7, _)]) (G' := [(4, _)]) o.ok d_S_circles_55 (o.lt (by decide)) rfl rfl ?_
          refine v_iload (i := 7) o.ok d_S_circles_57 rfl ?_
          refine v_aload_nq (i := 0) o.ok d_S_circles_59 rfl rfl ?_
          refine n_geti o 8 rfl rfl rfl lf_S_50 (by first | rfl | exact hvt) d_S_circles_60 (fun i60 => ?_)
          rw [enm] at i60 ⊢
          refine v_icmp_ge o.ok (by omega) (by omega) d_S_circles_63 (fun c63 => ?_) (fun c63 => ?_)
          · exfalso; omega
          · refine v_iload_n (i := 2) o.ok d_S_circles_66 rfl rfl ?_
            first | refine v_ifeq_b o.ok d_S_circles_67 (fun c67 => ?_) (fun c67 => ?_) | refine v_if_eq o.ok (by omega) d_S_circles_67 (fun c67 => ?_) (fun c67 => ?_)
            · refine v_iload (i := 6) o.ok d_S_circles_115 rfl ?_
              refine v_if_lt o.ok (by omega) d_S_circles_117 (fun c117 => ?_) (fun c117 => ?_)
              · refine v_iinc (i := 3) (L' := [(0, _), (1, _), (2, _), (3, _), (6, _), (7, _)]) (G' := [(4, _)]) o.ok d_S_circles_132 rfl (o.lt (by decide)) rfl rfl ?_
                refine v_goto o.ok d_S_circles_135 ?_
                refine v_sel [0, 1, 2, 3] [] rfl rfl ?_
                exact ex (k + 1) A1 N1 (by omega) (by omega) hF (by rw [← he, he2]; exact hS)
              · exfalso; omega
            · exfalso; omega
        refine v_iload_n (i := 3) o.ok d_S_circles_4 rfl rfl ?_
        refine v_bipush o.ok d_S_circles_5 rfl ?_
        refine v_icmp_ge o.ok (by omega) (by omega) d_S_circles_7 (fun c7 => ?_) (fun c7 => ?_)
        · exfalso; omega
        · refine v_iload_n (i := 2) o.ok d_S_circles_10 rfl rfl ?_
          first | refine v_ifeq_b o.ok d_S_circles_11 (fun c11 => ?_) (fun c11 => ?_) | refine v_if_eq o.ok (by omega) d_S_circles_11 (fun c11 => ?_) (fun c11 => ?_)
          · exfalso; omega
          · refine v_aload_nq (i := 0) o.ok d_S_circles_14 rfl rfl ?_
            refine v_aload_nq (i := 1) o.ok d_S_circles_15 rfl rfl ?_
            refine n_cV o 1 (tg := 0) rfl (by decide) (by decide) (by first | rfl | exact hvs | exact hvt) (c_S_reach D A1 t N1 M1 hA1 hs1 hr1 ht1) q_S_reach lm_S_220 d_S_circles_16 (by decide) rfl (by first | exact Nat.le_of_ble_eq_true rfl | (simp only [List.map_cons, List.map_nil, cat_rf, J_cat, List.sum_cons, List.sum_nil, cat_lg, cat_rr]; decide)) rfl (n_x (fun x16 A16 N16 h16 => ?_))
            obtain ⟨all, rfl, ⟨eA, eN⟩, hall⟩ := h16
            rw [eA, eN]
            refine v_lstore (i := 4) (L' := [(0, _), (1, _), (2, _), (3, _)]) (G' := [(4, _)]) o.ok d_S_circles_19 (o.lt (by decide)) rfl rfl ?_
            refine v_aload_nq (i := 1) o.ok d_S_circles_21 rfl rfl ?_
            refine n_getr o 35 20 rfl rfl rfl (by decide) lf_S_182 (by first | rfl | exact hvs | exact hvt) d_S_circles_22 (fun r22 => ?_)
            refine n_cQ o (by first | rfl | exact hvs | exact hvt) (c_Q_live D A1 (N1 35 t) N1 (by rw [eS]; exact hst)) q_Q_live lm_S_186 d_S_circles_25 (by decide) rfl (by first | exact Nat.le_of_ble_eq_true rfl | (simp only [List.map_cons, List.map_nil, cat_rf, J_cat, List.sum_cons, List.sum_nil, cat_lg, cat_rr]; decide)) rfl (n_f ?_)
            first | refine v_ifeq_b o.ok d_S_circles_28 (fun c28 => ?_) (fun c28 => ?_) | refine v_if_eq o.ok (by omega) d_S_circles_28 (fun c28 => ?_) (fun c28 => ?_)
            · refine v_iconst o.ok d_S_circles_49 ?_
              exact k50 all
            · refine v_lload (i := 4) o.ok d_S_circles_31 rfl ?_
              refine v_aload_nq (i := 1) o.ok d_S_circles_33 rfl rfl ?_
              refine n_numT o lf_S_223 (by first | rfl | exact hvs | exact hvt) d_S_circles_34 ?_
              refine v_lshr o.ok d_S_circles_37 ?_
              refine v_lconst o.ok d_S_circles_38 rfl ?_
              refine v_land o.ok d_S_circles_39 ?_
              refine v_lconst o.ok d_S_circles_40 rfl ?_
              refine v_lcmp o.ok d_S_circles_41 ?_
              rw [lcm_e]
              refine v_if_ne o.ok (by exact cmI_r _ _) d_S_circles_42 (fun c42 => ?_) (fun c42 => ?_)
              · refine v_iconst o.ok d_S_circles_49 ?_
                exact k50 all
              · exact absurd ⟨(show Liv M1 t by unfold Liv; rw [← eS]; exact c28), (hall t).mp ((lb_sr (by omega)).mp (cmI_0.mp c42))⟩ hm
  refine v_iconst o.ok d_S_circles_0 ?_
  refine v_istore_n (i := 2) (L' := [(0, _), (1, _), (2, _)]) (G' := []) o.ok d_S_circles_1 rfl (o.lt (by decide)) rfl rfl ?_
  refine v_iconst o.ok d_S_circles_2 ?_
  refine v_istore_n (i := 3) (L' := [(0, _), (1, _), (2, _), (3, _)]) (G' := []) o.ok d_S_circles_3 rfl (o.lt (by decide)) rfl rfl ?_
  exact lp 60 0 A N M (by decide) rfl (Fwd.rf N A) h hI hba ht rfl

