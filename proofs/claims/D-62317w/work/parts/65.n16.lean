theorem Fwd.cm {N : MSt} {A A1 : ASt} {t : Int} (hx : Ext N A A1) (hr : N 3 0 ≤ N 50 0) : Fwd N A (cmN N t) A1 := by
  refine ⟨hx, ?_, ?_, ?_⟩
  · unfold cmN; rw [up_ne (by simp), up_ne (by simp)]; exact (ntN_e hr).1
  · rw [cmN_o (by decide) (by decide) (by omega) (by simp) (by decide)]; exact Int.le_refl _
  · exact cmN_o (by decide) (by decide) (by omega) (by simp) (by decide)
set_option maxHeartbeats 4000000 in
set_option maxRecDepth 20000 in
theorem c_S_commit (D : GD) (A : ASt) (t : Int) (N M : MSt) (h : Sim N M) (hi : IvM M) (hr : InR t) : NX D y_S_commit (wsOf y_S_commit b_S_commit 5 (some .int)) (4) [rq A 0 (0), J (t)] A N (fun x A1 N1 => x = J (r_commit M t).1 ∧ Fwd N A N1 A1 ∧ Sim N1 (r_commit M t).2) := by
  refine NCon.of (by decide) (by simp [cat_rf, J_cat]) (Nat.le_of_ble_eq_true rfl) ?_
  intro X g0 o
  show V X (RelN D A N) 0 [(0, rq A 0 (0)), (1, J (t))] [] []
  obtain ⟨hw, hd, hs, hl, hv⟩ := hi
  have hn := h.nums hw
  by_cases hm : inM M t
  · have ent : N 51 0 = M 22 0 := h.t.1.2
    have hvt : 0 ≤ t ∧ t < N 51 0 := (by rw [ent]; exact hm)
    have hb : InR (bar M t) := (by
      unfold bar
      by_cases c : Act M t
      · rw [pick_t c]
        by_cases d : Bsy M t
        · rw [pick_t d]; decide
        · rw [pick_f d]; decide
      · rw [pick_f c]; decide)
    have er2 : bar M t ≠ 0 → r_commit M t = (bar M t, M) := (by
      intro q
      unfold bar at q ⊢
      by_cases c : Act M t
      · rw [pick_t c] at q ⊢
        by_cases d : Bsy M t
        · rw [pick_t d]; unfold r_commit; rw [pick_t c, pick_t d]
        · rw [pick_f d] at q; exact absurd rfl q
      · rw [pick_f c]; exact pick_f c)
    have er3 : bar M t = 0 → r_commit M t = (0, cmt M t) ∧ Act M t := (by
      intro q
      unfold bar at q
      by_cases c : Act M t
      · rw [pick_t c] at q
        by_cases d : Bsy M t
        · rw [pick_t d] at q; exact absurd q (by decide)
        · exact ⟨by unfold r_commit; rw [pick_t c, pick_f d], c⟩
      · rw [pick_f c] at q; exact absurd q (by decide))
    have eLv : ntN N 4 t 0 7 0 = N 7 0 := ntN_o (by decide) (by decide) (by omega)
    have hvt1 : 0 ≤ t ∧ t < ntN N 4 t 0 51 0 := (by rw [ntN_o (by decide) (by decide) (by omega)]; exact hvt)
    have hvtc : 0 ≤ t ∧ t < cmN N t 51 0 := hvt1
    have epc : cmN N t 31 t = M 24 t := (by rw [cmN_o (by decide) (by decide) (by omega) (by simp) (by decide)]; exact (h.t.2 t hm.1 hm.2).1.1)
    have epn : ntN N 4 t 0 31 t = M 24 t := epc
    have hpp := hw.par.2.2 t hm.1 hm.2
    have nest : 0 ≤ M 24 t → Act M t → r_commit M t = (0, cmt M t) → ∀ A1, Ext N A A1 → V X (RelN D A1 (cmN N t)) 51 [(0, rq A1 0 0), (1, J t), (2, rq A1 11 t), (3, J (bar M t))] [] [] := by
      intro hp hA er A1 hx
      have hL : Liv M t := Or.inl hA.2
      obtain ⟨s1, s2, s3, s4, s5⟩ := Sim_cm h hm hL
      obtain ⟨u1, u2⟩ := Sim_cmU h hw hd hp
      have hS : Sim (cmN N t) (cm1 M t) := ⟨s1, s2, u1, s3, by rw [u2, cmN_o (by decide) (by decide) (by omega) (by simp) (by decide)]; exact h.cc.1, s4, s5⟩
      have hm1 : cm1 M t 22 0 = M 22 0 := cm1_o rfl (by decide)
      have hvp : 0 ≤ M 24 t ∧ M 24 t < cmN N t 51 0 := (by have := hvtc.2; omega)
      have hS2 := Sim_ulk (t := t) (Sim_inh (t := t) (p := M 24 t) hS (by unfold inM; rw [hm1]; exact hm) (by unfold inM; rw [hm1]; have := hm.2; omega))
      have ecm : cmt M t = ulk (inhN (cm1 M t) t (M 24 t) 33) t := (by
        unfold cmt cm2
        rw [if_pos hp, if_neg (by omega)]
        have e : inhN (cm1 M t) t (M 24 t) 33 13 0 = M 13 0 := (by rw [inhN_o (by decide)]; exact cm1_o rfl (by decide))
        rw [← e, up_self])
      have hvu : 0 ≤ t ∧ t < ihN (cmN N t) t (M 24 t) 33 51 0 := (by rw [ihN_o (by decide)]; exact hvtc)
      have hfw : Fwd N A (ulN (ihN (cmN N t) t (M 24 t) 33) t 33) A1 := (Fwd.cm (t := t) hx hn.2.2.2.2).eq (by rw [ulN_o (by decide), ihN_o (by decide)]) (by rw [ulN_o (by decide), ihN_o (by decide)]) (by rw [ulN_o (by decide), ihN_o (by decide)])
      refine v_aload_nq (i := 2) o.ok d_S_commit_51 rfl rfl ?_
      refine n_getr o 31 11 rfl rfl rfl (by decide) lf_S_296 (by first | rfl | exact hvtc | exact hvp | exact hvu) d_S_commit_52 (fun r52 => ?_)
      rw [epc]
      refine v_aload_nq (i := 2) o.ok d_S_commit_55 rfl rfl ?_
      refine n_cV o 4 (tg := 11) rfl (by decide) (by decide) (by first | rfl | exact hvtc | exact hvp | exact hvu) (c_T_inherit D A1 (M 24 t) t (cmN N t) hvtc hvp hpp.2) q_T_inherit lm_S_300 d_S_commit_56 (by decide) rfl (by first | exact Nat.le_of_ble_eq_true rfl | (simp only [List.map_cons, List.map_nil, cat_rf, J_cat, List.sum_cons, List.sum_nil, cat_lg, cat_rr]; decide)) rfl (n_e ?_)
      refine v_goto o.ok d_S_commit_59 ?_
      refine v_aload_nq (i := 2) o.ok d_S_commit_108 rfl rfl ?_
      refine n_cV o 4 (tg := 11) rfl (by decide) (by decide) (by first | rfl | exact hvtc | exact hvp | exact hvu) (c_T_unlock D A1 t (ihN (cmN N t) t (M 24 t) 33) hvu) q_T_unlock lm_S_237 d_S_commit_109 (by decide) rfl (by first | exact Nat.le_of_ble_eq_true rfl | (simp only [List.map_cons, List.map_nil, cat_rf, J_cat, List.sum_cons, List.sum_nil, cat_lg, cat_rr]; decide)) rfl (n_e ?_)
      refine v_iconst o.ok d_S_commit_112 ?_
      refine n_iret o d_S_commit_113 ⟨by rw [er], hfw, by rw [er, ecm]; exact hS2⟩
    have tp : M 24 t < 0 → Act M t → r_commit M t = (0, cmt M t) → ∀ A1, Ext N A A1 → V X (RelN D A1 (cmN N t)) 62 [(0, rq A1 0 0), (1, J t), (2, rq A1 11 t), (3, J (bar M t))] [] [] := by
      intro hp hA er A1 hx
      have hL : Liv M t := Or.inl hA.2
      obtain ⟨s1, s2, s3, s4, s5⟩ := Sim_cm h hm hL
      obtain ⟨st1, st2⟩ := cm_start h hw hd hm hL hp
      have hm1 : cm1 M t 22 0 = M 22 0 := cm1_o rfl (by decide)
      have eP := cm1_par M t
      have m1 := (cm1_n M t).1
      have htc : inM (cm1 M t) t := (by unfold inM; rw [hm1]; exact hm)
      have hpc : ParOk (cm1 M t) := hw.par.c eP hm1
      have hdc : DepOk (cm1 M t) := hd.c eP hm1
      have hbyc : ∀ r, 0 ≤ r → r < cm1 M t 12 0 → inM (cm1 M t) (cm1 M t 15 r) := (by
        intro r a b
        by_cases e : r = M 12 0
        · rw [e, (cm1_n M t).2.2.1]; exact htc
        · rw [cm1_l (by decide) (by decide) e]; unfold inM; rw [hm1]; exact hw.bys r a (by omega))
      have hrc : cm1 M t 12 0 ≤ 300 := (by
        have q1 := hw.sum
        have q2 := hw.ob
        have q3 := (lives_bd (M := cm1 M t) (by rw [hm1]; exact hw.many.1)).1
        have q4 := hn.2.2.1
        have q5 := h.cc.2.1
        have q6 : cmN N t 7 0 = N 7 0 - 1 := up_same _ _ _ _
        omega)
      have simT : ∀ N1, CmI (cmN N t) (cm1 M t) t N1 → SimT N1 (cm1 M t) ∧ SimL N1 (cm1 M t) := (by
        intro N1 hc
        have c1 := hc.1
        have cc : ∀ f : Nat, f ≠ 29 → f ≠ 36 → f ≠ 6 → N1 f = cmN N t f := fun f a b c => funext fun i => c1 f i a b c
        exact ⟨s3.c (c1 _ _ (by decide) (by decide) (by decide)) (c1 _ _ (by decide) (by decide) (by decide)) (cc _ (by decide) (by decide) (by decide)) (cc _ (by decide) (by decide) (by decide)) (cc _ (by decide) (by decide) (by decide)) (cc _ (by decide) (by decide) (by decide)) (cc _ (by decide) (by decide) (by decide)) (cc _ (by decide) (by decide) (by decide)) (cc _ (by decide) (by decide) (by decide)) (cc _ (by decide) (by decide) (by decide)) (cc _ (by decide) (by decide) (by decide)) (cc _ (by decide) (by decide) (by decide)) (cc _ (by decide) (by decide) (by decide)) rfl rfl rfl rfl rfl rfl rfl rfl,
          s2.c (c1 _ _ (by decide) (by decide) (by decide)) (c1 _ _ (by decide) (by decide) (by decide)) (c1 _ _ (by decide) (by decide) (by decide)) (cc _ (by decide) (by decide) (by decide)) (cc _ (by decide) (by decide) (by decide)) (cc _ (by decide) (by decide) (by decide)) (cc _ (by decide) (by decide) (by decide)) (cc _ (by decide) (by decide) (by decide)) (cc _ (by decide) (by decide) (by decide)) (cc _ (by decide) (by decide) (by decide)) (cc _ (by decide) (by decide) (by decide)) (cc _ (by decide) (by decide) (by decide)) rfl rfl rfl rfl rfl rfl rfl rfl rfl rfl⟩)
      have lt : ∀ N1, CmI (cmN N t) (cm1 M t) t N1 → NX D y_T_latest wsLt 3 [rq A1 11 t, J 0] A1 N1 (LtQ A1 N1 (cm1 M t) t 0) := fun N1 hc =>
        c_T_latest D A1 (cm1 M t) hpc hdc hbyc hrc 0 (by omega) 3 t N1 htc (by have := dep_le (hdc t htc.1 htc.2) htc.1; omega) (simT N1 hc).1 (simT N1 hc).2 hc.2.2.2
      have eg : cmN N t 4 0 = N 4 0 := cmN_o (by decide) (by decide) (by omega) (by simp) (by decide)
      have ere : cmN N t 3 0 = N 3 0 + 1 := (by unfold cmN; rw [up_ne (by simp), up_ne (by simp)]; exact (ntN_n N 4 t 0).1)
      have hrN : N 3 0 = M 12 0 := h.l.1.2.1
      have hgN : N 4 0 = M 11 0 := h.l.1.1
      have hn1 := hn.1
      have hn4 := hn.2.2.2.1
      have f100 : ∀ N1, CmI (cmN N t) (cm1 M t) t N1 → N1 6 0 = opens (cm1 M t) → V X (RelN D A1 N1) 100 [(0, rq A1 0 0), (1, J t), (2, rq A1 11 t), (3, J (bar M t))] [] [] := by
        intro N1 hc ho
        have eg1 : N1 4 0 = N 4 0 := (hc.1 _ _ (by decide) (by decide) (by decide)).trans eg
        have er1 : N1 3 0 = N 3 0 + 1 := (hc.1 _ _ (by decide) (by decide) (by decide)).trans ere
        have ent1 : N1 51 0 = cmN N t 51 0 := hc.1 _ _ (by decide) (by decide) (by decide)
        have hS := Sim_ulk (t := t) (cm_end (L := N1 4 0 + N1 3 0) h hw hd hm hL hp hc ho)
        have ecm : cmt M t = ulk (up (cm1 M t) 13 0 (N1 4 0 + N1 3 0)) t := (by
          unfold cmt cm2
          rw [if_neg (by omega), if_pos hp, eg1, er1, hgN, hrN, show M 11 0 + (M 12 0 + 1) = M 11 0 + M 12 0 + 1 from by omega])
        have hvu : 0 ≤ t ∧ t < up N1 5 0 (N1 4 0 + N1 3 0) 51 0 := (by rw [up_ne (by simp), ent1]; exact hvtc)
        have hfw : Fwd N A (ulN (up N1 5 0 (N1 4 0 + N1 3 0)) t 33) A1 := (Fwd.cm (t := t) hx hn.2.2.2.2).eq (by rw [ulN_o (by decide), up_ne (by simp)]; exact hc.1 _ _ (by decide) (by decide) (by decide)) (by rw [ulN_o (by decide), up_ne (by simp)]; exact ent1) (by rw [ulN_o (by decide), up_ne (by simp)]; exact hc.1 _ _ (by decide) (by decide) (by decide))
        refine v_aload_nq (i := 0) o.ok d_S_commit_100 rfl rfl ?_
        refine v_aload_nq (i := 0) o.ok d_S_commit_101 rfl rfl ?_
        refine n_cV o 1 (tg := 0) rfl (by decide) (by decide) (by first | rfl | exact hvu) (c_S_last D A1 N1 (by omega) (by omega)) q_S_last lm_S_250 d_S_commit_102 (by decide) rfl (by first | exact Nat.le_of_ble_eq_true rfl | (simp only [List.map_cons, List.map_nil, cat_rf, J_cat, List.sum_cons, List.sum_nil, cat_lg, cat_rr]; decide)) rfl (n_f ?_)
        refine n_puti o 5 rfl rfl rfl rfl lf_S_75 (by first | rfl | exact hvu) (by omega) d_S_commit_105 ?_
        refine v_aload_nq (i := 2) o.ok d_S_commit_108 rfl rfl ?_
        refine n_cV o 4 (tg := 11) rfl (by decide) (by decide) (by first | rfl | exact hvu) (c_T_unlock D A1 t (up N1 5 0 (N1 4 0 + N1 3 0)) hvu) q_T_unlock lm_S_237 d_S_commit_109 (by decide) rfl (by first | exact Nat.le_of_ble_eq_true rfl | (simp only [List.map_cons, List.map_nil, cat_rf, J_cat, List.sum_cons, List.sum_nil, cat_lg, cat_rr]; decide)) rfl (n_e ?_)
        refine v_iconst o.ok d_S_commit_112 ?_
        refine n_iret o d_S_commit_113 ⟨by rw [er], hfw, by rw [er, ecm]; exact hS⟩
      have lp : ∀ (n : Nat) (N1 : MSt) (z : Int), z < n → CmI (cmN N t) (cm1 M t) t N1 → N1 6 0 = opens (cm1 M t) + cnt (cnd N1 (cm1 M t) (InS (cm1 M t) t) 0) (cm1 M t 12 0) → IsM N1 (cm1 M t) (InS (cm1 M t) t) 0 z → V X (RelN D A1 N1) 69 [(0, rq A1 0 0), (1, J t), (2, rq A1 11 t), (3, J (bar M t)), (4, rq A1 10 z)] [] [] := by
        intro n
        induction n with
        | zero =>
          intro N1 z h0 h1 h2 h3
          have hz : ∀ r, ¬ cnd N1 (cm1 M t) (InS (cm1 M t) t) 0 r := (by rcases h3 with y | y; exact y.2; exfalso; have := y.1.1.1; omega)
          refine v_aloadq (i := 4) o.ok d_S_commit_69 rfl ?_
          refine n_ifnull o.ok d_S_commit_71 (fun c71 => ?_) (fun c71 => ?_)
          · exact v_sel [0, 1, 2, 3] [] rfl rfl (f100 N1 h1 (by rw [h2, cnt_none (fun i _ _ => hz i)]; omega))
          · exfalso; omega
        | succ n ih =>
          intro N1 z h0 h1 h2 h3
          by_cases hz0 : z < 0
          · have hz : ∀ r, ¬ cnd N1 (cm1 M t) (InS (cm1 M t) t) 0 r := (by rcases h3 with y | y; exact y.2; exfalso; have := y.1.1.1; omega)
            refine v_aloadq (i := 4) o.ok d_S_commit_69 rfl ?_
            refine n_ifnull o.ok d_S_commit_71 (fun c71 => ?_) (fun c71 => ?_)
            · exact v_sel [0, 1, 2, 3] [] rfl rfl (f100 N1 h1 (by rw [h2, cnt_none (fun i _ _ => hz i)]; omega))
            · exfalso; omega
          · have h3 : cnd N1 (cm1 M t) (InS (cm1 M t) t) 0 z ∧ ∀ r, cnd N1 (cm1 M t) (InS (cm1 M t) t) 0 r → r ≤ z := (by rcases h3 with y | y; exfalso; omega; exact y)
            have hzr := h3.1.1
            have hneL := (simT N1 h1).2.1.2.2.2
            have hvz : 0 ≤ z ∧ z < N1 50 0 := (by omega)
            have hpu := h1.put (z := z) h3.1.2.2.2.1 (N1 6 0 - 1)
            have hob := opens_bd (M := cm1 M t) (by rw [m1]; omega)
            have hcb := cnt_bd (P := cnd N1 (cm1 M t) (InS (cm1 M t) t) 0) (b := cm1 M t 12 0) (by rw [m1]; omega)
            have cdr : ∀ r, cnd (up (up N1 29 z 1) 6 0 (N1 6 0 - 1)) (cm1 M t) (InS (cm1 M t) t) 0 r ↔ cnd N1 (cm1 M t) (InS (cm1 M t) t) 0 r ∧ r ≠ z := (by
              intro r
              unfold cnd
              rw [up_ne (k' := 29) (by simp)]
              by_cases e : r = z
              · rw [e, up_same]; exact ⟨fun y => absurd y.2.2.1 (by decide), fun y => absurd rfl y.2⟩
              · rw [up_ne (fun w => e w.2)]; exact ⟨fun y => ⟨y, e⟩, fun y => y.1⟩)
            have hdrop := cntN_drop cdr h3.1 hzr.1 (cm1 M t 12 0).toNat
            rw [if_pos (by omega)] at hdrop
            have hop : up (up N1 29 z 1) 6 0 (N1 6 0 - 1) 6 0 = opens (cm1 M t) + cnt (cnd (up (up N1 29 z 1) 6 0 (N1 6 0 - 1)) (cm1 M t) (InS (cm1 M t) t) 0) (cm1 M t 12 0) := (by
              rw [up_same]
              have e1 : cnt (cnd (up (up N1 29 z 1) 6 0 (N1 6 0 - 1)) (cm1 M t) (InS (cm1 M t) t) 0) (cm1 M t 12 0) = cntN (cnd (up (up N1 29 z 1) 6 0 (N1 6 0 - 1)) (cm1 M t) (InS (cm1 M t) t) 0) (cm1 M t 12 0).toNat := rfl
              have e2 : cnt (cnd N1 (cm1 M t) (InS (cm1 M t) t) 0) (cm1 M t 12 0) = cntN (cnd N1 (cm1 M t) (InS (cm1 M t) t) 0) (cm1 M t 12 0).toNat := rfl
              omega)
            have eo : up N1 29 z 1 6 0 = N1 6 0 := rfl
            refine v_aloadq (i := 4) o.ok d_S_commit_69 rfl ?_
            refine n_ifnull o.ok d_S_commit_71 (fun c71 => ?_) (fun c71 => ?_)
            · exfalso; omega
            · refine v_aloadq (i := 4) o.ok d_S_commit_74 rfl ?_
              refine v_iconst o.ok d_S_commit_76 ?_
              refine n_putz o 29 rfl rfl rfl rfl lf_S_163 (by first | rfl | exact hvz) (by omega) d_S_commit_77 ?_
              refine v_aload_nq (i := 0) o.ok d_S_commit_80 rfl rfl ?_
              refine v_dup o.ok d_S_commit_81 (cat_rf _) ?_
              refine n_geti o 6 rfl rfl rfl lf_S_106 (by first | rfl | exact hvz) d_S_commit_82 (fun i82 => ?_)
              rw [eo] at i82 ⊢
              refine v_iconst o.ok d_S_commit_85 ?_
              refine v_isub o.ok d_S_commit_86 ?_
              refine n_puti o 6 rfl rfl rfl rfl lf_S_106 (by first | rfl | exact hvz) (by omega) d_S_commit_87 ?_
              refine v_aload_nq (i := 2) o.ok d_S_commit_90 rfl rfl ?_
              refine v_iconst o.ok d_S_commit_91 ?_
              refine n_cSN o (lt (up (up N1 29 z 1) 6 0 (N1 6 0 - 1)) hpu) q_T_latest ln_S_166 d_S_commit_92 (by decide) rfl (by first | exact Nat.le_of_ble_eq_true rfl | (simp only [List.map_cons, List.map_nil, cat_rf, J_cat, List.sum_cons, List.sum_nil, cat_lg, cat_rr]; decide)) rfl (n_x (fun x92 A92 N92 h92 => ?_))
              obtain ⟨z', rfl, hA2, q1, q2, q4, q3⟩ := h92
              rw [hA2]
              refine v_astoreq (i := 4) (L' := [(0, _), (1, _), (2, _), (3, _), (4, _)]) (G' := []) o.ok d_S_commit_95 (o.lt (by decide)) rfl rfl ?_
              refine v_goto o.ok d_S_commit_97 ?_
              refine ih N92 z' ?_ (hpu.lt q1 q2 q3) ?_ (q4.eq q1)
              · rcases q4 with y | y
                · omega
                · have := (cdr z').mp y.1
                  have := h3.2 z' this.1
                  omega
              · rw [q1 _ _ (by decide), hop]
                congr 1
                exact cnt_ext (fun i _ _ => (cnd_eq q1).symm)
      refine v_aload_nq (i := 2) o.ok d_S_commit_62 rfl rfl ?_
      refine v_iconst o.ok d_S_commit_63 ?_
      refine n_cSN o (lt (cmN N t) st1) q_T_latest ln_S_166 d_S_commit_64 (by decide) rfl (by first | exact Nat.le_of_ble_eq_true rfl | (simp only [List.map_cons, List.map_nil, cat_rf, J_cat, List.sum_cons, List.sum_nil, cat_lg, cat_rr]; decide)) rfl (n_x (fun x64 A64 N64 h64 => ?_))
      obtain ⟨z', rfl, hA2, q1, q2, q4, q3⟩ := h64
      rw [hA2]
      refine v_astoreq (i := 4) (L' := [(0, _), (1, _), (2, _), (3, _), (4, _)]) (G' := []) o.ok d_S_commit_67 (o.lt (by decide)) rfl rfl ?_
      refine lp 301 N64 z' ?_ (st1.lt q1 q2 q3) ?_ (q4.eq q1)
      · rcases q4 with y | y
        · omega
        · have := y.1.1; omega
      · rw [q1 _ _ (by decide), st2]
        congr 1
        exact cnt_ext (fun i _ _ => (cnd_eq q1).symm)
    refine v_aload_nq (i := 0) o.ok d_S_commit_0 rfl rfl ?_
    refine v_iload_n (i := 1) o.ok d_S_commit_1 rfl rfl ?_
    refine n_cV o 1 (tg := 0) rfl (by decide) (by decide) (by first | rfl | exact hvt1 | exact hvtc) (c_S_findI D A t N M h.t hw.par hm) q_S_find lm_S_240 d_S_commit_2 (by decide) rfl (by first | exact Nat.le_of_ble_eq_true rfl | (simp only [List.map_cons, List.map_nil, cat_rf, J_cat, List.sum_cons, List.sum_nil, cat_lg, cat_rr]; decide)) rfl (n_f ?_)
    refine v_astore_nq (i := 2) (L' := [(0, _), (1, _), (2, _)]) (G' := []) o.ok d_S_commit_5 rfl (o.lt (by decide)) rfl rfl ?_
    refine v_aload_nq (i := 2) o.ok d_S_commit_6 rfl rfl ?_
    refine n_cS o (c_S_bar D A t N M h.t hw.par hs hm) q_S_bar lm_S_267 d_S_commit_7 (by decide) rfl (by first | exact Nat.le_of_ble_eq_true rfl | (simp only [List.map_cons, List.map_nil, cat_rf, J_cat, List.sum_cons, List.sum_nil, cat_lg, cat_rr]; decide)) rfl (n_f ?_)
    refine v_istore_n (i := 3) (L' := [(0, _), (1, _), (2, _), (3, _)]) (G' := []) o.ok d_S_commit_10 rfl (o.lt (by decide)) rfl rfl ?_
    refine v_iload_n (i := 3) o.ok d_S_commit_11 rfl rfl ?_
    refine v_if_eq o.ok (by omega) d_S_commit_12 (fun c12 => ?_) (fun c12 => ?_)
    · obtain ⟨er, hA⟩ := er3 c12
      refine v_aload_nq (i := 0) o.ok d_S_commit_17 rfl rfl ?_
      refine n_getK o 4 (by decide) ls_S_290 d_S_commit_18 ?_
      refine v_aload_nq (i := 2) o.ok d_S_commit_21 rfl rfl ?_
      refine v_iconst o.ok d_S_commit_22 ?_
      refine n_cV o 1 (tg := 0) rfl (by decide) (by decide) (by first | rfl | exact hvt1 | exact hvtc) (c_S_note D A 4 t 0 N (by omega) hvt (by omega) hn.1 hn.2.2.2.2 hn.2.2.2.1) q_S_note lm_S_124 d_S_commit_23 (by decide) rfl (by first | exact Nat.le_of_ble_eq_true rfl | (simp only [List.map_cons, List.map_nil, cat_rf, J_cat, List.sum_cons, List.sum_nil, cat_lg, cat_rr]; decide)) rfl (n_x (fun x23 A23 N23 h23 => ?_))
      obtain ⟨hx, rfl, rfl⟩ := h23
      (try simp only [rq])
      rw [← hx.fo (tg := 0) (v := 0) (by decide), ← hx.ft (v := t) (by omega)]
      refine v_pop o.ok d_S_commit_26 (cat_rf _) ?_
      refine v_aload_nq (i := 2) o.ok d_S_commit_27 rfl rfl ?_
      refine n_getQ o 3 (by decide) ls_S_293 d_S_commit_28 ?_
      refine n_putr o 35 20 rfl rfl rfl (by decide) rfl lf_S_182 (by first | rfl | exact hvt1 | exact hvtc) (by exact Or.inr (And.intro (by decide) (by decide))) d_S_commit_31 ?_
      refine v_aload_nq (i := 0) o.ok d_S_commit_34 rfl rfl ?_
      refine v_dup o.ok d_S_commit_35 (cat_rf _) ?_
      refine n_geti o 7 rfl rfl rfl lf_S_109 (by first | rfl | exact hvt1 | exact hvtc) d_S_commit_36 (fun i36 => ?_)
      simp only [up, Nat.reduceEqDiff, false_and, if_false, eLv] at i36 ⊢
      refine v_iconst o.ok d_S_commit_39 ?_
      refine v_isub o.ok d_S_commit_40 ?_
      refine n_puti o 7 rfl rfl rfl rfl lf_S_109 (by first | rfl | exact hvt1 | exact hvtc) (by have := hn.2.2.1; omega) d_S_commit_41 ?_
      refine v_aload_nq (i := 2) o.ok d_S_commit_44 rfl rfl ?_
      refine n_getr o 31 11 rfl rfl rfl (by decide) lf_S_296 (by first | rfl | exact hvt1 | exact hvtc) d_S_commit_45 (fun r45 => ?_)
      simp only [up, Nat.reduceEqDiff, false_and, if_false, epn]
      refine n_ifnull o.ok d_S_commit_48 (fun c48 => ?_) (fun c48 => ?_)
      · exact tp c48 hA er A23 hx
      · exact nest c48 hA er A23 hx
    · have er := er2 c12
      refine v_iload_n (i := 3) o.ok d_S_commit_15 rfl rfl ?_
      refine n_iret o d_S_commit_16 ⟨by rw [er], Fwd.rf N A, by rw [er]; exact h⟩
  · have eb : r_commit M t = (-1, M) := pick_f (fun q => hm q.1)
    refine v_aload_nq (i := 0) o.ok d_S_commit_0 rfl rfl ?_
    refine v_iload_n (i := 1) o.ok d_S_commit_1 rfl rfl ?_
    refine n_cV o 1 (tg := 0) rfl (by decide) (by decide) (by first | rfl | assumption | exact And.intro (by omega) (by omega)) (c_S_findN D A t N M h.t hw.par hm hr) q_S_find lm_S_240 d_S_commit_2 (by decide) rfl (by first | exact Nat.le_of_ble_eq_true rfl | (simp only [List.map_cons, List.map_nil, cat_rf, J_cat, List.sum_cons, List.sum_nil, cat_lg, cat_rr]; decide)) rfl (n_f ?_)
    refine v_astore_nq (i := 2) (L' := [(0, _), (1, _), (2, _)]) (G' := []) o.ok d_S_commit_5 rfl (o.lt (by decide)) rfl rfl ?_
    refine v_aload_nq (i := 2) o.ok d_S_commit_6 rfl rfl ?_
    refine n_cS o (c_S_barN D A N) q_S_bar lm_S_267 d_S_commit_7 (by decide) rfl (by first | exact Nat.le_of_ble_eq_true rfl | (simp only [List.map_cons, List.map_nil, cat_rf, J_cat, List.sum_cons, List.sum_nil, cat_lg, cat_rr]; decide)) rfl (n_f ?_)
    refine v_istore_n (i := 3) (L' := [(0, _), (1, _), (2, _), (3, _)]) (G' := []) o.ok d_S_commit_10 rfl (o.lt (by decide)) rfl rfl ?_
    refine v_iload_n (i := 3) o.ok d_S_commit_11 rfl rfl ?_
    refine v_if_eq o.ok (by omega) d_S_commit_12 (fun c12 => ?_) (fun c12 => ?_)
    · exfalso; omega
    · refine v_iload_n (i := 3) o.ok d_S_commit_15 rfl rfl ?_
      refine n_iret o d_S_commit_16 ⟨by rw [eb], Fwd.rf N A, by rw [eb]; exact h⟩

