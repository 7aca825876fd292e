theorem InS_c {M M' : MSt} (h : M' 24 = M 24) (t u : Int) : InS M' t u ↔ InS M t u := by
  unfold InS
  rw [Abv_c h]
theorem ParOk.c {M M' : MSt} (h : ParOk M) (e : M' 24 = M 24) (e2 : M' 22 0 = M 22 0) : ParOk M' := by
  unfold ParOk
  rw [e, e2]
  exact h
theorem abtN_low {F : Int → Prop} {M : MSt} : ∀ n : Nat, (∀ u : Int, 0 ≤ u → u < n → ¬ F u) → abtN F n M = M := by
  intro n
  induction n with
  | zero => intro _; rfl
  | succ n ih =>
    intro h
    rw [abtN_f (h n (by omega) (by omega))]
    exact ih (fun u a b => h u a (by omega))
theorem goN_ne {N : MSt} {u : Int} (hr : N 3 0 ≤ N 50 0) : N 50 0 ≤ goN N u 50 0 := by
  unfold goN
  rw [up_ne (by simp), ulN_o (by decide), up_ne (by simp)]
  exact (ntN_e hr).1
theorem Fwd.go {N N0 : MSt} {A A0 A1 : ASt} {u : Int} (h : Fwd N A N0 A0) (hx : Ext N0 A0 A1) (hr : N0 3 0 ≤ N0 50 0) : Fwd N A (goN N0 u) A1 :=
  h.tr ⟨hx, goN_ne hr, by rw [goN_o (by decide) (by decide) (by omega) (by simp) (by decide) (by decide)]; exact Int.le_refl _, goN_o (by decide) (by decide) (by omega) (by simp) (by decide) (by decide)⟩
set_option maxHeartbeats 4000000 in
set_option maxRecDepth 20000 in
theorem c_S_fall (D : GD) (A : ASt) (t : Int) (N M : MSt) (h : Sim N M) (hw : WF M) (hd : DepOk M) (hst : StOk M) (ht : inM M t) (hlv : LvT M t) : NX D y_S_fall (wsOf y_S_fall b_S_fall 5 (some .int)) (6) [rq A 0 (0), rq A 11 (t)] A N (fun x A1 N1 => x = J (abt M t).1 ∧ Fwd N A N1 A1 ∧ Sim N1 (abt M t).2) := by
  refine NCon.of (by decide) (by simp [cat_rf, J_cat]) (Nat.le_of_ble_eq_true rfl) ?_
  intro X g0 o
  show V X (RelN D A N) 0 [(0, rq A 0 (0)), (1, rq A 11 (t))] [] []
  have lp : ∀ (n : Nat) (A1 : ASt) (N1 M1 : MSt), Sim N1 M1 → WF M1 → StOk M1 → M1 24 = M 24 → M1 22 0 = M 22 0 → (n : Int) ≤ M 22 0 → (∀ u, 0 ≤ u → u < n → (Liv M1 u ↔ Liv M u)) → (∀ r, 0 ≤ r → r < M1 12 0 → Opn M1 r → ¬ InS M1 t (M1 15 r)) → Fwd N A N1 A1 → abtN (fun u => Liv M u ∧ InS M t u) n M1 = (abt M t).2 → V X (RelN D A1 N1) 14 [(0, rq A1 0 0), (1, rq A1 11 t), (2, J (abt M t).1), (3, J ((n : Int) - 1))] [] [] := by
    intro n
    induction n with
    | zero =>
      intro A1 N1 M1 h1 h2 h3 h4 h5 h6 h7 h8 h9 h10
      have hmn := hw.many
      have ht1 := ht.1
      have ht2 := ht.2
      have ent : N1 51 0 = M1 22 0 := h1.t.1.2
      refine v_iload_n (i := 3) o.ok d_S_fall_14 rfl rfl ?_
      refine v_aload_nq (i := 1) o.ok d_S_fall_15 rfl rfl ?_
      refine n_numT o lf_S_223 (by first | rfl | assumption | exact And.intro (by omega) (by omega)) d_S_fall_16 ?_
      refine v_icmp_lt o.ok (by omega) (by omega) d_S_fall_19 (fun c19 => ?_) (fun c19 => ?_)
      · refine v_iload_n (i := 2) o.ok d_S_fall_90 rfl rfl ?_
        refine n_iret o d_S_fall_91 ⟨rfl, h9, by rw [← h10]; exact h1⟩
      · exfalso; omega
    | succ n ih =>
      intro A1 N1 M1 h1 h2 h3 h4 h5 h6 h7 h8 h9 h10
      have hmn := hw.many
      have ht1 := ht.1
      have ht2 := ht.2
      have ent : N1 51 0 = M1 22 0 := h1.t.1.2
      have enm : N1 8 0 = M1 22 0 := h1.t.1.1
      rw [show ((n + 1 : Nat) : Int) - 1 = (n : Int) from by omega]
      have hn1 := h1.nums h2
      have hun : inM M1 (n : Int) := ⟨by omega, by omega⟩
      have hun0 : inM M (n : Int) := ⟨by omega, by omega⟩
      have eS := (h1.t.2 n hun.1 hun.2).1.2.2.2.2
      have hs3 := h3 n hun.1 hun.2
      have hd1 : DepOk M1 := hd.c h4 h5
      have hvs : Vld N1 20 (N1 35 n) := (by rw [eS]; exact hs3)
      have hvn : 0 ≤ (n : Int) ∧ (n : Int) < N1 51 0 := ⟨by omega, by omega⟩
      have hln : Liv M1 n ↔ Liv M n := h7 n (by omega) (by omega)
      have hin : InS M1 t n ↔ InS M t n := InS_c h4 t n
      have skip : ¬ (Liv M n ∧ InS M t n) → V X (RelN D A1 N1) 14 [(0, rq A1 0 0), (1, rq A1 11 t), (2, J (abt M t).1), (3, J ((n : Int) - 1))] [] [] := fun q =>
        ih A1 N1 M1 h1 h2 h3 h4 h5 (by omega) (fun u a b => h7 u a (by omega)) h8 h9 (by rw [abtN_f q] at h10; exact h10)
      have go : Liv M n → InS M t n → ∀ A2, Ext N1 A1 A2 → V X (RelN D A2 (goN N1 n)) 14 [(0, rq A2 0 0), (1, rq A2 11 t), (2, J (abt M t).1), (3, J ((n : Int) - 1))] [] [] := fun q1 q2 A2 hx => by
        have hl1 := hln.mpr q1
        refine ih A2 (goN N1 n) (gon M1 n) (Sim_gon h1 hun hl1 (fun r a b c e => ?_)) (h2.gone hun hl1) ?_ ((gon_par M1 n).trans h4) ?_ (by omega) (fun u a b => ?_) (fun r a b c => ?_) (h9.go hx hn1.2.2.2.2) ?_
        · refine h8 r a b c ?_
          have w := InS_tops h2.par hd1 (h2.bys r a b)
          rw [e] at w
          exact InS_trans hd1 hun (h2.bys r a b) (hin.mpr q2) w.2
        · intro x a b
          rw [show gon M1 n 22 0 = M1 22 0 from gon_o rfl (by decide) (by decide)] at b
          rw [gon_state]
          split
          · decide
          · exact h3 x a b
        · rw [show gon M1 n 22 0 = M1 22 0 from gon_o rfl (by decide) (by decide)]; exact h5
        · rw [← h7 u a (by omega)]
          unfold Liv
          rw [gon_state, if_neg (by omega)]
        · have m1 : gon M1 n 12 0 = M1 12 0 + 1 := gon_n.1
          by_cases e : r = M1 12 0
          · have := c.1; rw [e, gon_n.2.1] at this; exact absurd this (by decide)
          · have hr : r < M1 12 0 := by omega
            rw [show gon M1 n 15 r = M1 15 r from gon_l (by decide) (by decide) (by decide) e, InS_c (gon_par M1 n)]
            exact h8 r a hr ((Opn_gon hr).mp c).1
        · rw [abtN_t ⟨q1, q2⟩] at h10
          exact h10
      have eU : ∀ i, ulN (up (ntN N1 5 n 0) 35 n 4) n 33 7 i = N1 7 i := fun i => (by rw [ulN_o (by decide), up_ne (by simp), ntN_o (by decide) (by decide) (by omega)])
      refine v_iload_n (i := 3) o.ok d_S_fall_14 rfl rfl ?_
      refine v_aload_nq (i := 1) o.ok d_S_fall_15 rfl rfl ?_
      refine n_numT o lf_S_223 (by first | rfl | exact hvs | exact hvn | exact And.intro (by omega) (by omega)) d_S_fall_16 ?_
      refine v_icmp_lt o.ok (by omega) (by omega) d_S_fall_19 (fun c19 => ?_) (fun c19 => ?_)
      · have elow : abtN (fun u => Liv M u ∧ InS M t u) (n + 1) M1 = M1 := abtN_low _ (fun u a b q => by have := InS_le (M := M) hw.par hd (x := u) ⟨a, by omega⟩ q.2; omega)
        rw [elow] at h10
        refine v_iload_n (i := 2) o.ok d_S_fall_90 rfl rfl ?_
        refine n_iret o d_S_fall_91 ⟨rfl, h9, by rw [← h10]; exact h1⟩
      · refine v_aload_nq (i := 0) o.ok d_S_fall_22 rfl rfl ?_
        refine n_s5 o lf_S_30 d_S_fall_23 ?_
        refine v_iload_n (i := 3) o.ok d_S_fall_26 rfl rfl ?_
        refine n_aT o (by omega) (by omega) d_S_fall_27 ?_
        refine v_astoreq (i := 4) (L' := [(0, _), (1, _), (2, _), (3, _), (4, _)]) (G' := []) o.ok d_S_fall_28 (o.lt (by decide)) rfl rfl ?_
        refine v_aloadq (i := 4) o.ok d_S_fall_30 rfl ?_
        refine n_getr o 35 20 rfl rfl rfl (by decide) lf_S_182 (by first | rfl | exact hvs | exact hvn | exact And.intro (by omega) (by omega)) d_S_fall_32 (fun r32 => ?_)
        refine n_cQ o (by first | rfl | exact hvs | exact hvn | exact And.intro (by omega) (by omega)) (c_Q_live D A1 (N1 35 n) N1 (by rw [eS]; exact hs3)) q_Q_live lm_S_186 d_S_fall_35 (by decide) rfl (by first | exact Nat.le_of_ble_eq_true rfl | (simp only [List.map_cons, List.map_nil, cat_rf, J_cat, List.sum_cons, List.sum_nil, cat_lg, cat_rr]; decide)) rfl (n_f ?_)
        first | refine v_ifeq_b o.ok d_S_fall_38 (fun c38 => ?_) (fun c38 => ?_) | refine v_if_eq o.ok (by omega) d_S_fall_38 (fun c38 => ?_) (fun c38 => ?_)
        · refine v_iinc (i := 3) (L' := [(0, _), (1, _), (2, _), (3, _), (4, _)]) (G' := []) o.ok d_S_fall_84 rfl (o.lt (by decide)) rfl rfl ?_
          refine v_goto o.ok d_S_fall_87 ?_
          refine v_sel [0, 1, 2, 3] [] rfl rfl ?_
          first
            | exact skip (fun q => absurd (by have := q.1; rw [← hln] at this; unfold Liv at this; rw [← eS] at this; exact this) c38)
            | exact skip (fun q => absurd (hin.mpr q.2) c47)
            | exact go (hln.mp (by unfold Liv; rw [← eS]; exact c38)) (hin.mp c47) _ hx
        · refine v_aloadq (i := 4) o.ok d_S_fall_41 rfl ?_
          refine v_aload_nq (i := 1) o.ok d_S_fall_43 rfl rfl ?_
          refine n_cV o 4 (tg := 11) rfl (by decide) (by decide) (by first | rfl | exact hvs | exact hvn | exact And.intro (by omega) (by omega)) (c_T_under D A1 n t N1 M1 h1.t h2.par hd1 hun ⟨ht1, by omega⟩) q_T_under lm_S_178 d_S_fall_44 (by decide) rfl (by first | exact Nat.le_of_ble_eq_true rfl | (simp only [List.map_cons, List.map_nil, cat_rf, J_cat, List.sum_cons, List.sum_nil, cat_lg, cat_rr]; decide)) rfl (n_f ?_)
          first | refine v_ifeq_b o.ok d_S_fall_47 (fun c47 => ?_) (fun c47 => ?_) | refine v_if_eq o.ok (by omega) d_S_fall_47 (fun c47 => ?_) (fun c47 => ?_)
          · refine v_iinc (i := 3) (L' := [(0, _), (1, _), (2, _), (3, _), (4, _)]) (G' := []) o.ok d_S_fall_84 rfl (o.lt (by decide)) rfl rfl ?_
            refine v_goto o.ok d_S_fall_87 ?_
            refine v_sel [0, 1, 2, 3] [] rfl rfl ?_
            first
              | exact skip (fun q => absurd (by have := q.1; rw [← hln] at this; unfold Liv at this; rw [← eS] at this; exact this) c38)
              | exact skip (fun q => absurd (hin.mpr q.2) c47)
              | exact go (hln.mp (by unfold Liv; rw [← eS]; exact c38)) (hin.mp c47) _ hx
          · refine v_aload_nq (i := 0) o.ok d_S_fall_50 rfl rfl ?_
            refine n_getK o 5 (by decide) ls_S_232 d_S_fall_51 ?_
            refine v_aloadq (i := 4) o.ok d_S_fall_54 rfl ?_
            refine v_iconst o.ok d_S_fall_56 ?_
            refine n_cV o 1 (tg := 0) rfl (by decide) (by decide) (by first | rfl | exact hvs | exact hvn | exact And.intro (by omega) (by omega)) (c_S_note D A1 5 n 0 N1 (by omega) hvn (by omega) hn1.1 hn1.2.2.2.2 hn1.2.2.2.1) q_S_note lm_S_124 d_S_fall_57 (by decide) rfl (by first | exact Nat.le_of_ble_eq_true rfl | (simp only [List.map_cons, List.map_nil, cat_rf, J_cat, List.sum_cons, List.sum_nil, cat_lg, cat_rr]; decide)) rfl (n_x (fun x57 A57 N57 h57 => ?_))
            obtain ⟨hx, rfl, rfl⟩ := h57
            (try simp only [rq])
            rw [← hx.fo (tg := 0) (v := 0) (by decide), ← hx.ft (v := t) (by omega), ← hx.ft (v := (n : Int)) (by omega)]
            have hvn2 : 0 ≤ (n : Int) ∧ (n : Int) < ntN N1 5 n 0 51 0 := ⟨by omega, by rw [ntN_o (by decide) (by decide) (by omega)]; omega⟩
            have hvn3 : 0 ≤ (n : Int) ∧ (n : Int) < up (ntN N1 5 n 0) 35 n 4 51 0 := hvn2
            refine v_pop o.ok d_S_fall_60 (cat_rf _) ?_
            refine v_aloadq (i := 4) o.ok d_S_fall_61 rfl ?_
            refine n_getQ o 4 (by decide) ls_S_235 d_S_fall_63 ?_
            refine n_putr o 35 20 rfl rfl rfl (by decide) rfl lf_S_182 (by exact hvn2) (by exact Or.inr (And.intro (by decide) (by decide))) d_S_fall_66 ?_
            refine v_aloadq (i := 4) o.ok d_S_fall_69 rfl ?_
            refine n_cV o 4 (tg := 11) rfl (by decide) (by decide) (by exact hvn3) (c_T_unlock D A57 n (up (ntN N1 5 n 0) 35 n 4) hvn3) q_T_unlock lm_S_237 d_S_fall_71 (by decide) rfl (by first | exact Nat.le_of_ble_eq_true rfl | (simp only [List.map_cons, List.map_nil, cat_rf, J_cat, List.sum_cons, List.sum_nil, cat_lg, cat_rr]; decide)) rfl (n_e ?_)
            refine v_aload_nq (i := 0) o.ok d_S_fall_74 rfl rfl ?_
            refine v_dup o.ok d_S_fall_75 (cat_rf _) ?_
            refine n_geti o 7 rfl rfl rfl lf_S_109 (by first | rfl | exact hvs | exact hvn | exact And.intro (by omega) (by omega)) d_S_fall_76 (fun i76 => ?_)
            rw [eU] at i76 ⊢
            refine v_iconst o.ok d_S_fall_79 ?_
            refine v_isub o.ok d_S_fall_80 ?_
            refine n_puti o 7 rfl rfl rfl rfl lf_S_109 (by first | rfl | exact hvs | exact hvn | exact And.intro (by omega) (by omega)) (by have := hn1.2.2.1; omega) d_S_fall_81 ?_
            refine v_iinc (i := 3) (L' := [(0, _), (1, _), (2, _), (3, _), (4, _)]) (G' := []) o.ok d_S_fall_84 rfl (o.lt (by decide)) rfl rfl ?_
            refine v_goto o.ok d_S_fall_87 ?_
            refine v_sel [0, 1, 2, 3] [] rfl rfl ?_
            first
              | exact skip (fun q => absurd (by have := q.1; rw [← hln] at this; unfold Liv at this; rw [← eS] at this; exact this) c38)
              | exact skip (fun q => absurd (hin.mpr q.2) c47)
              | exact go (hln.mp (by unfold Liv; rw [← eS]; exact c38)) (hin.mp c47) _ hx
  have hrec := hw.recs
  have hmn := hw.many
  have uo : ∀ f : Nat, pgF f = false → lgF f = false → (undoes M t 0).2 f = M f := fun f a b => undoes_o a b
  have uw := undoes_wf (pt := 0) hw ht
  refine v_aload_nq (i := 0) o.ok d_S_fall_0 rfl rfl ?_
  refine v_aload_nq (i := 1) o.ok d_S_fall_1 rfl rfl ?_
  refine v_iconst o.ok d_S_fall_2 ?_
  refine n_cV o 1 (tg := 0) rfl (by decide) (by decide) (by first | rfl | assumption | exact And.intro (by omega) (by omega)) (c_S_back D A t 0 N M h hw hd ht hlv (by omega)) q_S_back lm_S_228 d_S_fall_3 (by decide) rfl (by first | exact Nat.le_of_ble_eq_true rfl | (simp only [List.map_cons, List.map_nil, cat_rf, J_cat, List.sum_cons, List.sum_nil, cat_lg, cat_rr]; decide)) rfl (n_x (fun x3 A3 N3 h3 => ?_))
  obtain ⟨rfl, hfw, hs2, hno⟩ := h3
  (try simp only [rq])
  rw [← hfw.1.fo (tg := 0) (v := 0) (by decide), ← hfw.1.ft (v := t) (by have := h.t.1.2; have := ht.2; omega)]
  have enm : N3 8 0 = M 22 0 := (by rw [hs2.t.1.1, uo 22 rfl rfl])
  refine v_istore_n (i := 2) (L' := [(0, _), (1, _), (2, _)]) (G' := []) o.ok d_S_fall_6 rfl (o.lt (by decide)) rfl rfl ?_
  refine v_aload_nq (i := 0) o.ok d_S_fall_7 rfl rfl ?_
  refine n_geti o 8 rfl rfl rfl lf_S_50 (by first | rfl | assumption | exact And.intro (by omega) (by omega)) d_S_fall_8 (fun i8 => ?_)
  rw [enm]
  refine v_iconst o.ok d_S_fall_11 ?_
  refine v_isub o.ok d_S_fall_12 ?_
  refine v_istore_n (i := 3) (L' := [(0, _), (1, _), (2, _), (3, _)]) (G' := []) o.ok d_S_fall_13 rfl (o.lt (by decide)) rfl rfl ?_
  have z := lp (M 22 0).toNat A3 N3 (undoes M t 0).2 hs2 uw.1 (fun x a b => by rw [uo 22 rfl rfl] at b; rw [uo 23 rfl rfl]; exact hst x a b) (uo _ rfl rfl) (congrFun (uo _ rfl rfl) 0) (by omega) (fun u a b => by unfold Liv; rw [uo 23 rfl rfl]) (fun r a b c q => hno r a b ⟨by have := uw.1.base; omega, c, q⟩) hfw rfl
  rw [show (((M 22 0).toNat : Nat) : Int) = M 22 0 from by omega] at z
  exact z

