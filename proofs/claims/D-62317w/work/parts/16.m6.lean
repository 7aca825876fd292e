noncomputable def fz (M : MSt) (t b : Int) (f : Nat) (i : Int) : Int := if f = 37 ∧ 0 ≤ i ∧ i < b then b01 (Liv M i ∧ InS M t i) else M f i
theorem fz_0 (M : MSt) (t : Int) : fz M t 0 = M := by
  funext f i
  unfold fz
  rw [if_neg (by omega)]
theorem fz_s (M : MSt) (t : Int) {b : Int} (h : 0 ≤ b) : up (fz M t b) 37 b (b01 (Liv M b ∧ InS M t b)) = fz M t (b + 1) := by
  funext f i
  unfold up fz
  by_cases h1 : f = 37
  · by_cases h2 : i = b
    · subst h2
      rw [if_pos ⟨h1, rfl⟩, if_pos ⟨h1, h, by omega⟩]
    · rw [if_neg (fun q => h2 q.2)]
      by_cases h3 : 0 ≤ i ∧ i < b
      · rw [if_pos ⟨h1, h3⟩, if_pos ⟨h1, h3.1, by omega⟩]
      · rw [if_neg (fun q => h3 q.2), if_neg (fun q => h3 ⟨q.2.1, by omega⟩)]
  · rw [if_neg (fun q => h1 q.1), if_neg (fun q => h1 q.1), if_neg (fun q => h1 q.1)]
theorem fz_sset (M : MSt) (t b : Int) : fz M t b = sset M (fz M t b) := by
  funext f i
  unfold sset
  by_cases h : scr f = true
  · rw [if_pos h]
  · rw [if_neg h]
    unfold fz
    rw [if_neg (fun q => by rw [q.1] at h; exact h rfl)]
set_option maxHeartbeats 4000000 in
set_option maxRecDepth 20000 in
theorem c_M_aborts (t : Int) (M : MSt) (hw : WF M) (ht : 0 ≤ t ∧ t < M 22 0) : MI y_M_aborts (wsOf y_M_aborts b_M_aborts 5 (some .int)) 4 [t] M (fun z M' => z = (abt M t).1 ∧ ∃ Z, M' = sset (abt M t).2 Z) := by
  refine MCon.of (by decide) rfl (Nat.le_of_ble_eq_true rfl) ?_
  intro X E o
  show V X (RelM E M) 0 [(0, .ref (Em.x E)), (1, J (t))] [] []
  have hm := hw.many
  have hub := undoes_wf (pt := 0) hw ht
  have hrec := hw.recs
  have p3 : ∀ (n : Nat) (K : MSt), WF K → K 22 0 = M 22 0 → (n : Int) ≤ M 22 0 → (∀ u, 0 ≤ u → u < (n : Int) → K 23 u = M 23 u) → abtN (fun u => Liv M u ∧ InS M t u) n K = (abt M t).2 → V X (RelM E (sset K (fz M t (M 22 0)))) 63 [(0, .ref (Em.x E)), (1, J t), (2, J (undoes M t 0).1), (3, J ((n : Int) - 1))] [] [] := by
    intro n
    induction n with
    | zero =>
      intro K wk em hn hst hab
      refine v_iload_n (i := 3) o.ok d_M_aborts_63 rfl rfl ?_
      refine v_if_lt o.ok (by omega) d_M_aborts_64 (fun c64 => ?_) (fun c64 => ?_)
      · refine v_iload_n (i := 2) o.ok d_M_aborts_109 rfl rfl ?_
        refine m_iret o d_M_aborts_110 ⟨_, rfl, rfl, _, congrArg (fun q => sset q _) hab⟩
      · exfalso; omega
    | succ n ih =>
      intro K wk em hn hst hab
      rw [show ((n + 1 : Nat) : Int) - 1 = (n : Int) from by omega]
      have hz : (sset K (fz M t (M 22 0))) 37 n = b01 (Liv M n ∧ InS M t n) := by
        show (if scr 37 = true then fz M t (M 22 0) 37 n else _) = _
        rw [if_pos (show scr 37 = true from rfl)]
        unfold fz
        rw [if_pos ⟨rfl, by omega, by omega⟩]
      have hkr := wk.recs
      have hkr2 : 0 ≤ sset K (fz M t (M 22 0)) 12 0 ∧ sset K (fz M t (M 22 0)) 12 0 ≤ 300 := hkr
      refine v_iload_n (i := 3) o.ok d_M_aborts_63 rfl rfl ?_
      refine v_if_lt o.ok (by omega) d_M_aborts_64 (fun c64 => ?_) (fun c64 => ?_)
      · exfalso; omega
      · refine v_aload_n (i := 0) o.ok d_M_aborts_67 rfl rfl ?_
        refine m_geta o 37 (by decide) (by decide) lf_M_98 rfl d_M_aborts_68 ?_
        refine v_iload_n (i := 3) o.ok d_M_aborts_71 rfl rfl ?_
        refine m_zald o 37 60 rfl rfl (by omega) d_M_aborts_72 (fun i72 => ?_)
        rw [hz]
        first | refine v_ifeq_b o.ok d_M_aborts_73 (fun c73 => ?_) (fun c73 => ?_) | refine v_if_eq o.ok (by omega) d_M_aborts_73 (fun c73 => ?_) (fun c73 => ?_)
        · refine v_iinc (i := 3) (L' := [(0, _), (1, _), (2, _), (3, _)]) (G' := []) o.ok d_M_aborts_103 rfl (o.lt (by decide)) rfl rfl ?_
          refine v_goto o.ok d_M_aborts_106 ?_
          first
            | (have hF : Liv M n ∧ InS M t n := by assumption
               rw [show ulk (up (app (sset K (fz M t (M 22 0))) 5 n 0) 23 n 4) n = gon (sset K (fz M t (M 22 0))) n from rfl, sset_gon]
               have hkl : Liv K n := by unfold Liv; rw [hst n (by omega) (by omega)]; exact hF.1
               have e3 : gon K n 22 0 = K 22 0 := gon_o rfl (by decide) (by decide)
               refine v_sel [0, 1, 2, 3] [] (L' := [(0, _), (1, _), (2, _), (3, _)]) (G' := []) rfl rfl ?_
               exact ih (gon K n) (wk.gone ⟨by omega, by omega⟩ hkl) (by rw [e3]; exact em) (by omega) (fun u a b => by rw [gon_state, if_neg (by omega)]; exact hst u a (by omega)) (by rw [← hab, abtN_t hF]))
            | (have hF : ¬ (Liv M n ∧ InS M t n) := by assumption
               exact ih K wk em (by omega) (fun u a b => hst u a (by omega)) (by rw [← hab, abtN_f hF]))
        · refine v_aload_n (i := 0) o.ok d_M_aborts_76 rfl rfl ?_
          refine v_iconst o.ok d_M_aborts_77 ?_
          refine v_iload_n (i := 3) o.ok d_M_aborts_78 rfl rfl ?_
          refine v_iconst o.ok d_M_aborts_79 ?_
          refine m_cf o (c_M_append 5 n 0 (sset K _) hkr (by decide) (by omega) (by decide)) q_M_append lm_M_121 d_M_aborts_80 (by decide) rfl (Nat.le_of_ble_eq_true rfl) rfl ?_
          refine v_istore (i := 4) (L' := [(0, _), (1, _), (2, _), (3, _), (4, _)]) (G' := []) o.ok d_M_aborts_83 (o.lt (by decide)) rfl rfl ?_
          refine v_aload_n (i := 0) o.ok d_M_aborts_85 rfl rfl ?_
          refine m_geta o 23 (by decide) (by decide) lf_M_62 rfl d_M_aborts_86 ?_
          refine v_aload_n (i := 0) o.ok d_M_aborts_89 rfl rfl ?_
          refine m_geta o 15 (by decide) (by decide) lf_M_41 rfl d_M_aborts_90 ?_
          refine v_iload (i := 4) o.ok d_M_aborts_93 rfl ?_
          refine m_iald o 15 301 rfl rfl (by omega) d_M_aborts_95 (fun i95 => ?_)
          rw [show app (sset K (fz M t (M 22 0))) 5 n 0 15 (sset K (fz M t (M 22 0)) 12 0) = (n : Int) from app_by _ _ _ _]
          refine v_iconst o.ok d_M_aborts_96 ?_
          refine m_iast o 23 60 rfl rfl (by omega) (by omega) d_M_aborts_97 ?_
          refine v_aload_n (i := 0) o.ok d_M_aborts_98 rfl rfl ?_
          refine v_iload_n (i := 3) o.ok d_M_aborts_99 rfl rfl ?_
          refine m_cfv o (c_M_unlock n _ (by omega)) q_M_unlock lm_M_245 d_M_aborts_100 (by decide) rfl (Nat.le_of_ble_eq_true rfl) rfl ?_
          refine v_iinc (i := 3) (L' := [(0, _), (1, _), (2, _), (3, _), (4, _)]) (G' := []) o.ok d_M_aborts_103 rfl (o.lt (by decide)) rfl rfl ?_
          refine v_goto o.ok d_M_aborts_106 ?_
          first
            | (have hF : Liv M n ∧ InS M t n := by assumption
               rw [show ulk (up (app (sset K (fz M t (M 22 0))) 5 n 0) 23 n 4) n = gon (sset K (fz M t (M 22 0))) n from rfl, sset_gon]
               have hkl : Liv K n := by unfold Liv; rw [hst n (by omega) (by omega)]; exact hF.1
               have e3 : gon K n 22 0 = K 22 0 := gon_o rfl (by decide) (by decide)
               refine v_sel [0, 1, 2, 3] [] (L' := [(0, _), (1, _), (2, _), (3, _)]) (G' := []) rfl rfl ?_
               exact ih (gon K n) (wk.gone ⟨by omega, by omega⟩ hkl) (by rw [e3]; exact em) (by omega) (fun u a b => by rw [gon_state, if_neg (by omega)]; exact hst u a (by omega)) (by rw [← hab, abtN_t hF]))
            | (have hF : ¬ (Liv M n ∧ InS M t n) := by assumption
               exact ih K wk em (by omega) (fun u a b => hst u a (by omega)) (by rw [← hab, abtN_f hF]))
  have p2 : V X (RelM E (fz M t (M 22 0))) 49 [(0, .ref (Em.x E)), (1, J t), (2, J (M 22 0))] [] [] := by
    have wz : WF (fz M t (M 22 0)) := by rw [fz_sset]; exact hw.sst
    have eu : undoes (fz M t (M 22 0)) t 0 = ((undoes M t 0).1, sset (undoes M t 0).2 (fz M t (M 22 0))) := by
      conv => lhs; rw [fz_sset]
      exact sset_undoes _ _ _ _
    have em : (undoes M t 0).2 22 0 = M 22 0 := congrFun (undoes_o (f := 22) rfl rfl) 0
    have e8 : sset (undoes M t 0).2 (fz M t (M 22 0)) 22 0 = M 22 0 := em
    refine v_aload_n (i := 0) o.ok d_M_aborts_49 rfl rfl ?_
    refine v_iload_n (i := 1) o.ok d_M_aborts_50 rfl rfl ?_
    refine v_iconst o.ok d_M_aborts_51 ?_
    refine m_cf o (c_M_undoes t 0 _ wz ht (by decide)) q_M_undoes lm_M_252 d_M_aborts_52 (by decide) rfl (Nat.le_of_ble_eq_true rfl) rfl ?_
    rw [eu]
    dsimp only
    refine v_istore_n (i := 2) (L' := [(0, _), (1, _), (2, _)]) (G' := []) o.ok d_M_aborts_55 rfl (o.lt (by decide)) rfl rfl ?_
    refine v_aload_n (i := 0) o.ok d_M_aborts_56 rfl rfl ?_
    refine m_geti o 22 (by decide) rfl lf_M_147 rfl d_M_aborts_57 (fun i57 => ?_)
    rw [e8]
    refine v_iconst o.ok d_M_aborts_60 ?_
    refine v_isub o.ok d_M_aborts_61 ?_
    refine v_istore_n (i := 3) (L' := [(0, _), (1, _), (2, _), (3, _)]) (G' := []) o.ok d_M_aborts_62 rfl (o.lt (by decide)) rfl rfl ?_
    have z := p3 (M 22 0).toNat (undoes M t 0).2 hub.1 em (by omega) (fun u _ _ => congrFun (undoes_o (f := 23) rfl rfl) u) rfl
    rw [show (((M 22 0).toNat : Nat) : Int) - 1 = M 22 0 - 1 from by omega] at z
    exact z
  have p1 : ∀ (n : Nat) (u : Int), 0 ≤ u → u ≤ M 22 0 → M 22 0 - u ≤ n → V X (RelM E (fz M t u)) 2 [(0, .ref (Em.x E)), (1, J t), (2, J u)] [] [] := by
    intro n
    induction n with
    | zero =>
      intro u h0 h1 h2
      have e : u = M 22 0 := by omega
      subst e
      have e0 : fz M t (M 22 0) 22 0 = M 22 0 := rfl
      refine v_iload_n (i := 2) o.ok d_M_aborts_2 rfl rfl ?_
      refine v_aload_n (i := 0) o.ok d_M_aborts_3 rfl rfl ?_
      refine m_geti o 22 (by decide) rfl lf_M_147 rfl d_M_aborts_4 (fun i4 => ?_)
      refine v_icmp_ge o.ok (by omega) (by omega) d_M_aborts_7 (fun c7 => ?_) (fun c7 => ?_)
      · exact p2
      · exfalso; omega
    | succ n ih =>
      intro u h0 h1 h2
      have e0 : fz M t u 22 0 = M 22 0 := rfl
      refine v_iload_n (i := 2) o.ok d_M_aborts_2 rfl rfl ?_
      refine v_aload_n (i := 0) o.ok d_M_aborts_3 rfl rfl ?_
      refine m_geti o 22 (by decide) rfl lf_M_147 rfl d_M_aborts_4 (fun i4 => ?_)
      refine v_icmp_ge o.ok (by omega) (by omega) d_M_aborts_7 (fun c7 => ?_) (fun c7 => ?_)
      · have e : u = M 22 0 := by omega
        subst e
        exact p2
      · refine v_aload_n (i := 0) o.ok d_M_aborts_10 rfl rfl ?_
        refine m_geta o 37 (by decide) (by decide) lf_M_98 rfl d_M_aborts_11 ?_
        refine v_iload_n (i := 2) o.ok d_M_aborts_14 rfl rfl ?_
        refine v_aload_n (i := 0) o.ok d_M_aborts_15 rfl rfl ?_
        refine v_iload_n (i := 2) o.ok d_M_aborts_16 rfl rfl ?_
        refine m_cf o (c_M_live u (fz M t u) (by omega)) q_M_live lm_M_150 d_M_aborts_17 (by decide) rfl (Nat.le_of_ble_eq_true rfl) rfl ?_
        first | refine v_ifeq_b o.ok d_M_aborts_20 (fun c20 => ?_) (fun c20 => ?_) | refine v_if_eq o.ok (by omega) d_M_aborts_20 (fun c20 => ?_) (fun c20 => ?_)
        · refine v_iconst o.ok d_M_aborts_41 ?_
          refine m_zast o 37 60 rfl rfl (by omega) (by first | exact Or.inr rfl | exact Or.inl rfl) d_M_aborts_42 ?_
          refine v_iinc (i := 2) (L' := [(0, _), (1, _), (2, _)]) (G' := []) o.ok d_M_aborts_43 rfl (o.lt (by decide)) rfl rfl ?_
          refine v_goto o.ok d_M_aborts_46 ?_
          have z := ih (u + 1) (by omega) (by omega) (by omega)
          rw [← fz_s M t h0] at z
          first
            | (rw [b01_t (⟨by assumption, Or.inl (by assumption)⟩ : Liv M u ∧ InS M t u)] at z; exact z)
            | (rw [b01_t (⟨by assumption, Or.inr (by assumption)⟩ : Liv M u ∧ InS M t u)] at z; exact z)
            | (rw [b01_f (fun q : Liv M u ∧ InS M t u => by
                 first
                   | exact absurd q.1 (by assumption)
                   | (rcases q.2 with q | q; omega; exact absurd q (by assumption)))] at z; exact z)
        · refine v_iload_n (i := 2) o.ok d_M_aborts_23 rfl rfl ?_
          refine v_iload_n (i := 1) o.ok d_M_aborts_24 rfl rfl ?_
          refine v_icmp_eq o.ok (by omega) (by omega) d_M_aborts_25 (fun c25 => ?_) (fun c25 => ?_)
          · refine v_iconst o.ok d_M_aborts_37 ?_
            refine v_goto o.ok d_M_aborts_38 ?_
            refine m_zast o 37 60 rfl rfl (by omega) (by first | exact Or.inr rfl | exact Or.inl rfl) d_M_aborts_42 ?_
            refine v_iinc (i := 2) (L' := [(0, _), (1, _), (2, _)]) (G' := []) o.ok d_M_aborts_43 rfl (o.lt (by decide)) rfl rfl ?_
            refine v_goto o.ok d_M_aborts_46 ?_
            have z := ih (u + 1) (by omega) (by omega) (by omega)
            rw [← fz_s M t h0] at z
            first
              | (rw [b01_t (⟨by assumption, Or.inl (by assumption)⟩ : Liv M u ∧ InS M t u)] at z; exact z)
              | (rw [b01_t (⟨by assumption, Or.inr (by assumption)⟩ : Liv M u ∧ InS M t u)] at z; exact z)
              | (rw [b01_f (fun q : Liv M u ∧ InS M t u => by
                   first
                     | exact absurd q.1 (by assumption)
                     | (rcases q.2 with q | q; omega; exact absurd q (by assumption)))] at z; exact z)
          · refine v_aload_n (i := 0) o.ok d_M_aborts_28 rfl rfl ?_
            refine v_iload_n (i := 1) o.ok d_M_aborts_29 rfl rfl ?_
            refine v_iload_n (i := 2) o.ok d_M_aborts_30 rfl rfl ?_
            refine m_cf o (c_M_above t u (fz M t u) hw.par ⟨h0, by omega⟩ (by omega)) q_M_above lm_M_187 d_M_aborts_31 (by decide) rfl (Nat.le_of_ble_eq_true rfl) rfl ?_
            first | refine v_ifeq_b o.ok d_M_aborts_34 (fun c34 => ?_) (fun c34 => ?_) | refine v_if_eq o.ok (by omega) d_M_aborts_34 (fun c34 => ?_) (fun c34 => ?_)
            · refine v_iconst o.ok d_M_aborts_41 ?_
              refine m_zast o 37 60 rfl rfl (by omega) (by first | exact Or.inr rfl | exact Or.inl rfl) d_M_aborts_42 ?_
              refine v_iinc (i := 2) (L' := [(0, _), (1, _), (2, _)]) (G' := []) o.ok d_M_aborts_43 rfl (o.lt (by decide)) rfl rfl ?_
              refine v_goto o.ok d_M_aborts_46 ?_
              have z := ih (u + 1) (by omega) (by omega) (by omega)
              rw [← fz_s M t h0] at z
              first
                | (rw [b01_t (⟨by assumption, Or.inl (by assumption)⟩ : Liv M u ∧ InS M t u)] at z; exact z)
                | (rw [b01_t (⟨by assumption, Or.inr (by assumption)⟩ : Liv M u ∧ InS M t u)] at z; exact z)
                | (rw [b01_f (fun q : Liv M u ∧ InS M t u => by
                     first
                       | exact absurd q.1 (by assumption)
                       | (rcases q.2 with q | q; omega; exact absurd q (by assumption)))] at z; exact z)
            · refine v_iconst o.ok d_M_aborts_37 ?_
              refine v_goto o.ok d_M_aborts_38 ?_
              refine m_zast o 37 60 rfl rfl (by omega) (by first | exact Or.inr rfl | exact Or.inl rfl) d_M_aborts_42 ?_
              refine v_iinc (i := 2) (L' := [(0, _), (1, _), (2, _)]) (G' := []) o.ok d_M_aborts_43 rfl (o.lt (by decide)) rfl rfl ?_
              refine v_goto o.ok d_M_aborts_46 ?_
              have z := ih (u + 1) (by omega) (by omega) (by omega)
              rw [← fz_s M t h0] at z
              first
                | (rw [b01_t (⟨by assumption, Or.inl (by assumption)⟩ : Liv M u ∧ InS M t u)] at z; exact z)
                | (rw [b01_t (⟨by assumption, Or.inr (by assumption)⟩ : Liv M u ∧ InS M t u)] at z; exact z)
                | (rw [b01_f (fun q : Liv M u ∧ InS M t u => by
                     first
                       | exact absurd q.1 (by assumption)
                       | (rcases q.2 with q | q; omega; exact absurd q (by assumption)))] at z; exact z)
  refine v_iconst o.ok d_M_aborts_0 ?_
  refine v_istore_n (i := 2) (L' := [(0, _), (1, _), (2, _)]) (G' := []) o.ok d_M_aborts_1 rfl (o.lt (by decide)) rfl rfl ?_
  have z := p1 (M 22 0).toNat 0 (by omega) (by omega) (by omega)
  rw [fz_0] at z
  exact z

