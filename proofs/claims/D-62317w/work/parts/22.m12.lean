theorem Lkd.c {M Z Z' : MSt} {b : Int} (h : Lkd M Z b) (h1 : ∀ t, 0 ≤ t → t < b → Z' 33 t = Z 33 t) (h2 : ∀ t, 0 ≤ t → t < b → Z' 34 t = Z 34 t) : Lkd M Z' b := fun t a c => ⟨fun q => by rw [h1 t a c, h2 t a c]; exact (h t a c).1 q, fun q => by rw [h1 t a c]; exact (h t a c).2 q⟩
theorem drop_cons {l : List Int} {n : Nat} {x : Int} (h : l[n]? = some x) : l.drop n = x :: l.drop (n + 1) := by
  obtain ⟨h1, h2⟩ := List.getElem?_eq_some_iff.mp h
  rw [← h2]
  exact List.drop_eq_getElem_cons h1
set_option maxHeartbeats 4000000 in
set_option maxRecDepth 20000 in
theorem c_M_look (M Z0 : MSt) (hf : WF M) : MV y_M_look (wsOf y_M_look b_M_look 4 none) 3 [] (sset M Z0) (fun M' => ∃ Z, M' = sset M Z ∧ Lkd M Z (M 22 0)) := by
  refine MCon.of (by decide) rfl (Nat.le_of_ble_eq_true rfl) ?_
  intro X E o
  show V X (RelM E (sset M Z0)) 0 [(0, .ref (Em.x E))] [] []
  have hm := hf.many
  have inn : ∀ (t : Int), 0 ≤ t → t < M 22 0 → M 23 t = 2 → (∀ Z, Lkd M Z (t + 1) → V X (RelM E (sset M Z)) 148 [(0, .ref (Em.x E)), (1, J t)] [] []) → ∀ (n : Nat) (Z : MSt), n ≤ (nds M (M 27 t) (M 28 t) (M 29 t)).length → Its Z (nds M (M 27 t) (M 28 t) (M 29 t)) → Z 32 0 = lckM M t → Lkd M Z t → Z 33 t = flkL M t (lckM M t) ((nds M (M 27 t) (M 28 t) (M 29 t)).drop n) → V X (RelM E (sset M Z)) 56 [(0, .ref (Em.x E)), (1, J t), (2, J ((n : Int) - 1))] [] [] := by
    intro t ht0 ht1 hst ex n
    have hq := nds_bd (M := M) (hf.req t ht0 ht1 hst)
    have h12 := mdo_12 M (M 27 t) (M 28 t)
    have h12' : lckM M t = 1 ∨ lckM M t = 2 := h12
    generalize hl : nds M (M 27 t) (M 28 t) (M 29 t) = l at hq ⊢
    induction n with
    | zero =>
      intro Z hn hi hmo hk hla
      have em : sset M Z 32 0 = lckM M t := hmo
      refine v_iload_n (i := 2) o.ok d_M_look_56 rfl rfl ?_
      refine v_if_lt o.ok (by omega) d_M_look_57 (fun c57 => ?_) (fun c57 => ?_)
      · refine v_aload_n (i := 0) o.ok d_M_look_138 rfl rfl ?_
        refine m_geta o 34 (by decide) (by decide) lf_M_89 rfl d_M_look_139 ?_
        refine v_iload_n (i := 1) o.ok d_M_look_142 rfl rfl ?_
        refine v_aload_n (i := 0) o.ok d_M_look_143 rfl rfl ?_
        refine m_geti o 32 (by decide) rfl lf_M_178 rfl d_M_look_144 (fun i144 => ?_)
        refine m_iast o 34 60 rfl rfl (by omega) (by omega) d_M_look_147 ?_
        rw [sset_sc rfl]
        refine v_sel [0, 1] [] (L' := [(0, _), (1, _)]) (G' := []) rfl rfl (ex _ ?_)
        intro u hu0 hu1
        by_cases hut : u = t
        · subst hut
          refine ⟨fun _ => ⟨?_, ?_⟩, fun q => absurd hst q⟩
          · rw [up_ne (fun q => by cases q.1), hla]
            show flkL M u (lckM M u) l = lck M u
            unfold lck
            rw [hl]
          · rw [up_same]; exact hmo
        · have := hk u hu0 (by omega)
          rw [up_ne (fun q => by cases q.1), up_ne (fun q => hut q.2)]
          exact this
      · exfalso; omega
    | succ n ih =>
      intro Z hn hi hmo hk hla
      rw [show ((n + 1 : Nat) : Int) - 1 = (n : Int) from by omega]
      obtain ⟨x, hx⟩ : ∃ x, l[n]? = some x := ⟨_, List.getElem?_eq_getElem (by omega)⟩
      have hxb := hq.2 x (List.mem_of_getElem? hx)
      have ei : sset M Z 31 n = x := hi.2 n x hx
      have em : sset M Z 32 0 = lckM M t := hmo
      have hd := drop_cons hx
      have fin : ∀ (P : Prop), (P ↔ (M 26 (33 * t + x) < lckM M t ∧ ¬ May M t x (lckM M t))) → V X (RelM E (sset M (up Z 33 t (pick P x (Z 33 t))))) 132 [(0, .ref (Em.x E)), (1, J t), (2, J (n : Int)), (3, J (b01 P))] [] [] := by
        intro P hP
        refine v_iinc (i := 2) (L' := [(0, _), (1, _), (2, _), (3, _)]) (G' := []) o.ok d_M_look_132 rfl (o.lt (by decide)) rfl rfl ?_
        refine v_goto o.ok d_M_look_135 ?_
        refine v_sel [0, 1, 2] [] (L' := [(0, _), (1, _), (2, _)]) (G' := []) rfl rfl ?_
        refine ih _ (by omega) (hi.c rfl rfl) hmo (hk.c (fun u a b => up_ne (fun q => by omega)) (fun _ _ _ => rfl)) ?_
        rw [up_same, hd]
        show _ = pick _ x _
        by_cases hc : P
        · rw [pick_t hc, pick_t (hP.mp hc)]
        · rw [pick_f hc, pick_f (fun q => hc (hP.mpr q)), hla]
      have j106 : ∀ (P : Prop), (P ↔ (M 26 (33 * t + x) < lckM M t ∧ ¬ May M t x (lckM M t))) → V X (RelM E (sset M Z)) 106 [(0, .ref (Em.x E)), (1, J t), (2, J (n : Int))] [] [J (b01 P)] := by
        intro P hP
        have el : sset M Z 33 t = Z 33 t := rfl
        refine v_istore_n (i := 3) (L' := [(0, _), (1, _), (2, _), (3, _)]) (G' := []) o.ok d_M_look_106 rfl (o.lt (by decide)) rfl rfl ?_
        refine v_aload_n (i := 0) o.ok d_M_look_107 rfl rfl ?_
        refine m_geta o 33 (by decide) (by decide) lf_M_86 rfl d_M_look_108 ?_
        refine v_iload_n (i := 1) o.ok d_M_look_111 rfl rfl ?_
        refine v_iload_n (i := 3) o.ok d_M_look_112 rfl rfl ?_
        first | refine v_ifeq_b o.ok d_M_look_113 (fun c113 => ?_) (fun c113 => ?_) | refine v_if_eq o.ok (by omega) d_M_look_113 (fun c113 => ?_) (fun c113 => ?_)
        · refine v_aload_n (i := 0) o.ok d_M_look_125 rfl rfl ?_
          refine m_geta o 33 (by decide) (by decide) lf_M_86 rfl d_M_look_126 ?_
          refine v_iload_n (i := 1) o.ok d_M_look_129 rfl rfl ?_
          refine m_iald o 33 60 rfl rfl (by omega) d_M_look_130 (fun i130 => ?_)
          first | rw [show (sset M Z) 33 t = Z 33 t from rfl] | skip
          refine m_iast o 33 60 rfl rfl (by omega) (by omega) d_M_look_131 ?_
          rw [sset_sc rfl]
          have z := fin P hP
          first
            | (rw [pick_t (by assumption)] at z; exact z)
            | (rw [pick_f (by assumption)] at z; exact z)
        · refine v_aload_n (i := 0) o.ok d_M_look_116 rfl rfl ?_
          refine m_geta o 31 (by decide) (by decide) lf_M_83 rfl d_M_look_117 ?_
          refine v_iload_n (i := 2) o.ok d_M_look_120 rfl rfl ?_
          refine m_iald o 31 33 rfl rfl (by omega) d_M_look_121 (fun i121 => ?_)
          rw [ei] at i121 ⊢
          refine v_goto o.ok d_M_look_122 ?_
          first | rw [show (sset M Z) 33 t = Z 33 t from rfl] | skip
          refine m_iast o 33 60 rfl rfl (by omega) (by omega) d_M_look_131 ?_
          rw [sset_sc rfl]
          have z := fin P hP
          first
            | (rw [pick_t (by assumption)] at z; exact z)
            | (rw [pick_f (by assumption)] at z; exact z)
      have hw : Z 30 0 = (l.length : Int) := hi.1
      refine v_iload_n (i := 2) o.ok d_M_look_56 rfl rfl ?_
      refine v_if_lt o.ok (by omega) d_M_look_57 (fun c57 => ?_) (fun c57 => ?_)
      · exfalso; omega
      · refine v_aload_n (i := 0) o.ok d_M_look_60 rfl rfl ?_
        refine m_geta o 26 (by decide) (by decide) lf_M_71 rfl d_M_look_61 ?_
        refine v_bipush o.ok d_M_look_64 rfl ?_
        refine v_iload_n (i := 1) o.ok d_M_look_66 rfl rfl ?_
        refine v_imul o.ok d_M_look_67 ?_
        refine v_aload_n (i := 0) o.ok d_M_look_68 rfl rfl ?_
        refine m_geta o 31 (by decide) (by decide) lf_M_83 rfl d_M_look_69 ?_
        refine v_iload_n (i := 2) o.ok d_M_look_72 rfl rfl ?_
        refine m_iald o 31 33 rfl rfl (by omega) d_M_look_73 (fun i73 => ?_)
        rw [ei] at i73 ⊢
        refine v_iadd o.ok d_M_look_74 ?_
        refine m_iald o 26 1980 rfl rfl (by omega) d_M_look_75 (fun i75 => ?_)
        refine v_aload_n (i := 0) o.ok d_M_look_76 rfl rfl ?_
        refine m_geti o 32 (by decide) rfl lf_M_178 rfl d_M_look_77 (fun i77 => ?_)
        rw [em] at i77 ⊢
        refine v_icmp_ge o.ok (by omega) (by omega) d_M_look_80 (fun c80 => ?_) (fun c80 => ?_)
        · refine v_iconst o.ok d_M_look_105 ?_
          have eL : sset M Z 26 (33 * t + x) = M 26 (33 * t + x) := rfl
          have z := j106 (M 26 (33 * t + x) < lckM M t ∧ ¬ May M t x (lckM M t)) Iff.rfl
          first
            | (rw [b01_t ⟨by omega, by assumption⟩] at z; exact z)
            | (rw [b01_f (fun q => absurd (by assumption) q.2)] at z; exact z)
            | (rw [b01_f (fun q => by have := q.1; omega)] at z; exact z)
        · refine v_aload_n (i := 0) o.ok d_M_look_83 rfl rfl ?_
          refine v_iload_n (i := 1) o.ok d_M_look_84 rfl rfl ?_
          refine v_aload_n (i := 0) o.ok d_M_look_85 rfl rfl ?_
          refine m_geta o 31 (by decide) (by decide) lf_M_83 rfl d_M_look_86 ?_
          refine v_iload_n (i := 2) o.ok d_M_look_89 rfl rfl ?_
          refine m_iald o 31 33 rfl rfl (by omega) d_M_look_90 (fun i90 => ?_)
          rw [ei] at i90 ⊢
          refine v_aload_n (i := 0) o.ok d_M_look_91 rfl rfl ?_
          refine m_geti o 32 (by decide) rfl lf_M_178 rfl d_M_look_92 (fun i92 => ?_)
          rw [em] at i92 ⊢
          refine m_cf o (c_mayS t x (lckM M t) M Z hf.par ⟨ht0, ht1⟩ hxb h12') q_M_may lm_M_199 d_M_look_95 (by decide) rfl (Nat.le_of_ble_eq_true rfl) rfl ?_
          first | refine v_ifne_b o.ok d_M_look_98 (fun c98 => ?_) (fun c98 => ?_) | refine v_if_ne o.ok (by omega) d_M_look_98 (fun c98 => ?_) (fun c98 => ?_)
          · refine v_iconst o.ok d_M_look_105 ?_
            have eL : sset M Z 26 (33 * t + x) = M 26 (33 * t + x) := rfl
            have z := j106 (M 26 (33 * t + x) < lckM M t ∧ ¬ May M t x (lckM M t)) Iff.rfl
            first
              | (rw [b01_t ⟨by omega, by assumption⟩] at z; exact z)
              | (rw [b01_f (fun q => absurd (by assumption) q.2)] at z; exact z)
              | (rw [b01_f (fun q => by have := q.1; omega)] at z; exact z)
          · refine v_iconst o.ok d_M_look_101 ?_
            refine v_goto o.ok d_M_look_102 ?_
            have eL : sset M Z 26 (33 * t + x) = M 26 (33 * t + x) := rfl
            have z := j106 (M 26 (33 * t + x) < lckM M t ∧ ¬ May M t x (lckM M t)) Iff.rfl
            first
              | (rw [b01_t ⟨by omega, by assumption⟩] at z; exact z)
              | (rw [b01_f (fun q => absurd (by assumption) q.2)] at z; exact z)
              | (rw [b01_f (fun q => by have := q.1; omega)] at z; exact z)
  have lp : ∀ (n : Nat) (t : Int) (Z : MSt), 0 ≤ t → t ≤ M 22 0 → M 22 0 - t ≤ n → Lkd M Z t → V X (RelM E (sset M Z)) 2 [(0, .ref (Em.x E)), (1, J t)] [] [] := by
    intro n
    induction n with
    | zero =>
      intro t Z h0 h1 h2 h3
      have em : sset M Z 22 0 = M 22 0 := rfl
      refine v_iload_n (i := 1) o.ok d_M_look_2 rfl rfl ?_
      refine v_aload_n (i := 0) o.ok d_M_look_3 rfl rfl ?_
      refine m_geti o 22 (by decide) rfl lf_M_147 rfl d_M_look_4 (fun i4 => ?_)
      refine v_icmp_ge o.ok (by omega) (by omega) d_M_look_7 (fun c7 => ?_) (fun c7 => ?_)
      · refine m_vret o d_M_look_154 ⟨rfl, Z, rfl, by rw [← show t = M 22 0 from by omega]; exact h3⟩
      · exfalso; omega
    | succ n ih =>
      intro t Z h0 h1 h2 h3
      have em : sset M Z 22 0 = M 22 0 := rfl
      have ex : t < M 22 0 → ∀ Z, Lkd M Z (t + 1) → V X (RelM E (sset M Z)) 148 [(0, .ref (Em.x E)), (1, J t)] [] [] := by
        intro htm Z hk
        refine v_iinc (i := 1) (L' := [(0, _), (1, _)]) (G' := []) o.ok d_M_look_148 rfl (o.lt (by decide)) rfl rfl ?_
        refine v_goto o.ok d_M_look_151 ?_
        exact ih (t + 1) Z (by omega) (by omega) (by omega) hk
      have es : sset M (up Z 33 t (-1)) 23 t = M 23 t := rfl
      refine v_iload_n (i := 1) o.ok d_M_look_2 rfl rfl ?_
      refine v_aload_n (i := 0) o.ok d_M_look_3 rfl rfl ?_
      refine m_geti o 22 (by decide) rfl lf_M_147 rfl d_M_look_4 (fun i4 => ?_)
      refine v_icmp_ge o.ok (by omega) (by omega) d_M_look_7 (fun c7 => ?_) (fun c7 => ?_)
      · refine m_vret o d_M_look_154 ⟨rfl, Z, rfl, by rw [← show t = M 22 0 from by omega]; exact h3⟩
      · refine v_aload_n (i := 0) o.ok d_M_look_10 rfl rfl ?_
        refine m_geta o 33 (by decide) (by decide) lf_M_86 rfl d_M_look_11 ?_
        refine v_iload_n (i := 1) o.ok d_M_look_14 rfl rfl ?_
        refine v_iconst o.ok d_M_look_15 ?_
        refine m_iast o 33 60 rfl rfl (by omega) (by omega) d_M_look_16 ?_
        rw [sset_sc rfl]
        refine v_aload_n (i := 0) o.ok d_M_look_17 rfl rfl ?_
        refine m_geta o 23 (by decide) (by decide) lf_M_62 rfl d_M_look_18 ?_
        refine v_iload_n (i := 1) o.ok d_M_look_21 rfl rfl ?_
        refine m_iald o 23 60 rfl rfl (by omega) d_M_look_22 (fun i22 => ?_)
        rw [es] at i22 ⊢
        refine v_iconst o.ok d_M_look_23 ?_
        refine v_icmp_ne o.ok (by omega) (by omega) d_M_look_24 (fun c24 => ?_) (fun c24 => ?_)
        · refine ex (by omega) _ ?_
          intro u hu0 hu1
          by_cases hut : u = t
          · subst hut
            exact ⟨fun q => absurd q (by assumption), fun _ => by rw [up_same]⟩
          · have := h3 u hu0 (by omega)
            rw [up_ne (fun q => hut q.2), up_ne (fun q => by cases q.1)]
            exact this
        · refine v_aload_n (i := 0) o.ok d_M_look_27 rfl rfl ?_
          refine v_aload_n (i := 0) o.ok d_M_look_28 rfl rfl ?_
          refine m_geta o 27 (by decide) (by decide) lf_M_74 rfl d_M_look_29 ?_
          refine v_iload_n (i := 1) o.ok d_M_look_32 rfl rfl ?_
          refine m_iald o 27 60 rfl rfl (by omega) d_M_look_33 (fun i33 => ?_)
          refine v_aload_n (i := 0) o.ok d_M_look_34 rfl rfl ?_
          refine m_geta o 28 (by decide) (by decide) lf_M_77 rfl d_M_look_35 ?_
          refine v_iload_n (i := 1) o.ok d_M_look_38 rfl rfl ?_
          refine m_iald o 28 60 rfl rfl (by omega) d_M_look_39 (fun i39 => ?_)
          refine v_aload_n (i := 0) o.ok d_M_look_40 rfl rfl ?_
          refine m_geta o 29 (by decide) (by decide) lf_M_80 rfl d_M_look_41 ?_
          refine v_iload_n (i := 1) o.ok d_M_look_44 rfl rfl ?_
          refine m_iald o 29 60 rfl rfl (by omega) d_M_look_45 (fun i45 => ?_)
          refine m_cv o (c_M_needs (M 27 t) (M 28 t) (M 29 t) (sset M (up Z 33 t (-1))) (hf.req t h0 (by omega) (by omega)) i45) q_M_needs lm_M_195 d_M_look_46 (by decide) rfl (Nat.le_of_ble_eq_true rfl) rfl (fun M46 h46 => ?_)
          obtain ⟨Z1, eZ, hI, hMo, hKp⟩ := h46
          obtain rfl : M46 = sset M Z1 := by rw [eZ]; exact sset_sset _ _ _
          rw [nds_sset] at hI
          have eW : sset M Z1 30 0 = ((nds M (M 27 t) (M 28 t) (M 29 t)).length : Int) := hI.1
          refine v_aload_n (i := 0) o.ok d_M_look_49 rfl rfl ?_
          refine m_geti o 30 (by decide) rfl lf_M_175 rfl d_M_look_50 (fun i50 => ?_)
          rw [eW] at i50 ⊢
          refine v_iconst o.ok d_M_look_53 ?_
          refine v_isub o.ok d_M_look_54 ?_
          refine v_istore_n (i := 2) (L' := [(0, _), (1, _), (2, _)]) (G' := []) o.ok d_M_look_55 rfl (o.lt (by decide)) rfl rfl ?_
          refine inn t h0 (by omega) (by omega) (ex (by omega)) _ Z1 (Nat.le_refl _) hI hMo ?_ ?_
          · refine h3.c (fun u a b => ?_) (fun u a b => ?_)
            · rw [hKp 33 u (by decide) (by decide) (by decide)]
              show up Z 33 t (-1) 33 u = _
              rw [up_ne (fun q => by omega)]
            · rw [hKp 34 u (by decide) (by decide) (by decide)]
              rfl
          · rw [hKp 33 t (by decide) (by decide) (by decide), List.drop_length]
            show up Z 33 t (-1) 33 t = -1
            rw [up_same]
  refine v_iconst o.ok d_M_look_0 ?_
  refine v_istore_n (i := 1) (L' := [(0, _), (1, _)]) (G' := []) o.ok d_M_look_1 rfl (o.lt (by decide)) rfl rfl ?_
  exact lp (M 22 0).toNat 0 Z0 (by omega) hm.1 (by omega) (fun t a b => by omega)
/-- t leads to u: it has it as a live child, or waits for it -/
def Lead (M : MSt) (t u : Int) : Prop := (Liv M t ∧ Liv M u ∧ M 24 u = t) ∨ (M 23 t = 2 ∧ 0 ≤ lck M t ∧ Bar M u t (lck M t) (lckM M t))
theorem Bar_sset (M Z : MSt) (u t i m : Int) : Bar (sset M Z) u t i m ↔ Bar M u t i m := by
  unfold Bar
  rw [Abv_c (M' := M) (sset_n (f := 24) rfl), sset_n (f := 26) rfl]
theorem c_barsS (u t i m : Int) (M Z : MSt) (hp : ParOk M) (hu : 0 ≤ u ∧ u < M 22 0) (ht : 0 ≤ t ∧ t < M 22 0) (hi : 0 ≤ i ∧ i ≤ 32) (hm : m = 1 ∨ m = 2) : MF y_M_bars (wsOf y_M_bars b_M_bars 6 (some .boolean)) 1 [u, t, i, m] (sset M Z) (some (b01 (Bar M u t i m))) (sset M Z) := by
  rw [← b01_c (Bar_sset M Z u t i m)]
  exact c_M_bars u t i m (sset M Z) hp hu ht hi hm
set_option maxHeartbeats 4000000 in
set_option maxRecDepth 20000 in
theorem c_M_leads (t u : Int) (M Z : MSt) (hf : WF M) (ht : 0 ≤ t ∧ t < M 22 0) (hu : 0 ≤ u ∧ u < M 22 0) (hk : Lkd M Z (M 22 0)) : MF y_M_leads (wsOf y_M_leads b_M_leads 3 (some .boolean)) 2 [t, u] (sset M Z) (some (b01 (Lead M t u))) (sset M Z) := by
  refine MCon.of (by decide) rfl (Nat.le_of_ble_eq_true rfl) ?_
  intro X E o
  show V X (RelM E (sset M Z)) 0 [(0, .ref (Em.x E)), (1, J (t)), (2, J (u))] [] []
  have hm := hf.many
  have hkt := hk t ht.1 ht.2
  have h12 : lckM M t = 1 ∨ lckM M t = 2 := mdo_12 M _ _
  have e1 : sset M Z 24 u = M 24 u := rfl
  have e2 : sset M Z 23 t = M 23 t := rfl
  have e3 : M 23 t = 2 → sset M Z 33 t = lck M t := fun h => (hkt.1 h).1
  have e4 : M 23 t = 2 → sset M Z 34 t = lckM M t := fun h => (hkt.1 h).2
  have hlb : M 23 t = 2 → -1 ≤ lck M t ∧ lck M t ≤ 32 := fun h => lck_bd (hf.req t ht.1 ht.2 h)
  have j26 : ¬ (Liv M t ∧ Liv M u ∧ M 24 u = t) → V X (RelM E (sset M Z)) 26 [(0, .ref (Em.x E)), (1, J t), (2, J u)] [] [] := by
    intro hn
    refine v_aload_n (i := 0) o.ok d_M_leads_26 rfl rfl ?_
    refine m_geta o 23 (by decide) (by decide) lf_M_62 rfl d_M_leads_27 ?_
    refine v_iload_n (i := 1) o.ok d_M_leads_30 rfl rfl ?_
    refine m_iald o 23 60 rfl rfl (by omega) d_M_leads_31 (fun i31 => ?_)
    rw [e2] at i31 ⊢
    refine v_iconst o.ok d_M_leads_32 ?_
    refine v_icmp_ne o.ok (by omega) (by omega) d_M_leads_33 (fun c33 => ?_) (fun c33 => ?_)
    · refine v_iconst o.ok d_M_leads_70 ?_
      refine m_zret o (by first | exact b01_or _ | omega | simp) d_M_leads_71 ⟨congrArg some (by first | exact (b01_t (by first | exact Or.inr ⟨by omega, by omega, by assumption⟩ | (intro q; rcases q with q | ⟨q1, q2, q3⟩; exact hn q; first | omega | exact absurd q3 (by assumption)))).symm | exact (b01_f (by first | exact Or.inr ⟨by omega, by omega, by assumption⟩ | (intro q; rcases q with q | ⟨q1, q2, q3⟩; exact hn q; first | omega | exact absurd q3 (by assumption)))).symm), rfl⟩
    · have hs : M 23 t = 2 := by omega
      have hlb := hlb hs
      refine v_aload_n (i := 0) o.ok d_M_leads_36 rfl rfl ?_
      refine m_geta o 33 (by decide) (by decide) lf_M_86 rfl d_M_leads_37 ?_
      refine v_iload_n (i := 1) o.ok d_M_leads_40 rfl rfl ?_
      refine m_iald o 33 60 rfl rfl (by omega) d_M_leads_41 (fun i41 => ?_)
      rw [e3 hs] at i41 ⊢
      refine v_if_lt o.ok (by omega) d_M_leads_42 (fun c42 => ?_) (fun c42 => ?_)
      · refine v_iconst o.ok d_M_leads_70 ?_
        refine m_zret o (by first | exact b01_or _ | omega | simp) d_M_leads_71 ⟨congrArg some (by first | exact (b01_t (by first | exact Or.inr ⟨by omega, by omega, by assumption⟩ | (intro q; rcases q with q | ⟨q1, q2, q3⟩; exact hn q; first | omega | exact absurd q3 (by assumption)))).symm | exact (b01_f (by first | exact Or.inr ⟨by omega, by omega, by assumption⟩ | (intro q; rcases q with q | ⟨q1, q2, q3⟩; exact hn q; first | omega | exact absurd q3 (by assumption)))).symm), rfl⟩
      · refine v_aload_n (i := 0) o.ok d_M_leads_45 rfl rfl ?_
        refine v_iload_n (i := 2) o.ok d_M_leads_46 rfl rfl ?_
        refine v_iload_n (i := 1) o.ok d_M_leads_47 rfl rfl ?_
        refine v_aload_n (i := 0) o.ok d_M_leads_48 rfl rfl ?_
        refine m_geta o 33 (by decide) (by decide) lf_M_86 rfl d_M_leads_49 ?_
        refine v_iload_n (i := 1) o.ok d_M_leads_52 rfl rfl ?_
        refine m_iald o 33 60 rfl rfl (by omega) d_M_leads_53 (fun i53 => ?_)
        rw [e3 hs] at i53 ⊢
        refine v_aload_n (i := 0) o.ok d_M_leads_54 rfl rfl ?_
        refine m_geta o 34 (by decide) (by decide) lf_M_89 rfl d_M_leads_55 ?_
        refine v_iload_n (i := 1) o.ok d_M_leads_58 rfl rfl ?_
        refine m_iald o 34 60 rfl rfl (by omega) d_M_leads_59 (fun i59 => ?_)
        rw [e4 hs] at i59 ⊢
        refine m_cf o (c_barsS u t (lck M t) (lckM M t) M Z hf.par hu ht (by omega) h12) q_M_bars lm_M_191 d_M_leads_60 (by decide) rfl (Nat.le_of_ble_eq_true rfl) rfl ?_
        first | refine v_ifeq_b o.ok d_M_leads_63 (fun c63 => ?_) (fun c63 => ?_) | refine v_if_eq o.ok (by omega) d_M_leads_63 (fun c63 => ?_) (fun c63 => ?_)
        · refine v_iconst o.ok d_M_leads_70 ?_
          refine m_zret o (by first | exact b01_or _ | omega | simp) d_M_leads_71 ⟨congrArg some (by first | exact (b01_t (by first | exact Or.inr ⟨by omega, by omega, by assumption⟩ | (intro q; rcases q with q | ⟨q1, q2, q3⟩; exact hn q; first | omega | exact absurd q3 (by assumption)))).symm | exact (b01_f (by first | exact Or.inr ⟨by omega, by omega, by assumption⟩ | (intro q; rcases q with q | ⟨q1, q2, q3⟩; exact hn q; first | omega | exact absurd q3 (by assumption)))).symm), rfl⟩
        · refine v_iconst o.ok d_M_leads_66 ?_
          refine v_goto o.ok d_M_leads_67 ?_
          refine m_zret o (by first | exact b01_or _ | omega | simp) d_M_leads_71 ⟨congrArg some (by first | exact (b01_t (by first | exact Or.inr ⟨by omega, by omega, by assumption⟩ | (intro q; rcases q with q | ⟨q1, q2, q3⟩; exact hn q; first | omega | exact absurd q3 (by assumption)))).symm | exact (b01_f (by first | exact Or.inr ⟨by omega, by omega, by assumption⟩ | (intro q; rcases q with q | ⟨q1, q2, q3⟩; exact hn q; first | omega | exact absurd q3 (by assumption)))).symm), rfl⟩
  refine v_aload_n (i := 0) o.ok d_M_leads_0 rfl rfl ?_
  refine v_iload_n (i := 1) o.ok d_M_leads_1 rfl rfl ?_
  refine m_cf o (c_M_live _ (sset M Z) (by omega)) q_M_live lm_M_150 d_M_leads_2 (by decide) rfl (Nat.le_of_ble_eq_true rfl) rfl ?_
  first | refine v_ifeq_b o.ok d_M_leads_5 (fun c5 => ?_) (fun c5 => ?_) | refine v_if_eq o.ok (by omega) d_M_leads_5 (fun c5 => ?_) (fun c5 => ?_)
  · refine j26 (fun q => ?_)
    first
      | omega
      | exact absurd q.1 (by assumption)
      | exact absurd q.2.1 (by assumption)
  · refine v_aload_n (i := 0) o.ok d_M_leads_8 rfl rfl ?_
    refine v_iload_n (i := 2) o.ok d_M_leads_9 rfl rfl ?_
    refine m_cf o (c_M_live _ (sset M Z) (by omega)) q_M_live lm_M_150 d_M_leads_10 (by decide) rfl (Nat.le_of_ble_eq_true rfl) rfl ?_
    first | refine v_ifeq_b o.ok d_M_leads_13 (fun c13 => ?_) (fun c13 => ?_) | refine v_if_eq o.ok (by omega) d_M_leads_13 (fun c13 => ?_) (fun c13 => ?_)
    · refine j26 (fun q => ?_)
      first
        | omega
        | exact absurd q.1 (by assumption)
        | exact absurd q.2.1 (by assumption)
    · refine v_aload_n (i := 0) o.ok d_M_leads_16 rfl rfl ?_
      refine m_geta o 24 (by decide) (by decide) lf_M_65 rfl d_M_leads_17 ?_
      refine v_iload_n (i := 2) o.ok d_M_leads_20 rfl rfl ?_
      refine m_iald o 24 60 rfl rfl (by omega) d_M_leads_21 (fun i21 => ?_)
      rw [e1] at i21 ⊢
      refine v_iload_n (i := 1) o.ok d_M_leads_22 rfl rfl ?_
      refine v_icmp_eq o.ok (by omega) (by omega) d_M_leads_23 (fun c23 => ?_) (fun c23 => ?_)
      · refine v_iconst o.ok d_M_leads_66 ?_
        refine v_goto o.ok d_M_leads_67 ?_
        refine m_zret o (by first | exact b01_or _ | omega | simp) d_M_leads_71 ⟨congrArg some (b01_t (Or.inl ⟨by assumption, by assumption, by omega⟩)).symm, rfl⟩
      · refine j26 (fun q => ?_)
        first
          | omega
          | exact absurd q.1 (by assumption)
          | exact absurd q.2.1 (by assumption)

