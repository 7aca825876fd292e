theorem ucN_t {n : Nat} {K : MSt} (h : K 14 (n : Int) = 2 ∧ ¬ Und K (n : Int) ∧ ¬ Cmt K (top K (K 15 (n : Int)))) : ucN (n + 1) K = ((ucN n (s_und K (top K (K 15 (n : Int))) n)).1 + 1, (ucN n (s_und K (top K (K 15 (n : Int))) n)).2) := pick_t h
theorem ucN_f {n : Nat} {K : MSt} (h : ¬ (K 14 (n : Int) = 2 ∧ ¬ Und K (n : Int) ∧ ¬ Cmt K (top K (K 15 (n : Int))))) : ucN (n + 1) K = ucN n K := pick_f h
set_option maxHeartbeats 4000000 in
set_option maxRecDepth 20000 in
theorem c_S_crash (D : GD) (A : ASt) (n b c : Int) (N M : MSt) (h : Sim N M) (hI : Inv b c M) (hb : b ≤ 300) (hc : c ≤ 899000) (hba : M 11 0 ≤ 1000000) (hn : InR n) : NX D y_S_crash (wsOf y_S_crash b_S_crash 5 (some .int)) (5) [rq A 0 (0), J (n)] A N (fun x A1 N1 => x = J (r_crash M n).1 ∧ Fwd N A N1 A1 ∧ Sim N1 (r_crash M n).2) := by
  refine NCon.of (by decide) (by simp [cat_rf, J_cat]) (Nat.le_of_ble_eq_true rfl) ?_
  intro X g0 o
  show V X (RelN D A N) 0 [(0, rq A 0 (0)), (1, J (n))] [] []
  have hw := hI.wf hb (by omega) hba
  have hnum := h.nums hw
  have hfl := hI.2.2.2.1.2.1
  have efl : N 5 0 = M 13 0 := h.p.1.2.2
  have eg : N 4 0 = M 11 0 := h.l.1.1
  have er0 : N 3 0 = M 12 0 := h.l.1.2.1
  have ent : N 51 0 = M 22 0 := h.t.1.2
  have enm : N 8 0 = M 22 0 := h.t.1.1
  have hb0 := hI.2.2.1.2.1
  have hrc := hI.recs
  have hmm := hI.1.1.1
  have hm60 := hI.1.1.2.1
  unfold lst at hfl
  by_cases hok : 0 ≤ n ∧ n ≤ lst M - M 13 0
  · have erc : r_crash M n = crs M n := if_pos hok
    have hok2 := hok.2
    unfold lst at hok2
    have hS1 := Sim_cr1 (c := c) h hI hok.1 hok.2
    have hI1 := (hI.xcr1 hok.1 hok.2).1
    have hrcr := (cr1_fl M n).1
    have hbcr : cr1 M n 11 0 = M 11 0 := cr1_o (by decide) (by decide) (by decide) (by decide) (by decide) (by decide)
    have hmcr : cr1 M n 22 0 = M 22 0 := cr1_o (by decide) (by decide) (by decide) (by decide) (by decide) (by decide)
    have hop : crN N n (M 22 0) 6 0 = 0 := by rw [crN_k (Or.inr (Or.inr (Or.inr (Or.inr rfl)))), up_same]
    have hRd : RdS (crN N n (M 22 0)) (cr1 M n) := ⟨hS1.1, hS1.2, hI1.1.1, hI1.1.2.1, hI1.2.2.1.2.2.1, hop, hI1.2.2.2.1.1⟩
    have c0 : ∀ f i, f ≠ 5 → f ≠ 3 → f ≠ 1 → up (up (up N 5 0 (N 5 0 + n)) 3 0 (N 5 0 + n - N 4 0)) 1 0 0 f i = N f i := fun f i x y z => by rw [up_ne (fun e => z e.1), up_ne (fun e => y e.1), up_ne (fun e => x e.1)]
    have hFcr : Fwd N A (crN N n (M 22 0)) A := ⟨Ext.rf N A, by rw [crN_o (by decide) (by decide) (by decide) (by decide) (by decide) (by decide) (by decide)]; exact Int.le_refl _, by rw [crN_o (by decide) (by decide) (by decide) (by decide) (by decide) (by decide) (by decide)]; exact Int.le_refl _, crN_o (by decide) (by decide) (by decide) (by decide) (by decide) (by decide) (by decide)⟩
    have lp2 : ∀ (k : Nat) (u cc' : Int) (A' : ASt) (N' K : MSt), RdS N' K → FlA2 N' K → Inv b cc' K → (k : Int) ≤ K 12 0 → K 11 0 = M 11 0 → Fwd N A N' A' → 0 ≤ u → u + k ≤ 1000 → u + (ucN k K).1 = (cr3 M n).1 → (ucN k K).2 = (cr3 M n).2 → V X (RelN D A' N') 117 [(0, rq A' 0 0), (1, J n), (2, J u), (3, J ((k : Int) - 1))] [] [] := by
      intro k
      induction k with
      | zero =>
        intro u cc' A' N' K hR hA hIk hk hbk hF hu0 hu1 e1 e2
        have hrk := hIk.recs
        have g1 : N' 4 0 = K 11 0 := hR.1.2.1.1.1
        have g2 : N' 3 0 = K 12 0 := hR.1.2.1.1.2.1
        have e2 : K = (cr3 M n).2 := e2
        have e1 : u + 0 = (cr3 M n).1 := e1
        refine v_iload_n (i := 3) o.ok d_S_crash_117 rfl rfl ?_
        refine v_if_lt o.ok (by omega) d_S_crash_118 (fun c118 => ?_) (fun c118 => ?_)
        · refine v_aload_nq (i := 0) o.ok d_S_crash_188 rfl rfl ?_
          refine v_aload_nq (i := 0) o.ok d_S_crash_189 rfl rfl ?_
          refine n_cV o 1 (tg := 0) rfl (by decide) (by decide) (by first | rfl | assumption | exact And.intro (by omega) (by omega)) (c_S_last D A' N' (by omega) (by omega)) q_S_last lm_S_250 d_S_crash_190 (by decide) rfl (by first | exact Nat.le_of_ble_eq_true rfl | (simp only [List.map_cons, List.map_nil, cat_rf, J_cat, List.sum_cons, List.sum_nil, cat_lg, cat_rr]; decide)) rfl (n_f ?_)
          refine n_puti o 5 rfl rfl rfl rfl lf_S_75 (by first | rfl | assumption | exact And.intro (by omega) (by omega)) (by omega) d_S_crash_193 ?_
          refine v_iload_n (i := 2) o.ok d_S_crash_196 rfl rfl ?_
          refine n_iret o d_S_crash_197 ⟨by rw [erc]; show J _ = J (cr3 M n).1; congr 1; omega, hF, by rw [erc]; show Sim _ (up (cr3 M n).2 13 0 (lst (cr3 M n).2)); rw [← e2]; exact hR.fin⟩
        · exfalso; omega
      | succ k ih =>
        intro u cc' A' N' K hR hA hIk hk hbk hF hu0 hu1 e1 e2
        have hrk := hIk.recs
        have hkr : (k : Int) < K 12 0 := by omega
        have hk0 : (0 : Int) ≤ k := by omega
        have g1 : N' 4 0 = K 11 0 := hR.1.2.1.1.1
        have g2 : N' 3 0 = K 12 0 := hR.1.2.1.1.2.1
        have gne := hR.1.2.1.1.2.2.2
        have gnt : N' 51 0 = K 22 0 := hR.1.2.2.2.1.1.2
        have hE := hR.1.2.1.2 (k : Int) hk0 hkr
        have en2 := hE.1.2.1
        have en3 := hE.1.2.2.1
        have hkd := hE.2.2.2.2.2.2.2.1
        have hin := (hR.2.2.2.2.1 (k : Int) hk0 hkr).1
        have htp := (InS_tops hR.2.2.1 hR.2.2.2.1 hin).1
        have hT := hR.1.2.2.2.1.2 _ hin.1 hin.2
        have hT2 := hR.1.2.2.2.1.2 _ htp.1 htp.2
        have et : N' 32 (K 15 k) = top K (K 15 k) := hT.1.2.1
        have es : N' 35 (top K (K 15 k)) = K 23 (top K (K 15 k)) := hT2.1.2.2.2.2
        have hdd := hR.2.1 _ htp
        have hcm := fun z => Cmt_iff hIk hk0 hkr z
        have hv10 : 0 ≤ (k : Int) ∧ (k : Int) < N' 50 0 := ⟨hk0, by omega⟩
        have hvb : 0 ≤ K 15 k ∧ K 15 k < N' 51 0 := by rw [gnt]; exact hin
        have hvt : 0 ≤ top K (K 15 k) ∧ top K (K 15 k) < N' 51 0 := by rw [gnt]; exact htp
        have hvk : Vld N' 21 (N' 21 k) := by rw [en2]; exact ⟨hkd.1, by omega⟩
        have hvs : Vld N' 20 (N' 35 (top K (K 15 k))) := by rw [es]; exact (show 1 ≤ _ ∧ _ < (5 : Int) by omega)
        have k182 : ∀ L4 : Value, L4.category = 1 → ¬ (K 14 (k : Int) = 2 ∧ ¬ Und K (k : Int) ∧ ¬ Cmt K (top K (K 15 (k : Int)))) → V X (RelN D A' N') 182 [(0, rq A' 0 0), (1, J n), (2, J u), (3, J (((k + 1 : Nat) : Int) - 1)), (4, L4)] [] [] := by
          intro L4 _ hC
          rw [ucN_f hC] at e1 e2
          have q := ih u cc' A' N' K hR hA hIk (by omega) hbk hF hu0 (by omega) e1 e2
          refine v_iinc (i := 3) (L' := [(0, _), (1, _), (2, _), (3, _), (4, _)]) (G' := []) o.ok d_S_crash_182 rfl (o.lt (by decide)) rfl rfl ?_
          refine v_goto o.ok d_S_crash_185 ?_
          refine v_sel [0, 1, 2, 3] [] rfl rfl ?_
          rw [show ((k + 1 : Nat) : Int) - 1 + -1 = (k : Int) - 1 from by omega]
          exact q
        have hab : K 14 (k : Int) = 2 → 0 ≤ K 16 (k : Int) ∧ K 16 (k : Int) ≤ 31 := fun z => (hR.2.2.2.2.1 (k : Int) hk0 hkr).2 (Or.inl z)
        have kpos : ∀ (A1 : ASt) (L4 : Value), Ext N' A' A1 → K 14 (k : Int) = 2 → N' 29 k = 0 → ¬ N' 35 (top K (K 15 k)) = 3 → V X (RelN D A1 (unN N' (top K (K 15 k)) k)) 182 [(0, rq A' 0 0), (1, J n), (2, J (u + 1)), (3, J (k : Int)), (4, L4)] [] [] := by
          intro A1 L4 hx hk2 hun hst
          have hU : UU K k := ⟨hk2, fun z => by have q := hA k hk0 hkr hk2; rw [b01_t z] at q; omega⟩
          have hC : K 14 (k : Int) = 2 ∧ ¬ Und K (k : Int) ∧ ¬ Cmt K (top K (K 15 (k : Int))) := ⟨hk2, hU.2, fun z => hst (es.trans ((hcm hk2).mp z))⟩
          have q3 := hR.und hA hIk ⟨hk0, hkr⟩ hU
          rw [ucN_t hC] at e1 e2
          have erk : s_und K (top K (K 15 k)) k 12 0 = K 12 0 + 1 := und_n.1
          have q := ih (u + 1) cc' A1 _ _ q3.1 q3.2.1 q3.2.2 (by omega) (by rw [und_o rfl rfl]; exact hbk) (hF.und hx (by omega)) (by omega) (by omega) (by rw [← e1]; show u + 1 + _ = u + (_ + 1); omega) e2
          refine v_iinc (i := 3) (L' := [(0, _), (1, _), (2, _), (3, _), (4, _)]) (G' := []) o.ok d_S_crash_182 rfl (o.lt (by decide)) rfl rfl ?_
          refine v_goto o.ok d_S_crash_185 ?_
          refine v_sel [0, 1, 2, 3] [] rfl rfl ?_
          (try simp only [rq])
          rw [← hx.fo (tg := 0) (v := 0) (by decide), show (k : Int) + -1 = (k : Int) - 1 from by omega]
          exact q
        rw [show ((k + 1 : Nat) : Int) - 1 = (k : Int) from by omega] at k182 ⊢
        refine v_iload_n (i := 3) o.ok d_S_crash_117 rfl rfl ?_
        refine v_if_lt o.ok (by omega) d_S_crash_118 (fun c118 => ?_) (fun c118 => ?_)
        · exfalso; omega
        · refine v_aload_nq (i := 0) o.ok d_S_crash_121 rfl rfl ?_
          refine n_s4 o lf_S_24 d_S_crash_122 ?_
          refine v_iload_n (i := 3) o.ok d_S_crash_125 rfl rfl ?_
          refine n_aE o (by omega) (by omega) d_S_crash_126 ?_
          refine v_astoreq (i := 4) (L' := [(0, _), (1, _), (2, _), (3, _), (4, _)]) (G' := []) o.ok d_S_crash_127 (o.lt (by decide)) rfl rfl ?_
          refine v_aloadq (i := 4) o.ok d_S_crash_129 rfl ?_
          refine n_getr o 21 21 rfl rfl rfl (by decide) lf_S_315 (by first | rfl | exact hv10 | exact hvb | exact hvt) d_S_crash_131 (fun r131 => ?_)
          refine n_getK o 2 (by decide) ls_S_118 d_S_crash_134 ?_
          refine n_injK o (fun j137 => ?_)
          refine n_acmp_ne o.ok j137 (by first | exact Or.inr hvk | exact Or.inr hvs | exact Or.inr (show (1 : Int) ≤ _ ∧ _ < (6 : Int) by decide) | exact Or.inr (show (1 : Int) ≤ _ ∧ _ < (5 : Int) by decide)) (by first | exact Or.inr hvk | exact Or.inr hvs | exact Or.inr (show (1 : Int) ≤ _ ∧ _ < (6 : Int) by decide) | exact Or.inr (show (1 : Int) ≤ _ ∧ _ < (5 : Int) by decide)) d_S_crash_137 (fun c137 => ?_) (fun c137 => ?_)
          · first
              | exact k182 _ (cat_rf _) (fun z => absurd (en2.trans z.1) (by assumption))
              | exact k182 _ (cat_rf _) (fun z => by have q := hA k hk0 hkr z.1; rw [b01_f z.2.1] at q; first | omega | contradiction)
              | exact k182 _ (cat_rf _) (fun z => z.2.2 ((hcm z.1).mpr (es.symm.trans (by assumption))))
              | exact kpos _ _ hx (en2.symm.trans c137) (by assumption) (by assumption)
          · refine v_aloadq (i := 4) o.ok d_S_crash_140 rfl ?_
            refine n_getz o 29 rfl rfl rfl lf_S_163 (by first | rfl | exact hv10 | exact hvb | exact hvt) d_S_crash_142 (fun i142 => ?_)
            first | refine v_ifne_b o.ok d_S_crash_145 (fun c145 => ?_) (fun c145 => ?_) | refine v_if_ne o.ok (by omega) d_S_crash_145 (fun c145 => ?_) (fun c145 => ?_)
            · first
                | exact k182 _ (cat_rf _) (fun z => absurd (en2.trans z.1) (by assumption))
                | exact k182 _ (cat_rf _) (fun z => by have q := hA k hk0 hkr z.1; rw [b01_f z.2.1] at q; first | omega | contradiction)
                | exact k182 _ (cat_rf _) (fun z => z.2.2 ((hcm z.1).mpr (es.symm.trans (by assumption))))
                | exact kpos _ _ hx (en2.symm.trans c137) (by assumption) (by assumption)
            · refine v_aloadq (i := 4) o.ok d_S_crash_148 rfl ?_
              refine n_getr o 22 11 rfl rfl rfl (by decide) lf_S_318 (by first | rfl | exact hv10 | exact hvb | exact hvt) d_S_crash_150 (fun r150 => ?_)
              rw [en3] at r150 ⊢
              refine n_getr o 32 11 rfl rfl rfl (by decide) lf_S_309 (by first | rfl | exact hv10 | exact hvb | exact hvt) d_S_crash_153 (fun r153 => ?_)
              rw [et] at r153 ⊢
              refine n_getr o 35 20 rfl rfl rfl (by decide) lf_S_182 (by first | rfl | exact hv10 | exact hvb | exact hvt) d_S_crash_156 (fun r156 => ?_)
              refine n_getQ o 3 (by decide) ls_S_293 d_S_crash_159 ?_
              refine n_injQ o (fun j162 => ?_)
              refine n_acmp_eq o.ok j162 (by first | exact Or.inr hvk | exact Or.inr hvs | exact Or.inr (show (1 : Int) ≤ _ ∧ _ < (6 : Int) by decide) | exact Or.inr (show (1 : Int) ≤ _ ∧ _ < (5 : Int) by decide)) (by first | exact Or.inr hvk | exact Or.inr hvs | exact Or.inr (show (1 : Int) ≤ _ ∧ _ < (6 : Int) by decide) | exact Or.inr (show (1 : Int) ≤ _ ∧ _ < (5 : Int) by decide)) d_S_crash_162 (fun c162 => ?_) (fun c162 => ?_)
              · first
                  | exact k182 _ (cat_rf _) (fun z => absurd (en2.trans z.1) (by assumption))
                  | exact k182 _ (cat_rf _) (fun z => by have q := hA k hk0 hkr z.1; rw [b01_f z.2.1] at q; first | omega | contradiction)
                  | exact k182 _ (cat_rf _) (fun z => z.2.2 ((hcm z.1).mpr (es.symm.trans (by assumption))))
                  | exact kpos _ _ hx (en2.symm.trans c137) (by assumption) (by assumption)
              · refine v_aload_nq (i := 0) o.ok d_S_crash_165 rfl rfl ?_
                refine v_aloadq (i := 4) o.ok d_S_crash_166 rfl ?_
                refine v_aloadq (i := 4) o.ok d_S_crash_168 rfl ?_
                refine n_getr o 22 11 rfl rfl rfl (by decide) lf_S_318 (by first | rfl | exact hv10 | exact hvb | exact hvt) d_S_crash_170 (fun r170 => ?_)
                rw [en3] at r170 ⊢
                refine n_getr o 32 11 rfl rfl rfl (by decide) lf_S_309 (by first | rfl | exact hv10 | exact hvb | exact hvt) d_S_crash_173 (fun r173 => ?_)
                rw [et] at r173 ⊢
                refine n_cV o 1 (tg := 0) rfl (by decide) (by decide) (by first | rfl | exact hv10 | exact hvb | exact hvt) (c_S_undo D A' (top K (K 15 k)) k N' K hR.1 hR.2.2.2.2.2.2.1 ⟨hk0, hkr⟩ (hab (en2.symm.trans c137)) htp (by omega) (by omega)) q_S_undo lm_S_170 d_S_crash_176 (by decide) rfl (by first | exact Nat.le_of_ble_eq_true rfl | (simp only [List.map_cons, List.map_nil, cat_rf, J_cat, List.sum_cons, List.sum_nil, cat_lg, cat_rr]; decide)) rfl (n_u (fun A176 N176 h176 => ?_))
                obtain ⟨hx, rfl⟩ := h176
                refine v_iinc (i := 2) (L' := [(0, _), (1, _), (2, _), (3, _), (4, _)]) (G' := []) o.ok d_S_crash_179 rfl (o.lt (by decide)) rfl rfl ?_
                first
                  | exact k182 _ (cat_rf _) (fun z => absurd (en2.trans z.1) (by assumption))
                  | exact k182 _ (cat_rf _) (fun z => by have q := hA k hk0 hkr z.1; rw [b01_f z.2.1] at q; first | omega | contradiction)
                  | exact k182 _ (cat_rf _) (fun z => z.2.2 ((hcm z.1).mpr (es.symm.trans (by assumption))))
                  | exact kpos _ _ hx (en2.symm.trans c137) (by assumption) (by assumption)
    have k104 : V X (RelN D A (crN N n (M 22 0))) 104 [(0, rq A 0 0), (1, J n)] [] [] := by
      refine v_aload_nq (i := 0) o.ok d_S_crash_104 rfl rfl ?_
      refine n_cV o 1 (tg := 0) rfl (by decide) (by decide) (by first | rfl | assumption | exact And.intro (by omega) (by omega)) (c_S_redo D A b (c + b) (crN N n (M 22 0)) (cr1 M n) hRd hI1 hb (by rw [hbcr]; exact hba)) q_S_redo lm_S_312 d_S_crash_105 (by decide) rfl (by first | exact Nat.le_of_ble_eq_true rfl | (simp only [List.map_cons, List.map_nil, cat_rf, J_cat, List.sum_cons, List.sum_nil, cat_lg, cat_rr]; decide)) rfl (n_u (fun A105 N105 h105 => ?_))
      obtain ⟨hA5, he5, hR5, hF5⟩ := h105
      rw [hA5]
      rw [hrcr] at hR5 hF5
      have e5 : N105 3 0 = M 13 0 + n - M 11 0 := (hR5.1.2.1.1.2.1).trans (by rw [rdN_o rfl]; exact hrcr)
      refine v_iconst o.ok d_S_crash_108 ?_
      refine v_istore_n (i := 2) (L' := [(0, _), (1, _), (2, _)]) (G' := []) o.ok d_S_crash_109 rfl (o.lt (by decide)) rfl rfl ?_
      refine v_aload_nq (i := 0) o.ok d_S_crash_110 rfl rfl ?_
      refine n_geti o 3 rfl rfl rfl lf_S_95 (by first | rfl | assumption | exact And.intro (by omega) (by omega)) d_S_crash_111 (fun i111 => ?_)
      rw [e5] at i111 ⊢
      refine v_iconst o.ok d_S_crash_114 ?_
      refine v_isub o.ok d_S_crash_115 ?_
      refine v_istore_n (i := 3) (L' := [(0, _), (1, _), (2, _), (3, _)]) (G' := []) o.ok d_S_crash_116 rfl (o.lt (by decide)) rfl rfl ?_
      refine v_sel [0, 1, 2, 3] [] rfl rfl ?_
      have q := lp2 (M 13 0 + n - M 11 0).toNat 0 (c + b + ((M 13 0 + n - M 11 0).toNat : Int)) A N105 (cr2 M n) hR5 hF5 (hI1.xrdN _ (by omega)) (by show _ ≤ rdN _ _ 12 0; rw [rdN_o rfl]; omega) (by show rdN _ _ 11 0 = _; rw [rdN_o rfl]; exact hbcr) (hFcr.eq (he5 _ _ rfl (by decide)) (he5 _ _ rfl (by decide)) (he5 _ _ rfl (by decide))) (by omega) (by omega) (by show 0 + (cr3 M n).1 = _; omega) rfl
      rw [show (((M 13 0 + n - M 11 0).toNat : Nat) : Int) - 1 = M 13 0 + n - M 11 0 - 1 from by omega] at q
      exact q
    have lp1 : ∀ (k : Nat) (t : Int), 0 ≤ t → t + k = M 22 0 → V X (RelN D A (cstN (up (up (up N 5 0 (N 5 0 + n)) 3 0 (N 5 0 + n - N 4 0)) 1 0 0) t)) 49 [(0, rq A 0 0), (1, J n), (2, J t)] [] [] := by
      intro k
      induction k with
      | zero =>
        intro t h0 h1
        have e1 : cstN (up (up (up N 5 0 (N 5 0 + n)) 3 0 (N 5 0 + n - N 4 0)) 1 0 0) t 8 0 = M 22 0 := by rw [cstN_o (by decide) (by decide), c0 _ _ (by decide) (by decide) (by decide)]; exact enm
        have et : t = M 22 0 := by omega
        refine v_iload_n (i := 2) o.ok d_S_crash_49 rfl rfl ?_
        refine v_aload_nq (i := 0) o.ok d_S_crash_50 rfl rfl ?_
        refine n_geti o 8 rfl rfl rfl lf_S_50 (by first | rfl | assumption | exact And.intro (by omega) (by omega)) d_S_crash_51 (fun i51 => ?_)
        rw [e1] at i51 ⊢
        refine v_icmp_ge o.ok (by omega) (by omega) d_S_crash_54 (fun c54 => ?_) (fun c54 => ?_)
        · refine v_aload_nq (i := 0) o.ok d_S_crash_94 rfl rfl ?_
          refine v_iconst o.ok d_S_crash_95 ?_
          refine n_puti o 7 rfl rfl rfl rfl lf_S_109 (by first | rfl | assumption | exact And.intro (by omega) (by omega)) (by omega) d_S_crash_96 ?_
          refine v_aload_nq (i := 0) o.ok d_S_crash_99 rfl rfl ?_
          refine v_iconst o.ok d_S_crash_100 ?_
          refine n_puti o 6 rfl rfl rfl rfl lf_S_106 (by first | rfl | assumption | exact And.intro (by omega) (by omega)) (by omega) d_S_crash_101 ?_
          refine v_sel [0, 1] [] rfl rfl ?_
          rw [et]
          exact k104
        · exfalso; omega
      | succ k ih =>
        intro t h0 h1
        have htm : inM M t := ⟨h0, by omega⟩
        have e1 : cstN (up (up (up N 5 0 (N 5 0 + n)) 3 0 (N 5 0 + n - N 4 0)) 1 0 0) t 8 0 = M 22 0 := by rw [cstN_o (by decide) (by decide), c0 _ _ (by decide) (by decide) (by decide)]; exact enm
        have e2 : cstN (up (up (up N 5 0 (N 5 0 + n)) 3 0 (N 5 0 + n - N 4 0)) 1 0 0) t 51 0 = M 22 0 := by rw [cstN_o (by decide) (by decide), c0 _ _ (by decide) (by decide) (by decide)]; exact ent
        have hT := h.t.2 t htm.1 htm.2
        have htp := (InS_tops hI.1.1 hI.1.2.1 htm).1
        have hT2 := h.t.2 _ htp.1 htp.2
        have hbd := top_bd hI.1.1 htm.1 htm.2
        have etp : up (up (up N 5 0 (N 5 0 + n)) 3 0 (N 5 0 + n - N 4 0)) 1 0 0 32 t = top M t := by rw [c0 _ _ (by decide) (by decide) (by decide)]; exact hT.1.2.1
        have ett : up (up (up N 5 0 (N 5 0 + n)) 3 0 (N 5 0 + n - N 4 0)) 1 0 0 32 (top M t) = top M t := by rw [c0 _ _ (by decide) (by decide) (by decide)]; exact hT2.1.2.1.trans (top_root (top_par hI.1.2.1 htm))
        have hct := cstN_top (N := up (up (up N 5 0 (N 5 0 + n)) 3 0 (N 5 0 + n - N 4 0)) 1 0 0) (b := t) (by rw [etp]; exact hbd) (by rw [etp]; exact ett)
        rw [etp] at hct
        have hv0 : 0 ≤ t ∧ t < cstN (up (up (up N 5 0 (N 5 0 + n)) 3 0 (N 5 0 + n - N 4 0)) 1 0 0) t 51 0 := by rw [e2]; exact htm
        have u0 : ∀ f i, f ≠ 39 → ulN (cstN (up (up (up N 5 0 (N 5 0 + n)) 3 0 (N 5 0 + n - N 4 0)) 1 0 0) t) t 33 f i = cstN (up (up (up N 5 0 (N 5 0 + n)) 3 0 (N 5 0 + n - N 4 0)) 1 0 0) t f i := fun f i e => ulN_o e
        have hv1 : 0 ≤ t ∧ t < ulN (cstN (up (up (up N 5 0 (N 5 0 + n)) 3 0 (N 5 0 + n - N 4 0)) 1 0 0) t) t 33 51 0 := by rw [u0 _ _ (by decide)]; exact hv0
        have etu : ulN (cstN (up (up (up N 5 0 (N 5 0 + n)) 3 0 (N 5 0 + n - N 4 0)) 1 0 0) t) t 33 32 t = top M t := by rw [u0 _ _ (by decide), cstN_o (by decide) (by decide)]; exact etp
        have hv2 : 0 ≤ top M t ∧ top M t < ulN (cstN (up (up (up N 5 0 (N 5 0 + n)) 3 0 (N 5 0 + n - N 4 0)) 1 0 0) t) t 33 51 0 := by rw [u0 _ _ (by decide), e2]; exact htp
        have esu := u0 35 (top M t) (by decide)
        refine v_iload_n (i := 2) o.ok d_S_crash_49 rfl rfl ?_
        refine v_aload_nq (i := 0) o.ok d_S_crash_50 rfl rfl ?_
        refine n_geti o 8 rfl rfl rfl lf_S_50 (by first | rfl | exact hv0 | exact hv1 | exact hv2) d_S_crash_51 (fun i51 => ?_)
        rw [e1] at i51 ⊢
        refine v_icmp_ge o.ok (by omega) (by omega) d_S_crash_54 (fun c54 => ?_) (fun c54 => ?_)
        · exfalso; omega
        · refine v_aload_nq (i := 0) o.ok d_S_crash_57 rfl rfl ?_
          refine n_s5 o lf_S_30 d_S_crash_58 ?_
          refine v_iload_n (i := 2) o.ok d_S_crash_61 rfl rfl ?_
          refine n_aT o (by first | omega | (rw [e2]; omega)) (by first | omega | (rw [e2]; omega)) d_S_crash_62 ?_
          refine v_astore_nq (i := 3) (L' := [(0, _), (1, _), (2, _), (3, _)]) (G' := []) o.ok d_S_crash_63 rfl (o.lt (by decide)) rfl rfl ?_
          refine v_aload_nq (i := 3) o.ok d_S_crash_64 rfl rfl ?_
          refine n_cV o 4 (tg := 11) rfl (by decide) (by decide) (by first | rfl | exact hv0 | exact hv1 | exact hv2) (c_T_unlock D A t (cstN (up (up (up N 5 0 (N 5 0 + n)) 3 0 (N 5 0 + n - N 4 0)) 1 0 0) t) hv0) q_T_unlock lm_S_237 d_S_crash_65 (by decide) rfl (by first | exact Nat.le_of_ble_eq_true rfl | (simp only [List.map_cons, List.map_nil, cat_rf, J_cat, List.sum_cons, List.sum_nil, cat_lg, cat_rr]; decide)) rfl (n_e ?_)
          refine v_aload_nq (i := 3) o.ok d_S_crash_68 rfl rfl ?_
          refine n_getr o 32 11 rfl rfl rfl (by decide) lf_S_309 (by first | rfl | exact hv0 | exact hv1 | exact hv2) d_S_crash_69 (fun r69 => ?_)
          rw [etu] at r69 ⊢
          refine n_getr o 35 20 rfl rfl rfl (by decide) lf_S_182 (by first | rfl | exact hv0 | exact hv1 | exact hv2) d_S_crash_72 (fun r72 => ?_)
          refine n_getQ o 3 (by decide) ls_S_293 d_S_crash_75 ?_
          refine n_injQ o (fun j78 => ?_)
          refine n_acmp_eq o.ok j78 (by first | assumption | exact Or.inr (show (1 : Int) ≤ _ ∧ _ < (5 : Int) by decide)) (by first | assumption | exact Or.inr (show (1 : Int) ≤ _ ∧ _ < (5 : Int) by decide)) d_S_crash_78 (fun c78 => ?_) (fun c78 => ?_)
          · refine v_iinc (i := 2) (L' := [(0, _), (1, _), (2, _), (3, _)]) (G' := []) o.ok d_S_crash_88 rfl (o.lt (by decide)) rfl rfl ?_
            refine v_goto o.ok d_S_crash_91 ?_
            refine v_sel [0, 1, 2] [] rfl rfl ?_
            first
              | (have q3 : up (up (up N 5 0 (N 5 0 + n)) 3 0 (N 5 0 + n - N 4 0)) 1 0 0 35 (top M t) = 3 := hct.mp (esu.symm.trans (by assumption))
                 have e := cstN_k (N := up (up (up N 5 0 (N 5 0 + n)) 3 0 (N 5 0 + n - N 4 0)) 1 0 0) h0 (by rw [etp]; exact q3)
                 rw [e]
                 exact ih (t + 1) (by omega) (by omega))
              | (have q3 : ¬ up (up (up N 5 0 (N 5 0 + n)) 3 0 (N 5 0 + n - N 4 0)) 1 0 0 35 (top M t) = 3 := fun z => absurd (esu.trans (hct.mpr z)) (by assumption)
                 have e := cstN_s (N := up (up (up N 5 0 (N 5 0 + n)) 3 0 (N 5 0 + n - N 4 0)) 1 0 0) h0
                 rw [etp, if_neg q3] at e
                 have q := ih (t + 1) (by omega) (by omega)
                 rw [← e] at q
                 exact q)
          · refine v_aload_nq (i := 3) o.ok d_S_crash_81 rfl rfl ?_
            refine n_getQ o 4 (by decide) ls_S_235 d_S_crash_82 ?_
            refine n_putr o 35 20 rfl rfl rfl (by decide) rfl lf_S_182 (by first | rfl | exact hv0 | exact hv1 | exact hv2) (by exact Or.inr (show (1 : Int) ≤ _ ∧ _ < (5 : Int) by decide)) d_S_crash_85 ?_
            refine v_iinc (i := 2) (L' := [(0, _), (1, _), (2, _), (3, _)]) (G' := []) o.ok d_S_crash_88 rfl (o.lt (by decide)) rfl rfl ?_
            refine v_goto o.ok d_S_crash_91 ?_
            refine v_sel [0, 1, 2] [] rfl rfl ?_
            first
              | (have q3 : up (up (up N 5 0 (N 5 0 + n)) 3 0 (N 5 0 + n - N 4 0)) 1 0 0 35 (top M t) = 3 := hct.mp (esu.symm.trans (by assumption))
                 have e := cstN_k (N := up (up (up N 5 0 (N 5 0 + n)) 3 0 (N 5 0 + n - N 4 0)) 1 0 0) h0 (by rw [etp]; exact q3)
                 rw [e]
                 exact ih (t + 1) (by omega) (by omega))
              | (have q3 : ¬ up (up (up N 5 0 (N 5 0 + n)) 3 0 (N 5 0 + n - N 4 0)) 1 0 0 35 (top M t) = 3 := fun z => absurd (esu.trans (hct.mpr z)) (by assumption)
                 have e := cstN_s (N := up (up (up N 5 0 (N 5 0 + n)) 3 0 (N 5 0 + n - N 4 0)) 1 0 0) h0
                 rw [etp, if_neg q3] at e
                 have q := ih (t + 1) (by omega) (by omega)
                 rw [← e] at q
                 exact q)
    refine v_iload_n (i := 1) o.ok d_S_crash_0 rfl rfl ?_
    refine v_iconst o.ok d_S_crash_1 ?_
    refine v_aload_nq (i := 0) o.ok d_S_crash_2 rfl rfl ?_
    refine n_cV o 1 (tg := 0) rfl (by decide) (by decide) (by first | rfl | assumption | exact And.intro (by omega) (by omega)) (c_S_last D A N hnum.1 hnum.2.2.2.1) q_S_last lm_S_250 d_S_crash_3 (by decide) rfl (by first | exact Nat.le_of_ble_eq_true rfl | (simp only [List.map_cons, List.map_nil, cat_rf, J_cat, List.sum_cons, List.sum_nil, cat_lg, cat_rr]; decide)) rfl (n_f ?_)
    refine v_aload_nq (i := 0) o.ok d_S_crash_6 rfl rfl ?_
    refine n_geti o 5 rfl rfl rfl lf_S_75 (by first | rfl | assumption | exact And.intro (by omega) (by omega)) d_S_crash_7 (fun i7 => ?_)
    refine v_isub o.ok d_S_crash_10 ?_
    refine n_cS o (c_S_outside D A n 0 (N 4 0 + N 3 0 - N 5 0) N hn (by omega) (by omega)) q_S_outside lm_S_53 d_S_crash_11 (by decide) rfl (by first | exact Nat.le_of_ble_eq_true rfl | (simp only [List.map_cons, List.map_nil, cat_rf, J_cat, List.sum_cons, List.sum_nil, cat_lg, cat_rr]; decide)) rfl (n_f ?_)
    first | refine v_ifeq_b o.ok d_S_crash_14 (fun c14 => ?_) (fun c14 => ?_) | refine v_if_eq o.ok (by omega) d_S_crash_14 (fun c14 => ?_) (fun c14 => ?_)
    · refine v_aload_nq (i := 0) o.ok d_S_crash_19 rfl rfl ?_
      refine v_dup o.ok d_S_crash_20 (cat_rf _) ?_
      refine n_geti o 5 rfl rfl rfl lf_S_75 (by first | rfl | assumption | exact And.intro (by omega) (by omega)) d_S_crash_21 (fun i21 => ?_)
      refine v_iload_n (i := 1) o.ok d_S_crash_24 rfl rfl ?_
      refine v_iadd o.ok d_S_crash_25 ?_
      refine n_puti o 5 rfl rfl rfl rfl lf_S_75 (by first | rfl | assumption | exact And.intro (by omega) (by omega)) (by omega) d_S_crash_26 ?_
      refine v_aload_nq (i := 0) o.ok d_S_crash_29 rfl rfl ?_
      refine v_aload_nq (i := 0) o.ok d_S_crash_30 rfl rfl ?_
      refine n_geti o 5 rfl rfl rfl lf_S_75 (by first | rfl | assumption | exact And.intro (by omega) (by omega)) d_S_crash_31 (fun i31 => ?_)
      rw [up_same] at i31 ⊢
      refine v_aload_nq (i := 0) o.ok d_S_crash_34 rfl rfl ?_
      refine n_geti o 4 rfl rfl rfl lf_S_99 (by first | rfl | assumption | exact And.intro (by omega) (by omega)) d_S_crash_35 (fun i35 => ?_)
      rw [up_ne (by simp)] at i35 ⊢
      refine v_isub o.ok d_S_crash_38 ?_
      refine n_puti o 3 rfl rfl rfl rfl lf_S_95 (by first | rfl | assumption | exact And.intro (by omega) (by omega)) (by omega) d_S_crash_39 ?_
      refine v_aload_nq (i := 0) o.ok d_S_crash_42 rfl rfl ?_
      refine v_iconst o.ok d_S_crash_43 ?_
      refine n_puti o 1 rfl rfl rfl rfl lf_S_57 (by first | rfl | assumption | exact And.intro (by omega) (by omega)) (by omega) d_S_crash_44 ?_
      refine v_iconst o.ok d_S_crash_47 ?_
      refine v_istore_n (i := 2) (L' := [(0, _), (1, _), (2, _)]) (G' := []) o.ok d_S_crash_48 rfl (o.lt (by decide)) rfl rfl ?_
      have q := lp1 (M 22 0).toNat 0 (by decide) (by omega)
      rw [cstN_0] at q
      exact q
    · exfalso; omega
  · have erc : r_crash M n = (-1, M) := if_neg hok
    unfold lst at hok
    refine v_iload_n (i := 1) o.ok d_S_crash_0 rfl rfl ?_
    refine v_iconst o.ok d_S_crash_1 ?_
    refine v_aload_nq (i := 0) o.ok d_S_crash_2 rfl rfl ?_
    refine n_cV o 1 (tg := 0) rfl (by decide) (by decide) (by first | rfl | assumption | exact And.intro (by omega) (by omega)) (c_S_last D A N hnum.1 hnum.2.2.2.1) q_S_last lm_S_250 d_S_crash_3 (by decide) rfl (by first | exact Nat.le_of_ble_eq_true rfl | (simp only [List.map_cons, List.map_nil, cat_rf, J_cat, List.sum_cons, List.sum_nil, cat_lg, cat_rr]; decide)) rfl (n_f ?_)
    refine v_aload_nq (i := 0) o.ok d_S_crash_6 rfl rfl ?_
    refine n_geti o 5 rfl rfl rfl lf_S_75 (by first | rfl | assumption | exact And.intro (by omega) (by omega)) d_S_crash_7 (fun i7 => ?_)
    refine v_isub o.ok d_S_crash_10 ?_
    refine n_cS o (c_S_outside D A n 0 (N 4 0 + N 3 0 - N 5 0) N hn (by omega) (by omega)) q_S_outside lm_S_53 d_S_crash_11 (by decide) rfl (by first | exact Nat.le_of_ble_eq_true rfl | (simp only [List.map_cons, List.map_nil, cat_rf, J_cat, List.sum_cons, List.sum_nil, cat_lg, cat_rr]; decide)) rfl (n_f ?_)
    first | refine v_ifeq_b o.ok d_S_crash_14 (fun c14 => ?_) (fun c14 => ?_) | refine v_if_eq o.ok (by omega) d_S_crash_14 (fun c14 => ?_) (fun c14 => ?_)
    · exfalso; omega
    · refine v_iconst o.ok d_S_crash_17 ?_
      refine n_iret o d_S_crash_18 ⟨by rw [erc], Fwd.rf N A, by rw [erc]; exact h⟩

