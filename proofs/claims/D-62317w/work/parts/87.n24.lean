/-! whom one waits for -/
theorem nds_sec {M : MSt} {w a b b' : Int} (h : w = 2 ∨ w = 4 → b = b') : nds M w a b = nds M w a b' := by
  by_cases e : w = 4
  · rw [h (Or.inr e)]
  · unfold nds
    rw [if_neg e, if_neg e]
theorem Lead_liv {b c : Int} {M : MSt} (h : Inv b c M) {u v : Int} (hl : LeadR M u v) : Liv M v := by
  obtain ⟨h1, h2, h3⟩ := hl
  rcases h3 with z | ⟨z1, z2, z3⟩
  · exact z.2.1
  · have hb := lck_bd (h.1.2.2.2.2 u h1.1 h1.2 z1)
    exact h.2.1.2.2 v (lck M u) h2 z2 (by omega) (by have := z3.2.1; omega)
theorem Fw_liv {b c : Int} {M : MSt} (h : Inv b c M) {t v : Int} (hf : Fw M t v) : Liv M v := hf (Liv M) (fun _ z => Lead_liv h z) (fun _ _ _ z => Lead_liv h z)
section NRows7
variable {X : Cx} {D : GD} {A : ASt} {N M : MSt} {g0 : GSt} {cc : ByteArray} {n lv : Nat} {rt : Option FieldType} {Q : Option Value → GSt → Prop} {pc nx tgt : Nat} {L L' : List (Nat × Value)} {G : List (Nat × Int64)} {st : List Value}
theorem n_askc (o : OkG X D R_S cc n rt lv g0 Q) {t g : Int} (h : AskOk N M) (ht : inM M t) (hq : ReqOk (N 40 t) (N 41 t) (N 42 t)) (hg : g = 0 ∨ g = 1) (d : dc cc pc (.invokeinterface 202 4) nx) (hlv : 4 < lv) (hcat : (st.map fun v => v.category).sum ≤ 8) (kk : ∀ w N1, AskR N M t (mdo M (N 40 t) (N 41 t)) g (nds M (N 40 t) (N 41 t) (N 42 t)) w N1 → V X (RelN D A N1) nx L G (.long w :: st)) (hn : pc + 5 = nx := by rfl) : V X (RelN D A N) pc L G (J g :: rq A 11 t :: rq A 0 0 :: rq A 13 t :: st) := by
  have htn : 0 ≤ t ∧ t < N 51 0 := by rw [h.1.t.1.2]; exact ht
  have fin : ∀ (x : Value) (A1 : ASt) (N1 : MSt), (∃ w, x = .long w ∧ A1 = A ∧ AskR N M t (mdo M (N 40 t) (N 41 t)) g (nds M (N 40 t) (N 41 t) (N 42 t)) w N1) → V X (RelN D A1 N1) nx L G (x :: st) := by
    rintro _ _ N1 ⟨w, rfl, rfl, hw⟩
    exact kk w N1 hw
  rcases hq with ⟨q | q | q, hk⟩ | ⟨q, hk⟩
  · exact n_cF o 5 (by decide) htn (by rw [q]; rfl) (c_RG_ask D A t g N M h ht q hk hg) f_RG_ask lm_S_202 d hlv rfl hcat rfl (n_x fin) hn
  · exact n_cF o 6 (by decide) htn (by rw [q]; rfl) (c_RP_ask D A t g N M h ht q hk hg) f_RP_ask lm_S_202 d hlv rfl hcat rfl (n_x fin) hn
  · exact n_cF o 7 (by decide) htn (by rw [q]; rfl) (c_RD_ask D A t g N M h ht q hk hg) f_RD_ask lm_S_202 d hlv rfl hcat rfl (n_x fin) hn
  · exact n_cF o 8 (by decide) htn (by rw [q]; rfl) (c_RS_ask D A t g N M h ht q hk hg) f_RS_ask lm_S_202 d hlv rfl hcat rfl (n_x fin) hn
theorem n_actc (o : OkG X D R_S cc n rt lv g0 Q) {t : Int} (h : Sim N M) (hw : WF M) (ht : inM M t) (hl : LvT M t) (hq : ReqOk (N 40 t) (N 41 t) (N 42 t)) (d : dc cc pc (.invokeinterface 259 3) nx) (hlv : 5 < lv) (hcat : (st.map fun v => v.category).sum ≤ 8) (kk : ∀ A1 N1, Fwd N A N1 A1 → Sim N1 (act M t (N 40 t) (N 41 t) (N 42 t)).2 → V X (RelN D A1 N1) nx L G (J (act M t (N 40 t) (N 41 t) (N 42 t)).1 :: st)) (hn : pc + 5 = nx := by rfl) : V X (RelN D A N) pc L G (rq A 11 t :: rq A 0 0 :: rq A 13 t :: st) := by
  have htn : 0 ≤ t ∧ t < N 51 0 := by rw [h.t.1.2]; exact ht
  have fin : ∀ (x : Value) (A1 : ASt) (N1 : MSt), (x = J (act M t (N 40 t) (N 41 t) (N 42 t)).1 ∧ Fwd N A N1 A1 ∧ Sim N1 (act M t (N 40 t) (N 41 t) (N 42 t)).2) → V X (RelN D A1 N1) nx L G (x :: st) := by
    rintro _ A1 N1 ⟨rfl, h1, h2⟩
    exact kk A1 N1 h1 h2
  rcases hq with ⟨q | q | q, hk⟩ | ⟨q, hk⟩
  · exact n_cF o 5 (by decide) htn (by rw [q]; rfl) (c_RG_act D A t N M h hw ht q hk) f_RG_act lm_S_259 d (by omega) rfl hcat rfl (n_x fin) hn
  · exact n_cF o 6 (by decide) htn (by rw [q]; rfl) (c_RP_act D A t N M h hw ht hl q hk) f_RP_act lm_S_259 d hlv rfl hcat rfl (n_x fin) hn
  · exact n_cF o 7 (by decide) htn (by rw [q]; rfl) (c_RD_act D A t N M h hw ht hl q hk) f_RD_act lm_S_259 d hlv rfl hcat rfl (n_x fin) hn
  · exact n_cF o 8 (by decide) htn (by rw [q]; rfl) (c_RS_act D A t N M h hw ht q hk) f_RS_act lm_S_259 d (by omega) rfl hcat rfl (n_x fin) hn
end NRows7
/-- the request of a waiting one, on both sides -/
theorem req_w {N M : MSt} (h : SimT N M) (hr : ReqA M) {t : Int} (ht : inM M t) (hs : M 23 t = 2) : ReqOk (N 40 t) (N 41 t) (N 42 t) ∧ mdo M (N 40 t) (N 41 t) = lckM M t ∧ nds M (N 40 t) (N 41 t) (N 42 t) = nds M (M 27 t) (M 28 t) (M 29 t) := by
  obtain ⟨q1, q2, q3⟩ := (h.2 t ht.1 ht.2).2.2.2.2 hs
  have hq := hr t ht.1 ht.2 hs
  rw [q1, q2]
  refine ⟨?_, rfl, nds_sec q3⟩
  rcases hq with hq | hq
  · exact Or.inl hq
  · rw [q3 (Or.inr hq.1)]; exact Or.inr hq
theorem ask_0 {N M : MSt} (h : SimT N M) (hr : ReqA M) {t : Int} (ht : inM M t) (hs : M 23 t = 2) {w : Int64} {N1 : MSt} (hA : AskR N M t (mdo M (N 40 t) (N 41 t)) 0 (nds M (N 40 t) (N 41 t) (N 42 t)) w N1) : N1 = N ∧ ∀ u, lb w u ↔ 0 ≤ lck M t ∧ inM M u ∧ Bar M u t (lck M t) (lckM M t) := by
  obtain ⟨r1, r2, r3⟩ := req_w h hr ht hs
  rw [r2, r3] at hA
  refine ⟨hA.2.2.1 rfl, fun u => ?_⟩
  rw [hA.2.2.2 u]
  exact akP_0 _ (fun x hx => ((nds_bd (hr t ht.1 ht.2 hs)).2 x hx).1) u
set_option maxHeartbeats 4000000 in
set_option maxRecDepth 20000 in
theorem c_S_leads (D : GD) (A : ASt) (t : Int) (N M : MSt) (h : AskOk N M) (hs : StOk M) (hr : ReqA M) (ht : inM M t) : NX D y_S_leads (wsOf y_S_leads b_S_leads 4 (some .long)) (5) [rq A 0 (0), rq A 11 (t)] A N (fun x A1 N1 => ∃ w, x = .long w ∧ (A1 = A ∧ N1 = N) ∧ ∀ u, lb w u ↔ LeadR M t u) := by
  refine NCon.of (by decide) (by simp [cat_rf, J_cat]) (Nat.le_of_ble_eq_true rfl) ?_
  intro X g0 o
  show V X (RelN D A N) 0 [(0, rq A 0 (0)), (1, rq A 11 (t))] [] []
  have eS := (h.1.t.2 t ht.1 ht.2).1.2.2.2.2
  have hst := hs t ht.1 ht.2
  have hvt : 0 ≤ t ∧ t < N 51 0 := (by rw [h.1.t.1.2]; exact ht)
  have hvs : Vld N 20 (N 35 t) := (by rw [eS]; exact hst)
  have lp : ∀ w : Int64, (∀ u, lb w u ↔ Liv M t ∧ lcP M t u) → V X (RelN D A N) 18 [(0, rq A 0 0), (1, rq A 11 t)] [] [.long w] := by
    intro w hw
    refine v_lstore_n (i := 2) (L' := [(0, _), (1, _)]) (G' := [(2, _)]) o.ok d_S_leads_18 rfl (o.lt (by decide)) rfl rfl ?_
    refine v_aload_nq (i := 1) o.ok d_S_leads_19 rfl rfl ?_
    refine n_getr o 35 20 rfl rfl rfl (by decide) lf_S_182 (by first | rfl | exact hvs | exact hvt) d_S_leads_20 (fun r20 => ?_)
    refine n_getQ o 2 (by decide) ls_S_195 d_S_leads_23 ?_
    refine n_injQ o (fun j26 => ?_)
    refine n_acmp_ne o.ok j26 (by first | exact Or.inr hvs | exact Or.inr (show (1 : Int) ≤ _ ∧ _ < (5 : Int) by decide)) (by first | exact Or.inr hvs | exact Or.inr (show (1 : Int) ≤ _ ∧ _ < (5 : Int) by decide)) d_S_leads_26 (fun c26 => ?_) (fun c26 => ?_)
    · refine v_lload_n (i := 2) o.ok d_S_leads_46 rfl rfl ?_
      refine n_lret o d_S_leads_47 ⟨w, rfl, ⟨rfl, rfl⟩, fun u => by
        rw [hw u]
        unfold LeadR Lead lcP
        constructor
        · rintro ⟨a, b, c, d⟩
          exact ⟨ht, b, Or.inl ⟨a, c, d⟩⟩
        · rintro ⟨a, b, ⟨c, d, e⟩ | ⟨c, d, e⟩⟩
          · exact ⟨c, b, d, e⟩
          · exact absurd (show N 35 t = 2 by rw [eS]; exact c) (by assumption)⟩
    · have hs2 : M 23 t = 2 := (by rw [← eS]; assumption)
      have hq := (req_w h.1.t hr ht hs2).1
      refine v_lload_n (i := 2) o.ok d_S_leads_29 rfl rfl ?_
      refine v_aload_nq (i := 1) o.ok d_S_leads_30 rfl rfl ?_
      refine n_req o hvt (by rcases hq with q | q <;> omega) lf_S_198 d_S_leads_31 ?_
      refine v_aload_nq (i := 0) o.ok d_S_leads_34 rfl rfl ?_
      refine v_aload_nq (i := 1) o.ok d_S_leads_35 rfl rfl ?_
      refine v_iconst o.ok d_S_leads_36 ?_
      refine n_askc o h ht hq (Or.inl rfl) d_S_leads_37 (by decide) (by first | exact Nat.le_of_ble_eq_true rfl | (simp only [List.map_cons, List.map_nil, cat_rf, J_cat, List.sum_cons, List.sum_nil, cat_lg, cat_rr]; decide)) (fun w2 N2 hA => ?_)
      obtain ⟨rfl, hb⟩ := ask_0 h.1.t hr ht hs2 hA
      refine v_lor o.ok d_S_leads_42 ?_
      refine v_goto o.ok d_S_leads_43 ?_
      refine n_lret o d_S_leads_47 ⟨_, rfl, ⟨rfl, rfl⟩, fun u => ?_⟩
      rw [lb_or, hw u, hb u]
      unfold LeadR Lead lcP
      constructor
      · rintro (⟨a, b, c, d⟩ | ⟨a, b, c⟩)
        · exact ⟨ht, b, Or.inl ⟨a, c, d⟩⟩
        · exact ⟨ht, b, Or.inr ⟨hs2, a, c⟩⟩
      · rintro ⟨a, b, ⟨c, d, e⟩ | ⟨c, d, e⟩⟩
        · exact Or.inl ⟨c, b, d, e⟩
        · exact Or.inr ⟨d, b, e⟩
  refine v_aload_nq (i := 1) o.ok d_S_leads_0 rfl rfl ?_
  refine n_getr o 35 20 rfl rfl rfl (by decide) lf_S_182 (by first | rfl | exact hvs | exact hvt) d_S_leads_1 (fun r1 => ?_)
  refine n_cQ o (by first | rfl | exact hvs | exact hvt) (c_Q_live D A (N 35 t) N (by rw [eS]; exact hst)) q_Q_live lm_S_186 d_S_leads_4 (by decide) rfl (by first | exact Nat.le_of_ble_eq_true rfl | (simp only [List.map_cons, List.map_nil, cat_rf, J_cat, List.sum_cons, List.sum_nil, cat_lg, cat_rr]; decide)) rfl (n_f ?_)
  first | refine v_ifeq_b o.ok d_S_leads_7 (fun c7 => ?_) (fun c7 => ?_) | refine v_if_eq o.ok (by omega) d_S_leads_7 (fun c7 => ?_) (fun c7 => ?_)
  · have hL : ¬ Liv M t := (fun z => c7 (by rw [eS]; exact z))
    refine v_lconst o.ok d_S_leads_17 rfl ?_
    first
      | exact lp w (fun u => by rw [hw u]; exact ⟨fun z => ⟨hL, z⟩, fun z => z.2⟩)
      | exact lp 0 (fun u => ⟨fun z => absurd z (lb_0 u), fun z => absurd z.1 hL⟩)
  · have hL : Liv M t := (by unfold Liv; rw [← eS]; exact c7)
    refine v_aload_nq (i := 1) o.ok d_S_leads_10 rfl rfl ?_
    refine n_cV o 4 (tg := 11) rfl (by decide) (by decide) (by first | rfl | exact hvs | exact hvt) (c_T_liveChildren D A t N M h.1.t h.2.1 hs ht) q_T_liveChildren lm_S_191 d_S_leads_11 (by decide) rfl (by first | exact Nat.le_of_ble_eq_true rfl | (simp only [List.map_cons, List.map_nil, cat_rf, J_cat, List.sum_cons, List.sum_nil, cat_lg, cat_rr]; decide)) rfl (n_x (fun x11 A11 N11 h11 => ?_))
    obtain ⟨w, rfl, ⟨rfl, rfl⟩, hw⟩ := h11
    refine v_goto o.ok d_S_leads_14 ?_
    first
      | exact lp w (fun u => by rw [hw u]; exact ⟨fun z => ⟨hL, z⟩, fun z => z.2⟩)
      | exact lp 0 (fun u => ⟨fun z => absurd z (lb_0 u), fun z => absurd z.1 hL⟩)

