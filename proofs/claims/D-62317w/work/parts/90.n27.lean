theorem aup_self (A : ASt) (tg : Nat) (i : Int) : aup A tg i (A tg i) = A := by
  funext tg' i'
  unfold aup
  split
  · next h => rw [h.1, h.2]
  · rfl
theorem c_S_make (D : GD) (A : ASt) (t w a b mb mc : Int) (N M : MSt) (h : Sim N M) (hI : Inv mb mc M) (hb : mb ≤ 300) (hc : mc ≤ 900000) (hba : M 11 0 ≤ 1000000) (ht : inM M t) (hl : Liv M t) (hq : ReqOk w a b) (g : GSt) (r : Nat) (hF : Flat D A N g) (hQ : QOb g r w a b) : GCon D y_S_make (wsOf y_S_make b_S_make 3 (some .int)) (8) [.ref (A 0 0), .ref (A 11 t), .ref r] g (QN D fun r A1 N1 => ∃ x, r = some x ∧ x = J (req M t w a b).1 ∧ Fwd N A N1 A1 ∧ Sim N1 (req M t w a b).2) := by
  refine GCon.of (by decide) (by intro v hv; simp at hv; rcases hv with rfl | rfl | rfl <;> rfl) (Nat.le_of_ble_eq_true rfl) (fun X o _ => ?_)
  show V X (RelG D g) 0 [(0, .ref (A 0 0)), (1, .ref (A 11 t)), (2, .ref r)] [] []
  have htn : 0 ≤ t ∧ t < N 51 0 := by rw [h.t.1.2]; exact ht
  have hK : gK g (A 11 t) = 4 := (hF.2.2.1 11 t (by decide) htn).1
  have hA : Fwd N A (qN N t w a b) (aup A 13 t r) := ⟨fun tg v _ _ e => aup_off (fun z => e z.1), by rw [qN_o (by decide) (by decide) (by decide)]; exact Int.le_refl _, by rw [qN_o (by decide) (by decide) (by decide)]; exact Int.le_refl _, qN_o (by decide) (by decide) (by decide)⟩
  refine v_aload_n (i := 1) o.ok d_S_make_0 rfl rfl ?_
  refine v_aload_n (i := 2) o.ok d_S_make_1 rfl rfl ?_
  refine g_putrs o 4 6 6 rfl (by decide) (by decide) lf_S_198 hK rfl (Or.inl rfl) d_S_make_2 ?_
  refine n_out (hF.setQ htn hQ) ?_
  have q := k_make D (aup A 13 t r) t w a b mb mc N A (qN N t w a b) M h hI hb hc hba ht hl hq rfl hA o
  rw [rq_s (tg := 0) (by omega), rq_s (tg := 11) ht.1, rq_s (tg := 13) ht.1, aup_on, aup_off (fun z => absurd z.1 (by decide)), aup_off (fun z => absurd z.1 (by decide))] at q
  exact q
/-- like Fwd, with one request's room spent at most -/
def FwB (N : MSt) (A : ASt) (N1 : MSt) (A1 : ASt) : Prop := Ext N A A1 ∧ N 50 0 ≤ N1 50 0 ∧ N 51 0 ≤ N1 51 0 ∧ N 52 0 - 1 ≤ N1 52 0
theorem FwB.of {N N1 : MSt} {A A1 : ASt} (h : Fwd N A N1 A1) : FwB N A N1 A1 := ⟨h.1, h.2.1, h.2.2.1, by rw [h.2.2.2]; omega⟩
theorem FwB.bud {N N1 : MSt} {A A1 : ASt} (h : Fwd (up N 52 0 (N 52 0 - 1)) A N1 A1) : FwB N A N1 A1 := ⟨h.1, h.2.1, h.2.2.1, by rw [h.2.2.2, up_same]; exact Int.le_refl _⟩
theorem Sim.bud {N M : MSt} (h : Sim N M) (z : Int) : Sim (up N 52 0 z) M := by
  have n : ∀ f : Nat, f ≠ 52 → up N 52 0 z f = N f := fun f a => funext fun i => up_ne (fun q => a q.1)
  have nn : ∀ f : Nat, f ≠ 52 → ∀ i, up N 52 0 z f i = N f i := fun f a i => up_ne (fun q => a q.1)
  refine ⟨?_, ?_, ?_, ?_, ?_⟩
  · exact h.p.c (nn _ (by decide) 0) (nn _ (by decide) 0) (nn _ (by decide) 0) (n _ (by decide)) (n _ (by decide)) (n _ (by decide)) (n _ (by decide)) (n _ (by decide)) (n _ (by decide)) (n _ (by decide)) (n _ (by decide)) rfl rfl rfl rfl rfl rfl rfl rfl rfl rfl rfl rfl
  · exact h.l.c (nn _ (by decide) 0) (nn _ (by decide) 0) (nn _ (by decide) 0) (n _ (by decide)) (n _ (by decide)) (n _ (by decide)) (n _ (by decide)) (n _ (by decide)) (n _ (by decide)) (n _ (by decide)) (n _ (by decide)) (n _ (by decide)) rfl rfl rfl rfl rfl rfl rfl rfl rfl rfl
  · exact h.u.c (n _ (by decide)) (n _ (by decide)) (n _ (by decide)) rfl rfl rfl rfl rfl rfl rfl rfl
  · exact h.t.c (nn _ (by decide) 0) (nn _ (by decide) 0) (n _ (by decide)) (n _ (by decide)) (n _ (by decide)) (n _ (by decide)) (n _ (by decide)) (n _ (by decide)) (n _ (by decide)) (n _ (by decide)) (n _ (by decide)) (n _ (by decide)) (n _ (by decide)) rfl rfl rfl rfl rfl rfl rfl rfl
  · exact h.cc.c (nn _ (by decide) 0) (nn _ (by decide) 0) (nn _ (by decide) 0) rfl rfl rfl rfl rfl rfl rfl rfl rfl
theorem ask_bar {M : MSt} {ok : Prop} {t w a b : Int} (hk : ok) : r_ask M ok t w a b = pick (bar M t = 0) (req M t w a b) (bar M t, M) := by
  unfold r_ask bar
  by_cases h1 : Act M t
  · rw [pick_t (⟨h1, hk⟩ : Act M t ∧ ok), pick_t h1]
    by_cases h2 : Bsy M t
    · rw [pick_t h2, pick_t h2, pick_f (by decide)]
    · rw [pick_f h2, pick_f h2, pick_t rfl]
  · rw [pick_f (fun z => h1 z.1), pick_f h1, pick_f (by decide)]
theorem ask_no {M : MSt} {ok : Prop} {t w a b : Int} (hk : ¬ ok) : r_ask M ok t w a b = (-1, M) := by
  unfold r_ask
  rw [pick_f (fun z => hk z.2)]
theorem bar_in (M : MSt) (t : Int) : InR (bar M t) := by
  unfold bar
  by_cases c : Act M t
  · rw [pick_t c]
    by_cases d : Bsy M t
    · rw [pick_t d]; decide
    · rw [pick_f d]; decide
  · rw [pick_f c]; decide
theorem bar_act {M : MSt} {t : Int} (h : bar M t = 0) : Act M t := Classical.byContradiction fun c => by
  unfold bar at h
  rw [pick_f c] at h
  exact absurd h (by decide)
/-- a new request in the heap -/
theorem newQ_1 {D : GD} {A : ASt} {N : MSt} {g : GSt} {H : Heap} (h : Flat D A N g) (hR : RelG D g H) (hb : 1 ≤ N 52 0) (c : Nat) (k : Int) : Flat D A (up N 52 0 (N 52 0 - 1)) (uI (gnw g c 0) c 0 (gZ g) k) := by
  refine h.newQ hR hb (fun c' k' x e => ?_) (fun c' k' x e => ?_) (fun x e => ⟨gnw_K e, gnw_L e⟩) rfl
  · rw [uI_off (fun z => e z.2.2), gnw_I e]
  · exact gnw_R (c := c) (m := 0) e
theorem newQ_2 {D : GD} {A : ASt} {N : MSt} {g : GSt} {H : Heap} (h : Flat D A N g) (hR : RelG D g H) (hb : 1 ≤ N 52 0) (c : Nat) (k v : Int) : Flat D A (up N 52 0 (N 52 0 - 1)) (uI (uI (gnw g c 0) c 0 (gZ g) k) c 1 (gZ g) v) := by
  refine h.newQ hR hb (fun c' k' x e => ?_) (fun c' k' x e => ?_) (fun x e => ⟨gnw_K e, gnw_L e⟩) rfl
  · rw [uI_off (fun z => e z.2.2), uI_off (fun z => e z.2.2), gnw_I e]
  · exact gnw_R (c := c) (m := 0) e
theorem QOb_1 (g : GSt) (c : Nat) (k : Int) (hc : c = 5 ∨ c = 7) : QOb (uI (gnw g c 0) c 0 (gZ g) k) (gZ g) ((c : Int) - 4) k 0 := by
  have e : 4 + ((c : Int) - 4).toNat = c := by omega
  refine ⟨by omega, ?_, ?_, fun z => by omega⟩
  · rw [e]; exact gnw_K0 (g := g) (c := c) (m := 0)
  · rw [e]; exact uI_on
theorem QOb_2 (g : GSt) (c : Nat) (k v : Int) (hc : c = 6 ∨ c = 8) : QOb (uI (uI (gnw g c 0) c 0 (gZ g) k) c 1 (gZ g) v) (gZ g) ((c : Int) - 4) k v := by
  have e : 4 + ((c : Int) - 4).toNat = c := by omega
  refine ⟨by omega, ?_, ?_, fun _ => ?_⟩
  · rw [e]; exact gnw_K0 (g := g) (c := c) (m := 0)
  · rw [e, uI_off (fun z => absurd z.2.1 (by decide))]; exact uI_on
  · rw [e]; exact uI_on
set_option maxHeartbeats 4000000 in
set_option maxRecDepth 20000 in
theorem c_S_get (D : GD) (A : ASt) (t k mb mc : Int) (N M : MSt) (h : Sim N M) (hI : Inv mb mc M) (hb : mb ≤ 300) (hc : mc ≤ 900000) (hba : M 11 0 ≤ 1000000) (hr : InR t) (hk : InR k) (hbud : 1 ≤ N 52 0) : NX D y_S_get (wsOf y_S_get b_S_get 5 (some .int)) (9) [rq A 0 (0), J (t), J (k)] A N (fun x A1 N1 => x = J (r_ask M (0 ≤ k ∧ k ≤ 31) t 1 k 0).1 ∧ FwB N A N1 A1 ∧ Sim N1 (r_ask M (0 ≤ k ∧ k ≤ 31) t 1 k 0).2) := by
  refine NCon.of (by decide) (by simp [cat_rf, J_cat]) (Nat.le_of_ble_eq_true rfl) ?_
  intro X g0 o
  show V X (RelN D A N) 0 [(0, rq A 0 (0)), (1, J (t)), (2, J (k))] [] []
  have hi := hI.iv hb hc hba
  obtain ⟨hw, hd, hs, hl, hv⟩ := hi
  have hbi := bar_in M t
  have rA : bar M t ≠ 0 → (0 ≤ k ∧ k ≤ 31) → J (bar M t) = J (r_ask M (0 ≤ k ∧ k ≤ 31) t 1 k 0).1 ∧ FwB N A N A ∧ Sim N (r_ask M (0 ≤ k ∧ k ≤ 31) t 1 k 0).2 := fun h1 h2 => by
    rw [ask_bar h2, pick_f h1]
    exact ⟨rfl, FwB.of (Fwd.rf N A), h⟩
  have rB : ¬ (0 ≤ k ∧ k ≤ 31) → J (-1) = J (r_ask M (0 ≤ k ∧ k ≤ 31) t 1 k 0).1 ∧ FwB N A N A ∧ Sim N (r_ask M (0 ≤ k ∧ k ≤ 31) t 1 k 0).2 := fun h2 => by
    rw [ask_no h2]
    exact ⟨rfl, FwB.of (Fwd.rf N A), h⟩
  have k36 : ∀ z4 : Int, (0 ≤ k ∧ k ≤ 31) → bar M t = 0 → V X (RelN D A N) 36 [(0, rq A 0 0), (1, J t), (2, J k), (3, rq A 11 t), (4, J z4)] [] [] := by
    intro z4 hk1 hbz
    have ha := bar_act hbz
    have htn : 0 ≤ t ∧ t < N 51 0 := by rw [h.t.1.2]; exact ha.1
    have er : r_ask M (0 ≤ k ∧ k ≤ 31) t 1 k 0 = req M t 1 k 0 := by rw [ask_bar hk1, pick_t hbz]
    refine v_aload_nq (i := 0) o.ok d_S_get_36 rfl rfl ?_
    refine v_aload_nq (i := 3) o.ok d_S_get_37 rfl rfl ?_
    refine n_in fun g hF => ?_
    have hC := hF.2.2.2.2.2.1
    have h0a : gK g (A 0 0) = 1 := (hF.2.2.1 0 0 (by decide) rfl).1
    refine V.get (fun H hR => (⟨newQ_1 hF hR hbud 5 k, fun b z => by have := (hR.2.1 b z).1; omega⟩ : Flat D A (up N 52 0 (N 52 0 - 1)) (uI (gnw g 5 0) 5 0 (gZ g) k) ∧ ∀ b, gK g b ≠ 0 → b ≠ gZ g)) fun ⟨hE1, hE2⟩ => ?_
    refine g_new o 5 (by decide) jc_S_270 ji_RG in_RG (by have := hC.2.2.2; have := hC.2.1; have := hC.1; omega) d_S_get_38 ?_
    refine v_dup o.ok d_S_get_41 rfl ?_
    refine v_iload_n (i := 2) o.ok d_S_get_42 rfl rfl ?_
    (try simp only [rq])
    rw [rfv_s (A := A) (tg := 0) (v := 0) (by omega), rfv_s (A := A) (tg := 11) (v := t) htn.1]
    refine g_cIN o (c_RG_init D (gnw g 5 0) (gZ g) k gnw_K0 hk) q_RG_init ln_S_272 d_S_get_43 (by decide) rfl (by first | exact Nat.le_of_ble_eq_true rfl | (simp only [List.map_cons, List.map_nil, cat_rf, J_cat, List.sum_cons, List.sum_nil, cat_lg, cat_rr]; decide)) rfl (fun r g1 hh => ?_)
    obtain ⟨rfl, rfl⟩ := hh
    show V X (RelG D (uI (gnw g 5 0) 5 0 (gZ g) k)) 46 _ _ (.ref (gZ g) :: .ref (A 11 t) :: .ref (A 0 0) :: [])
    have hmk := c_S_make D A t 1 k 0 mb mc (up N 52 0 (N 52 0 - 1)) M (h.bud _) hI hb hc hba ha.1 (Or.inl ha.2) (by exact Or.inl ⟨by omega, hk1⟩) _ (gZ g) hE1 (QOb_1 g 5 k (by decide))
    refine g_cV o 1 (by decide) ((gnw_K (hE2 (A 0 0) (by omega))).trans h0a) hmk q_S_make lm_S_273 d_S_get_46 (by decide) rfl (by first | exact Nat.le_of_ble_eq_true rfl | (simp only [List.map_cons, List.map_nil, cat_rf, J_cat, List.sum_cons, List.sum_nil, cat_lg, cat_rr]; decide)) rfl (fun r g3 hh => ?_)
    obtain ⟨A1, N1, hF3, x, rfl, rfl, hfw, hsm⟩ := hh
    refine n_out hF3 ?_
    exact n_iret o d_S_get_49 ⟨by rw [er], FwB.bud hfw, by rw [er]; exact hsm⟩
  by_cases hm : inM M t
  · skip
    refine v_aload_nq (i := 0) o.ok d_S_get_0 rfl rfl ?_
    refine v_iload_n (i := 1) o.ok d_S_get_1 rfl rfl ?_
    refine n_cV o 1 (tg := 0) rfl (by decide) (by decide) (by first | rfl | assumption | exact And.intro (by omega) (by omega)) (c_S_findI D A t N M h.t hw.par hm) q_S_find lm_S_240 d_S_get_2 (by decide) rfl (by first | exact Nat.le_of_ble_eq_true rfl | (simp only [List.map_cons, List.map_nil, cat_rf, J_cat, List.sum_cons, List.sum_nil, cat_lg, cat_rr]; decide)) rfl (n_f ?_)
    refine v_astore_nq (i := 3) (L' := [(0, _), (1, _), (2, _), (3, _)]) (G' := []) o.ok d_S_get_5 rfl (o.lt (by decide)) rfl rfl ?_
    refine v_iload_n (i := 2) o.ok d_S_get_6 rfl rfl ?_
    refine v_iconst o.ok d_S_get_7 ?_
    refine v_bipush o.ok d_S_get_8 rfl ?_
    refine n_cS o (c_S_outside D A k 0 31 N hk (by omega) (by omega)) q_S_outside lm_S_53 d_S_get_10 (by decide) rfl (by first | exact Nat.le_of_ble_eq_true rfl | (simp only [List.map_cons, List.map_nil, cat_rf, J_cat, List.sum_cons, List.sum_nil, cat_lg, cat_rr]; decide)) rfl (n_f ?_)
    first | refine v_ifeq_b o.ok d_S_get_13 (fun c13 => ?_) (fun c13 => ?_) | refine v_if_eq o.ok (by omega) d_S_get_13 (fun c13 => ?_) (fun c13 => ?_)
    · refine v_aload_nq (i := 3) o.ok d_S_get_20 rfl rfl ?_
      refine n_cS o (c_S_bar D A t N M h.t hw.par hs hm) q_S_bar lm_S_267 d_S_get_21 (by decide) rfl (by first | exact Nat.le_of_ble_eq_true rfl | (simp only [List.map_cons, List.map_nil, cat_rf, J_cat, List.sum_cons, List.sum_nil, cat_lg, cat_rr]; decide)) rfl (n_f ?_)
      refine v_istore (i := 4) (L' := [(0, _), (1, _), (2, _), (3, _), (4, _)]) (G' := []) o.ok d_S_get_24 (o.lt (by decide)) rfl rfl ?_
      refine v_iload (i := 4) o.ok d_S_get_26 rfl ?_
      refine v_if_eq o.ok (by omega) d_S_get_28 (fun c28 => ?_) (fun c28 => ?_)
      · first | (exfalso; omega) | exact k36 _ (by omega) (by assumption)
      · refine v_iload (i := 4) o.ok d_S_get_31 rfl ?_
        refine v_goto o.ok d_S_get_33 ?_
        refine n_iret o d_S_get_49 (by first | exact rA (by assumption) (by omega) | exact rB (by omega))
    · refine v_iconst o.ok d_S_get_16 ?_
      refine v_goto o.ok d_S_get_17 ?_
      refine v_istore (i := 4) (L' := [(0, _), (1, _), (2, _), (3, _), (4, _)]) (G' := []) o.ok d_S_get_24 (o.lt (by decide)) rfl rfl ?_
      refine v_iload (i := 4) o.ok d_S_get_26 rfl ?_
      refine v_if_eq o.ok (by omega) d_S_get_28 (fun c28 => ?_) (fun c28 => ?_)
      · first | (exfalso; omega) | exact k36 _ (by omega) (by assumption)
      · refine v_iload (i := 4) o.ok d_S_get_31 rfl ?_
        refine v_goto o.ok d_S_get_33 ?_
        refine n_iret o d_S_get_49 (by first | exact rA (by assumption) (by omega) | exact rB (by omega))
  · have eb : bar M t = -1 := pick_f (fun q => hm q.1)
    have er : r_ask M (0 ≤ k ∧ k ≤ 31) t 1 k 0 = (-1, M) := by unfold r_ask; rw [pick_f (fun z => hm z.1.1)]
    refine v_aload_nq (i := 0) o.ok d_S_get_0 rfl rfl ?_
    refine v_iload_n (i := 1) o.ok d_S_get_1 rfl rfl ?_
    refine n_cV o 1 (tg := 0) rfl (by decide) (by decide) (by first | rfl | assumption | exact And.intro (by omega) (by omega)) (c_S_findN D A t N M h.t hw.par hm hr) q_S_find lm_S_240 d_S_get_2 (by decide) rfl (by first | exact Nat.le_of_ble_eq_true rfl | (simp only [List.map_cons, List.map_nil, cat_rf, J_cat, List.sum_cons, List.sum_nil, cat_lg, cat_rr]; decide)) rfl (n_f ?_)
    refine v_astore_nq (i := 3) (L' := [(0, _), (1, _), (2, _), (3, _)]) (G' := []) o.ok d_S_get_5 rfl (o.lt (by decide)) rfl rfl ?_
    refine v_iload_n (i := 2) o.ok d_S_get_6 rfl rfl ?_
    refine v_iconst o.ok d_S_get_7 ?_
    refine v_bipush o.ok d_S_get_8 rfl ?_
    refine n_cS o (c_S_outside D A k 0 31 N hk (by omega) (by omega)) q_S_outside lm_S_53 d_S_get_10 (by decide) rfl (by first | exact Nat.le_of_ble_eq_true rfl | (simp only [List.map_cons, List.map_nil, cat_rf, J_cat, List.sum_cons, List.sum_nil, cat_lg, cat_rr]; decide)) rfl (n_f ?_)
    first | refine v_ifeq_b o.ok d_S_get_13 (fun c13 => ?_) (fun c13 => ?_) | refine v_if_eq o.ok (by omega) d_S_get_13 (fun c13 => ?_) (fun c13 => ?_)
    · refine v_aload_nq (i := 3) o.ok d_S_get_20 rfl rfl ?_
      refine n_cS o (c_S_barN D A N) q_S_bar lm_S_267 d_S_get_21 (by decide) rfl (by first | exact Nat.le_of_ble_eq_true rfl | (simp only [List.map_cons, List.map_nil, cat_rf, J_cat, List.sum_cons, List.sum_nil, cat_lg, cat_rr]; decide)) rfl (n_f ?_)
      refine v_istore (i := 4) (L' := [(0, _), (1, _), (2, _), (3, _), (4, _)]) (G' := []) o.ok d_S_get_24 (o.lt (by decide)) rfl rfl ?_
      refine v_iload (i := 4) o.ok d_S_get_26 rfl ?_
      refine v_if_eq o.ok (by omega) d_S_get_28 (fun c28 => ?_) (fun c28 => ?_)
      · exfalso; omega
      · refine v_iload (i := 4) o.ok d_S_get_31 rfl ?_
        refine v_goto o.ok d_S_get_33 ?_
        refine n_iret o d_S_get_49 (by rw [er]; exact ⟨rfl, FwB.of (Fwd.rf N A), h⟩)
    · refine v_iconst o.ok d_S_get_16 ?_
      refine v_goto o.ok d_S_get_17 ?_
      refine v_istore (i := 4) (L' := [(0, _), (1, _), (2, _), (3, _), (4, _)]) (G' := []) o.ok d_S_get_24 (o.lt (by decide)) rfl rfl ?_
      refine v_iload (i := 4) o.ok d_S_get_26 rfl ?_
      refine v_if_eq o.ok (by omega) d_S_get_28 (fun c28 => ?_) (fun c28 => ?_)
      · exfalso; omega
      · refine v_iload (i := 4) o.ok d_S_get_31 rfl ?_
        refine v_goto o.ok d_S_get_33 ?_
        refine n_iret o d_S_get_49 (by rw [er]; exact ⟨rfl, FwB.of (Fwd.rf N A), h⟩)
set_option maxHeartbeats 4000000 in
set_option maxRecDepth 20000 in
theorem c_S_delete (D : GD) (A : ASt) (t k mb mc : Int) (N M : MSt) (h : Sim N M) (hI : Inv mb mc M) (hb : mb ≤ 300) (hc : mc ≤ 900000) (hba : M 11 0 ≤ 1000000) (hr : InR t) (hk : InR k) (hbud : 1 ≤ N 52 0) : NX D y_S_delete (wsOf y_S_delete b_S_delete 5 (some .int)) (9) [rq A 0 (0), J (t), J (k)] A N (fun x A1 N1 => x = J (r_ask M (0 ≤ k ∧ k ≤ 31) t 3 k 0).1 ∧ FwB N A N1 A1 ∧ Sim N1 (r_ask M (0 ≤ k ∧ k ≤ 31) t 3 k 0).2) := by
  refine NCon.of (by decide) (by simp [cat_rf, J_cat]) (Nat.le_of_ble_eq_true rfl) ?_
  intro X g0 o
  show V X (RelN D A N) 0 [(0, rq A 0 (0)), (1, J (t)), (2, J (k))] [] []
  have hi := hI.iv hb hc hba
  obtain ⟨hw, hd, hs, hl, hv⟩ := hi
  have hbi := bar_in M t
  have rA : bar M t ≠ 0 → (0 ≤ k ∧ k ≤ 31) → J (bar M t) = J (r_ask M (0 ≤ k ∧ k ≤ 31) t 3 k 0).1 ∧ FwB N A N A ∧ Sim N (r_ask M (0 ≤ k ∧ k ≤ 31) t 3 k 0).2 := fun h1 h2 => by
    rw [ask_bar h2, pick_f h1]
    exact ⟨rfl, FwB.of (Fwd.rf N A), h⟩
  have rB : ¬ (0 ≤ k ∧ k ≤ 31) → J (-1) = J (r_ask M (0 ≤ k ∧ k ≤ 31) t 3 k 0).1 ∧ FwB N A N A ∧ Sim N (r_ask M (0 ≤ k ∧ k ≤ 31) t 3 k 0).2 := fun h2 => by
    rw [ask_no h2]
    exact ⟨rfl, FwB.of (Fwd.rf N A), h⟩
  have k36 : ∀ z4 : Int, (0 ≤ k ∧ k ≤ 31) → bar M t = 0 → V X (RelN D A N) 36 [(0, rq A 0 0), (1, J t), (2, J k), (3, rq A 11 t), (4, J z4)] [] [] := by
    intro z4 hk1 hbz
    have ha := bar_act hbz
    have htn : 0 ≤ t ∧ t < N 51 0 := by rw [h.t.1.2]; exact ha.1
    have er : r_ask M (0 ≤ k ∧ k ≤ 31) t 3 k 0 = req M t 3 k 0 := by rw [ask_bar hk1, pick_t hbz]
    refine v_aload_nq (i := 0) o.ok d_S_delete_36 rfl rfl ?_
    refine v_aload_nq (i := 3) o.ok d_S_delete_37 rfl rfl ?_
    refine n_in fun g hF => ?_
    have hC := hF.2.2.2.2.2.1
    have h0a : gK g (A 0 0) = 1 := (hF.2.2.1 0 0 (by decide) rfl).1
    refine V.get (fun H hR => (⟨newQ_1 hF hR hbud 7 k, fun b z => by have := (hR.2.1 b z).1; omega⟩ : Flat D A (up N 52 0 (N 52 0 - 1)) (uI (gnw g 7 0) 7 0 (gZ g) k) ∧ ∀ b, gK g b ≠ 0 → b ≠ gZ g)) fun ⟨hE1, hE2⟩ => ?_
    refine g_new o 7 (by decide) jc_S_282 ji_RD in_RD (by have := hC.2.2.2; have := hC.2.1; have := hC.1; omega) d_S_delete_38 ?_
    refine v_dup o.ok d_S_delete_41 rfl ?_
    refine v_iload_n (i := 2) o.ok d_S_delete_42 rfl rfl ?_
    (try simp only [rq])
    rw [rfv_s (A := A) (tg := 0) (v := 0) (by omega), rfv_s (A := A) (tg := 11) (v := t) htn.1]
    refine g_cIN o (c_RD_init D (gnw g 7 0) (gZ g) k gnw_K0 hk) q_RD_init ln_S_284 d_S_delete_43 (by decide) rfl (by first | exact Nat.le_of_ble_eq_true rfl | (simp only [List.map_cons, List.map_nil, cat_rf, J_cat, List.sum_cons, List.sum_nil, cat_lg, cat_rr]; decide)) rfl (fun r g1 hh => ?_)
    obtain ⟨rfl, rfl⟩ := hh
    show V X (RelG D (uI (gnw g 7 0) 7 0 (gZ g) k)) 46 _ _ (.ref (gZ g) :: .ref (A 11 t) :: .ref (A 0 0) :: [])
    have hmk := c_S_make D A t 3 k 0 mb mc (up N 52 0 (N 52 0 - 1)) M (h.bud _) hI hb hc hba ha.1 (Or.inl ha.2) (by exact Or.inl ⟨by omega, hk1⟩) _ (gZ g) hE1 (QOb_1 g 7 k (by decide))
    refine g_cV o 1 (by decide) ((gnw_K (hE2 (A 0 0) (by omega))).trans h0a) hmk q_S_make lm_S_273 d_S_delete_46 (by decide) rfl (by first | exact Nat.le_of_ble_eq_true rfl | (simp only [List.map_cons, List.map_nil, cat_rf, J_cat, List.sum_cons, List.sum_nil, cat_lg, cat_rr]; decide)) rfl (fun r g3 hh => ?_)
    obtain ⟨A1, N1, hF3, x, rfl, rfl, hfw, hsm⟩ := hh
    refine n_out hF3 ?_
    exact n_iret o d_S_delete_49 ⟨by rw [er], FwB.bud hfw, by rw [er]; exact hsm⟩
  by_cases hm : inM M t
  · skip
    refine v_aload_nq (i := 0) o.ok d_S_delete_0 rfl rfl ?_
    refine v_iload_n (i := 1) o.ok d_S_delete_1 rfl rfl ?_
    refine n_cV o 1 (tg := 0) rfl (by decide) (by decide) (by first | rfl | assumption | exact And.intro (by omega) (by omega)) (c_S_findI D A t N M h.t hw.par hm) q_S_find lm_S_240 d_S_delete_2 (by decide) rfl (by first | exact Nat.le_of_ble_eq_true rfl | (simp only [List.map_cons, List.map_nil, cat_rf, J_cat, List.sum_cons, List.sum_nil, cat_lg, cat_rr]; decide)) rfl (n_f ?_)
    refine v_astore_nq (i := 3) (L' := [(0, _), (1, _), (2, _), (3, _)]) (G' := []) o.ok d_S_delete_5 rfl (o.lt (by decide)) rfl rfl ?_
    refine v_iload_n (i := 2) o.ok d_S_delete_6 rfl rfl ?_
    refine v_iconst o.ok d_S_delete_7 ?_
    refine v_bipush o.ok d_S_delete_8 rfl ?_
    refine n_cS o (c_S_outside D A k 0 31 N hk (by omega) (by omega)) q_S_outside lm_S_53 d_S_delete_10 (by decide) rfl (by first | exact Nat.le_of_ble_eq_true rfl | (simp only [List.map_cons, List.map_nil, cat_rf, J_cat, List.sum_cons, List.sum_nil, cat_lg, cat_rr]; decide)) rfl (n_f ?_)
    first | refine v_ifeq_b o.ok d_S_delete_13 (fun c13 => ?_) (fun c13 => ?_) | refine v_if_eq o.ok (by omega) d_S_delete_13 (fun c13 => ?_) (fun c13 => ?_)
    · refine v_aload_nq (i := 3) o.ok d_S_delete_20 rfl rfl ?_
      refine n_cS o (c_S_bar D A t N M h.t hw.par hs hm) q_S_bar lm_S_267 d_S_delete_21 (by decide) rfl (by first | exact Nat.le_of_ble_eq_true rfl | (simp only [List.map_cons, List.map_nil, cat_rf, J_cat, List.sum_cons, List.sum_nil, cat_lg, cat_rr]; decide)) rfl (n_f ?_)
      refine v_istore (i := 4) (L' := [(0, _), (1, _), (2, _), (3, _), (4, _)]) (G' := []) o.ok d_S_delete_24 (o.lt (by decide)) rfl rfl ?_
      refine v_iload (i := 4) o.ok d_S_delete_26 rfl ?_
      refine v_if_eq o.ok (by omega) d_S_delete_28 (fun c28 => ?_) (fun c28 => ?_)
      · first | (exfalso; omega) | exact k36 _ (by omega) (by assumption)
      · refine v_iload (i := 4) o.ok d_S_delete_31 rfl ?_
        refine v_goto o.ok d_S_delete_33 ?_
        refine n_iret o d_S_delete_49 (by first | exact rA (by assumption) (by omega) | exact rB (by omega))
    · refine v_iconst o.ok d_S_delete_16 ?_
      refine v_goto o.ok d_S_delete_17 ?_
      refine v_istore (i := 4) (L' := [(0, _), (1, _), (2, _), (3, _), (4, _)]) (G' := []) o.ok d_S_delete_24 (o.lt (by decide)) rfl rfl ?_
      refine v_iload (i := 4) o.ok d_S_delete_26 rfl ?_
      refine v_if_eq o.ok (by omega) d_S_delete_28 (fun c28 => ?_) (fun c28 => ?_)
      · first | (exfalso; omega) | exact k36 _ (by omega) (by assumption)
      · refine v_iload (i := 4) o.ok d_S_delete_31 rfl ?_
        refine v_goto o.ok d_S_delete_33 ?_
        refine n_iret o d_S_delete_49 (by first | exact rA (by assumption) (by omega) | exact rB (by omega))
  · have eb : bar M t = -1 := pick_f (fun q => hm q.1)
    have er : r_ask M (0 ≤ k ∧ k ≤ 31) t 3 k 0 = (-1, M) := by unfold r_ask; rw [pick_f (fun z => hm z.1.1)]
    refine v_aload_nq (i := 0) o.ok d_S_delete_0 rfl rfl ?_
    refine v_iload_n (i := 1) o.ok d_S_delete_1 rfl rfl ?_
    refine n_cV o 1 (tg := 0) rfl (by decide) (by decide) (by first | rfl | assumption | exact And.intro (by omega) (by omega)) (c_S_findN D A t N M h.t hw.par hm hr) q_S_find lm_S_240 d_S_delete_2 (by decide) rfl (by first | exact Nat.le_of_ble_eq_true rfl | (simp only [List.map_cons, List.map_nil, cat_rf, J_cat, List.sum_cons, List.sum_nil, cat_lg, cat_rr]; decide)) rfl (n_f ?_)
    refine v_astore_nq (i := 3) (L' := [(0, _), (1, _), (2, _), (3, _)]) (G' := []) o.ok d_S_delete_5 rfl (o.lt (by decide)) rfl rfl ?_
    refine v_iload_n (i := 2) o.ok d_S_delete_6 rfl rfl ?_
    refine v_iconst o.ok d_S_delete_7 ?_
    refine v_bipush o.ok d_S_delete_8 rfl ?_
    refine n_cS o (c_S_outside D A k 0 31 N hk (by omega) (by omega)) q_S_outside lm_S_53 d_S_delete_10 (by decide) rfl (by first | exact Nat.le_of_ble_eq_true rfl | (simp only [List.map_cons, List.map_nil, cat_rf, J_cat, List.sum_cons, List.sum_nil, cat_lg, cat_rr]; decide)) rfl (n_f ?_)
    first | refine v_ifeq_b o.ok d_S_delete_13 (fun c13 => ?_) (fun c13 => ?_) | refine v_if_eq o.ok (by omega) d_S_delete_13 (fun c13 => ?_) (fun c13 => ?_)
    · refine v_aload_nq (i := 3) o.ok d_S_delete_20 rfl rfl ?_
      refine n_cS o (c_S_barN D A N) q_S_bar lm_S_267 d_S_delete_21 (by decide) rfl (by first | exact Nat.le_of_ble_eq_true rfl | (simp only [List.map_cons, List.map_nil, cat_rf, J_cat, List.sum_cons, List.sum_nil, cat_lg, cat_rr]; decide)) rfl (n_f ?_)
      refine v_istore (i := 4) (L' := [(0, _), (1, _), (2, _), (3, _), (4, _)]) (G' := []) o.ok d_S_delete_24 (o.lt (by decide)) rfl rfl ?_
      refine v_iload (i := 4) o.ok d_S_delete_26 rfl ?_
      refine v_if_eq o.ok (by omega) d_S_delete_28 (fun c28 => ?_) (fun c28 => ?_)
      · exfalso; omega
      · refine v_iload (i := 4) o.ok d_S_delete_31 rfl ?_
        refine v_goto o.ok d_S_delete_33 ?_
        refine n_iret o d_S_delete_49 (by rw [er]; exact ⟨rfl, FwB.of (Fwd.rf N A), h⟩)
    · refine v_iconst o.ok d_S_delete_16 ?_
      refine v_goto o.ok d_S_delete_17 ?_
      refine v_istore (i := 4) (L' := [(0, _), (1, _), (2, _), (3, _), (4, _)]) (G' := []) o.ok d_S_delete_24 (o.lt (by decide)) rfl rfl ?_
      refine v_iload (i := 4) o.ok d_S_delete_26 rfl ?_
      refine v_if_eq o.ok (by omega) d_S_delete_28 (fun c28 => ?_) (fun c28 => ?_)
      · exfalso; omega
      · refine v_iload (i := 4) o.ok d_S_delete_31 rfl ?_
        refine v_goto o.ok d_S_delete_33 ?_
        refine n_iret o d_S_delete_49 (by rw [er]; exact ⟨rfl, FwB.of (Fwd.rf N A), h⟩)

