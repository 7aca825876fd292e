def eS (N : MSt) (r l kd t k : Int) : MSt := up (up (up (up (up (up (up (up (up (up (up N 20 r l) 21 r kd) 22 r t) 23 r k) 24 r 0) 25 r 0) 26 r 0) 27 r 0) 28 r (-1)) 29 r 0) 30 r (-1)
def ntN (N : MSt) (kd t k : Int) : MSt := up (eS (up N 3 0 (N 3 0 + 1)) (N 3 0) (N 4 0 + (N 3 0 + 1)) kd t k) 50 0 (if N 3 0 < N 50 0 then N 50 0 else N 3 0 + 1)
theorem eS_o {N : MSt} {r l kd t k i : Int} {f : Nat} (h : ¬ (20 ≤ f ∧ f ≤ 30 ∧ i = r)) : eS N r l kd t k f i = N f i := by
  unfold eS
  rw [up_ne (by omega), up_ne (by omega), up_ne (by omega), up_ne (by omega), up_ne (by omega), up_ne (by omega), up_ne (by omega), up_ne (by omega), up_ne (by omega), up_ne (by omega), up_ne (by omega)]
theorem eS_c {N N' : MSt} {r l kd t k : Int} {f : Nat} (h : 20 ≤ f ∧ f ≤ 30) : eS N r l kd t k f r = eS N' r l kd t k f r := by
  rcases (show f = 20 ∨ f = 21 ∨ f = 22 ∨ f = 23 ∨ f = 24 ∨ f = 25 ∨ f = 26 ∨ f = 27 ∨ f = 28 ∨ f = 29 ∨ f = 30 from by omega) with rfl | rfl | rfl | rfl | rfl | rfl | rfl | rfl | rfl | rfl | rfl <;> simp [eS, up]
theorem ntN_nE {N : MSt} {kd t k : Int} (h : N 3 0 = N 50 0) : eS (up (nE N) 3 0 (N 3 0 + 1)) (N 3 0) (N 4 0 + (N 3 0 + 1)) kd t k = ntN N kd t k := by
  funext f i
  unfold ntN
  rw [if_neg (by omega)]
  by_cases c : 20 ≤ f ∧ f ≤ 30 ∧ i = N 3 0
  · obtain ⟨c1, c2, rfl⟩ := c
    rw [up_ne (fun z => by omega)]
    exact eS_c ⟨c1, c2⟩
  · rw [eS_o c]
    by_cases d : f = 50 ∧ i = 0
    · obtain ⟨rfl, rfl⟩ := d
      rw [up_same, up_ne (by simp)]
      show N 50 0 + 1 = _
      omega
    · rw [up_ne d, eS_o c]
      by_cases e : f = 3 ∧ i = 0
      · obtain ⟨rfl, rfl⟩ := e
        rw [up_same, up_same]
      · rw [up_ne e, up_ne e]
        unfold nE
        rw [if_neg d, if_neg (fun z => c (by
          have h1 : ∀ f, f < 39 → fTg f = 10 → 20 ≤ f ∧ f ≤ 30 := by decide +kernel
          have := h1 f (tb_f39 f (by rw [z.1]; decide)) z.1
          exact ⟨this.1, this.2, by rw [h]; exact z.2⟩))]
theorem up_self (N : MSt) (f : Nat) (i : Int) : up N f i (N f i) = N := by
  funext f' i'
  unfold up
  by_cases e : f' = f ∧ i' = i
  · rw [if_pos e, e.1, e.2]
  · rw [if_neg e]
theorem ntN_1 {N : MSt} {kd t k : Int} (h : N 3 0 < N 50 0) : eS (up N 3 0 (N 3 0 + 1)) (N 3 0) (N 4 0 + (N 3 0 + 1)) kd t k = ntN N kd t k := by
  unfold ntN
  rw [if_pos h]
  have e : eS (up N 3 0 (N 3 0 + 1)) (N 3 0) (N 4 0 + (N 3 0 + 1)) kd t k 50 0 = N 50 0 := by
    rw [eS_o (by omega)]; rfl
  have := up_self (eS (up N 3 0 (N 3 0 + 1)) (N 3 0) (N 4 0 + (N 3 0 + 1)) kd t k) 50 0
  rw [e] at this
  exact this.symm
set_option maxHeartbeats 4000000 in
set_option maxRecDepth 20000 in
theorem c_E_set (D : GD) (A : ASt) (r l kd t k : Int) (N : MSt) (hr : Vld N 10 r) (hk : Vld N 21 kd) (ht : Vld N 11 t) (hl : InR l) (hky : InR k) : NE D y_E_set (wsOf y_E_set b_E_set 5 none) (0) [rq A 10 (r), J (l), rq A 21 (kd), rq A 11 (t), J (k)] A N (eS N r l kd t k) := by
  refine NCon.of (by decide) (by simp [cat_rf, J_cat]) (Nat.le_of_ble_eq_true rfl) ?_
  intro X g0 o
  show V X (RelN D A N) 0 [(0, rq A 10 (r)), (1, J (l)), (2, rq A 21 (kd)), (3, rq A 11 (t)), (4, J (k))] [] []
  have hk2 : Rok N 21 kd := Or.inr hk
  have ht2 : Rok N 11 t := Or.inr ht
  refine v_aload_nq (i := 0) o.ok d_E_set_0 rfl rfl ?_
  refine v_iload_n (i := 1) o.ok d_E_set_1 rfl rfl ?_
  refine n_puti o 20 rfl rfl rfl rfl lf_E_7 (by first | rfl | assumption | exact And.intro (by omega) (by omega)) (by first | assumption | exact Or.inl rfl | omega) d_E_set_2 ?_
  refine v_aload_nq (i := 0) o.ok d_E_set_5 rfl rfl ?_
  refine v_aload_nq (i := 2) o.ok d_E_set_6 rfl rfl ?_
  refine n_putr o 21 21 rfl rfl rfl (by decide) rfl lf_E_13 (by first | rfl | assumption | exact And.intro (by omega) (by omega)) (by first | assumption | exact Or.inl rfl | omega) d_E_set_7 ?_
  refine v_aload_nq (i := 0) o.ok d_E_set_10 rfl rfl ?_
  refine v_aload_nq (i := 3) o.ok d_E_set_11 rfl rfl ?_
  refine n_putr o 22 11 rfl rfl rfl (by decide) rfl lf_E_17 (by first | rfl | assumption | exact And.intro (by omega) (by omega)) (by first | assumption | exact Or.inl rfl | omega) d_E_set_12 ?_
  refine v_aload_nq (i := 0) o.ok d_E_set_15 rfl rfl ?_
  refine v_iload (i := 4) o.ok d_E_set_16 rfl ?_
  refine n_puti o 23 rfl rfl rfl rfl lf_E_21 (by first | rfl | assumption | exact And.intro (by omega) (by omega)) (by first | assumption | exact Or.inl rfl | omega) d_E_set_18 ?_
  refine v_aload_nq (i := 0) o.ok d_E_set_21 rfl rfl ?_
  refine v_iconst o.ok d_E_set_22 ?_
  refine n_putz o 24 rfl rfl rfl rfl lf_E_24 (by first | rfl | assumption | exact And.intro (by omega) (by omega)) (by first | assumption | exact Or.inl rfl | omega) d_E_set_23 ?_
  refine v_aload_nq (i := 0) o.ok d_E_set_26 rfl rfl ?_
  refine v_iconst o.ok d_E_set_27 ?_
  refine n_puti o 25 rfl rfl rfl rfl lf_E_28 (by first | rfl | assumption | exact And.intro (by omega) (by omega)) (by first | assumption | exact Or.inl rfl | omega) d_E_set_28 ?_
  refine v_aload_nq (i := 0) o.ok d_E_set_31 rfl rfl ?_
  refine v_iconst o.ok d_E_set_32 ?_
  refine n_putz o 26 rfl rfl rfl rfl lf_E_31 (by first | rfl | assumption | exact And.intro (by omega) (by omega)) (by first | assumption | exact Or.inl rfl | omega) d_E_set_33 ?_
  refine v_aload_nq (i := 0) o.ok d_E_set_36 rfl rfl ?_
  refine v_iconst o.ok d_E_set_37 ?_
  refine n_puti o 27 rfl rfl rfl rfl lf_E_34 (by first | rfl | assumption | exact And.intro (by omega) (by omega)) (by first | assumption | exact Or.inl rfl | omega) d_E_set_38 ?_
  refine v_aload_nq (i := 0) o.ok d_E_set_41 rfl rfl ?_
  refine n_null o.ok A 10 d_E_set_42 ?_
  refine n_putr o 28 10 rfl rfl rfl (by decide) rfl lf_E_37 (by first | rfl | assumption | exact And.intro (by omega) (by omega)) (by first | assumption | exact Or.inl rfl | omega) d_E_set_43 ?_
  refine v_aload_nq (i := 0) o.ok d_E_set_46 rfl rfl ?_
  refine v_iconst o.ok d_E_set_47 ?_
  refine n_putz o 29 rfl rfl rfl rfl lf_E_41 (by first | rfl | assumption | exact And.intro (by omega) (by omega)) (by first | assumption | exact Or.inl rfl | omega) d_E_set_48 ?_
  refine v_aload_nq (i := 0) o.ok d_E_set_51 rfl rfl ?_
  refine n_null o.ok A 10 d_E_set_52 ?_
  refine n_putr o 30 10 rfl rfl rfl (by decide) rfl lf_E_44 (by first | rfl | assumption | exact And.intro (by omega) (by omega)) (by first | assumption | exact Or.inl rfl | omega) d_E_set_53 ?_
  refine n_vret o d_E_set_56 ⟨rfl, rfl⟩
theorem c_E_init (D : GD) (g : GSt) (a : Nat) : GCon D y_E_init (wsOf y_E_init b_E_init 1 none) 1 [.ref a] g (fun r g1 => r = none ∧ g1 = g) := by
  refine GCon.of (by decide) (by intro v hv; simp at hv; subst hv; rfl) (Nat.le_of_ble_eq_true rfl) (fun X o _ => ?_)
  show V X (RelG D g) 0 [(0, .ref a)] [] []
  refine v_aload_n (i := 0) o.ok d_E_init_0 rfl rfl ?_
  refine g_obj o jl_E_1 j_oiI j_oiC d_E_init_1 (by decide) (by decide) ?_
  exact g_vret o d_E_init_4 ⟨rfl, rfl⟩
set_option maxHeartbeats 4000000 in
set_option maxRecDepth 20000 in
theorem c_S_note (D : GD) (A : ASt) (kd t k : Int) (N : MSt) (hk : 1 ≤ kd ∧ kd < 6) (ht : 0 ≤ t ∧ t < N 51 0) (hky : InR k) (hr : 0 ≤ N 3 0 ∧ N 3 0 ≤ 300) (hne : N 3 0 ≤ N 50 0) (hg : 0 ≤ N 4 0 ∧ N 4 0 ≤ 1000000) : NX D y_S_note (wsOf y_S_note b_S_note 5 (some (.object "NestedStore$Entry"))) (2) [rq A 0 (0), rq A 21 (kd), rq A 11 (t), J (k)] A N (fun x A1 N1 => Ext N A A1 ∧ x = rq A1 10 (N 3 0) ∧ N1 = ntN N kd t k) := by
  refine NCon.of (by decide) (by simp [cat_rf, J_cat]) (Nat.le_of_ble_eq_true rfl) ?_
  intro X g0 o
  show V X (RelN D A N) 0 [(0, rq A 0 (0)), (1, rq A 21 (kd)), (2, rq A 11 (t)), (3, J (k))] [] []
  have lp : ∀ (A1 : ASt) (N1 : MSt), Ext N A A1 → N1 3 0 = N 3 0 → N1 4 0 = N 4 0 → N1 51 0 = N 51 0 → N 3 0 < N1 50 0 → eS (up N1 3 0 (N 3 0 + 1)) (N 3 0) (N 4 0 + (N 3 0 + 1)) kd t k = ntN N kd t k → V X (RelN D A1 N1) 28 [(0, rq A1 0 0), (1, rq A1 21 kd), (2, rq A1 11 t), (3, J k)] [] [] := by
    intro A1 N1 hx h1 h2 h3 h4 h5
    refine v_aload_nq (i := 0) o.ok d_S_note_28 rfl rfl ?_
    refine n_s4 o lf_S_24 d_S_note_29 ?_
    refine v_aload_nq (i := 0) o.ok d_S_note_32 rfl rfl ?_
    refine n_geti o 3 rfl rfl rfl lf_S_95 (by first | rfl | assumption | exact And.intro (by omega) (by omega)) d_S_note_33 (fun i33 => ?_)
    (try simp only [up, Nat.reduceEqDiff, false_and, if_false, and_self, if_true, true_and, and_true] at i33 ⊢)
    rw [h1]
    refine n_aE o (by omega) (by omega) d_S_note_36 ?_
    refine v_astoreq (i := 4) (L' := [(0, _), (1, _), (2, _), (3, _), (4, _)]) (G' := []) o.ok d_S_note_37 (o.lt (by decide)) rfl rfl ?_
    refine v_aload_nq (i := 0) o.ok d_S_note_39 rfl rfl ?_
    refine v_dup o.ok d_S_note_40 (cat_rf _) ?_
    refine n_geti o 3 rfl rfl rfl lf_S_95 (by first | rfl | assumption | exact And.intro (by omega) (by omega)) d_S_note_41 (fun i41 => ?_)
    (try simp only [up, Nat.reduceEqDiff, false_and, if_false, and_self, if_true, true_and, and_true] at i41 ⊢)
    rw [h1]
    refine v_iconst o.ok d_S_note_44 ?_
    refine v_iadd o.ok d_S_note_45 ?_
    refine n_puti o 3 rfl rfl rfl rfl lf_S_95 (by first | rfl | assumption | exact And.intro (by omega) (by omega)) (by omega) d_S_note_46 ?_
    refine v_aloadq (i := 4) o.ok d_S_note_49 rfl ?_
    refine v_aload_nq (i := 0) o.ok d_S_note_51 rfl rfl ?_
    refine n_geti o 4 rfl rfl rfl lf_S_99 (by first | rfl | assumption | exact And.intro (by omega) (by omega)) d_S_note_52 (fun i52 => ?_)
    (try simp only [up, Nat.reduceEqDiff, false_and, if_false, and_self, if_true, true_and, and_true] at i52 ⊢)
    refine v_aload_nq (i := 0) o.ok d_S_note_55 rfl rfl ?_
    refine n_geti o 3 rfl rfl rfl lf_S_95 (by first | rfl | assumption | exact And.intro (by omega) (by omega)) d_S_note_56 (fun i56 => ?_)
    (try simp only [up, Nat.reduceEqDiff, false_and, if_false, and_self, if_true, true_and, and_true] at i56 ⊢)
    refine v_iadd o.ok d_S_note_59 ?_
    refine v_aload_nq (i := 1) o.ok d_S_note_60 rfl rfl ?_
    refine v_aload_nq (i := 2) o.ok d_S_note_61 rfl rfl ?_
    refine v_iload_n (i := 3) o.ok d_S_note_62 rfl rfl ?_
    simp only [up, Nat.reduceEqDiff, false_and, if_false, and_self, if_true, h2]
    refine n_cV o 3 (tg := 10) rfl (by decide) (by decide) (by exact And.intro hr.1 h4) (c_E_set D A1 (N 3 0) (N 4 0 + (N 3 0 + 1)) kd t k (up N1 3 0 (N 3 0 + 1)) ⟨hr.1, h4⟩ hk ⟨ht.1, by rw [up_ne (by simp), h3]; exact ht.2⟩ (by omega) hky) q_E_set lm_S_102 d_S_note_63 (by decide) rfl (by first | exact Nat.le_of_ble_eq_true rfl | (simp only [List.map_cons, List.map_nil, cat_rf, J_cat, List.sum_cons, List.sum_nil, cat_lg, cat_rr]; decide)) rfl (n_e ?_)
    refine v_aloadq (i := 4) o.ok d_S_note_66 rfl ?_
    refine n_aret o d_S_note_68 ⟨hx, rfl, h5⟩
  by_cases hc : N 3 0 < N 50 0
  · skip
    refine v_aload_nq (i := 0) o.ok d_S_note_0 rfl rfl ?_
    refine n_s4 o lf_S_24 d_S_note_1 ?_
    refine v_aload_nq (i := 0) o.ok d_S_note_4 rfl rfl ?_
    refine n_geti o 3 rfl rfl rfl lf_S_95 (by first | rfl | assumption | exact And.intro (by omega) (by omega)) d_S_note_5 (fun i5 => ?_)
    (try simp only [up, Nat.reduceEqDiff, false_and, if_false, and_self, if_true, true_and, and_true] at i5 ⊢)
    refine n_aE o (by omega) (by omega) d_S_note_8 ?_
    refine n_ifnonnull o.ok d_S_note_9 (fun c9 => ?_) (fun c9 => ?_)
    · exact lp A N (Ext.rf N A) rfl rfl rfl hc (ntN_1 hc)
    · exfalso; omega
  · have he : N 3 0 = N 50 0 := by omega
    refine v_aload_nq (i := 0) o.ok d_S_note_0 rfl rfl ?_
    refine n_s4 o lf_S_24 d_S_note_1 ?_
    refine v_aload_nq (i := 0) o.ok d_S_note_4 rfl rfl ?_
    refine n_geti o 3 rfl rfl rfl lf_S_95 (by first | rfl | assumption | exact And.intro (by omega) (by omega)) d_S_note_5 (fun i5 => ?_)
    (try simp only [up, Nat.reduceEqDiff, false_and, if_false, and_self, if_true, true_and, and_true] at i5 ⊢)
    refine n_aald o 14 301 4 10 (w := -1) (by decide) rfl (by decide) rfl rfl (fun g h => by rw [rfv_n (by omega), h.2.2.1 _ hr.1 (by omega), if_neg hc]) ⟨hr.1, by show _ < (301 : Int); omega⟩ d_S_note_8 ?_
    refine n_ifnonnull o.ok d_S_note_9 (fun c9 => by exfalso; omega) (fun c9 => ?_)
    refine v_aload_nq (i := 0) o.ok d_S_note_12 rfl rfl ?_
    refine n_s4 o lf_S_24 d_S_note_13 ?_
    refine v_aload_nq (i := 0) o.ok d_S_note_16 rfl rfl ?_
    refine n_geti o 3 rfl rfl rfl lf_S_95 (by rfl) d_S_note_17 (fun i17 => ?_)
    refine n_in fun g hF => ?_
    have hC := hF.2.2.2.2.2.1
    have h4 := hF.2.2.1 4 0 (by decide) rfl
    have h4a : gK g (A 4 0) = 14 := h4.1
    have h4b : gL g (A 4 0) = 301 := h4.2
    refine V.get (fun H hR => (⟨hF.newE hR (by omega), fun e => by have := (hR.2.1 (A 4 0) (by omega)).1; omega⟩ : Flat D (aup A 10 (N 50 0) (gZ g)) (nE N) (uR (gnw g 3 0) 14 (N 50 0) (A 4 0) (some (gZ g))) ∧ A 4 0 ≠ gZ g)) fun hE => ?_
    rw [← he] at hE
    refine g_new o 3 (by decide) jc_S_22 ji_E in_E (by have := hC.2.2.2; have := hC.2.2.1; have := hC.2.1; omega) d_S_note_20 ?_
    refine v_dup o.ok d_S_note_23 rfl ?_
    refine g_cIN o (c_E_init D (gnw g 3 0) (gZ g)) q_E_init ln_S_98 d_S_note_24 (by decide) rfl (by first | exact Nat.le_of_ble_eq_true rfl | (simp only [List.map_cons, List.map_nil, cat_rf, J_cat, List.sum_cons, List.sum_nil, cat_lg, cat_rr]; decide)) rfl (fun r g1 h => ?_)
    obtain ⟨rfl, rfl⟩ := h
    show V X (RelG D (gnw g 3 0)) 27 _ _ (.ref (gZ g) :: J (N 3 0) :: rq A 4 0 :: [])
    rw [rq_s (tg := 4) (by omega)]
    refine g_aast o 14 301 (by decide) ((gnw_K hE.2).trans h4a) (by rw [gnw_L hE.2, h4b]; rfl) ⟨hr.1, by omega⟩ gnw_K0 d_S_note_27 ?_
    refine n_out hE.1 ?_
    have ex : Ext N A (aup A 10 (N 3 0) (gZ g)) := fun tg v a b c => aup_off (fun z => by have := a z.1; omega)
    rw [← ex.o (tg := 0) (v := 0) (by decide), ← ex.o (tg := 21) (v := kd) (by decide), ← ex.t ht.2]
    exact lp (aup A 10 (N 3 0) (gZ g)) (nE N) ex (nE_o (by decide) (Or.inl (by decide))) (nE_o (by decide) (Or.inl (by decide))) (nE_o (by decide) (Or.inl (by decide))) (by show N 3 0 < N 50 0 + 1; omega) (ntN_nE he)
set_option maxHeartbeats 4000000 in
set_option maxRecDepth 20000 in
theorem c_S_last (D : GD) (A : ASt) (N : MSt) (hr : 0 ≤ N 3 0 ∧ N 3 0 ≤ 300) (hg : 0 ≤ N 4 0 ∧ N 4 0 ≤ 1000000) : NF D y_S_last (wsOf y_S_last b_S_last 1 (some .int)) (0) [rq A 0 (0)] A N (J (N 4 0 + N 3 0)) (N) := by
  refine NCon.of (by decide) (by simp [cat_rf, J_cat]) (Nat.le_of_ble_eq_true rfl) ?_
  intro X g0 o
  show V X (RelN D A N) 0 [(0, rq A 0 (0))] [] []
  refine v_aload_nq (i := 0) o.ok d_S_last_0 rfl rfl ?_
  refine n_geti o 4 rfl rfl rfl lf_S_99 (by first | rfl | assumption | exact And.intro (by omega) (by omega)) d_S_last_1 (fun i1 => ?_)
  refine v_aload_nq (i := 0) o.ok d_S_last_4 rfl rfl ?_
  refine n_geti o 3 rfl rfl rfl lf_S_95 (by first | rfl | assumption | exact And.intro (by omega) (by omega)) d_S_last_5 (fun i5 => ?_)
  refine v_iadd o.ok d_S_last_8 ?_
  refine n_iret o d_S_last_9 ⟨rfl, rfl, rfl⟩
set_option maxHeartbeats 4000000 in
set_option maxRecDepth 20000 in
theorem c_S_lacks (D : GD) (A : ASt) (m : Int) (N : MSt) (hr : 0 ≤ N 3 0 ∧ N 3 0 ≤ 300) (ho : 0 ≤ N 6 0 ∧ N 6 0 ≤ 300) (hl : 0 ≤ N 7 0 ∧ N 7 0 ≤ 60) (hm : 0 ≤ m ∧ m ≤ 2) : NF D y_S_lacks (wsOf y_S_lacks b_S_lacks 2 (some .boolean)) (0) [rq A 0 (0), J (m)] A N (J (b01 (300 < N 3 0 + N 6 0 + N 7 0 + m))) (N) := by
  refine NCon.of (by decide) (by simp [cat_rf, J_cat]) (Nat.le_of_ble_eq_true rfl) ?_
  intro X g0 o
  show V X (RelN D A N) 0 [(0, rq A 0 (0)), (1, J (m))] [] []
  refine v_aload_nq (i := 0) o.ok d_S_lacks_0 rfl rfl ?_
  refine n_geti o 3 rfl rfl rfl lf_S_95 (by first | rfl | assumption | exact And.intro (by omega) (by omega)) d_S_lacks_1 (fun i1 => ?_)
  refine v_aload_nq (i := 0) o.ok d_S_lacks_4 rfl rfl ?_
  refine n_geti o 6 rfl rfl rfl lf_S_106 (by first | rfl | assumption | exact And.intro (by omega) (by omega)) d_S_lacks_5 (fun i5 => ?_)
  refine v_iadd o.ok d_S_lacks_8 ?_
  refine v_aload_nq (i := 0) o.ok d_S_lacks_9 rfl rfl ?_
  refine n_geti o 7 rfl rfl rfl lf_S_109 (by first | rfl | assumption | exact And.intro (by omega) (by omega)) d_S_lacks_10 (fun i10 => ?_)
  refine v_iadd o.ok d_S_lacks_13 ?_
  refine v_iload_n (i := 1) o.ok d_S_lacks_14 rfl rfl ?_
  refine v_iadd o.ok d_S_lacks_15 ?_
  refine v_sipush o.ok d_S_lacks_16 rfl ?_
  refine v_icmp_le o.ok (by omega) (by omega) d_S_lacks_19 (fun c19 => ?_) (fun c19 => ?_)
  · refine v_iconst o.ok d_S_lacks_26 ?_
    refine n_zret o (by first | exact b01_or _ | omega | simp) d_S_lacks_27 ⟨congrArg J (by first | exact (b01_t (by omega)).symm | exact (b01_f (by omega)).symm), rfl, rfl⟩
  · refine v_iconst o.ok d_S_lacks_22 ?_
    refine v_goto o.ok d_S_lacks_23 ?_
    refine n_zret o (by first | exact b01_or _ | omega | simp) d_S_lacks_27 ⟨congrArg J (by first | exact (b01_t (by omega)).symm | exact (b01_f (by omega)).symm), rfl, rfl⟩

