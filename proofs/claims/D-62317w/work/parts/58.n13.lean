theorem cntN_f (n : Nat) : cntN (fun _ => False) n = 0 := by
  induction n with
  | zero => rfl
  | succ n ih => show cntN _ n + b01 False = 0; rw [ih, b01_f (fun h => h)]; rfl
theorem cnt_none {P : Int → Prop} {b : Int} (h : ∀ i, 0 ≤ i → i < b → ¬ P i) : cnt P b = 0 := by
  rw [cnt_ext (P' := fun _ => False) (fun i a c => ⟨fun z => h i a c z, fun z => z.elim⟩)]
  exact cntN_f _
theorem ord_inj {N M : MSt} (h : SimP N M) {j k : Int} (a : 0 ≤ j) (b : j < N 1 0) (c : 0 ≤ k) (d : k < N 1 0) (e : N 10 j = N 10 k) : j = k := by
  rcases Int.lt_trichotomy j k with z | z | z
  · have := h.2.2.1 j k a z d; rw [e] at this; omega
  · exact z
  · have := h.2.2.1 k j c z b; rw [e] at this; omega
theorem ord_cnt {N M : MSt} (h : SimP N M) : ∀ (n : Nat) (k : Int), 0 ≤ k → k + n = N 1 0 → cnt (fun q => ∃ j, k ≤ j ∧ j < N 1 0 ∧ N 10 j = q) 8 = n := by
  intro n
  induction n with
  | zero => intro k h0 h1; exact cnt_none (fun i _ _ z => by obtain ⟨j, a, b, _⟩ := z; omega)
  | succ n ih =>
    intro k h0 h1
    have q := ih (k + 1) (by omega) (by omega)
    have hk := (h.2.1 k h0 (by omega)).1
    have := cntN_drop (P := fun q => ∃ j, k ≤ j ∧ j < N 1 0 ∧ N 10 j = q) (P' := fun q => ∃ j, k + 1 ≤ j ∧ j < N 1 0 ∧ N 10 j = q) (u := N 10 k) (fun r => by
      constructor
      · rintro ⟨j, a, b, c⟩
        exact ⟨⟨j, by omega, b, c⟩, fun e => by have := ord_inj h (j := j) (k := k) (by omega) b h0 (by omega) (by rw [c, e]); omega⟩
      · rintro ⟨⟨j, a, b, c⟩, e⟩
        exact ⟨j, by
          have : j ≠ k := fun z => e (by rw [← c, z])
          omega, b, c⟩) ⟨k, by omega, by omega, rfl⟩ hk.1 8
    rw [if_pos (by have := hk.2; omega)] at this
    have e1 : cnt (fun q => ∃ j, k + 1 ≤ j ∧ j < N 1 0 ∧ N 10 j = q) 8 = cntN (fun q => ∃ j, k + 1 ≤ j ∧ j < N 1 0 ∧ N 10 j = q) 8 := rfl
    have e2 : cnt (fun q => ∃ j, k ≤ j ∧ j < N 1 0 ∧ N 10 j = q) 8 = cntN (fun q => ∃ j, k ≤ j ∧ j < N 1 0 ∧ N 10 j = q) 8 := rfl
    omega
theorem later_ord {N M : MSt} (h : SimP N M) {k : Int} (h0 : 0 ≤ k) (h1 : k < N 1 0) : later M (N 10 k) = N 1 0 - 1 - k := by
  have q := ord_cnt h (N 1 0 - 1 - k).toNat (k + 1) (by omega) (by omega)
  have e : later M (N 10 k) = cnt (fun q => ∃ j, k + 1 ≤ j ∧ j < N 1 0 ∧ N 10 j = q) 8 := by
    unfold later
    refine cnt_ext (fun p a b => ⟨fun z => ?_, fun z => ?_⟩)
    · obtain ⟨j, j0, j1, j2⟩ := ((h.2.2.2.1 p a b).2 z.1).1
      refine ⟨j, Decidable.byContradiction fun y => ?_, j1, j2⟩
      have z2 := z.2
      rw [← j2] at z2
      by_cases e : j = k
      · rw [e] at z2; omega
      · have := h.2.2.1 j k j0 (by omega) h1; omega
    · obtain ⟨j, j0, j1, j2⟩ := z
      have w := h.2.2.1 k j h0 (by omega) j1
      have v := (h.2.1 j (by omega) j1).2
      rw [j2] at w v
      exact ⟨v, w⟩
  rw [e, q]
  omega
theorem frN_at {M : MSt} {i p0 : Int} (h0 : M 7 p0 = 1 ∧ later M p0 = i) (hu : ∀ q, 0 ≤ q → q < 8 → M 7 q = 1 ∧ later M q = i → q = p0) : ∀ (n : Nat) (p : Int), 0 ≤ p → p + n = 8 → p ≤ p0 → p0 < 8 → frN M i n p = 2 * p0 + M 8 p0 := by
  intro n
  induction n with
  | zero => intro p a b c d; omega
  | succ n ih =>
    intro p a b c d
    unfold frN
    by_cases e : M 7 p = 1 ∧ later M p = i
    · rw [if_pos e, hu p a (by omega) e]
    · rw [if_neg e]
      exact ih (p + 1) (by omega) (by omega) (by
        have : p ≠ p0 := fun z => e (by rw [z]; exact h0)
        omega) d
theorem frN_no {M : MSt} {i : Int} (hu : ∀ q, 0 ≤ q → q < 8 → ¬ (M 7 q = 1 ∧ later M q = i)) : ∀ (n : Nat) (p : Int), 0 ≤ p → p + n = 8 → frN M i n p = -1 := by
  intro n
  induction n with
  | zero => intro p a b; rfl
  | succ n ih =>
    intro p a b
    unfold frN
    rw [if_neg (hu p a (by omega))]
    exact ih (p + 1) (by omega) (by omega)
theorem o_frame_in {N M : MSt} (h : SimP N M) {i : Int} (h0 : 0 ≤ i) (h1 : i < N 1 0) : o_frame M i = 2 * N 10 (N 1 0 - 1 - i) + M 8 (N 10 (N 1 0 - 1 - i)) := by
  have hk := h.2.1 (N 1 0 - 1 - i) (by omega) (by omega)
  unfold o_frame
  rw [if_neg (by omega)]
  refine frN_at ⟨hk.2, by rw [later_ord h (by omega) (by omega)]; omega⟩ (fun q a b c => ?_) 8 0 (by omega) (by omega) hk.1.1 hk.1.2
  obtain ⟨j, j0, j1, j2⟩ := ((h.2.2.2.1 q a b).2 c.1).1
  have w := c.2
  rw [← j2, later_ord h j0 j1] at w
  rw [← j2, show j = N 1 0 - 1 - i from by omega]
theorem o_frame_out {N M : MSt} (h : SimP N M) {i : Int} (h1 : i < 0 ∨ N 1 0 ≤ i) : o_frame M i = -1 := by
  unfold o_frame
  by_cases e : i < 0
  · rw [if_pos e]
  · rw [if_neg e]
    refine frN_no (fun q a b c => ?_) 8 0 (by omega) (by omega)
    obtain ⟨j, j0, j1, j2⟩ := ((h.2.2.2.1 q a b).2 c.1).1
    have w := c.2
    rw [← j2, later_ord h j0 j1] at w
    omega
set_option maxHeartbeats 4000000 in
set_option maxRecDepth 20000 in
theorem c_S_frame (D : GD) (A : ASt) (i : Int) (N M : MSt) (h : Sim N M) (hr : InR i) : NF D y_S_frame (wsOf y_S_frame b_S_frame 3 (some .int)) (1) [rq A 0 (0), J (i)] A N (J (o_frame M i)) (N) := by
  refine NCon.of (by decide) (by simp [cat_rf, J_cat]) (Nat.le_of_ble_eq_true rfl) ?_
  intro X g0 o
  show V X (RelN D A N) 0 [(0, rq A 0 (0)), (1, J (i))] [] []
  have hfr := h.p.fr
  have hin := fun (a : 0 ≤ i) (b : i < N 1 0) => h.p.2.1 (N 1 0 - 1 - i) (by omega) (by omega)
  have hdr := fun (a : 0 ≤ i) (b : i < N 1 0) => (h.p.2.2.2.2.2 _ (hin a b).1.1 (hin a b).1.2 (hin a b).2).2
  refine v_iload_n (i := 1) o.ok d_S_frame_0 rfl rfl ?_
  refine v_iconst o.ok d_S_frame_1 ?_
  refine v_aload_nq (i := 0) o.ok d_S_frame_2 rfl rfl ?_
  refine n_geti o 1 rfl rfl rfl lf_S_57 (by first | rfl | exact hI.1) d_S_frame_3 (fun i3 => ?_)
  refine v_iconst o.ok d_S_frame_6 ?_
  refine v_isub o.ok d_S_frame_7 ?_
  refine n_cS o (c_S_outside D A i 0 (N 1 0 - 1) N hr (by omega) (by omega)) q_S_outside lm_S_53 d_S_frame_8 (by decide) rfl (by first | exact Nat.le_of_ble_eq_true rfl | (simp only [List.map_cons, List.map_nil, cat_rf, J_cat, List.sum_cons, List.sum_nil, cat_lg, cat_rr]; decide)) rfl (n_f ?_)
  first | refine v_ifeq_b o.ok d_S_frame_11 (fun c11 => ?_) (fun c11 => ?_) | refine v_if_eq o.ok (by omega) d_S_frame_11 (fun c11 => ?_) (fun c11 => ?_)
  · have hI := hin (by omega) (by omega)
    have hD := hdr (by omega) (by omega)
    have hoo := o_frame_in h.p (i := i) (by omega) (by omega)
    refine v_aload_nq (i := 0) o.ok d_S_frame_16 rfl rfl ?_
    refine n_s3 o lf_S_18 d_S_frame_17 ?_
    refine v_aload_nq (i := 0) o.ok d_S_frame_20 rfl rfl ?_
    refine n_geti o 1 rfl rfl rfl lf_S_57 (by first | rfl | exact hI.1) d_S_frame_21 (fun i21 => ?_)
    refine v_iconst o.ok d_S_frame_24 ?_
    refine v_isub o.ok d_S_frame_25 ?_
    refine v_iload_n (i := 1) o.ok d_S_frame_26 rfl rfl ?_
    refine v_isub o.ok d_S_frame_27 ?_
    refine n_oald o (by omega) d_S_frame_28 (fun i28 => ?_)
    refine v_istore_n (i := 2) (L' := [(0, _), (1, _), (2, _)]) (G' := []) o.ok d_S_frame_29 rfl (o.lt (by decide)) rfl rfl ?_
    refine v_iconst o.ok d_S_frame_30 ?_
    refine v_iload_n (i := 2) o.ok d_S_frame_31 rfl rfl ?_
    refine v_imul o.ok d_S_frame_32 ?_
    refine v_aload_nq (i := 0) o.ok d_S_frame_33 rfl rfl ?_
    refine n_s2 o lf_S_15 d_S_frame_34 ?_
    refine v_iload_n (i := 2) o.ok d_S_frame_37 rfl rfl ?_
    refine n_aR o (by exact hI.1) d_S_frame_38 ?_
    refine n_getz o 17 rfl rfl rfl lf_S_88 (by first | rfl | exact hI.1) d_S_frame_39 (fun i39 => ?_)
    refine v_if_eq o.ok (by omega) d_S_frame_42 (fun c42 => ?_) (fun c42 => ?_)
    · refine v_iconst o.ok d_S_frame_49 ?_
      refine v_iadd o.ok d_S_frame_50 ?_
      refine n_iret o d_S_frame_51 ⟨congrArg J (by omega), rfl, rfl⟩
    · refine v_iconst o.ok d_S_frame_45 ?_
      refine v_goto o.ok d_S_frame_46 ?_
      refine v_iadd o.ok d_S_frame_50 ?_
      refine n_iret o d_S_frame_51 ⟨congrArg J (by omega), rfl, rfl⟩
  · have hoo := o_frame_out h.p (i := i) (by omega)
    refine v_iconst o.ok d_S_frame_14 ?_
    refine n_iret o d_S_frame_15 ⟨congrArg J (by omega), rfl, rfl⟩
set_option maxHeartbeats 4000000 in
set_option maxRecDepth 20000 in
theorem c_S_page (D : GD) (A : ASt) (p : Int) (N M : MSt) (h : Sim N M) (hr : InR p) : NF D y_S_page (wsOf y_S_page b_S_page 2 (some .int)) (2) [rq A 0 (0), J (p)] A N (J (o_page M p)) (N) := by
  refine NCon.of (by decide) (by simp [cat_rf, J_cat]) (Nat.le_of_ble_eq_true rfl) ?_
  intro X g0 o
  show V X (RelN D A N) 0 [(0, rq A 0 (0)), (1, J (p))] [] []
  have hfr := h.p.fr
  by_cases hp : 0 ≤ p ∧ p < 8
  · have eo : o_page M p = lsw M p := if_pos (by omega)
    rcases h.p.pl hp.1 hp.2 with ⟨h1, h2⟩ | ⟨h1, h2⟩
    · have el : N 12 p = lsw M p := (by unfold lsw; rw [if_neg (by omega)]; exact (h.p.2.2.2.2.1 p hp.1 hp.2).2.1)
      refine v_iload_n (i := 1) o.ok d_S_page_0 rfl rfl ?_
      refine v_iconst o.ok d_S_page_1 ?_
      refine v_bipush o.ok d_S_page_2 rfl ?_
      refine n_cS o (c_S_outside D A p 0 7 N hr (by omega) (by omega)) q_S_outside lm_S_53 d_S_page_4 (by decide) rfl (by first | exact Nat.le_of_ble_eq_true rfl | (simp only [List.map_cons, List.map_nil, cat_rf, J_cat, List.sum_cons, List.sum_nil, cat_lg, cat_rr]; decide)) rfl (n_f ?_)
      first | refine v_ifeq_b o.ok d_S_page_7 (fun c7 => ?_) (fun c7 => ?_) | refine v_if_eq o.ok (by omega) d_S_page_7 (fun c7 => ?_) (fun c7 => ?_)
      · refine v_aload_nq (i := 0) o.ok d_S_page_14 rfl rfl ?_
        refine v_iload_n (i := 1) o.ok d_S_page_15 rfl rfl ?_
        refine n_cV o 1 (tg := 0) rfl (by decide) (by decide) (by first | rfl | assumption | exact And.intro (by omega) (by omega)) (c_S_at6 D A p N hp h.p.fr h1) q_S_at lm_S_64 d_S_page_16 (by decide) rfl (by first | exact Nat.le_of_ble_eq_true rfl | (simp only [List.map_cons, List.map_nil, cat_rf, J_cat, List.sum_cons, List.sum_nil, cat_lg, cat_rr]; decide)) rfl (n_f ?_)
        refine n_geti o 12 rfl rfl rfl lf_S_78 (by first | rfl | assumption | exact And.intro (by omega) (by omega)) d_S_page_19 (fun i19 => ?_)
        refine n_iret o d_S_page_22 ⟨congrArg J (by rw [eo]; exact el), rfl, rfl⟩
      · exfalso; omega
    · have el : N 16 p = lsw M p := (by unfold lsw; rw [if_pos h2]; exact (h.p.2.2.2.2.2 p hp.1 hp.2 h2).1.2.1)
      refine v_iload_n (i := 1) o.ok d_S_page_0 rfl rfl ?_
      refine v_iconst o.ok d_S_page_1 ?_
      refine v_bipush o.ok d_S_page_2 rfl ?_
      refine n_cS o (c_S_outside D A p 0 7 N hr (by omega) (by omega)) q_S_outside lm_S_53 d_S_page_4 (by decide) rfl (by first | exact Nat.le_of_ble_eq_true rfl | (simp only [List.map_cons, List.map_nil, cat_rf, J_cat, List.sum_cons, List.sum_nil, cat_lg, cat_rr]; decide)) rfl (n_f ?_)
      first | refine v_ifeq_b o.ok d_S_page_7 (fun c7 => ?_) (fun c7 => ?_) | refine v_if_eq o.ok (by omega) d_S_page_7 (fun c7 => ?_) (fun c7 => ?_)
      · refine v_aload_nq (i := 0) o.ok d_S_page_14 rfl rfl ?_
        refine v_iload_n (i := 1) o.ok d_S_page_15 rfl rfl ?_
        refine n_cV o 1 (tg := 0) rfl (by decide) (by decide) (by first | rfl | assumption | exact And.intro (by omega) (by omega)) (c_S_at8 D A p N hp h.p.fr (by omega)) q_S_at lm_S_64 d_S_page_16 (by decide) rfl (by first | exact Nat.le_of_ble_eq_true rfl | (simp only [List.map_cons, List.map_nil, cat_rf, J_cat, List.sum_cons, List.sum_nil, cat_lg, cat_rr]; decide)) rfl (n_f ?_)
        refine n_geti o 16 rfl rfl rfl lf_S_78 (by first | rfl | assumption | exact And.intro (by omega) (by omega)) d_S_page_19 (fun i19 => ?_)
        refine n_iret o d_S_page_22 ⟨congrArg J (by rw [eo]; exact el), rfl, rfl⟩
      · exfalso; omega
  · have eo : o_page M p = -1 := if_neg (by omega)
    refine v_iload_n (i := 1) o.ok d_S_page_0 rfl rfl ?_
    refine v_iconst o.ok d_S_page_1 ?_
    refine v_bipush o.ok d_S_page_2 rfl ?_
    refine n_cS o (c_S_outside D A p 0 7 N hr (by omega) (by omega)) q_S_outside lm_S_53 d_S_page_4 (by decide) rfl (by first | exact Nat.le_of_ble_eq_true rfl | (simp only [List.map_cons, List.map_nil, cat_rf, J_cat, List.sum_cons, List.sum_nil, cat_lg, cat_rr]; decide)) rfl (n_f ?_)
    first | refine v_ifeq_b o.ok d_S_page_7 (fun c7 => ?_) (fun c7 => ?_) | refine v_if_eq o.ok (by omega) d_S_page_7 (fun c7 => ?_) (fun c7 => ?_)
    · exfalso; omega
    · refine v_iconst o.ok d_S_page_10 ?_
      refine v_goto o.ok d_S_page_11 ?_
      refine n_iret o d_S_page_22 ⟨congrArg J eo.symm, rfl, rfl⟩
set_option maxHeartbeats 4000000 in
set_option maxRecDepth 20000 in
theorem c_S_lock (D : GD) (A : ASt) (t i : Int) (N M : MSt) (h : Sim N M) (hi : IvM M) (hr : InR t) (hri : InR i) : NF D y_S_lock (wsOf y_S_lock b_S_lock 4 (some .int)) (2) [rq A 0 (0), J (t), J (i)] A N (J (o_lock M t i)) (N) := by
  refine NCon.of (by decide) (by simp [cat_rf, J_cat]) (Nat.le_of_ble_eq_true rfl) ?_
  intro X g0 o
  show V X (RelN D A N) 0 [(0, rq A 0 (0)), (1, J (t)), (2, J (i))] [] []
  have hp := hi.1.par
  by_cases hm : inM M t
  · have ent : N 51 0 = M 22 0 := h.t.1.2
    have hvt : 0 ≤ t ∧ t < N 51 0 := (by rw [ent]; exact hm)
    have eL := fun a b => (h.t.2 t hm.1 hm.2).2.1 i a b
    refine v_aload_nq (i := 0) o.ok d_S_lock_0 rfl rfl ?_
    refine v_iload_n (i := 1) o.ok d_S_lock_1 rfl rfl ?_
    refine n_cV o 1 (tg := 0) rfl (by decide) (by decide) (by first | rfl | exact hvt) (c_S_findI D A t N M h.t hp hm) q_S_find lm_S_240 d_S_lock_2 (by decide) rfl (by first | exact Nat.le_of_ble_eq_true rfl | (simp only [List.map_cons, List.map_nil, cat_rf, J_cat, List.sum_cons, List.sum_nil, cat_lg, cat_rr]; decide)) rfl (n_f ?_)
    refine v_astore_nq (i := 3) (L' := [(0, _), (1, _), (2, _), (3, _)]) (G' := []) o.ok d_S_lock_5 rfl (o.lt (by decide)) rfl rfl ?_
    refine v_aload_nq (i := 3) o.ok d_S_lock_6 rfl rfl ?_
    refine n_ifnull o.ok d_S_lock_7 (fun c7 => ?_) (fun c7 => ?_)
    · exfalso; have := hm.1; omega
    · refine v_iload_n (i := 2) o.ok d_S_lock_10 rfl rfl ?_
      refine v_iconst o.ok d_S_lock_11 ?_
      refine v_bipush o.ok d_S_lock_12 rfl ?_
      refine n_cS o (c_S_outside D A i 0 32 N hri (by omega) (by omega)) q_S_outside lm_S_53 d_S_lock_14 (by decide) rfl (by first | exact Nat.le_of_ble_eq_true rfl | (simp only [List.map_cons, List.map_nil, cat_rf, J_cat, List.sum_cons, List.sum_nil, cat_lg, cat_rr]; decide)) rfl (n_f ?_)
      first | refine v_ifeq_b o.ok d_S_lock_17 (fun c17 => ?_) (fun c17 => ?_) | refine v_if_eq o.ok (by omega) d_S_lock_17 (fun c17 => ?_) (fun c17 => ?_)
      · refine v_aload_nq (i := 3) o.ok d_S_lock_24 rfl rfl ?_
        refine n_lks o lf_S_174 (by first | rfl | exact hvt) d_S_lock_25 ?_
        refine v_iload_n (i := 2) o.ok d_S_lock_28 rfl rfl ?_
        refine n_lald o (by first | rfl | exact hvt) (by omega) d_S_lock_29 (fun i29 => ?_)
        refine n_iret o d_S_lock_30 ⟨congrArg J (by unfold o_lock; first | rw [if_neg (by omega)] | (rw [if_pos ⟨hm, by omega, by omega⟩]; exact eL (by omega) (by omega))), rfl, rfl⟩
      · refine v_iconst o.ok d_S_lock_20 ?_
        refine v_goto o.ok d_S_lock_21 ?_
        refine n_iret o d_S_lock_30 ⟨congrArg J (by unfold o_lock; first | rw [if_neg (by omega)] | (rw [if_pos ⟨hm, by omega, by omega⟩]; exact eL (by omega) (by omega))), rfl, rfl⟩
  · skip
    refine v_aload_nq (i := 0) o.ok d_S_lock_0 rfl rfl ?_
    refine v_iload_n (i := 1) o.ok d_S_lock_1 rfl rfl ?_
    refine n_cV o 1 (tg := 0) rfl (by decide) (by decide) (by first | rfl | assumption | exact And.intro (by omega) (by omega)) (c_S_findN D A t N M h.t hp hm hr) q_S_find lm_S_240 d_S_lock_2 (by decide) rfl (by first | exact Nat.le_of_ble_eq_true rfl | (simp only [List.map_cons, List.map_nil, cat_rf, J_cat, List.sum_cons, List.sum_nil, cat_lg, cat_rr]; decide)) rfl (n_f ?_)
    refine v_astore_nq (i := 3) (L' := [(0, _), (1, _), (2, _), (3, _)]) (G' := []) o.ok d_S_lock_5 rfl (o.lt (by decide)) rfl rfl ?_
    refine v_aload_nq (i := 3) o.ok d_S_lock_6 rfl rfl ?_
    refine n_ifnull o.ok d_S_lock_7 (fun c7 => ?_) (fun c7 => ?_)
    · refine v_iconst o.ok d_S_lock_20 ?_
      refine v_goto o.ok d_S_lock_21 ?_
      refine n_iret o d_S_lock_30 ⟨congrArg J (by unfold o_lock; rw [if_neg (fun q => hm q.1)]), rfl, rfl⟩
    · exfalso; omega
set_option maxHeartbeats 4000000 in
set_option maxRecDepth 20000 in
theorem c_S_parent (D : GD) (A : ASt) (t : Int) (N M : MSt) (h : Sim N M) (hi : IvM M) (hr : InR t) : NF D y_S_parent (wsOf y_S_parent b_S_parent 3 (some .int)) (2) [rq A 0 (0), J (t)] A N (J (o_parent M t)) (N) := by
  refine NCon.of (by decide) (by simp [cat_rf, J_cat]) (Nat.le_of_ble_eq_true rfl) ?_
  intro X g0 o
  show V X (RelN D A N) 0 [(0, rq A 0 (0)), (1, J (t))] [] []
  have hp := hi.1.par
  by_cases hm : inM M t
  · have ent : N 51 0 = M 22 0 := h.t.1.2
    have hvt : 0 ≤ t ∧ t < N 51 0 := (by rw [ent]; exact hm)
    have eP := (h.t.2 t hm.1 hm.2).1.1
    have hpp := hp.2.2 t hm.1 hm.2
    have hm2 := hm.2
    have eo : o_parent M t = M 24 t := if_pos hm
    refine v_aload_nq (i := 0) o.ok d_S_parent_0 rfl rfl ?_
    refine v_iload_n (i := 1) o.ok d_S_parent_1 rfl rfl ?_
    refine n_cV o 1 (tg := 0) rfl (by decide) (by decide) (by first | rfl | exact hvt) (c_S_findI D A t N M h.t hp hm) q_S_find lm_S_240 d_S_parent_2 (by decide) rfl (by first | exact Nat.le_of_ble_eq_true rfl | (simp only [List.map_cons, List.map_nil, cat_rf, J_cat, List.sum_cons, List.sum_nil, cat_lg, cat_rr]; decide)) rfl (n_f ?_)
    refine v_astore_nq (i := 2) (L' := [(0, _), (1, _), (2, _)]) (G' := []) o.ok d_S_parent_5 rfl (o.lt (by decide)) rfl rfl ?_
    refine v_aload_nq (i := 2) o.ok d_S_parent_6 rfl rfl ?_
    refine n_ifnull o.ok d_S_parent_7 (fun c7 => ?_) (fun c7 => ?_)
    · exfalso; have := hm.1; omega
    · refine v_aload_nq (i := 2) o.ok d_S_parent_10 rfl rfl ?_
      refine n_getr o 31 11 rfl rfl rfl (by decide) lf_S_296 (by first | rfl | exact hvt) d_S_parent_11 (fun r11 => ?_)
      refine n_ifnonnull o.ok d_S_parent_14 (fun c14 => ?_) (fun c14 => ?_)
      · refine v_aload_nq (i := 2) o.ok d_S_parent_21 rfl rfl ?_
        refine n_getr o 31 11 rfl rfl rfl (by decide) lf_S_296 (by first | rfl | exact hvt) d_S_parent_22 (fun r22 => ?_)
        refine n_numT o lf_S_223 (by exact And.intro (by omega) (by omega)) d_S_parent_25 ?_
        refine n_iret o d_S_parent_28 ⟨congrArg J (by rw [eo]; omega), rfl, rfl⟩
      · refine v_iconst o.ok d_S_parent_17 ?_
        refine v_goto o.ok d_S_parent_18 ?_
        refine n_iret o d_S_parent_28 ⟨congrArg J (by rw [eo]; omega), rfl, rfl⟩
  · skip
    refine v_aload_nq (i := 0) o.ok d_S_parent_0 rfl rfl ?_
    refine v_iload_n (i := 1) o.ok d_S_parent_1 rfl rfl ?_
    refine n_cV o 1 (tg := 0) rfl (by decide) (by decide) (by first | rfl | assumption | exact And.intro (by omega) (by omega)) (c_S_findN D A t N M h.t hp hm hr) q_S_find lm_S_240 d_S_parent_2 (by decide) rfl (by first | exact Nat.le_of_ble_eq_true rfl | (simp only [List.map_cons, List.map_nil, cat_rf, J_cat, List.sum_cons, List.sum_nil, cat_lg, cat_rr]; decide)) rfl (n_f ?_)
    refine v_astore_nq (i := 2) (L' := [(0, _), (1, _), (2, _)]) (G' := []) o.ok d_S_parent_5 rfl (o.lt (by decide)) rfl rfl ?_
    refine v_aload_nq (i := 2) o.ok d_S_parent_6 rfl rfl ?_
    refine n_ifnull o.ok d_S_parent_7 (fun c7 => ?_) (fun c7 => ?_)
    · refine v_iconst o.ok d_S_parent_17 ?_
      refine v_goto o.ok d_S_parent_18 ?_
      refine n_iret o d_S_parent_28 ⟨congrArg J (by exact (if_neg hm).symm), rfl, rfl⟩
    · exfalso; omega
set_option maxHeartbeats 4000000 in
set_option maxRecDepth 20000 in
theorem c_S_log (D : GD) (A : ASt) (w : Int) (N M : MSt) (h : Sim N M) (hi : IvM M) (hr : InR w) : NF D y_S_log (wsOf y_S_log b_S_log 2 (some .int)) (1) [rq A 0 (0), J (w)] A N (J (o_log M w)) (N) := by
  refine NCon.of (by decide) (by simp [cat_rf, J_cat]) (Nat.le_of_ble_eq_true rfl) ?_
  intro X g0 o
  show V X (RelN D A N) 0 [(0, rq A 0 (0)), (1, J (w))] [] []
  have hn := h.nums hi.1
  have el : N 4 0 + N 3 0 = lst M := (by unfold lst; rw [h.l.1.1, h.l.1.2.1])
  have e1 : N 5 0 = M 13 0 := h.p.1.2.2
  have e2 : N 3 0 = M 12 0 := h.l.1.2.1
  have e3 := h.cc.1
  have e4 := h.cc.2.1
  refine v_iload_n (i := 1) o.ok d_S_log_0 rfl rfl ?_
  by_cases w1 : w < 0 ∨ 4 < w
  · refine v_tabOut (tgt := 61) o.ok (by omega) d_S_log_1 w1 (by decide) ?_
    refine v_iconst o.ok d_S_log_61 ?_
    refine n_iret o d_S_log_62 ⟨congrArg J (by unfold o_log; first | exact el | exact e1 | exact e2 | exact e3 | exact e4 | (rw [if_neg (by omega), if_neg (by omega), if_neg (by omega), if_neg (by omega), if_neg (by omega)])), rfl, rfl⟩
  · rcases (show w = 0 ∨ w = 1 ∨ w = 2 ∨ w = 3 ∨ w = 4 from by omega) with rfl | rfl | rfl | rfl | rfl
    · refine v_tabIn (tgt := 36) o.ok (by omega) d_S_log_1 (by omega) (by omega) (off := 35) (by rfl) (by decide) ?_
      refine v_aload_nq (i := 0) o.ok d_S_log_36 rfl rfl ?_
      refine n_cV o 1 (tg := 0) rfl (by decide) (by decide) (by first | rfl | assumption | exact And.intro (by omega) (by omega)) (c_S_last D A N hn.1 hn.2.2.2.1) q_S_last lm_S_250 d_S_log_37 (by decide) rfl (by first | exact Nat.le_of_ble_eq_true rfl | (simp only [List.map_cons, List.map_nil, cat_rf, J_cat, List.sum_cons, List.sum_nil, cat_lg, cat_rr]; decide)) rfl (n_f ?_)
      refine n_iret o d_S_log_40 ⟨congrArg J (by unfold o_log; first | exact el | exact e1 | exact e2 | exact e3 | exact e4 | (rw [if_neg (by omega), if_neg (by omega), if_neg (by omega), if_neg (by omega), if_neg (by omega)])), rfl, rfl⟩
    · refine v_tabIn (tgt := 41) o.ok (by omega) d_S_log_1 (by omega) (by omega) (off := 40) (by rfl) (by decide) ?_
      refine v_aload_nq (i := 0) o.ok d_S_log_41 rfl rfl ?_
      refine n_geti o 5 rfl rfl rfl lf_S_75 (by first | rfl | assumption | exact And.intro (by omega) (by omega)) d_S_log_42 (fun i42 => ?_)
      refine n_iret o d_S_log_45 ⟨congrArg J (by unfold o_log; first | exact el | exact e1 | exact e2 | exact e3 | exact e4 | (rw [if_neg (by omega), if_neg (by omega), if_neg (by omega), if_neg (by omega), if_neg (by omega)])), rfl, rfl⟩
    · refine v_tabIn (tgt := 46) o.ok (by omega) d_S_log_1 (by omega) (by omega) (off := 45) (by rfl) (by decide) ?_
      refine v_aload_nq (i := 0) o.ok d_S_log_46 rfl rfl ?_
      refine n_geti o 3 rfl rfl rfl lf_S_95 (by first | rfl | assumption | exact And.intro (by omega) (by omega)) d_S_log_47 (fun i47 => ?_)
      refine n_iret o d_S_log_50 ⟨congrArg J (by unfold o_log; first | exact el | exact e1 | exact e2 | exact e3 | exact e4 | (rw [if_neg (by omega), if_neg (by omega), if_neg (by omega), if_neg (by omega), if_neg (by omega)])), rfl, rfl⟩
    · refine v_tabIn (tgt := 51) o.ok (by omega) d_S_log_1 (by omega) (by omega) (off := 50) (by rfl) (by decide) ?_
      refine v_aload_nq (i := 0) o.ok d_S_log_51 rfl rfl ?_
      refine n_geti o 6 rfl rfl rfl lf_S_106 (by first | rfl | assumption | exact And.intro (by omega) (by omega)) d_S_log_52 (fun i52 => ?_)
      refine n_iret o d_S_log_55 ⟨congrArg J (by unfold o_log; first | exact el | exact e1 | exact e2 | exact e3 | exact e4 | (rw [if_neg (by omega), if_neg (by omega), if_neg (by omega), if_neg (by omega), if_neg (by omega)])), rfl, rfl⟩
    · refine v_tabIn (tgt := 56) o.ok (by omega) d_S_log_1 (by omega) (by omega) (off := 55) (by rfl) (by decide) ?_
      refine v_aload_nq (i := 0) o.ok d_S_log_56 rfl rfl ?_
      refine n_geti o 7 rfl rfl rfl lf_S_109 (by first | rfl | assumption | exact And.intro (by omega) (by omega)) d_S_log_57 (fun i57 => ?_)
      refine n_iret o d_S_log_60 ⟨congrArg J (by unfold o_log; first | exact el | exact e1 | exact e2 | exact e3 | exact e4 | (rw [if_neg (by omega), if_neg (by omega), if_neg (by omega), if_neg (by omega), if_neg (by omega)])), rfl, rfl⟩

