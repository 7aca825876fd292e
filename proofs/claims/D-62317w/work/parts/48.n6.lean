set_option maxHeartbeats 4000000 in
set_option maxRecDepth 20000 in
theorem c_Q_live (D : GD) (A : ASt) (v : Int) (N : MSt) (hv : 1 ≤ v ∧ v < 5) : NF D y_Q_live (wsOf y_Q_live b_Q_live 1 (some .boolean)) (0) [rq A 20 (v)] A N (J (b01 (v = 1 ∨ v = 2))) (N) := by
  refine NCon.of (by decide) (by simp [cat_rf, J_cat]) (Nat.le_of_ble_eq_true rfl) ?_
  intro X g0 o
  show V X (RelN D A N) 0 [(0, rq A 20 (v))] [] []
  refine v_aload_nq (i := 0) o.ok d_Q_live_0 rfl rfl ?_
  refine n_getQ o 1 (by decide) ls_Q_7 d_Q_live_1 ?_
  refine n_injQ o (fun j4 => ?_)
  refine n_acmp_eq o.ok j4 (by first | assumption | exact Or.inr (And.intro (by omega) (by omega)) | exact Or.inr (And.intro (by decide) (by decide))) (by first | assumption | exact Or.inr (And.intro (by omega) (by omega)) | exact Or.inr (And.intro (by decide) (by decide))) d_Q_live_4 (fun c4 => ?_) (fun c4 => ?_)
  · refine v_iconst o.ok d_Q_live_14 ?_
    refine v_goto o.ok d_Q_live_15 ?_
    refine n_zret o (by first | exact b01_or _ | omega | simp) d_Q_live_19 ⟨congrArg J (by first | exact (b01_t (by first | (left; assumption) | (right; assumption))).symm | exact (b01_f (by omega)).symm), rfl, rfl⟩
  · refine v_aload_nq (i := 0) o.ok d_Q_live_7 rfl rfl ?_
    refine n_getQ o 2 (by decide) ls_Q_10 d_Q_live_8 ?_
    refine n_injQ o (fun j11 => ?_)
    refine n_acmp_ne o.ok j11 (by first | assumption | exact Or.inr (And.intro (by omega) (by omega)) | exact Or.inr (And.intro (by decide) (by decide))) (by first | assumption | exact Or.inr (And.intro (by omega) (by omega)) | exact Or.inr (And.intro (by decide) (by decide))) d_Q_live_11 (fun c11 => ?_) (fun c11 => ?_)
    · refine v_iconst o.ok d_Q_live_18 ?_
      refine n_zret o (by first | exact b01_or _ | omega | simp) d_Q_live_19 ⟨congrArg J (by first | exact (b01_t (by first | (left; assumption) | (right; assumption))).symm | exact (b01_f (by omega)).symm), rfl, rfl⟩
    · refine v_iconst o.ok d_Q_live_14 ?_
      refine v_goto o.ok d_Q_live_15 ?_
      refine n_zret o (by first | exact b01_or _ | omega | simp) d_Q_live_19 ⟨congrArg J (by first | exact (b01_t (by first | (left; assumption) | (right; assumption))).symm | exact (b01_f (by omega)).symm), rfl, rfl⟩
set_option maxHeartbeats 4000000 in
set_option maxRecDepth 20000 in
theorem c_S_outside (D : GD) (A : ASt) (v a b : Int) (N : MSt) (hv : InR v) (ha : InR a) (hb : InR b) : NF D y_S_outside (wsOf y_S_outside b_S_outside 3 (some .boolean)) (0) [J (v), J (a), J (b)] A N (J (b01 (v < a ∨ b < v))) (N) := by
  refine NCon.of (by decide) (by simp [cat_rf, J_cat]) (Nat.le_of_ble_eq_true rfl) ?_
  intro X g0 o
  show V X (RelN D A N) 0 [(0, J (v)), (1, J (a)), (2, J (b))] [] []
  refine v_iload_n (i := 0) o.ok d_S_outside_0 rfl rfl ?_
  refine v_iload_n (i := 1) o.ok d_S_outside_1 rfl rfl ?_
  refine v_icmp_lt o.ok (by omega) (by omega) d_S_outside_2 (fun c2 => ?_) (fun c2 => ?_)
  · refine v_iconst o.ok d_S_outside_10 ?_
    refine v_goto o.ok d_S_outside_11 ?_
    refine n_zret o (by first | exact b01_or _ | omega | simp) d_S_outside_15 ⟨congrArg J (by first | exact (b01_t (by omega)).symm | exact (b01_f (by omega)).symm), rfl, rfl⟩
  · refine v_iload_n (i := 0) o.ok d_S_outside_5 rfl rfl ?_
    refine v_iload_n (i := 2) o.ok d_S_outside_6 rfl rfl ?_
    refine v_icmp_le o.ok (by omega) (by omega) d_S_outside_7 (fun c7 => ?_) (fun c7 => ?_)
    · refine v_iconst o.ok d_S_outside_14 ?_
      refine n_zret o (by first | exact b01_or _ | omega | simp) d_S_outside_15 ⟨congrArg J (by first | exact (b01_t (by omega)).symm | exact (b01_f (by omega)).symm), rfl, rfl⟩
    · refine v_iconst o.ok d_S_outside_10 ?_
      refine v_goto o.ok d_S_outside_11 ?_
      refine n_zret o (by first | exact b01_or _ | omega | simp) d_S_outside_15 ⟨congrArg J (by first | exact (b01_t (by omega)).symm | exact (b01_f (by omega)).symm), rfl, rfl⟩
def fnd (M : MSt) (t : Int) : Int := if 0 ≤ t ∧ t < M 22 0 then t else -1
set_option maxHeartbeats 4000000 in
set_option maxRecDepth 20000 in
theorem c_S_find (D : GD) (A : ASt) (t : Int) (N M : MSt) (h : SimT N M) (hm : 0 ≤ M 22 0 ∧ M 22 0 ≤ 60) (ht : InR t) : NF D y_S_find (wsOf y_S_find b_S_find 2 (some (.object "NestedStore$Transaction"))) (1) [rq A 0 (0), J (t)] A N (rq A 11 (fnd M t)) (N) := by
  refine NCon.of (by decide) (by simp [cat_rf, J_cat]) (Nat.le_of_ble_eq_true rfl) ?_
  intro X g0 o
  show V X (RelN D A N) 0 [(0, rq A 0 (0)), (1, J (t))] [] []
  have e1 : N 8 0 = M 22 0 := h.1.1
  have e2 : N 51 0 = M 22 0 := h.1.2
  refine v_iload_n (i := 1) o.ok d_S_find_0 rfl rfl ?_
  refine v_iconst o.ok d_S_find_1 ?_
  refine v_aload_nq (i := 0) o.ok d_S_find_2 rfl rfl ?_
  refine n_geti o 8 rfl rfl rfl lf_S_50 (by first | rfl | assumption | exact And.intro (by omega) (by omega)) d_S_find_3 (fun i3 => ?_)
  refine v_iconst o.ok d_S_find_6 ?_
  refine v_isub o.ok d_S_find_7 ?_
  refine n_cS o (c_S_outside D A t 0 (N 8 0 - 1) N ht (by omega) (by omega)) q_S_outside lm_S_53 d_S_find_8 (by decide) rfl (by first | exact Nat.le_of_ble_eq_true rfl | (simp only [List.map_cons, List.map_nil, cat_rf, J_cat, List.sum_cons, List.sum_nil, cat_lg, cat_rr]; decide)) rfl (n_f ?_)
  first | refine v_ifeq_b o.ok d_S_find_11 (fun c11 => ?_) (fun c11 => ?_) | refine v_if_eq o.ok (by omega) d_S_find_11 (fun c11 => ?_) (fun c11 => ?_)
  · refine v_aload_nq (i := 0) o.ok d_S_find_18 rfl rfl ?_
    refine n_s5 o lf_S_30 d_S_find_19 ?_
    refine v_iload_n (i := 1) o.ok d_S_find_22 rfl rfl ?_
    refine n_aT o (by omega) (by omega) d_S_find_23 ?_
    refine n_aret o d_S_find_24 ⟨by unfold fnd; first | rw [if_neg (by omega)] | rw [if_pos (by omega)], rfl, rfl⟩
  · refine n_null o.ok A 11 d_S_find_14 ?_
    refine v_goto o.ok d_S_find_15 ?_
    refine n_aret o d_S_find_24 ⟨by unfold fnd; first | rw [if_neg (by omega)] | rw [if_pos (by omega)], rfl, rfl⟩
/-- null is reached within n steps -/
def ndp (M : MSt) : Nat → Int → Prop
  | 0, x => x < 0
  | n + 1, x => x < 0 ∨ ndp M n (M 24 x)
def DepOk (M : MSt) : Prop := ∀ t, 0 ≤ t → t < M 22 0 → ndp M 4 t
theorem ndp_s {M : MSt} : ∀ (n : Nat) (x : Int), ndp M n x → ndp M (n + 1) x := by
  intro n
  induction n with
  | zero => exact fun x h => Or.inl h
  | succ n ih => exact fun x h => by rcases h with h | h; exact Or.inl h; exact Or.inr (ih _ h)
theorem abvN_s {M : MSt} {o : Int} : ∀ (n : Nat) (x : Int), ndp M n x → (abvN M o (n + 1) x ↔ abvN M o n x) := by
  intro n
  induction n with
  | zero => intro x h; have h : x < 0 := h; exact ⟨fun q => absurd q.1 (by omega), fun q => q.elim⟩
  | succ n ih =>
    intro x h
    show (0 ≤ x ∧ (x = o ∨ abvN M o (n + 1) (M 24 x))) ↔ (0 ≤ x ∧ (x = o ∨ abvN M o n (M 24 x)))
    rcases h with h | h
    · exact ⟨fun q => absurd q.1 (by omega), fun q => absurd q.1 (by omega)⟩
    · rw [ih _ h]
theorem InS_abv {M : MSt} {o t : Int} (h0 : 0 ≤ t) (h : ndp M 4 t) : InS M o t ↔ abvN M o 4 t := by
  rw [← abvN_s 4 t h]
  show t = o ∨ abvN M o 4 (M 24 t) ↔ 0 ≤ t ∧ (t = o ∨ abvN M o 4 (M 24 t))
  exact ⟨fun q => ⟨h0, q⟩, fun q => q.2⟩
set_option maxHeartbeats 4000000 in
set_option maxRecDepth 20000 in
theorem c_T_under (D : GD) (A : ASt) (t u : Int) (N M : MSt) (h : SimT N M) (hp : ParOk M) (hd : DepOk M) (ht : 0 ≤ t ∧ t < M 22 0) (hu : 0 ≤ u ∧ u < M 22 0) : NF D y_T_under (wsOf y_T_under b_T_under 3 (some .boolean)) (0) [rq A 11 (t), rq A 11 (u)] A N (J (b01 (InS M u t))) (N) := by
  refine NCon.of (by decide) (by simp [cat_rf, J_cat]) (Nat.le_of_ble_eq_true rfl) ?_
  intro X g0 o
  show V X (RelN D A N) 0 [(0, rq A 11 (t)), (1, rq A 11 (u))] [] []
  have e2 : N 51 0 = M 22 0 := h.1.2
  have lp : ∀ (n : Nat) (x : Int), ndp M n x → (x = -1 ∨ (0 ≤ x ∧ x < M 22 0)) → b01 (abvN M u n x) = b01 (InS M u t) → V X (RelN D A N) 2 [(0, rq A 11 t), (1, rq A 11 u), (2, rq A 11 x)] [] [] := by
    intro n
    induction n with
    | zero =>
      intro x h1 h2 h3
      have h1 : x < 0 := h1
      rw [b01_f (show ¬ abvN M u 0 x from fun q => q)] at h3
      refine v_aload_nq (i := 2) o.ok d_T_under_2 rfl rfl ?_
      refine n_ifnull o.ok d_T_under_3 (fun c3 => ?_) (fun c3 => ?_)
      · refine v_aload_nq (i := 2) o.ok d_T_under_19 rfl rfl ?_
        refine n_ifnull o.ok d_T_under_20 (fun c20 => ?_) (fun c20 => ?_)
        · refine v_iconst o.ok d_T_under_27 ?_
          refine n_zret o (by first | exact b01_or _ | omega | simp) d_T_under_28 ⟨congrArg J h3, rfl, rfl⟩
        · exfalso; omega
      · exfalso; omega
    | succ n ih =>
      intro x h1 h2 h3
      refine v_aload_nq (i := 2) o.ok d_T_under_2 rfl rfl ?_
      refine n_ifnull o.ok d_T_under_3 (fun c3 => ?_) (fun c3 => ?_)
      · have h4 : ¬ abvN M u (n + 1) x := fun q => by have := q.1; omega
        rw [b01_f h4] at h3
        refine v_aload_nq (i := 2) o.ok d_T_under_19 rfl rfl ?_
        refine n_ifnull o.ok d_T_under_20 (fun c20 => ?_) (fun c20 => ?_)
        · refine v_iconst o.ok d_T_under_27 ?_
          refine n_zret o (by first | exact b01_or _ | omega | simp) d_T_under_28 ⟨congrArg J h3, rfl, rfl⟩
        · exfalso; omega
      · refine v_aload_nq (i := 2) o.ok d_T_under_6 rfl rfl ?_
        refine v_aload_nq (i := 1) o.ok d_T_under_7 rfl rfl ?_
        refine n_injT (fun j8 => ?_)
        refine n_acmp_eq o.ok j8 (by first | assumption | exact Or.inr (And.intro (by omega) (by omega)) | exact Or.inr (And.intro (by decide) (by decide))) (by first | assumption | exact Or.inr (And.intro (by omega) (by omega)) | exact Or.inr (And.intro (by decide) (by decide))) d_T_under_8 (fun c8 => ?_) (fun c8 => ?_)
        · have h4 : abvN M u (n + 1) x := And.intro (by omega) (Or.inl (by assumption))
          rw [b01_t h4] at h3
          refine v_aload_nq (i := 2) o.ok d_T_under_19 rfl rfl ?_
          refine n_ifnull o.ok d_T_under_20 (fun c20 => ?_) (fun c20 => ?_)
          · exfalso; omega
          · refine v_iconst o.ok d_T_under_23 ?_
            refine v_goto o.ok d_T_under_24 ?_
            refine n_zret o (by first | exact b01_or _ | omega | simp) d_T_under_28 ⟨congrArg J h3, rfl, rfl⟩
        · refine v_aload_nq (i := 2) o.ok d_T_under_11 rfl rfl ?_
          refine n_getr o 31 11 rfl rfl rfl (by decide) lf_T_28 (by first | rfl | assumption | exact And.intro (by omega) (by omega)) d_T_under_12 (fun r12 => ?_)
          refine v_astore_nq (i := 2) (L' := [(0, _), (1, _), (2, _)]) (G' := []) o.ok d_T_under_15 rfl (o.lt (by decide)) rfl rfl ?_
          refine v_goto o.ok d_T_under_16 ?_
          have hx : 0 ≤ x ∧ x < M 22 0 := (by omega)
          have hT := (h.2 x hx.1 hx.2).1.1
          have hP := hp.2.2 x hx.1 hx.2
          rw [hT]
          refine ih (M 24 x) (by rcases h1 with z | z; omega; exact z) (by omega) ?_
          rw [← h3]
          refine b01_c ⟨fun z => And.intro hx.1 (Or.inr z), fun z => ?_⟩
          rcases z.2 with z | z
          · exact absurd z (by assumption)
          · exact z
  refine v_aload_nq (i := 0) o.ok d_T_under_0 rfl rfl ?_
  refine v_astore_nq (i := 2) (L' := [(0, _), (1, _), (2, _)]) (G' := []) o.ok d_T_under_1 rfl (o.lt (by decide)) rfl rfl ?_
  exact lp 4 t (hd t ht.1 ht.2) (Or.inr ht) (b01_c (InS_abv ht.1 (hd t ht.1 ht.2)).symm)
/-- locks of t from 0 on, up to k, are gone -/
def ulN (N : MSt) (t k : Int) (f : Nat) (i : Int) : Int := if f = 39 ∧ 33 * t ≤ i ∧ i < 33 * t + k then 0 else N f i
theorem ulN_0 (N : MSt) (t : Int) : ulN N t 0 = N := by
  funext f i
  unfold ulN
  rw [if_neg (by omega)]
theorem ulN_s (N : MSt) (t : Int) {k : Int} (h : 0 ≤ k) : up (ulN N t k) 39 (33 * t + k) 0 = ulN N t (k + 1) := by
  funext f i
  unfold up ulN
  by_cases e : f = 39
  · by_cases e2 : i = 33 * t + k
    · rw [if_pos ⟨e, e2⟩, if_pos ⟨e, by omega, by omega⟩]
    · rw [if_neg (fun z => e2 z.2)]
      by_cases e3 : 33 * t ≤ i ∧ i < 33 * t + k
      · rw [if_pos ⟨e, e3⟩, if_pos ⟨e, by omega, by omega⟩]
      · rw [if_neg (fun z => e3 z.2), if_neg (by omega)]
  · rw [if_neg (fun z => e z.1), if_neg (fun z => e z.1), if_neg (fun z => e z.1)]
theorem ulN_o {N : MSt} {t k i : Int} {f : Nat} (h : f ≠ 39) : ulN N t k f i = N f i := if_neg (fun z => h z.1)
set_option maxHeartbeats 4000000 in
set_option maxRecDepth 20000 in
theorem c_T_unlock (D : GD) (A : ASt) (t : Int) (N : MSt) (ht : 0 ≤ t ∧ t < N 51 0) : NE D y_T_unlock (wsOf y_T_unlock b_T_unlock 2 none) (0) [rq A 11 (t)] A N (ulN N t 33) := by
  refine NCon.of (by decide) (by simp [cat_rf, J_cat]) (Nat.le_of_ble_eq_true rfl) ?_
  intro X g0 o
  show V X (RelN D A N) 0 [(0, rq A 11 (t))] [] []
  have lp : ∀ (n : Nat) (k : Int), 0 ≤ k → k + n = 33 → V X (RelN D A (ulN N t k)) 2 [(0, rq A 11 t), (1, J k)] [] [] := by
    intro n
    have hv : ∀ k, 0 ≤ t ∧ t < ulN N t k 51 0 := fun k => by rw [ulN_o (by decide)]; exact ht
    induction n with
    | zero =>
      intro k h0 h1
      refine v_iload_n (i := 1) o.ok d_T_unlock_2 rfl rfl ?_
      refine v_bipush o.ok d_T_unlock_3 rfl ?_
      refine v_icmp_gt o.ok (by omega) (by omega) d_T_unlock_5 (fun c5 => ?_) (fun c5 => ?_)
      · refine n_vret o d_T_unlock_21 ⟨rfl, by rw [show k = 33 from by omega]⟩
      · exfalso; omega
    | succ n ih =>
      intro k h0 h1
      refine v_iload_n (i := 1) o.ok d_T_unlock_2 rfl rfl ?_
      refine v_bipush o.ok d_T_unlock_3 rfl ?_
      refine v_icmp_gt o.ok (by omega) (by omega) d_T_unlock_5 (fun c5 => ?_) (fun c5 => ?_)
      · exfalso; omega
      · refine v_aload_nq (i := 0) o.ok d_T_unlock_8 rfl rfl ?_
        refine n_lks o lf_T_20 (by exact hv k) d_T_unlock_9 ?_
        refine v_iload_n (i := 1) o.ok d_T_unlock_12 rfl rfl ?_
        refine v_iconst o.ok d_T_unlock_13 ?_
        refine n_last o (by exact hv k) (by omega) (by omega) d_T_unlock_14 ?_
        refine v_iinc (i := 1) (L' := [(0, _), (1, _)]) (G' := []) o.ok d_T_unlock_15 rfl (o.lt (by decide)) rfl rfl ?_
        refine v_goto o.ok d_T_unlock_18 ?_
        rw [ulN_s N t h0]
        exact ih _ (by omega) (by omega)
  refine v_iconst o.ok d_T_unlock_0 ?_
  refine v_istore_n (i := 1) (L' := [(0, _), (1, _)]) (G' := []) o.ok d_T_unlock_1 rfl (o.lt (by decide)) rfl rfl ?_
  have z := lp 33 0 (by omega) (by omega)
  rw [ulN_0] at z
  exact z
/-- locks of p from 0 on, up to k, have taken those of t in -/
def ihN (N : MSt) (t p k : Int) (f : Nat) (i : Int) : Int := if f = 39 ∧ 33 * p ≤ i ∧ i < 33 * p + k then (if N 39 i < N 39 (33 * t + (i - 33 * p)) then N 39 (33 * t + (i - 33 * p)) else N 39 i) else N f i
theorem ihN_0 (N : MSt) (t p : Int) : ihN N t p 0 = N := by
  funext f i
  unfold ihN
  rw [if_neg (by omega)]
theorem ihN_s (N : MSt) (t p : Int) {k : Int} (h : 0 ≤ k) : up (ihN N t p k) 39 (33 * p + k) (if N 39 (33 * p + k) < N 39 (33 * t + k) then N 39 (33 * t + k) else N 39 (33 * p + k)) = ihN N t p (k + 1) := by
  funext f i
  unfold up ihN
  by_cases e : f = 39
  · by_cases e2 : i = 33 * p + k
    · rw [if_pos ⟨e, e2⟩, if_pos (show f = 39 ∧ 33 * p ≤ i ∧ i < 33 * p + (k + 1) from ⟨e, by omega, by omega⟩), e2, show 33 * t + (33 * p + k - 33 * p) = 33 * t + k from by omega]
    · rw [if_neg (fun z => e2 z.2)]
      by_cases e3 : 33 * p ≤ i ∧ i < 33 * p + k
      · rw [if_pos (show f = 39 ∧ 33 * p ≤ i ∧ i < 33 * p + k from ⟨e, e3⟩), if_pos (show f = 39 ∧ 33 * p ≤ i ∧ i < 33 * p + (k + 1) from ⟨e, by omega, by omega⟩)]
      · rw [if_neg (fun z => e3 z.2), if_neg (by omega)]
  · rw [if_neg (fun z => e z.1), if_neg (fun z => e z.1), if_neg (fun z => e z.1)]
theorem ihN_o {N : MSt} {t p k i : Int} {f : Nat} (h : f ≠ 39) : ihN N t p k f i = N f i := if_neg (fun z => h z.1)
set_option maxHeartbeats 4000000 in
set_option maxRecDepth 20000 in
theorem c_T_inherit (D : GD) (A : ASt) (p t : Int) (N : MSt) (ht : 0 ≤ t ∧ t < N 51 0) (hp : 0 ≤ p ∧ p < N 51 0) (hne : p < t) : NE D y_T_inherit (wsOf y_T_inherit b_T_inherit 3 none) (1) [rq A 11 (p), rq A 11 (t)] A N (ihN N t p 33) := by
  refine NCon.of (by decide) (by simp [cat_rf, J_cat]) (Nat.le_of_ble_eq_true rfl) ?_
  intro X g0 o
  show V X (RelN D A N) 0 [(0, rq A 11 (p)), (1, rq A 11 (t))] [] []
  have lp : ∀ (n : Nat) (k : Int), 0 ≤ k → k + n = 33 → V X (RelN D A (ihN N t p k)) 2 [(0, rq A 11 p), (1, rq A 11 t), (2, J k)] [] [] := by
    intro n
    have hv : ∀ k, 0 ≤ p ∧ p < ihN N t p k 51 0 := fun k => by rw [ihN_o (by decide)]; exact hp
    have hv2 : ∀ k, 0 ≤ t ∧ t < ihN N t p k 51 0 := fun k => by rw [ihN_o (by decide)]; exact ht
    induction n with
    | zero =>
      intro k h0 h1
      refine v_iload_n (i := 2) o.ok d_T_inherit_2 rfl rfl ?_
      refine v_bipush o.ok d_T_inherit_3 rfl ?_
      refine v_icmp_gt o.ok (by omega) (by omega) d_T_inherit_5 (fun c5 => ?_) (fun c5 => ?_)
      · refine n_vret o d_T_inherit_36 ⟨rfl, by rw [show k = 33 from by omega]⟩
      · exfalso; omega
    | succ n ih =>
      intro k h0 h1
      have e1 : ihN N t p k 39 (33 * p + k) = N 39 (33 * p + k) := by unfold ihN; rw [if_neg (by omega)]
      have e2 : ihN N t p k 39 (33 * t + k) = N 39 (33 * t + k) := by unfold ihN; rw [if_neg (by omega)]
      refine v_iload_n (i := 2) o.ok d_T_inherit_2 rfl rfl ?_
      refine v_bipush o.ok d_T_inherit_3 rfl ?_
      refine v_icmp_gt o.ok (by omega) (by omega) d_T_inherit_5 (fun c5 => ?_) (fun c5 => ?_)
      · exfalso; omega
      · refine v_aload_nq (i := 0) o.ok d_T_inherit_8 rfl rfl ?_
        refine n_lks o lf_T_20 (by first | exact hv k | exact hv2 k) d_T_inherit_9 ?_
        refine v_iload_n (i := 2) o.ok d_T_inherit_12 rfl rfl ?_
        refine v_aload_nq (i := 0) o.ok d_T_inherit_13 rfl rfl ?_
        refine n_lks o lf_T_20 (by first | exact hv k | exact hv2 k) d_T_inherit_14 ?_
        refine v_iload_n (i := 2) o.ok d_T_inherit_17 rfl rfl ?_
        refine n_lald o (by first | exact hv k | exact hv2 k) (by omega) d_T_inherit_18 (fun i18 => ?_)
        rw [e1] at i18 ⊢
        refine v_aload_nq (i := 1) o.ok d_T_inherit_19 rfl rfl ?_
        refine n_lks o lf_T_20 (by first | exact hv k | exact hv2 k) d_T_inherit_20 ?_
        refine v_iload_n (i := 2) o.ok d_T_inherit_23 rfl rfl ?_
        refine n_lald o (by first | exact hv k | exact hv2 k) (by omega) d_T_inherit_24 (fun i24 => ?_)
        rw [e2] at i24 ⊢
        refine n_max o jl_T_71 (by decide) (by first | exact Nat.le_of_ble_eq_true rfl | (simp only [List.map_cons, List.map_nil, cat_rf, J_cat, List.sum_cons, List.sum_nil, cat_lg, cat_rr]; decide)) (by omega) (by omega) d_T_inherit_25 ?_
        refine v_i2b o.ok d_T_inherit_28 (by split <;> omega) ?_
        refine n_last o (by first | exact hv k | exact hv2 k) (by omega) (by split <;> omega) d_T_inherit_29 ?_
        refine v_iinc (i := 2) (L' := [(0, _), (1, _), (2, _)]) (G' := []) o.ok d_T_inherit_30 rfl (o.lt (by decide)) rfl rfl ?_
        refine v_goto o.ok d_T_inherit_33 ?_
        rw [ihN_s N t p h0]
        exact ih _ (by omega) (by omega)
  refine v_iconst o.ok d_T_inherit_0 ?_
  refine v_istore_n (i := 2) (L' := [(0, _), (1, _), (2, _)]) (G' := []) o.ok d_T_inherit_1 rfl (o.lt (by decide)) rfl rfl ?_
  have z := lp 33 0 (by omega) (by omega)
  rw [ihN_0] at z
  exact z

