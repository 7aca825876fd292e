theorem up_up (N : MSt) (f : Nat) (i a b : Int) : up (up N f i a) f i b = up N f i b := by
  funext f' i'
  unfold up
  split <;> rfl
/-- what latest answers -/
def LtQ (A : ASt) (N M : MSt) (t pt : Int) (x : Value) (A1 : ASt) (N1 : MSt) : Prop := ∃ z, x = rq A 10 z ∧ A1 = A ∧ EqL N N1 ∧ CH N1 M (InS M t) ∧ IsM N M (InS M t) pt z ∧ ∀ u, inM M u → ¬ InS M t u → N1 36 u = N 36 u
abbrev wsLt : List Cond := wsOf y_T_latest b_T_latest 5 (some (.object "NestedStore$Entry"))
theorem EqL.tr {N N1 N2 : MSt} (h : EqL N N1) (h1 : EqL N1 N2) : EqL N N2 := fun f i e => (h1 f i e).trans (h f i e)
theorem EqL.up (N : MSt) (i z : Int) : EqL N (up N 36 i z) := fun f j e => up_ne (fun q => e q.1)
theorem SimT.eq {N N1 M : MSt} (h : SimT N M) (e : EqL N N1) : SimT N1 M :=
  h.c (e _ _ (by decide)) (e _ _ (by decide)) (funext fun i => e _ i (by decide)) (funext fun i => e _ i (by decide)) (funext fun i => e _ i (by decide)) (funext fun i => e _ i (by decide)) (funext fun i => e _ i (by decide)) (funext fun i => e _ i (by decide)) (funext fun i => e _ i (by decide)) (funext fun i => e _ i (by decide)) (funext fun i => e _ i (by decide)) (funext fun i => e _ i (by decide)) (funext fun i => e _ i (by decide)) rfl rfl rfl rfl rfl rfl rfl rfl
theorem SimL.eq {N N1 M : MSt} (h : SimL N M) (e : EqL N N1) : SimL N1 M :=
  h.c (e _ _ (by decide)) (e _ _ (by decide)) (e _ _ (by decide)) (funext fun i => e _ i (by decide)) (funext fun i => e _ i (by decide)) (funext fun i => e _ i (by decide)) (funext fun i => e _ i (by decide)) (funext fun i => e _ i (by decide)) (funext fun i => e _ i (by decide)) (funext fun i => e _ i (by decide)) (funext fun i => e _ i (by decide)) (funext fun i => e _ i (by decide)) rfl rfl rfl rfl rfl rfl rfl rfl rfl rfl
set_option maxHeartbeats 4000000 in
set_option maxRecDepth 20000 in
theorem latest_step (D : GD) (A : ASt) (M : MSt) (hp : ParOk M) (hd : DepOk M) (hby : ∀ r, 0 ≤ r → r < M 12 0 → inM M (M 15 r)) (k : Nat) (t pt : Int) (N : MSt) (ht : inM M t) (hT : SimT N M) (hL : SimL N M) (hC : CH N M (InS M t)) (hpt : InR pt) (hr3 : M 12 0 ≤ 300)
    (IH : ∀ (c : Int) (N' : MSt), inM M c → M 24 c = t → SimT N' M → SimL N' M → CH N' M (InS M c) → ∃ k', k' < k ∧ NX D y_T_latest wsLt k' [rq A 11 c, J pt] A N' (LtQ A N' M c pt)) : NX D y_T_latest wsLt k [rq A 11 t, J pt] A N (LtQ A N M t pt) := by
  refine NCon.of (by decide) (by simp [cat_rf, J_cat]) (Nat.le_of_ble_eq_true rfl) ?_
  intro X g0 o
  show V X (RelN D A N) 0 [(0, rq A 11 t), (1, J pt)] [] []
  have e2 : N 51 0 = M 22 0 := hT.1.2
  have hne := hL.1.2.2.2
  have htt : InS M t t := Or.inl rfl
  have hCt := hC t ht htt
  have lp63 : ∀ (n : Nat) (c : Int) (N1 : MSt) (b : Int), c < n → (c = -1 ∨ (inM M c ∧ M 24 c = t)) → EqL N N1 → CH N1 M (InS M t) → (∀ u, inM M u → ¬ InS M t u → N1 36 u = N 36 u) → IsM N M (fun u => u = t ∨ ∃ c', c < c' ∧ inM M c' ∧ M 24 c' = t ∧ InS M c' u) pt b → V X (RelN D A N1) 63 [(0, rq A 11 t), (1, J pt), (2, rq A 10 b), (3, rq A 11 c)] [] [] := by
    intro n
    induction n with
    | zero =>
      intro c N1 b h0 h1 h2 h3 h4 h5
      refine v_aload_nq (i := 3) o.ok d_T_latest_63 rfl rfl ?_
      refine n_ifnull o.ok d_T_latest_64 (fun c64 => ?_) (fun c64 => ?_)
      · refine v_aload_nq (i := 2) o.ok d_T_latest_106 rfl rfl ?_
        refine n_aret o d_T_latest_107 ⟨b, rfl, rfl, h2, h3, h5.iff (fun r a d => by
          rw [InS_split hp hd ht (hby r a d)]
          exact ⟨fun z => by rcases z with z | ⟨c', z⟩; exact Or.inl z; exact Or.inr ⟨c', by have := z.1.1; omega, z⟩, fun z => by rcases z with z | ⟨c', _, z⟩; exact Or.inl z; exact Or.inr ⟨c', z⟩⟩), h4⟩
      · exfalso; omega
    | succ n ih =>
      intro c N1 b h0 h1 h2 h3 h4 h5
      by_cases hc : c < 0
      · skip
        refine v_aload_nq (i := 3) o.ok d_T_latest_63 rfl rfl ?_
        refine n_ifnull o.ok d_T_latest_64 (fun c64 => ?_) (fun c64 => ?_)
        · refine v_aload_nq (i := 2) o.ok d_T_latest_106 rfl rfl ?_
          refine n_aret o d_T_latest_107 ⟨b, rfl, rfl, h2, h3, h5.iff (fun r a d => by
            rw [InS_split hp hd ht (hby r a d)]
            exact ⟨fun z => by rcases z with z | ⟨c', z⟩; exact Or.inl z; exact Or.inr ⟨c', by have := z.1.1; omega, z⟩, fun z => by rcases z with z | ⟨c', _, z⟩; exact Or.inl z; exact Or.inr ⟨c', z⟩⟩), h4⟩
        · exfalso; omega
      · have h1 : inM M c ∧ M 24 c = t := (by rcases h1 with z | z; omega; exact z)
        have hcS : ∀ u, inM M u → InS M c u → InS M t u := fun u hu z => (InS_split hp hd ht hu).mpr (Or.inr ⟨c, h1.1, h1.2, z⟩)
        obtain ⟨k', hk', hcon⟩ := IH c N1 h1.1 h1.2 (hT.eq h2) (hL.eq h2) (fun u hu z => h3 u hu (hcS u hu z))
        have hsb := (hT.2 c h1.1.1 h1.1.2).2.2.2.1 (by rw [h1.2]; exact ht.1)
        rw [h1.2] at hsb
        have hbv : b = -1 ∨ (0 ≤ b ∧ b < M 12 0) := (by rcases h5 with z | z; exact Or.inl z.1; exact Or.inr z.1.1)
        have key : ∀ (N2 : MSt) (z : Int), EqL N1 N2 → CH N2 M (InS M c) → (∀ u, inM M u → ¬ InS M c u → N2 36 u = N1 36 u) → IsM N1 M (InS M c) pt z → V X (RelN D A N2) 98 [(0, rq A 11 t), (1, J pt), (2, rq A 10 (if b < z then z else b)), (3, rq A 11 c), (4, rq A 10 z)] [] [] := by
          intro N2 z q1 q2 q3 q4
          have h22 := h2.tr q1
          have eSb : N2 38 c = N 38 c := h22 _ _ (by decide)
          have e2' : N2 51 0 = M 22 0 := (h22 _ _ (by decide)).trans e2
          have hcv : 0 ≤ c ∧ c < N2 51 0 := (by rw [e2']; exact h1.1)
          refine v_aload_nq (i := 3) o.ok d_T_latest_98 rfl rfl ?_
          refine n_getr o 38 11 rfl rfl rfl (by decide) lf_T_44 (by exact hcv) d_T_latest_99 (fun r99 => ?_)
          refine v_astore_nq (i := 3) (L' := [(0, _), (1, _), (2, _), (3, _), (4, _)]) (G' := []) o.ok d_T_latest_102 rfl (o.lt (by decide)) rfl rfl ?_
          refine v_goto o.ok d_T_latest_103 ?_
          rw [eSb]
          refine v_sel [0, 1, 2, 3] [] rfl rfl (ih (N 38 c) N2 (if b < z then z else b) (by rcases hsb with y | y <;> omega) (by rcases hsb with y | y; exact Or.inl y.1; exact Or.inr ⟨⟨y.1, by have := h1.1.2; omega⟩, y.2.2.1⟩) h22 ?_ ?_ ?_)
          · intro u hu hs
            by_cases y : InS M c u
            · exact q2 u hu y
            · have w := h3 u hu hs
              rw [q3 u hu y]
              refine ⟨w.1.eq q1, fun r a b c d => ?_⟩
              rw [q1 30 r (by decide)]
              exact (w.2 r a b c d).eq q1
          · intro u hi hu
            rw [q3 u hi (fun y => hu (hcS u hi y))]
            exact h4 u hi hu
          · have w := h5.join (q4.eq (N1 := N) (fun f i e => (h2 f i e).symm))
            refine w.iff (fun r a d => ?_)
            constructor
            · rintro (e | ⟨c', e1, e2, e3, e4⟩)
              · exact Or.inl (Or.inl e)
              · by_cases y : c < c'
                · exact Or.inl (Or.inr ⟨c', y, e2, e3, e4⟩)
                · have : c' = c := (by
                    rcases hsb with z | z
                    · exact Decidable.byContradiction fun q => z.2 c' e2.1 (by omega) e3
                    · exact Decidable.byContradiction fun q => (by have := z.2.2.2 c' e2.1 (by omega) e3; omega))
                  rw [this] at e4
                  exact Or.inr e4
            · rintro ((e | ⟨c', e1, e2, e3, e4⟩) | e)
              · exact Or.inl e
              · exact Or.inr ⟨c', by rcases hsb with z | z <;> omega, e2, e3, e4⟩
              · exact Or.inr ⟨c, by rcases hsb with z | z <;> omega, h1.1, h1.2, e⟩
        refine v_aload_nq (i := 3) o.ok d_T_latest_63 rfl rfl ?_
        refine n_ifnull o.ok d_T_latest_64 (fun c64 => ?_) (fun c64 => ?_)
        · exfalso; omega
        · refine v_aload_nq (i := 3) o.ok d_T_latest_67 rfl rfl ?_
          refine v_iload_n (i := 1) o.ok d_T_latest_68 rfl rfl ?_
          refine n_cS o (hcon) q_T_latest lm_T_67 d_T_latest_69 hk' rfl (by first | exact Nat.le_of_ble_eq_true rfl | (simp only [List.map_cons, List.map_nil, cat_rf, J_cat, List.sum_cons, List.sum_nil, cat_lg, cat_rr]; decide)) rfl (n_x (fun x69 A69 N69 h69 => ?_))
          obtain ⟨z, rfl, hA, q1, q2, q4, q3⟩ := h69
          rw [hA]
          have hzv : z = -1 ∨ (0 ≤ z ∧ z < M 12 0) := (by rcases q4 with y | y; exact Or.inl y.1; exact Or.inr y.1.1)
          have hL2 := hL.eq (h2.tr q1)
          have hne2 := hL2.1.2.2.2
          refine v_astoreq (i := 4) (L' := [(0, _), (1, _), (2, _), (3, _), (4, _)]) (G' := []) o.ok d_T_latest_72 (o.lt (by decide)) rfl rfl ?_
          refine v_aloadq (i := 4) o.ok d_T_latest_74 rfl ?_
          refine n_ifnull o.ok d_T_latest_76 (fun c76 => ?_) (fun c76 => ?_)
          · have w := key N69 z q1 q2 q3 q4
            first
              | (rw [show (if b < z then z else b) = z from if_pos (by omega)] at w; exact w)
              | (rw [show (if b < z then z else b) = b from if_neg (by omega)] at w; exact w)
          · have ez := (hL2.2 z (by omega) (by omega)).1.1
            refine v_aload_nq (i := 2) o.ok d_T_latest_79 rfl rfl ?_
            refine n_ifnull o.ok d_T_latest_80 (fun c80 => ?_) (fun c80 => ?_)
            · refine v_aloadq (i := 4) o.ok d_T_latest_95 rfl ?_
              refine v_astore_nq (i := 2) (L' := [(0, _), (1, _), (2, _), (3, _), (4, _)]) (G' := []) o.ok d_T_latest_97 rfl (o.lt (by decide)) rfl rfl ?_
              have w := key N69 z q1 q2 q3 q4
              first
                | (rw [show (if b < z then z else b) = z from if_pos (by omega)] at w; exact w)
                | (rw [show (if b < z then z else b) = b from if_neg (by omega)] at w; exact w)
            · have eb := (hL2.2 b (by omega) (by omega)).1.1
              refine v_aloadq (i := 4) o.ok d_T_latest_83 rfl ?_
              refine n_geti o 20 rfl rfl rfl lf_T_64 (by first | rfl | assumption | exact And.intro (by omega) (by omega)) d_T_latest_85 (fun i85 => ?_)
              refine v_aload_nq (i := 2) o.ok d_T_latest_88 rfl rfl ?_
              refine n_geti o 20 rfl rfl rfl lf_T_64 (by first | rfl | assumption | exact And.intro (by omega) (by omega)) d_T_latest_89 (fun i89 => ?_)
              refine v_icmp_le o.ok (by omega) (by omega) d_T_latest_92 (fun c92 => ?_) (fun c92 => ?_)
              · have w := key N69 z q1 q2 q3 q4
                first
                  | (rw [show (if b < z then z else b) = z from if_pos (by omega)] at w; exact w)
                  | (rw [show (if b < z then z else b) = b from if_neg (by omega)] at w; exact w)
              · refine v_aloadq (i := 4) o.ok d_T_latest_95 rfl ?_
                refine v_astore_nq (i := 2) (L' := [(0, _), (1, _), (2, _), (3, _), (4, _)]) (G' := []) o.ok d_T_latest_97 rfl (o.lt (by decide)) rfl rfl ?_
                have w := key N69 z q1 q2 q3 q4
                first
                  | (rw [show (if b < z then z else b) = z from if_pos (by omega)] at w; exact w)
                  | (rw [show (if b < z then z else b) = b from if_neg (by omega)] at w; exact w)
  have hch := (hT.2 t ht.1 ht.2).2.2.1
  have lp57 : ∀ (l b : Int), Lnk N M l t (M 12 0) → IsM N M (fun u => u = t) pt b → V X (RelN D A (up N 36 t l)) 57 [(0, rq A 11 t), (1, J pt)] [] [rq A 10 b] := by
    intro l b h1 h2
    have e3 : up N 36 t l 37 t = N 37 t := rfl
    refine v_astore_nq (i := 2) (L' := [(0, _), (1, _), (2, _)]) (G' := []) o.ok d_T_latest_57 rfl (o.lt (by decide)) rfl rfl ?_
    refine v_aload_nq (i := 0) o.ok d_T_latest_58 rfl rfl ?_
    refine n_getr o 37 11 rfl rfl rfl (by decide) lf_T_41 (by exact And.intro ht.1 (by show t < N 51 0; rw [e2]; exact ht.2)) d_T_latest_59 (fun r59 => ?_)
    refine v_astore_nq (i := 3) (L' := [(0, _), (1, _), (2, _), (3, _)]) (G' := []) o.ok d_T_latest_62 rfl (o.lt (by decide)) rfl rfl ?_
    rw [e3]
    refine lp63 60 (N 37 t) (up N 36 t l) b (by have := hp.2.1; rcases hch with z | z <;> omega) (by rcases hch with z | z; exact Or.inl z.1; exact Or.inr ⟨⟨z.1, z.2.1⟩, z.2.2.1⟩) (EqL.up N t l) ?_ (fun u _ hu => up_ne (fun q => hu (by rw [q.2]; exact htt))) ?_
    · intro u hu hs
      have w := hC u hu hs
      refine ⟨?_, fun r a b c d => (w.2 r a b c d).eq (EqL.up N t l)⟩
      by_cases e : u = t
      · subst e; rw [up_same]; exact h1.eq (EqL.up N u l)
      · rw [up_ne (fun q => e q.2)]; exact w.1.eq (EqL.up N t l)
    · refine h2.iff (fun r a d => ⟨fun z => ?_, fun z => Or.inl z⟩)
      rcases z with z | ⟨c', e1, e2, e3, e4⟩
      · exact z
      · exfalso
        rcases hch with y | y
        · exact y.2 c' e2.1 e2.2 e3
        · have := y.2.2.2 c' e2.1 e2.2 e3; omega
  have lp31 : ∀ (l : Int), Lnk N M l t (M 12 0) → (0 ≤ l → N 29 l = 0) → V X (RelN D A (up N 36 t l)) 31 [(0, rq A 11 t), (1, J pt)] [] [] := by
    intro l h1 h2
    have hlv : l = -1 ∨ ((0 ≤ l ∧ l < M 12 0) ∧ M 14 l = 2 ∧ M 15 l = t) := (by rcases h1.1 with z | ⟨a, b, c⟩; exact Or.inl z; exact Or.inr ⟨⟨a, b⟩, c⟩)
    have hvt : 0 ≤ t ∧ t < N 51 0 := by rw [e2]; exact ht
    have hnon : (∀ r, cnd N M (fun u => u = t) pt r → False) → IsM N M (fun u => u = t) pt (-1) := fun z => Or.inl ⟨rfl, z⟩
    refine v_aload_nq (i := 0) o.ok d_T_latest_31 rfl rfl ?_
    refine n_getr o 36 10 rfl rfl rfl (by decide) lf_T_51 (by first | exact hvt | exact And.intro (by omega) (by show l < N 50 0; omega)) d_T_latest_32 (fun r32 => ?_)
    (try simp only [up, Nat.reduceEqDiff, false_and, if_false, and_self, if_true, true_and, and_true] at r32 ⊢)
    refine n_ifnull o.ok d_T_latest_35 (fun c35 => ?_) (fun c35 => ?_)
    · refine n_null o.ok A 10 d_T_latest_56 ?_
      refine lp57 l _ h1 ?_
      first
        | exact Or.inr ⟨⟨by omega, by rcases hlv with z | z; omega; exact z.2.1, h2 (by omega), by rcases hlv with z | z; omega; exact z.2.2, by omega⟩, fun r q => h1.2 r q.1.1 q.1.2 q.2.1 q.2.2.2.1 q.2.2.1⟩
        | exact hnon (fun r q => by have := h1.2 r q.1.1 q.1.2 q.2.1 q.2.2.2.1 q.2.2.1; have := q.2.2.2.2; have := q.1.1; omega)
    · have el := (hL.2 l (by omega) (by omega)).1.1
      refine v_aload_nq (i := 0) o.ok d_T_latest_38 rfl rfl ?_
      refine n_getr o 36 10 rfl rfl rfl (by decide) lf_T_51 (by first | exact hvt | exact And.intro (by omega) (by show l < N 50 0; omega)) d_T_latest_39 (fun r39 => ?_)
      (try simp only [up, Nat.reduceEqDiff, false_and, if_false, and_self, if_true, true_and, and_true] at r39 ⊢)
      refine n_geti o 20 rfl rfl rfl lf_T_64 (by first | exact hvt | exact And.intro (by omega) (by show l < N 50 0; omega)) d_T_latest_42 (fun i42 => ?_)
      (try simp only [up, Nat.reduceEqDiff, false_and, if_false, and_self, if_true, true_and, and_true] at i42 ⊢)
      refine v_iload_n (i := 1) o.ok d_T_latest_45 rfl rfl ?_
      refine v_icmp_le o.ok (by omega) (by omega) d_T_latest_46 (fun c46 => ?_) (fun c46 => ?_)
      · refine n_null o.ok A 10 d_T_latest_56 ?_
        refine lp57 l _ h1 ?_
        first
          | exact Or.inr ⟨⟨by omega, by rcases hlv with z | z; omega; exact z.2.1, h2 (by omega), by rcases hlv with z | z; omega; exact z.2.2, by omega⟩, fun r q => h1.2 r q.1.1 q.1.2 q.2.1 q.2.2.2.1 q.2.2.1⟩
          | exact hnon (fun r q => by have := h1.2 r q.1.1 q.1.2 q.2.1 q.2.2.2.1 q.2.2.1; have := q.2.2.2.2; have := q.1.1; omega)
      · refine v_aload_nq (i := 0) o.ok d_T_latest_49 rfl rfl ?_
        refine n_getr o 36 10 rfl rfl rfl (by decide) lf_T_51 (by first | exact hvt | exact And.intro (by omega) (by show l < N 50 0; omega)) d_T_latest_50 (fun r50 => ?_)
        (try simp only [up, Nat.reduceEqDiff, false_and, if_false, and_self, if_true, true_and, and_true] at r50 ⊢)
        refine v_goto o.ok d_T_latest_53 ?_
        refine lp57 l _ h1 ?_
        first
          | exact Or.inr ⟨⟨by omega, by rcases hlv with z | z; omega; exact z.2.1, h2 (by omega), by rcases hlv with z | z; omega; exact z.2.2, by omega⟩, fun r q => h1.2 r q.1.1 q.1.2 q.2.1 q.2.2.2.1 q.2.2.1⟩
          | exact hnon (fun r q => by have := h1.2 r q.1.1 q.1.2 q.2.1 q.2.2.2.1 q.2.2.1; have := q.2.2.2.2; have := q.1.1; omega)
  have lp0 : ∀ (n : Nat) (l : Int), l < n → Lnk N M l t (M 12 0) → V X (RelN D A (up N 36 t l)) 0 [(0, rq A 11 t), (1, J pt)] [] [] := by
    intro n
    have hvt : 0 ≤ t ∧ t < N 51 0 := by rw [e2]; exact ht
    induction n with
    | zero =>
      intro l h0 h1
      refine v_aload_nq (i := 0) o.ok d_T_latest_0 rfl rfl ?_
      refine n_getr o 36 10 rfl rfl rfl (by decide) lf_T_51 (by exact hvt) d_T_latest_1 (fun r1 => ?_)
      (try simp only [up, Nat.reduceEqDiff, false_and, if_false, and_self, if_true, true_and, and_true] at r1 ⊢)
      refine n_ifnull o.ok d_T_latest_4 (fun c4 => ?_) (fun c4 => ?_)
      · exact lp31 l h1 (fun z => by omega)
      · exfalso; omega
    | succ n ih =>
      intro l h0 h1
      have hlv : l = -1 ∨ ((0 ≤ l ∧ l < M 12 0) ∧ M 14 l = 2 ∧ M 15 l = t) := (by rcases h1.1 with z | ⟨a, b, c⟩; exact Or.inl z; exact Or.inr ⟨⟨a, b⟩, c⟩)
      refine v_aload_nq (i := 0) o.ok d_T_latest_0 rfl rfl ?_
      refine n_getr o 36 10 rfl rfl rfl (by decide) lf_T_51 (by first | exact hvt | exact And.intro (by omega) (by show l < N 50 0; omega)) d_T_latest_1 (fun r1 => ?_)
      (try simp only [up, Nat.reduceEqDiff, false_and, if_false, and_self, if_true, true_and, and_true] at r1 ⊢)
      refine n_ifnull o.ok d_T_latest_4 (fun c4 => ?_) (fun c4 => ?_)
      · exact lp31 l h1 (fun z => by omega)
      · refine v_aload_nq (i := 0) o.ok d_T_latest_7 rfl rfl ?_
        refine n_getr o 36 10 rfl rfl rfl (by decide) lf_T_51 (by first | exact hvt | exact And.intro (by omega) (by show l < N 50 0; omega)) d_T_latest_8 (fun r8 => ?_)
        (try simp only [up, Nat.reduceEqDiff, false_and, if_false, and_self, if_true, true_and, and_true] at r8 ⊢)
        refine n_getz o 29 rfl rfl rfl lf_T_55 (by first | exact hvt | exact And.intro (by omega) (by show l < N 50 0; omega)) d_T_latest_11 (fun i11 => ?_)
        (try simp only [up, Nat.reduceEqDiff, false_and, if_false, and_self, if_true, true_and, and_true] at i11 ⊢)
        first | refine v_ifeq_b o.ok d_T_latest_14 (fun c14 => ?_) (fun c14 => ?_) | refine v_if_eq o.ok (by omega) d_T_latest_14 (fun c14 => ?_) (fun c14 => ?_)
        · exact lp31 l h1 (fun z => by omega)
        · refine v_aload_nq (i := 0) o.ok d_T_latest_17 rfl rfl ?_
          refine v_aload_nq (i := 0) o.ok d_T_latest_18 rfl rfl ?_
          refine n_getr o 36 10 rfl rfl rfl (by decide) lf_T_51 (by first | exact hvt | exact And.intro (by omega) (by show l < N 50 0; omega)) d_T_latest_19 (fun r19 => ?_)
          (try simp only [up, Nat.reduceEqDiff, false_and, if_false, and_self, if_true, true_and, and_true] at r19 ⊢)
          refine n_getr o 30 10 rfl rfl rfl (by decide) lf_T_61 (by first | exact hvt | exact And.intro (by omega) (by show l < N 50 0; omega)) d_T_latest_22 (fun r22 => ?_)
          (try simp only [up, Nat.reduceEqDiff, false_and, if_false, and_self, if_true, true_and, and_true] at r22 ⊢)
          refine n_putr o 36 10 rfl rfl rfl (by decide) rfl lf_T_51 (by first | exact hvt | exact And.intro (by omega) (by show l < N 50 0; omega)) (by first | assumption | exact Or.inr (And.intro (by omega) (by omega)) | exact Or.inr (And.intro (by decide) (by decide))) d_T_latest_25 ?_
          refine v_goto o.ok d_T_latest_28 ?_
          have hlv : (0 ≤ l ∧ l < M 12 0) ∧ M 14 l = 2 ∧ M 15 l = t := (by rcases hlv with z | z; omega; exact z)
          have hf := hCt.2 l hlv.1.1 hlv.1.2 hlv.2.1 hlv.2.2
          rw [up_up]
          refine ih (N 30 l) (by rcases hf.1 with z | z <;> omega) (hf.mono (by omega) (fun q a b c d e => ?_))
          have := h1.2 q (by omega) b c d e
          have e9 : q = l := (by omega)
          rw [e9] at e
          omega
  have w := lp0 302 (N 36 t) (by have := hCt.1.1; omega) hCt.1
  rw [up_self] at w
  exact w
theorem c_T_latest (D : GD) (A : ASt) (M : MSt) (hp : ParOk M) (hd : DepOk M) (hby : ∀ r, 0 ≤ r → r < M 12 0 → inM M (M 15 r)) (hr3 : M 12 0 ≤ 300) (pt : Int) (hpt : InR pt) : ∀ (k : Nat) (t : Int) (N : MSt), inM M t → 4 - dep M t ≤ (k : Int) → SimT N M → SimL N M → CH N M (InS M t) → NX D y_T_latest wsLt k [rq A 11 t, J pt] A N (LtQ A N M t pt) := by
  intro k
  induction k with
  | zero =>
    intro t N ht hk hT hL hC
    refine latest_step D A M hp hd hby 0 t pt N ht hT hL hC hpt hr3 (fun c N' hc hpc _ _ _ => ?_)
    exfalso
    have h1 := dep_child (hd c hc.1 hc.2) hc.1 ht.1 hpc
    have h2 := dep_le (hd c hc.1 hc.2) hc.1
    omega
  | succ k ih =>
    intro t N ht hk hT hL hC
    refine latest_step D A M hp hd hby (k + 1) t pt N ht hT hL hC hpt hr3 (fun c N' hc hpc q1 q2 q3 => ⟨k, by omega, ?_⟩)
    have h1 := dep_child (hd c hc.1 hc.2) hc.1 ht.1 hpc
    exact ih c N' hc (by omega) q1 q2 q3

