/-! requests: tables -/
abbrev b_Rec : ByteArray := prog_18_method_1_code
def y_Rec : MethodName := ⟨"java/lang/Record", "<init>", "()V"⟩
set_option maxRecDepth 20000 in
theorem k_Rec : Cond.code y_Rec b_Rec 1 none ∈ tbG := tb_in 266 (by rfl) rfl
set_option maxRecDepth 20000 in
theorem q_Rec : COk "java/lang/Record" y_Rec b_Rec 1 0 := ⟨k_Rec, tb_in 265 (by rfl) rfl, in_Record, rfl, ⟨by decide +kernel, by decide +kernel, by decide +kernel, by decide +kernel⟩, by decide⟩
set_option maxRecDepth 20000 in
theorem jl_Rec_1 : Cond.methodLink "java/lang/Record" 1 objectInit ∈ tbG := tb_in 267 (by rfl) rfl
set_option maxRecDepth 20000 in
theorem jl_RG_3 : Cond.methodLink R_RG 3 y_Rec ∈ tbG := tb_in 264 (by rfl) rfl
set_option maxRecDepth 20000 in
theorem jl_RP_3 : Cond.methodLink R_RP 3 y_Rec ∈ tbG := tb_in 460 (by rfl) rfl
set_option maxRecDepth 20000 in
theorem jl_RD_3 : Cond.methodLink R_RD 3 y_Rec ∈ tbG := tb_in 477 (by rfl) rfl
set_option maxRecDepth 20000 in
theorem jl_RS_3 : Cond.methodLink R_RS 3 y_Rec ∈ tbG := tb_in 491 (by rfl) rfl
theorem d_Rec_0 : dc b_Rec 0 (.aload_n 0) 1 := ⟨by decide +kernel, rfl⟩
theorem d_Rec_1 : dc b_Rec 1 (.invokespecial 1) 4 := ⟨by decide +kernel, rfl⟩
theorem d_Rec_4 : dc b_Rec 4 (.return_) 5 := ⟨by decide +kernel, rfl⟩
set_option maxRecDepth 20000 in
theorem lm_S_202 : Cond.methodLink R_S 202 x_ask ∈ tbG := tb_in 277 (by rfl) rfl
set_option maxRecDepth 20000 in
theorem lm_S_259 : Cond.methodLink R_S 259 x_act ∈ tbG := tb_in 343 (by rfl) rfl
set_option maxRecDepth 20000 in
theorem f_RG_ask : FOk R_RG x_ask y_RG_ask b_RG_ask 4 (some .long) 3 := ⟨k_RG_ask, tb_in 316 (by rfl) rfl, tb_in 318 (by rfl) rfl, in_RG, List.mem_of_getElem? (i := 0) rfl, ⟨by decide +kernel, by decide +kernel, by decide +kernel⟩, by decide⟩
set_option maxRecDepth 20000 in
theorem f_RG_act : FOk R_RG x_act y_RG_act b_RG_act 3 (some .int) 2 := ⟨k_RG_act, tb_in 381 (by rfl) rfl, tb_in 383 (by rfl) rfl, in_RG, List.mem_of_getElem? (i := 1) rfl, ⟨by decide +kernel, by decide +kernel, by decide +kernel⟩, by decide⟩
set_option maxRecDepth 20000 in
theorem f_RP_ask : FOk R_RP x_ask y_RP_ask b_RP_ask 6 (some .long) 3 := ⟨k_RP_ask, tb_in 325 (by rfl) rfl, tb_in 327 (by rfl) rfl, in_RP, List.mem_of_getElem? (i := 2) rfl, ⟨by decide +kernel, by decide +kernel, by decide +kernel⟩, by decide⟩
set_option maxRecDepth 20000 in
theorem f_RP_act : FOk R_RP x_act y_RP_act b_RP_act 3 (some .int) 2 := ⟨k_RP_act, tb_in 389 (by rfl) rfl, tb_in 391 (by rfl) rfl, in_RP, List.mem_of_getElem? (i := 3) rfl, ⟨by decide +kernel, by decide +kernel, by decide +kernel⟩, by decide⟩
set_option maxRecDepth 20000 in
theorem f_RD_ask : FOk R_RD x_ask y_RD_ask b_RD_ask 6 (some .long) 3 := ⟨k_RD_ask, tb_in 281 (by rfl) rfl, tb_in 283 (by rfl) rfl, in_RD, List.mem_of_getElem? (i := 4) rfl, ⟨by decide +kernel, by decide +kernel, by decide +kernel⟩, by decide⟩
set_option maxRecDepth 20000 in
theorem f_RD_act : FOk R_RD x_act y_RD_act b_RD_act 3 (some .int) 2 := ⟨k_RD_act, tb_in 346 (by rfl) rfl, tb_in 348 (by rfl) rfl, in_RD, List.mem_of_getElem? (i := 5) rfl, ⟨by decide +kernel, by decide +kernel, by decide +kernel⟩, by decide⟩
set_option maxRecDepth 20000 in
theorem f_RS_ask : FOk R_RS x_ask y_RS_ask b_RS_ask 7 (some .long) 3 := ⟨k_RS_ask, tb_in 334 (by rfl) rfl, tb_in 336 (by rfl) rfl, in_RS, List.mem_of_getElem? (i := 6) rfl, ⟨by decide +kernel, by decide +kernel, by decide +kernel⟩, by decide⟩
set_option maxRecDepth 20000 in
theorem f_RS_act : FOk R_RS x_act y_RS_act b_RS_act 6 (some .int) 2 := ⟨k_RS_act, tb_in 395 (by rfl) rfl, tb_in 397 (by rfl) rfl, in_RS, List.mem_of_getElem? (i := 7) rfl, ⟨by decide +kernel, by decide +kernel, by decide +kernel⟩, by decide⟩
theorem nf_RG_39 : Cond.fieldLinkNest R_RG 39 (clN 1) (clT 1 13).2.1 (clT 1 13).2.2.1 R_S ∈ nestW := List.mem_of_getElem? (i := 0) (by rfl)
theorem nf_RS_42 : Cond.fieldLinkNest R_RS 42 (clN 1) (clT 1 13).2.1 (clT 1 13).2.2.1 R_S ∈ nestW := List.mem_of_getElem? (i := 1) (by rfl)
theorem c_Rec (D : GD) (g : GSt) (a : Nat) : GCon D y_Rec (wsOf y_Rec b_Rec 1 none) 1 [.ref a] g (fun r g1 => r = none ∧ g1 = g) := by
  refine GCon.of (by decide) (by intro v hv; simp at hv; subst hv; rfl) (Nat.le_of_ble_eq_true rfl) (fun X o _ => ?_)
  show V X (RelG D g) 0 [(0, .ref a)] [] []
  refine v_aload_n (i := 0) o.ok d_Rec_0 rfl rfl ?_
  refine g_obj o jl_Rec_1 j_oiI j_oiC d_Rec_1 (by decide) (by decide) ?_
  exact g_vret o d_Rec_4 ⟨rfl, rfl⟩
theorem c_RG_init (D : GD) (g : GSt) (a : Nat) (k : Int) (hK : gK g a = 5) (hk : InR k) : GCon D y_RG_init (wsOf y_RG_init b_RG_init 2 none) 2 [.ref a, J k] g (fun r g1 => r = none ∧ g1 = uI g 5 0 a k) := by
  refine GCon.of (by decide) (by intro v hv; simp at hv; rcases hv with rfl | rfl <;> rfl) (Nat.le_of_ble_eq_true rfl) (fun X o hnm => ?_)
  show V X (RelG D g) 0 [(0, .ref a), (1, J k)] [] []
  refine v_aload_n (i := 0) o.ok d_RG_init_0 rfl rfl ?_
  refine g_cI o (c_Rec D g a) q_Rec jl_RG_3 d_RG_init_1 (by decide) rfl (by first | exact Nat.le_of_ble_eq_true rfl | (simp only [List.map_cons, List.map_nil, cat_rf, J_cat, List.sum_cons, List.sum_nil, cat_lg, cat_rr]; decide)) rfl (fun r g1 hh => ?_)
  obtain ⟨rfl, rfl⟩ := hh
  show V X (RelG D g1) 4 _ _ []
  refine v_aload_n (i := 0) o.ok d_RG_init_4 rfl rfl ?_
  refine v_iload_n (i := 1) o.ok d_RG_init_5 rfl rfl ?_
  refine g_puti o 5 0 0 rfl (by decide) (by decide) lf_RG_9 hK rfl (Or.inr ⟨rfl, hnm, rfl⟩) hk d_RG_init_6 ?_
  exact g_vret o d_RG_init_9 ⟨rfl, rfl⟩
theorem c_RD_init (D : GD) (g : GSt) (a : Nat) (k : Int) (hK : gK g a = 7) (hk : InR k) : GCon D y_RD_init (wsOf y_RD_init b_RD_init 2 none) 2 [.ref a, J k] g (fun r g1 => r = none ∧ g1 = uI g 7 0 a k) := by
  refine GCon.of (by decide) (by intro v hv; simp at hv; rcases hv with rfl | rfl <;> rfl) (Nat.le_of_ble_eq_true rfl) (fun X o hnm => ?_)
  show V X (RelG D g) 0 [(0, .ref a), (1, J k)] [] []
  refine v_aload_n (i := 0) o.ok d_RD_init_0 rfl rfl ?_
  refine g_cI o (c_Rec D g a) q_Rec jl_RD_3 d_RD_init_1 (by decide) rfl (by first | exact Nat.le_of_ble_eq_true rfl | (simp only [List.map_cons, List.map_nil, cat_rf, J_cat, List.sum_cons, List.sum_nil, cat_lg, cat_rr]; decide)) rfl (fun r g1 hh => ?_)
  obtain ⟨rfl, rfl⟩ := hh
  show V X (RelG D g1) 4 _ _ []
  refine v_aload_n (i := 0) o.ok d_RD_init_4 rfl rfl ?_
  refine v_iload_n (i := 1) o.ok d_RD_init_5 rfl rfl ?_
  refine g_puti o 7 0 0 rfl (by decide) (by decide) lf_RD_9 hK rfl (Or.inr ⟨rfl, hnm, rfl⟩) hk d_RD_init_6 ?_
  exact g_vret o d_RD_init_9 ⟨rfl, rfl⟩
theorem c_RP_init (D : GD) (g : GSt) (a : Nat) (k v : Int) (hK : gK g a = 6) (hk : InR k) (hv : InR v) : GCon D y_RP_init (wsOf y_RP_init b_RP_init 3 none) 2 [.ref a, J k, J v] g (fun r g1 => r = none ∧ g1 = uI (uI g 6 0 a k) 6 1 a v) := by
  refine GCon.of (by decide) (by intro v hv; simp at hv; rcases hv with rfl | rfl | rfl <;> rfl) (Nat.le_of_ble_eq_true rfl) (fun X o hnm => ?_)
  show V X (RelG D g) 0 [(0, .ref a), (1, J k), (2, J v)] [] []
  refine v_aload_n (i := 0) o.ok d_RP_init_0 rfl rfl ?_
  refine g_cI o (c_Rec D g a) q_Rec jl_RP_3 d_RP_init_1 (by decide) rfl (by first | exact Nat.le_of_ble_eq_true rfl | (simp only [List.map_cons, List.map_nil, cat_rf, J_cat, List.sum_cons, List.sum_nil, cat_lg, cat_rr]; decide)) rfl (fun r g1 hh => ?_)
  obtain ⟨rfl, rfl⟩ := hh
  show V X (RelG D g1) 4 _ _ []
  refine v_aload_n (i := 0) o.ok d_RP_init_4 rfl rfl ?_
  refine v_iload_n (i := 1) o.ok d_RP_init_5 rfl rfl ?_
  refine g_puti o 6 0 0 rfl (by decide) (by decide) lf_RP_9 hK rfl (Or.inr ⟨rfl, hnm, rfl⟩) hk d_RP_init_6 ?_
  refine v_aload_n (i := 0) o.ok d_RP_init_9 rfl rfl ?_
  refine v_iload_n (i := 2) o.ok d_RP_init_10 rfl rfl ?_
  refine g_puti o 6 1 1 rfl (by decide) (by decide) lf_RP_15 hK rfl (Or.inr ⟨rfl, hnm, rfl⟩) hv d_RP_init_11 ?_
  exact g_vret o d_RP_init_14 ⟨rfl, rfl⟩
theorem c_RS_init (D : GD) (g : GSt) (a : Nat) (k v : Int) (hK : gK g a = 8) (hk : InR k) (hv : InR v) : GCon D y_RS_init (wsOf y_RS_init b_RS_init 3 none) 2 [.ref a, J k, J v] g (fun r g1 => r = none ∧ g1 = uI (uI g 8 0 a k) 8 1 a v) := by
  refine GCon.of (by decide) (by intro v hv; simp at hv; rcases hv with rfl | rfl | rfl <;> rfl) (Nat.le_of_ble_eq_true rfl) (fun X o hnm => ?_)
  show V X (RelG D g) 0 [(0, .ref a), (1, J k), (2, J v)] [] []
  refine v_aload_n (i := 0) o.ok d_RS_init_0 rfl rfl ?_
  refine g_cI o (c_Rec D g a) q_Rec jl_RS_3 d_RS_init_1 (by decide) rfl (by first | exact Nat.le_of_ble_eq_true rfl | (simp only [List.map_cons, List.map_nil, cat_rf, J_cat, List.sum_cons, List.sum_nil, cat_lg, cat_rr]; decide)) rfl (fun r g1 hh => ?_)
  obtain ⟨rfl, rfl⟩ := hh
  show V X (RelG D g1) 4 _ _ []
  refine v_aload_n (i := 0) o.ok d_RS_init_4 rfl rfl ?_
  refine v_iload_n (i := 1) o.ok d_RS_init_5 rfl rfl ?_
  refine g_puti o 8 0 0 rfl (by decide) (by decide) lf_RS_9 hK rfl (Or.inr ⟨rfl, hnm, rfl⟩) hk d_RS_init_6 ?_
  refine v_aload_n (i := 0) o.ok d_RS_init_9 rfl rfl ?_
  refine v_iload_n (i := 2) o.ok d_RS_init_10 rfl rfl ?_
  refine g_puti o 8 1 1 rfl (by decide) (by decide) lf_RS_15 hK rfl (Or.inr ⟨rfl, hnm, rfl⟩) hv d_RS_init_11 ?_
  exact g_vret o d_RS_init_14 ⟨rfl, rfl⟩
/-! a request in the heap -/
/-- the request at r -/
def QOb (g : GSt) (r : Nat) (w a b : Int) : Prop := (1 ≤ w ∧ w ≤ 4) ∧ gK g r = 4 + w.toNat ∧ gI g (4 + w.toNat) 0 r = a ∧ (w = 2 ∨ w = 4 → gI g (4 + w.toNat) 1 r = b)
theorem Vld_qN {N : MSt} {t w a b : Int} {tg : Nat} {v : Int} : Vld (qN N t w a b) tg v ↔ Vld N tg v := by
  unfold Vld
  rw [qN_o (f := 50) (by decide) (by decide) (by decide), qN_o (f := 51) (by decide) (by decide) (by decide)]
theorem Flat.setQ {D : GD} {A : ASt} {N : MSt} {g : GSt} {t w a b : Int} {r : Nat} (h : Flat D A N g) (ht : 0 ≤ t ∧ t < N 51 0) (hq : QOb g r w a b) : Flat D (aup A 13 t r) (qN N t w a b) (uR g 4 6 (A 11 t) (some r)) := by
  obtain ⟨hS, hQ, hK, hJ, hE, hC, hV, hA⟩ := h
  obtain ⟨hw, q1, q2, q3⟩ := hq
  have aN : ∀ (tg : Nat) (v : Int), tg ≠ 13 → aup A 13 t r tg v = A tg v := fun tg v e => aup_off (fun z => e z.1)
  have n0 : ∀ (f : Nat) (i : Int), f ≠ 40 → f ≠ 41 → f ≠ 42 → qN N t w a b f i = N f i := fun f i x y z => qN_o x y z
  have ue := n0 50 0 (by decide) (by decide) (by decide)
  have ut := n0 51 0 (by decide) (by decide) (by decide)
  have oR : ∀ (c : Nat) (k : Int) (x : Nat), ¬ (c = 4 ∧ k = 6) → gR (uR g 4 6 (A 11 t) (some r)) c k x = gR g c k x := fun c k x e => uR_off (fun z => e ⟨z.1, z.2.1⟩)
  refine ⟨⟨?_, fun p x y => ?_, fun z x y => ?_, fun z x y => ?_, fun z x y => ?_⟩, fun u x y => ?_, fun tg v x y => ?_, fun tg tg' v v' x y z w' e => ?_, ⟨fun i x y => ?_, fun i x y => ?_⟩, ?_, fun f v x y => ?_, fun f v z x y z0 z1 => ?_⟩
  · rw [aN 0 _ (by decide), aN 1 _ (by decide), aN 2 _ (by decide), aN 3 _ (by decide), aN 4 _ (by decide), aN 5 _ (by decide), oR _ _ _ (by decide), oR _ _ _ (by decide), oR _ _ _ (by decide), oR _ _ _ (by decide), oR _ _ _ (by decide)]
    exact hS.1
  · rw [aN 1 _ (by decide), aN 2 _ (by decide), aN 6 _ (by decide), aN 7 _ (by decide), aN 8 _ (by decide), aN 9 _ (by decide), oR _ _ _ (by simp), oR _ _ _ (by simp), oR _ _ _ (by decide), oR _ _ _ (by decide)]
    exact hS.2.1 p x y
  · rw [aN 4 _ (by decide), aN 10 _ (by decide), ue, oR _ _ _ (by simp)]
    exact hS.2.2.1 z x y
  · rw [aN 5 _ (by decide), aN 11 _ (by decide), ut, oR _ _ _ (by simp)]
    exact hS.2.2.2.1 z x y
  · rw [ut] at y
    rw [aN 11 _ (by decide), aN 12 _ (by decide), oR _ _ _ (by decide)]
    exact hS.2.2.2.2 z x y
  · rw [ut] at y
    rw [aN 11 _ (by decide)]
    by_cases e : u = t
    · subst e
      rw [uR_on, aup_on, (qN_t N u w a b).1, (qN_t N u w a b).2.1, (qN_t N u w a b).2.2]
      exact Or.inr ⟨hw, rfl, q1, q2, q3⟩
    · rw [qN_u e, qN_u e, qN_u e, aup_off (fun z => e z.2), uR_off (fun z => e (hJ 11 11 u t (by decide) (by decide) ⟨x, y⟩ ht z.2.2).2)]
      exact hQ u x y
  · rw [aN tg v (by omega)]
    exact hK tg v x (Vld_qN.mp y)
  · rw [aN tg v (by omega), aN tg' v' (by omega)] at e
    exact hJ tg tg' v v' x y (Vld_qN.mp z) (Vld_qN.mp w') e
  · rw [aN 20 _ (by decide)]; exact hE.1 i x y
  · rw [aN 21 _ (by decide)]; exact hE.2 i x y
  · unfold FlC
    rw [ue, ut, n0 52 0 (by decide) (by decide) (by decide)]
    exact hC
  · have tb := tb_tg f x
    have st := tb_st f x
    have y := Vld_qN.mp y
    have hv := hV f v x y
    have rc : ∀ z, rfv (aup A 13 t r) (fRt f) z = rfv A (fRt f) z := fun z => rfv_c fun _ => aN _ z (by
      have h22 : ∀ f, f < 39 → fRt f ≠ 13 := by decide +kernel
      exact h22 f (tb_f39 f x))
    rw [aN _ v (by omega), n0 f v tb.2.2.2.2.1 tb.2.2.2.2.2.1 tb.2.2.2.2.2.2.1, oR _ _ _ (fun z => st.2.2.2.2.1 ⟨z.1, by omega⟩), rc]
    refine ⟨hv.1, fun z => ⟨(hv.2 z).1, ?_⟩⟩
    rcases (hv.2 z).2 with q | q
    · exact Or.inl q
    · exact Or.inr (Vld_qN.mpr q)
  · have tb := tb_at f x
    rw [aN _ v (by omega), n0 f _ tb.2.2.2.2.1 tb.2.2.2.2.2.1 tb.2.2.2.2.2.2.1]
    exact hA f v z x (Vld_qN.mp y) z0 z1
/-- something new, that nothing leads to yet -/
theorem Flat.newQ {D : GD} {A : ASt} {N : MSt} {g g' : GSt} {H : Heap} (h : Flat D A N g) (hR : RelG D g H) (hb : 1 ≤ N 52 0) (w1 : ∀ (c : Nat) (k : Int) (x : Nat), x ≠ gZ g → gI g' c k x = gI g c k x) (w2 : ∀ (c : Nat) (k : Int) (x : Nat), x ≠ gZ g → gR g' c k x = gR g c k x) (w3 : ∀ x, x ≠ gZ g → gK g' x = gK g x ∧ gL g' x = gL g x) (w4 : gZ g' = gZ g + 1) : Flat D A (up N 52 0 (N 52 0 - 1)) g' := by
  obtain ⟨hS, hQ, hK, hJ, hE, hC, hV, hA⟩ := h
  have fr : ∀ (tg : Nat) (v : Int), tg < 13 → Vld N tg v → A tg v ≠ gZ g := fun tg v a b e => by
    have h1 := (hK tg v a b).1
    have h2 := tK_1 tg a
    have h3 := (hR.2.1 (A tg v) (by omega)).1
    omega
  have frq : ∀ b, gK g b ≠ 0 → b ≠ gZ g := fun b z e => by
    have h3 := (hR.2.1 b z).1
    omega
  have n0 : ∀ (f : Nat) (i : Int), f ≠ 52 → up N 52 0 (N 52 0 - 1) f i = N f i := fun f i x => up_ne (fun z => x z.1)
  have vl : ∀ {tg : Nat} {v : Int}, Vld (up N 52 0 (N 52 0 - 1)) tg v ↔ Vld N tg v := Vld_up ⟨by decide, by decide⟩
  have v0 : ∀ tg, tg < 6 → Vld N tg 0 := fun tg a => by
    unfold Vld
    rcases (show tg = 0 ∨ tg = 1 ∨ tg = 2 ∨ tg = 3 ∨ tg = 4 ∨ tg = 5 from by omega) with rfl | rfl | rfl | rfl | rfl | rfl <;> rfl
  have v8 : ∀ tg (p : Int), 6 ≤ tg → tg < 10 → 0 ≤ p → p < 8 → Vld N tg p := fun tg p a b c d => by
    unfold Vld
    rcases (show tg = 6 ∨ tg = 7 ∨ tg = 8 ∨ tg = 9 from by omega) with rfl | rfl | rfl | rfl <;> exact ⟨c, d⟩
  have f0 := fr 0 0 (by decide) (v0 0 (by decide))
  refine ⟨⟨?_, fun p x y => ?_, fun z x y => ?_, fun z x y => ?_, fun z x y => ?_⟩, fun u x y => ?_, fun tg v x y => ?_, fun tg tg' v v' x y z w' e => ?_, hE, ?_, fun f v x y => ?_, fun f v z x y z0 z1 => ?_⟩
  · rw [w2 _ _ _ f0, w2 _ _ _ f0, w2 _ _ _ f0, w2 _ _ _ f0, w2 _ _ _ f0]
    exact hS.1
  · have p6 := fr 6 p (by decide) (v8 6 p (by decide) (by decide) x y)
    have p8 := fr 8 p (by decide) (v8 8 p (by decide) (by decide) x y)
    rw [w2 _ _ _ (fr 1 0 (by decide) (v0 1 (by decide))), w2 _ _ _ (fr 2 0 (by decide) (v0 2 (by decide))), w2 _ _ _ p6, w2 _ _ _ p8, w1 _ _ _ p6, w1 _ _ _ p8]
    exact hS.2.1 p x y
  · rw [n0 50 _ (by decide), w2 _ _ _ (fr 4 0 (by decide) (v0 4 (by decide)))]
    exact hS.2.2.1 z x y
  · rw [n0 51 _ (by decide), w2 _ _ _ (fr 5 0 (by decide) (v0 5 (by decide)))]
    exact hS.2.2.2.1 z x y
  · rw [n0 51 _ (by decide)] at y
    have p11 := fr 11 z (by decide) ⟨x, y⟩
    rw [w2 _ _ _ p11, w1 _ _ _ p11]
    exact hS.2.2.2.2 z x y
  · rw [n0 51 _ (by decide)] at y
    have p11 := fr 11 u (by decide) ⟨x, y⟩
    rw [n0 40 _ (by decide), n0 41 _ (by decide), n0 42 _ (by decide), w2 _ _ _ p11]
    rcases hQ u x y with z | ⟨q1, q2, q3, q4, q5⟩
    · exact Or.inl z
    · have fq := frq (A 13 u) (by rw [q3]; omega)
      refine Or.inr ⟨q1, q2, ?_, ?_, fun z => ?_⟩
      · rw [(w3 _ fq).1]; exact q3
      · rw [w1 _ _ _ fq]; exact q4
      · rw [w1 _ _ _ fq]; exact q5 z
  · have q := fr tg v x (vl.mp y)
    rw [(w3 _ q).1, (w3 _ q).2]
    exact hK tg v x (vl.mp y)
  · exact hJ tg tg' v v' x y (vl.mp z) (vl.mp w') e
  · unfold FlC
    rw [n0 50 _ (by decide), n0 51 _ (by decide), up_same, w4]
    obtain ⟨c1, c2, c3, c4⟩ := hC
    exact ⟨c1, c2, by omega, by omega⟩
  · have tb := tb_tg f x
    have q := fr _ v tb.1 (vl.mp y)
    have hv := hV f v x (vl.mp y)
    rw [n0 f v tb.2.2.2.1, w1 _ _ _ q, w2 _ _ _ q]
    refine ⟨hv.1, fun z => ⟨(hv.2 z).1, ?_⟩⟩
    rcases (hv.2 z).2 with q | q
    · exact Or.inl q
    · exact Or.inr (vl.mpr q)
  · have tb := tb_at f x
    rw [n0 f _ tb.2.2.2.1, w1 _ _ _ (fr _ v tb.1 (vl.mp y))]
    exact hA f v z x (vl.mp y) z0 z1
/-! rows -/
section NRows4
variable {X : Cx} {D : GD} {A : ASt} {N : MSt} {C : String} {g0 : GSt} {cc : ByteArray} {n lv : Nat} {rt : Option FieldType} {Q : Option Value → GSt → Prop} {pc nx tgt : Nat} {L L' : List (Nat × Value)} {G : List (Nat × Int64)} {st : List Value}
theorem FlQ.ob {A : ASt} {N : MSt} {g : GSt} {t : Int} (h : FlQ A N g) (ht : 0 ≤ t ∧ t < N 51 0) (hq : 1 ≤ N 40 t) : gR g 4 6 (A 11 t) = some (A 13 t) ∧ QOb g (A 13 t) (N 40 t) (N 41 t) (N 42 t) := by
  rcases h t ht.1 ht.2 with ⟨z, -⟩ | ⟨q1, q2, q3, q4, q5⟩
  · omega
  · exact ⟨q2, q1, q3, q4, q5⟩
/-- a request's first number -/
theorem n_q1 (o : OkG X D C cc n rt lv g0 Q) {i : Nat} {t : Int} (c : Nat) (hc : 5 ≤ c ∧ c ≤ 8) (ht : 0 ≤ t ∧ t < N 51 0) (hq : N 40 t = (c : Int) - 4) (hf : Cond.fieldLink C i (clN c) (clT c 0).2.1 (clT c 0).2.2.1 ∈ tbG) (hk : 0 < nF c) (hty : fTy c 0 = 0) (d : dc cc pc (.getfield i) nx) (kk : InR (N 41 t) → V X (RelN D A N) nx L G (J (N 41 t) :: st)) (hn : pc + 3 = nx := by rfl) : V X (RelN D A N) pc L G (rq A 13 t :: st) := by
  refine n_in fun g hF => ?_
  have q := hF.2.1.ob ht (by omega)
  have e : 4 + (N 40 t).toNat = c := by omega
  obtain ⟨-, -, q1, q2, -⟩ := q
  rw [e] at q1 q2
  rw [rq_s ht.1]
  refine g_geti o c 0 0 rfl ⟨by omega, hc.2⟩ hk hf q1 hty d (fun r => ?_) hn
  rw [q2] at r ⊢
  exact n_out hF (kk r)
theorem n_q2 (o : OkG X D C cc n rt lv g0 Q) {i : Nat} {t : Int} (c : Nat) (hc : c = 6 ∨ c = 8) (ht : 0 ≤ t ∧ t < N 51 0) (hq : N 40 t = (c : Int) - 4) (hf : Cond.fieldLink C i (clN c) (clT c 1).2.1 (clT c 1).2.2.1 ∈ tbG) (hk : 1 < nF c) (hty : fTy c 1 = 0) (d : dc cc pc (.getfield i) nx) (kk : InR (N 42 t) → V X (RelN D A N) nx L G (J (N 42 t) :: st)) (hn : pc + 3 = nx := by rfl) : V X (RelN D A N) pc L G (rq A 13 t :: st) := by
  refine n_in fun g hF => ?_
  have q := hF.2.1.ob ht (by omega)
  have e : 4 + (N 40 t).toNat = c := by omega
  obtain ⟨-, -, q1, -, q2⟩ := q
  have q2 := q2 (by omega)
  rw [e] at q1 q2
  rw [rq_s ht.1]
  refine g_geti o c 1 1 rfl ⟨by omega, by omega⟩ hk hf q1 hty d (fun r => ?_) hn
  rw [q2] at r ⊢
  exact n_out hF (kk r)
/-- what a transaction asks for -/
theorem n_req (o : OkG X D C cc n rt lv g0 Q) {i : Nat} {t : Int} (ht : 0 ≤ t ∧ t < N 51 0) (hq : 1 ≤ N 40 t) (hf : Cond.fieldLink C i (clN 4) (clT 4 6).2.1 (clT 4 6).2.2.1 ∈ tbG) (d : dc cc pc (.getfield i) nx) (kk : V X (RelN D A N) nx L G (rq A 13 t :: st)) (hn : pc + 3 = nx := by rfl) : V X (RelN D A N) pc L G (rq A 11 t :: st) := by
  refine n_in fun g hF => ?_
  have q := (hF.2.1.ob ht hq).1
  have hK : gK g (A 11 t) = 4 := (hF.2.2.1 11 t (by decide) ht).1
  rw [rq_s ht.1]
  refine g_getr o 4 6 6 rfl (by decide) (by decide) hf hK rfl d ?_ hn
  rw [q]
  rw [rq_s ht.1] at kk
  exact n_out hF kk
theorem n_cF (o : OkG X D C cc n rt lv g0 Q) {x' y' : MethodName} {b' : ByteArray} {n' na i cnt lv' : Nat} {t : Int} {rt' : Option FieldType} {av : List Value} {Q' : Option Value → ASt → MSt → Prop} {st0 : List Value} (c : Nat) (hc : 5 ≤ c ∧ c ≤ 8) (ht : 0 ≤ t ∧ t < N 51 0) (hq : N 40 t = (c : Int) - 4) (hcon : NCon D y' (wsOf y' b' n' rt') lv' (rq A 13 t :: av) A N Q') (q : FOk (clN c) x' y' b' n' rt' na) (hlk : Cond.methodLink C i x' ∈ tbG) (d : dc cc pc (.invokeinterface i cnt) nx) (hlv : lv' < lv) (hst : st0 = av.reverse ++ rq A 13 t :: st) (hcat : (st.map fun v => v.category).sum ≤ 8) (hna : av.length = na)
    (kk : ∀ r A1 N1, Q' r A1 N1 → V X (RelN D A1 N1) nx L G (r.toList ++ st)) (hn : pc + 5 = nx := by rfl) : V X (RelN D A N) pc L G st0 := by
  refine n_in fun g hF => ?_
  have hcon := hcon g hF
  have q0 := hF.2.1.ob ht (by omega)
  have e : 4 + (N 40 t).toNat = c := by omega
  obtain ⟨-, -, q1, -, -⟩ := q0
  rw [e] at q1
  rw [rq_s ht.1] at hcon hst
  exact g_cF o c ⟨by omega, hc.2⟩ q1 hcon q hlk d hlv hst hcat hna (n_qn kk) hn
/-- a number put by a nest mate -/
theorem g_putN (o : OkG X D C cc n rt lv g0 Q) {i a : Nat} {z : Int} {g : GSt} (c k : Nat) (hc : 1 ≤ c ∧ c ≤ 8) (hk : k < nF c) (hf : Cond.fieldLinkNest C i (clN c) (clT c k).2.1 (clT c k).2.2.1 R_S ∈ nestW) (hK : gK g a = c) (ht : fTy c k = 0) (hfin : (clT c k).2.2.2 = false) (hz : InR z) (d : dc cc pc (.putfield i) nx) (kk : V X (RelG D (uI g c k a z)) nx L G st) (hn : pc + 3 = nx := by rfl) : V X (RelG D g) pc L G (J z :: .ref a :: st) := by
  subst hn
  intro H locs ls hS hR hl
  have d := d.1
  rw [Nat.add_sub_cancel_left] at d
  have hap := g_apart o hc
  have hnw := o.2.1.1.2.2.2.2.1 _ hf
  obtain ⟨⟨⟨hx, hb⟩, hown, hts, -⟩, hKG, hA, -⟩ := o
  have hne : gK g a ≠ 0 := by rw [hK]; omega
  have hob := (hR.2.1 a hne).2.2.2.1 (by rw [hK]; exact hc.2)
  have hfr := (hR.2.1 a hne).2.1
  have hsz := (hR.2.1 a hne).2.2.1
  rw [hK] at hob
  obtain ⟨cell, q1, q2, q3, q4⟩ := hob
  obtain ⟨hSl, hfc, kC, hkC, hkind⟩ := hKG.1.1 c hc.1 hc.2
  obtain ⟨cf, kf, fi, f, hi, hsl⟩ := hSl k hk
  have hi' := hi
  rw [cl_own c hc.1 hc.2 k] at hi'
  have hst := (u_facts hfc hkC (u_lays hts (cl_in c hc.1 hc.2) hk) hi).1
  have hlay := hts _ (cl_in c hc.1 hc.2 _ (u_in_lay hk))
  unfold u_lay at hlay
  have go : ∀ H' : Heap, H'[a]? = some (cell.setSlot f.slot (J z)) → H'.size = H.size → (∀ q, q ≠ a → H'[q]? = H[q]?) → WX X H' (locs ++ [⟨a, f.slot⟩]) (H.size - (Cx.s X).heap.size) (slN (Cx.s X).heap.size H) (F0 (Cx.m X) (pc + 3) ls st) := by
    intro H' e1 e2 e3
    rw [hsl] at e1 ⊢
    obtain ⟨r1, r2, r3⟩ := uI_rel (a := a) (c := c) (k := k) (z := z) hz (fun k' e q => by rw [show k' = k from by omega, ht] at q; cases q) (fun q => by omega) hR
    refine WX.exact (kk H' _ ls (hS.put e2 e3 (by rw [hA]; exact hfr)) (hR.put rfl rfl rfl (fun c' k' b hb => uI_off (fun q => hb q.2.2)) (fun _ _ _ _ => rfl) r1 r2 r3 e2 e3 (fun _ => ⟨?_, fun _ => ?_, fun q => ?_⟩)) hl)
    · obtain ⟨cell2, c1, c2⟩ := hsz
      rw [q1] at c1
      cases c1
      refine ⟨_, e1, ?_⟩
      simpa [Cell.setSlot] using c2
    · have hKd : gK (uI g c k a z) = gK g := rfl
      rw [hKd, hK]
      refine t_OB.to (V := updV (fun k => gV g c k a) k (J z)) ⟨_, e1, q2, q3, t_set q4 hap hk (J z)⟩ (fun j hj => ?_)
      have hV : gV (uI g c k a z) c j a = if j = k then J z else gV g c j a := by
        unfold gV
        by_cases e : j = k
        · subst e
          rw [if_neg (by rw [ht]; decide), if_pos rfl, uI_on]
        · rw [if_neg e, uI_off (fun q => e (by omega))]
          rfl
      rw [hV]
      rfl
    · have q : ¬ gK g a ≤ 8 := by have : gK (uI g c k a z) a = gK g a := rfl; omega
      omega
  rw [if_neg (by rw [hfin]; decide)] at hlay
  have h6 := u_store (v := J z) hfc hkC hkind hlay hi (cl_ty c hc.1 hc.2 k hk) (by rw [ty_i c hc.1 hc.2 k hk ht]; rfl) (by rw [ty_i c hc.1 hc.2 k hk ht]; rfl)
  exact va_WputK hx hb (f := f) hown (va_Nw.use rfl hnw) hi' hst (by rw [q2]; exact h6) q1 q3 (by rw [hsl]; exact k2_hasslot (q4 k hk)) rfl rfl d go
theorem n_putV (o : OkG X D C cc n rt lv g0 Q) {i : Nat} {z : Int} (hf : Cond.fieldLinkNest C i (clN 1) (clT 1 13).2.1 (clT 1 13).2.2.1 R_S ∈ nestW) (hz : InR z) (d : dc cc pc (.putfield i) nx) (kk : V X (RelN D A (up N 9 0 z)) nx L G st) (hn : pc + 3 = nx := by rfl) : V X (RelN D A N) pc L G (J z :: rq A 0 0 :: st) := by
  refine n_in fun g hF => ?_
  rw [rq_s (by omega)]
  exact g_putN o 1 13 (by decide) (by decide) hf (hF.2.2.1 0 0 (by decide) rfl).1 rfl rfl hz d (n_out (hF.setI (f := 9) (by decide) rfl rfl) kk) hn
end NRows4

