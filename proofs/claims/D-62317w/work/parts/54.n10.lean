def Fwd (N : MSt) (A : ASt) (N1 : MSt) (A1 : ASt) : Prop := Ext N A A1 ∧ N 50 0 ≤ N1 50 0 ∧ N 51 0 ≤ N1 51 0 ∧ N1 52 0 = N 52 0
theorem Fwd.rf (N : MSt) (A : ASt) : Fwd N A N A := ⟨Ext.rf N A, Int.le_refl _, Int.le_refl _, rfl⟩
theorem Fwd.tr {N N1 N2 : MSt} {A A1 A2 : ASt} (h : Fwd N A N1 A1) (h1 : Fwd N1 A1 N2 A2) : Fwd N A N2 A2 := ⟨h.1.tr h1.1 h.2.1 h.2.2.1, Int.le_trans h.2.1 h1.2.1, Int.le_trans h.2.2.1 h1.2.2.1, h1.2.2.2.trans h.2.2.2⟩
theorem Fwd.eq {N N1 N2 : MSt} {A A1 : ASt} (h : Fwd N A N1 A1) (e1 : N2 50 0 = N1 50 0) (e2 : N2 51 0 = N1 51 0) (e3 : N2 52 0 = N1 52 0) : Fwd N A N2 A1 := ⟨h.1, by rw [e1]; exact h.2.1, by rw [e2]; exact h.2.2.1, e3.trans h.2.2.2⟩
theorem CH_of {N M : MSt} {t : Int} (h : Sim0 N M) (hp : ParOk M) (hd : DepOk M) (ht : LvT M t) : CH N M (InS M t) := by
  intro u hu hs
  have hl : LvT M u := by unfold LvT; rw [(InS_top hp hd hu hs).1]; exact ht
  refine ⟨h.2.2.1.2 u hu.1 hu.2 hl, fun r a b c d => ?_⟩
  have := (h.2.2.1.1 r a b c (by rw [d]; exact hl)).2
  rw [d] at this
  exact this
theorem Sim0_lt {N N1 M : MSt} {t : Int} (h : Sim0 N M) (e : EqL N N1) (hc : CH N1 M (InS M t)) (ho : ∀ u, inM M u → ¬ InS M t u → N1 36 u = N 36 u) : Sim0 N1 M := by
  obtain ⟨h1, h2, h3, h4, h5, h6⟩ := h
  have ee : ∀ f : Nat, f ≠ 36 → N1 f = N f := fun f q => funext fun i => e f i q
  refine ⟨h1.c (e _ _ (by decide)) (e _ _ (by decide)) (e _ _ (by decide)) (ee _ (by decide)) (ee _ (by decide)) (ee _ (by decide)) (ee _ (by decide)) (ee _ (by decide)) (ee _ (by decide)) (ee _ (by decide)) (ee _ (by decide)) rfl rfl rfl rfl rfl rfl rfl rfl rfl rfl rfl rfl, h2.eq e, ⟨fun r a b c d => ?_, fun t' a b c => ?_⟩, h4.eq e, by rw [e _ _ (by decide)]; exact h5, by rw [e _ _ (by decide)]; exact h6⟩
  · rw [e 29 r (by decide), e 30 r (by decide)]
    exact ⟨(h3.1 r a b c d).1, (h3.1 r a b c d).2.eq e⟩
  · by_cases q : InS M t t'
    · exact (hc t' ⟨a, b⟩ q).1
    · rw [ho t' ⟨a, b⟩ q]
      exact (h3.2 t' a b c).eq e
/-- what undoes looks for -/
def ucd (M : MSt) (t pt r : Int) : Prop := pt < M 11 0 + r + 1 ∧ Opn M r ∧ InS M t (M 15 r)
theorem cnd_u {N M : MSt} {t pt r : Int} (h : Sim0 N M) (hp : ParOk M) (hd : DepOk M) (hby : ∀ r, 0 ≤ r → r < M 12 0 → inM M (M 15 r)) (ht : LvT M t) : cnd N M (InS M t) pt r ↔ (0 ≤ r ∧ r < M 12 0) ∧ ucd M t pt r := by
  unfold cnd ucd Opn
  constructor
  · rintro ⟨a, b, c, d, e⟩
    have hl : LvT M (M 15 r) := by unfold LvT; rw [(InS_top hp hd (hby r a.1 a.2) d).1]; exact ht
    have hf := (h.2.2.1.1 r a.1 a.2 b hl).1
    refine ⟨a, e, ⟨b, ?_, ?_, fun z => ?_⟩, d⟩
    · rcases hl with z | z <;> omega
    · rcases hl with z | z <;> omega
    · rw [b01_t z] at hf; omega
  · rintro ⟨a, e, ⟨b, _, _, z⟩, d⟩
    have hl : LvT M (M 15 r) := by unfold LvT; rw [(InS_top hp hd (hby r a.1 a.2) d).1]; exact ht
    have hf := (h.2.2.1.1 r a.1 a.2 b hl).1
    rw [b01_f z] at hf
    exact ⟨a, b, hf, d, e⟩
theorem undN_skip {M : MSt} {t pt : Int} : ∀ (n m : Nat), m ≤ n → (∀ r : Int, (m : Int) ≤ r → r < n → ¬ ucd M t pt r) → undN t pt n M = undN t pt m M := by
  intro n
  induction n with
  | zero => intro m h _; rw [show m = 0 from by omega]
  | succ n ih =>
    intro m h hc
    by_cases e : m = n + 1
    · rw [e]
    · rw [undN_f (hc n (by omega) (by omega))]
      exact ih m (by omega) (fun r a b => hc r a (by omega))
theorem DepOk.c {M M' : MSt} (h : DepOk M) (e : M' 24 = M 24) (e2 : M' 22 0 = M 22 0) : DepOk M' := by
  have k : ∀ (n : Nat) (x : Int), ndp M' n x ↔ ndp M n x := by
    intro n
    induction n with
    | zero => exact fun x => Iff.rfl
    | succ n ih => intro x; show (x < 0 ∨ ndp M' n (M' 24 x)) ↔ _; rw [ih, e]; rfl
  intro t a b
  rw [k]
  exact h t a (by rw [← e2]; exact b)
theorem Fwd.und {N N0 : MSt} {A A0 A1 : ASt} {t u : Int} (h : Fwd N A N0 A0) (hx : Ext N0 A0 A1) (hr : N0 3 0 ≤ N0 50 0) : Fwd N A (unN N0 t u) A1 := by
  refine h.tr ⟨hx, ?_, ?_, ?_⟩
  · rw [(unN_n N0 t u).2.2.2.2.2.2.2.2]
    have := (ntN_e (N := tN N0 (N0 23 u / 4)) (kd := 3) (t := t) (k := N0 23 u) (by rw [tN_o rfl, tN_o rfl]; exact hr)).1
    rw [tN_o rfl] at this
    exact this
  · rw [unN_o rfl (by decide) (by decide) (by omega) (by simp)]; exact Int.le_refl _
  · exact unN_o rfl (by decide) (by decide) (by omega) (by simp)
set_option maxHeartbeats 4000000 in
set_option maxHeartbeats 4000000 in
set_option maxRecDepth 20000 in
theorem c_S_back (D : GD) (A : ASt) (t pt : Int) (N M : MSt) (h : Sim N M) (hw : WF M) (hd : DepOk M) (ht : inM M t) (hlv : LvT M t) (hpt : InR pt) : NX D y_S_back (wsOf y_S_back b_S_back 5 (some .int)) (5) [rq A 0 (0), rq A 11 (t), J (pt)] A N (fun x A1 N1 => x = J (undoes M t pt).1 ∧ Fwd N A N1 A1 ∧ Sim N1 (undoes M t pt).2 ∧ ∀ r, 0 ≤ r → r < (undoes M t pt).2 12 0 → ¬ ucd (undoes M t pt).2 t pt r) := by
  refine NCon.of (by decide) (by simp [cat_rf, J_cat]) (Nat.le_of_ble_eq_true rfl) ?_
  intro X g0 o
  show V X (RelN D A N) 0 [(0, rq A 0 (0)), (1, rq A 11 (t)), (2, J (pt))] [] []
  have lt : ∀ (A1 : ASt) (N1 M1 : MSt), Sim0 N1 M1 → WF M1 → DepOk M1 → inM M1 t → LvT M1 t → NX D y_T_latest wsLt 3 [rq A1 11 t, J pt] A1 N1 (LtQ A1 N1 M1 t pt) := fun A1 N1 M1 a b c d e =>
    c_T_latest D A1 M1 b.par c (fun r x y => b.bys r x y) b.recs.2 pt hpt 3 t N1 d (by have := dep_le (c t d.1 d.2) d.1; omega) a.2.2.2.1 a.2.1 (CH_of a b.par c e)
  have lp : ∀ (n : Nat) (c : Int) (A1 : ASt) (N1 M1 : MSt) (z : Int), z < n → Sim N1 M1 → WF M1 → DepOk M1 → inM M1 t → LvT M1 t → Fwd N A N1 A1 → IsM N1 M1 (InS M1 t) pt z → 0 ≤ c → c + z < 300 → c + (undN t pt (z + 1).toNat M1).1 = (undoes M t pt).1 → (undN t pt (z + 1).toNat M1).2 = (undoes M t pt).2 → V X (RelN D A1 N1) 9 [(0, rq A1 0 0), (1, rq A1 11 t), (2, J pt), (3, J c), (4, rq A1 10 z)] [] [] := by
    intro n
    induction n with
    | zero =>
      intro c A1 N1 M1 z h0 h1 h2 h3 h4 h5 h6 h7 h8 h9 h10 h11
      rw [show (z + 1).toNat = 0 from by omega] at h10 h11
      refine v_aloadq (i := 4) o.ok d_S_back_9 rfl ?_
      refine n_ifnull o.ok d_S_back_11 (fun c11 => ?_) (fun c11 => ?_)
      · refine v_iload_n (i := 3) o.ok d_S_back_44 rfl rfl ?_
        refine n_iret o d_S_back_45 ⟨congrArg J (by rw [← h10]; show c = c + 0; omega), h6, by rw [← h11]; exact h1, by rw [← h11]; exact fun r a b q => by rcases h7 with y | y; exact y.2 r ((cnd_u h1.z h2.par h3 (fun r x y => h2.bys r x y) h5).mpr ⟨⟨a, b⟩, q⟩); have := y.1.1.1; omega⟩
      · exfalso; omega
    | succ n ih =>
      intro c A1 N1 M1 z h0 h1 h2 h3 h4 h5 h6 h7 h8 h9 h10 h11
      by_cases hz : z < 0
      · rw [show (z + 1).toNat = 0 from by omega] at h10 h11
        refine v_aloadq (i := 4) o.ok d_S_back_9 rfl ?_
        refine n_ifnull o.ok d_S_back_11 (fun c11 => ?_) (fun c11 => ?_)
        · refine v_iload_n (i := 3) o.ok d_S_back_44 rfl rfl ?_
          refine n_iret o d_S_back_45 ⟨congrArg J (by rw [← h10]; show c = c + 0; omega), h6, by rw [← h11]; exact h1, by rw [← h11]; exact fun r a b q => by rcases h7 with y | y; exact y.2 r ((cnd_u h1.z h2.par h3 (fun r x y => h2.bys r x y) h5).mpr ⟨⟨a, b⟩, q⟩); have := y.1.1.1; omega⟩
        · exfalso; omega
      · have h7 : cnd N1 M1 (InS M1 t) pt z ∧ ∀ r, cnd N1 M1 (InS M1 t) pt r → r ≤ z := (by rcases h7 with y | y; omega; exact y)
        have hby := fun r x y => h2.bys r x y
        have hu := (cnd_u h1.z h2.par h3 hby h5).mp h7.1
        have hn1 := h1.nums h2
        have hab := h2.abt z hu.1.1 hu.1.2 (Or.inl h7.1.2.1)
        have hS0 := (Sim0_und (t := t) h1.z h2.frm.1 hu.1 h7.1.2.1 hab).1
        have eP : s_und M1 t z 24 = M1 24 := und_par M1 t z
        have eM : s_und M1 t z 22 0 = M1 22 0 := und_o rfl rfl
        have eSt : s_und M1 t z 23 = M1 23 := und_state M1 t z
        have hW2 : WF (s_und M1 t z) := h2.und hu.1.1 hu.1.2 hu.2.2.1 h4
        have hD2 : DepOk (s_und M1 t z) := h3.c eP eM
        have ht2 : inM (s_und M1 t z) t := (by unfold inM; rw [eM]; exact h4)
        have hl2 : LvT (s_und M1 t z) t := (by unfold LvT; rw [top_c eP, Liv_c eSt]; exact h5)
        have hop : unN N1 t z 6 0 = N1 6 0 := unN_o rfl (by decide) (by decide) (by omega) (by simp)
        have hS1 : Sim (up (unN N1 t z) 6 0 (N1 6 0 - 1)) (s_und M1 t z) := Sim0.s hS0 (by rw [up_same, h1.cc.1, opens_und hu.1.1 hu.1.2 hu.2.2.1])
        have hun : (z + 1).toNat = z.toNat + 1 := (by omega)
        have hzz : ((z.toNat : Nat) : Int) = z := (by omega)
        rw [hun, undN_t (by rw [hzz]; exact hu.2), hzz] at h10 h11
        have hre := hn1.2.2.2.2
        have h4m := h4.2
        have ent : N1 51 0 = M1 22 0 := h1.t.1.2
        have hzR : z < N1 50 0 := (by have := hu.1.2; have := h1.l.1.2.2.2; omega)
        have hvt : 0 ≤ t ∧ t < N1 51 0 := (by rw [ent]; exact h4)
        refine v_aloadq (i := 4) o.ok d_S_back_9 rfl ?_
        refine n_ifnull o.ok d_S_back_11 (fun c11 => ?_) (fun c11 => ?_)
        · exfalso; omega
        · refine v_aload_nq (i := 0) o.ok d_S_back_14 rfl rfl ?_
          refine v_aloadq (i := 4) o.ok d_S_back_15 rfl ?_
          refine v_aload_nq (i := 1) o.ok d_S_back_17 rfl rfl ?_
          refine n_cV o 1 (tg := 0) rfl (by decide) (by decide) (by first | rfl | assumption | exact And.intro (by omega) (by omega)) (c_S_undo D A1 t z N1 M1 h1.z h2.frm.1 hu.1 hab h4 h2.recs.2 hn1.2.2.2.1) q_S_undo lm_S_170 d_S_back_18 (by decide) rfl (by first | exact Nat.le_of_ble_eq_true rfl | (simp only [List.map_cons, List.map_nil, cat_rf, J_cat, List.sum_cons, List.sum_nil, cat_lg, cat_rr]; decide)) rfl (n_u (fun A18 N18 h18 => ?_))
          obtain ⟨hx, rfl⟩ := h18
          (try simp only [rq])
          rw [← hx.fo (tg := 0) (v := 0) (by decide), ← hx.ft (v := t) (by omega), ← hx.fe (v := z) (by omega)]
          refine v_aload_nq (i := 0) o.ok d_S_back_21 rfl rfl ?_
          refine v_dup o.ok d_S_back_22 (cat_rf _) ?_
          refine n_geti o 6 rfl rfl rfl lf_S_106 (by first | rfl | assumption | exact And.intro (by omega) (by omega)) d_S_back_23 (fun i23 => ?_)
          rw [hop] at i23 ⊢
          refine v_iconst o.ok d_S_back_26 ?_
          refine v_isub o.ok d_S_back_27 ?_
          refine n_puti o 6 rfl rfl rfl rfl lf_S_106 (by first | rfl | assumption | exact And.intro (by omega) (by omega)) (by have := hn1.2.1; omega) d_S_back_28 ?_
          refine v_iinc (i := 3) (L' := [(0, _), (1, _), (2, _), (3, _), (4, _)]) (G' := []) o.ok d_S_back_31 rfl (o.lt (by decide)) rfl rfl ?_
          refine v_aload_nq (i := 1) o.ok d_S_back_34 rfl rfl ?_
          refine v_iload_n (i := 2) o.ok d_S_back_35 rfl rfl ?_
          refine n_cSN o (lt A18 (up (unN N1 t z) 6 0 (N1 6 0 - 1)) (s_und M1 t z) hS1.z hW2 hD2 ht2 hl2) q_T_latest ln_S_166 d_S_back_36 (by decide) rfl (by first | exact Nat.le_of_ble_eq_true rfl | (simp only [List.map_cons, List.map_nil, cat_rf, J_cat, List.sum_cons, List.sum_nil, cat_lg, cat_rr]; decide)) rfl (n_x (fun x36 A36 N36 h36 => ?_))
          obtain ⟨z', rfl, hA, q1, q2, q4, q3⟩ := h36
          rw [hA]
          refine v_astoreq (i := 4) (L' := [(0, _), (1, _), (2, _), (3, _), (4, _)]) (G' := []) o.ok d_S_back_39 (o.lt (by decide)) rfl rfl ?_
          refine v_goto o.ok d_S_back_41 ?_
          have hSS := Sim0_lt hS1.z q1 q2 q3
          have hS3 : Sim N36 (s_und M1 t z) := hSS.s (by rw [q1 _ _ (by decide)]; exact hS1.cc.1)
          have hr2 : s_und M1 t z 12 0 = M1 12 0 + 1 := und_n.1
          have hcu : ∀ r, ((0 ≤ r ∧ r < s_und M1 t z 12 0) ∧ ucd (s_und M1 t z) t pt r) → r < z := (by
            rintro r ⟨y1, y2, y3, y4⟩
            by_cases e : r = M1 12 0
            · have := y3.1; rw [e, und_n.2.1] at this; omega
            · have hrr : r < M1 12 0 := (by omega)
              have y5 := (Opn_und (t := t) hu.1.2 hrr).mp y3
              rw [show s_und M1 t z 15 r = M1 15 r from und_l rfl (by decide) e] at y4
              have y6 : InS M1 t (M1 15 r) := (by
                rcases y4 with y | y
                · exact Or.inl y
                · exact Or.inr ((Abv_c eP _ _).mp y))
              rw [show s_und M1 t z 11 0 = M1 11 0 from und_o rfl rfl] at y2
              have := h7.2 r ((cnd_u h1.z h2.par h3 hby h5).mpr ⟨⟨y1.1, hrr⟩, y2, y5.1, y6⟩)
              have := y5.2
              omega)
          have hcz := cnd_u (pt := pt) (r := z') hS1.z hW2.par hD2 (fun r x y => hW2.bys r x y) hl2
          have hzl : z' < z := (by
            rcases q4 with y | y
            · omega
            · exact hcu z' (hcz.mp y.1))
          have hsk : undN t pt z.toNat (s_und M1 t z) = undN t pt (z' + 1).toNat (s_und M1 t z) := undN_skip _ _ (by omega) (fun r a b y => by
            have hrr : 0 ≤ r := (by omega)
            have hr3 : r < s_und M1 t z 12 0 := (by have := hu.1.2; omega)
            have y9 := (cnd_u (pt := pt) (r := r) hS1.z hW2.par hD2 (fun r x y => hW2.bys r x y) hl2).mpr ⟨⟨hrr, hr3⟩, y⟩
            rcases q4 with w | w
            · exact w.2 r y9
            · have := w.2 r y9; have := w.1.1.1; omega)
          rw [hsk] at h10 h11
          exact ih (c + 1) A18 N36 (s_und M1 t z) z' (by omega) hS3 hW2 hD2 ht2 hl2 ((h6.und (t := t) (u := z) hx hre).eq (q1 _ _ (by decide)) (q1 _ _ (by decide)) (q1 _ _ (by decide))) (q4.eq q1) (by omega) (by omega) (by rw [← h10]; show c + 1 + (undN t pt (z' + 1).toNat (s_und M1 t z)).1 = c + ((undN t pt (z' + 1).toNat (s_und M1 t z)).1 + 1); omega) h11
  have hn := h.nums hw
  have hrec := hw.recs
  refine v_iconst o.ok d_S_back_0 ?_
  refine v_istore_n (i := 3) (L' := [(0, _), (1, _), (2, _), (3, _)]) (G' := []) o.ok d_S_back_1 rfl (o.lt (by decide)) rfl rfl ?_
  refine v_aload_nq (i := 1) o.ok d_S_back_2 rfl rfl ?_
  refine v_iload_n (i := 2) o.ok d_S_back_3 rfl rfl ?_
  refine n_cSN o (lt A N M h.z hw hd ht hlv) q_T_latest ln_S_166 d_S_back_4 (by decide) rfl (by first | exact Nat.le_of_ble_eq_true rfl | (simp only [List.map_cons, List.map_nil, cat_rf, J_cat, List.sum_cons, List.sum_nil, cat_lg, cat_rr]; decide)) rfl (n_x (fun x4 A4 N4 h4 => ?_))
  obtain ⟨z', rfl, hA, q1, q2, q4, q3⟩ := h4
  rw [hA]
  refine v_astoreq (i := 4) (L' := [(0, _), (1, _), (2, _), (3, _), (4, _)]) (G' := []) o.ok d_S_back_7 (o.lt (by decide)) rfl rfl ?_
  have hSS := Sim0_lt h.z q1 q2 q3
  have hS3 : Sim N4 M := hSS.s (by rw [q1 _ _ (by decide)]; exact h.cc.1)
  have hcz := fun r => cnd_u (pt := pt) (r := r) h.z hw.par hd (fun r x y => hw.bys r x y) hlv
  have hzl : z' < M 12 0 := (by rcases q4 with y | y; omega; exact y.1.1.2)
  have hz1 : -1 ≤ z' := (by rcases q4 with y | y; omega; have := y.1.1.1; omega)
  have hsk : undN t pt (M 12 0).toNat M = undN t pt (z' + 1).toNat M := undN_skip _ _ (by omega) (fun r a b y => by
    have y9 := (hcz r).mpr ⟨⟨by omega, by omega⟩, y⟩
    rcases q4 with w | w
    · exact w.2 r y9
    · have := w.2 r y9; omega)
  exact lp 301 0 A N4 M z' (by omega) hS3 hw hd ht hlv ((Fwd.rf N A).eq (q1 _ _ (by decide)) (q1 _ _ (by decide)) (q1 _ _ (by decide))) (q4.eq q1) (by omega) (by omega) (by unfold undoes; rw [hsk]; omega) (by unfold undoes; rw [hsk])

