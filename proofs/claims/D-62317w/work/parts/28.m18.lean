/-! crashes -/
def zfr (M : MSt) (b : Int) (f : Nat) (i : Int) : Int := if (f = 7 ∨ f = 8) ∧ 0 ≤ i ∧ i < b then 0 else M f i
theorem zfr_0 (M : MSt) : zfr M 0 = M := by
  funext f i
  unfold zfr
  rw [if_neg (by omega)]
theorem zfr_s (M : MSt) {b : Int} (h : 0 ≤ b) : up (up (zfr M b) 7 b 0) 8 b 0 = zfr M (b + 1) := by
  funext f i
  unfold up zfr
  by_cases h1 : f = 8 ∧ i = b
  · rw [if_pos h1, if_pos ⟨Or.inr h1.1, by omega, by omega⟩]
  · rw [if_neg h1]
    by_cases h2 : f = 7 ∧ i = b
    · rw [if_pos h2, if_pos ⟨Or.inl h2.1, by omega, by omega⟩]
    · rw [if_neg h2]
      by_cases h3 : (f = 7 ∨ f = 8) ∧ 0 ≤ i ∧ i < b
      · rw [if_pos h3, if_pos ⟨h3.1, by omega, by omega⟩]
      · rw [if_neg h3, if_neg (fun q => h3 ⟨q.1, q.2.1, by omega⟩)]
def cst (K : MSt) (b : Int) (f : Nat) (i : Int) : Int := if f = 26 ∧ 0 ≤ i ∧ i < 33 * b then 0 else if f = 23 ∧ 0 ≤ i ∧ i < b then (if K 23 (top K i) = 3 then K 23 i else 4) else K f i
theorem cst_0 (K : MSt) : cst K 0 = K := by
  funext f i
  unfold cst
  rw [if_neg (by omega), if_neg (by omega)]
theorem cst_s (K : MSt) {b : Int} (h : 0 ≤ b) : up (ulk (cst K b) b) 23 b (if K 23 (top K b) = 3 then K 23 b else 4) = cst K (b + 1) := by
  funext f i
  unfold up
  by_cases h1 : f = 23 ∧ i = b
  · rw [if_pos h1]
    obtain ⟨rfl, rfl⟩ := h1
    unfold cst
    rw [if_neg (show ¬ ((23 : Nat) = 26 ∧ 0 ≤ i ∧ i < 33 * (i + 1)) from fun q => by cases q.1), if_pos (show (23 : Nat) = 23 ∧ 0 ≤ i ∧ i < i + 1 from ⟨rfl, h, by omega⟩)]
  · rw [if_neg h1]
    unfold ulk ulkN cst
    by_cases h2 : f = 26
    · subst h2
      by_cases h3 : 33 * b ≤ i ∧ i < 33 * b + 33
      · rw [if_pos ⟨rfl, h3⟩, if_pos ⟨rfl, by omega, by omega⟩]
      · rw [if_neg (fun q => h3 q.2)]
        by_cases h4 : 0 ≤ i ∧ i < 33 * b
        · rw [if_pos ⟨rfl, h4⟩, if_pos ⟨rfl, by omega, by omega⟩]
        · rw [if_neg (fun q => h4 q.2), if_neg (fun q => by omega), if_neg (fun q => by omega), if_neg (fun q => by omega)]
    · rw [if_neg (show ¬ (f = 26 ∧ 33 * b ≤ i ∧ i < 33 * b + 33) from fun q => h2 q.1), if_neg (show ¬ (f = 26 ∧ 0 ≤ i ∧ i < 33 * b) from fun q => h2 q.1), if_neg (show ¬ (f = 26 ∧ 0 ≤ i ∧ i < 33 * (b + 1)) from fun q => h2 q.1)]
      by_cases h3 : f = 23 ∧ 0 ≤ i ∧ i < b
      · rw [if_pos h3, if_pos (show f = 23 ∧ 0 ≤ i ∧ i < b + 1 from ⟨h3.1, by omega, by omega⟩)]
      · rw [if_neg h3, if_neg (show ¬ (f = 23 ∧ 0 ≤ i ∧ i < b + 1) from fun q => by omega)]
def RootOk (M : MSt) : Prop := ∀ t, 0 ≤ t → t < M 22 0 → M 24 (top M t) < 0
theorem top_root {M : MSt} {t : Int} (h : M 24 t < 0) : top M t = t := by
  unfold top topN
  rw [if_neg (by omega)]
noncomputable def rdo (K : MSt) (r : Int) : MSt := if K 14 r = 2 ∨ K 14 r = 3 then (if tch K (K 16 r / 4) 6 (K 16 r / 4) < K 11 0 + r + 1 then bcm (tch K (K 16 r / 4)) (K 16 r) (K 20 r) (K 21 r) (K 11 0 + r + 1) else tch K (K 16 r / 4)) else K
noncomputable def rdN (K : MSt) : Nat → MSt
  | 0 => K
  | n + 1 => rdo (rdN K n) n
theorem rdo_o {K : MSt} {r i : Int} {f : Nat} (h : pgF f = false) : rdo K r f i = K f i := by
  unfold rdo
  split
  · split
    · rw [bcm_o h, tch_o h]
    · rw [tch_o h]
  · rfl
theorem rdo_clock {K : MSt} {r : Int} : K 10 0 ≤ rdo K r 10 0 ∧ rdo K r 10 0 ≤ K 10 0 + 1 := by
  have hb : ∀ (K : MSt) (a b c d : Int), bcm K a b c d 10 0 = K 10 0 := fun K a b c d => by simp [bcm, up]
  unfold rdo
  split
  · split
    · rw [hb, tch_clock _ _ rfl]; omega
    · rw [tch_clock _ _ rfl]; omega
  · omega
theorem rdN_o {K : MSt} {f : Nat} (h : pgF f = false) (n : Nat) : rdN K n f = K f := by
  induction n with
  | zero => rfl
  | succ n ih =>
    funext i
    show rdo (rdN K n) n f i = K f i
    rw [rdo_o h, ih]
theorem rdN_clock {K : MSt} (n : Nat) : K 10 0 ≤ rdN K n 10 0 ∧ rdN K n 10 0 ≤ K 10 0 + n := by
  induction n with
  | zero => exact ⟨Int.le_refl _, by show K 10 0 ≤ K 10 0 + 0; omega⟩
  | succ n ih =>
    have := rdo_clock (K := rdN K n) (r := n)
    show K 10 0 ≤ rdo (rdN K n) n 10 0 ∧ rdo (rdN K n) n 10 0 ≤ _
    omega
noncomputable def ucN : Nat → MSt → Int × MSt
  | 0, K => (0, K)
  | n + 1, K => pick (K 14 (n : Int) = 2 ∧ ¬ Und K (n : Int) ∧ ¬ Cmt K (top K (K 15 (n : Int)))) ((ucN n (s_und K (top K (K 15 (n : Int))) n)).1 + 1, (ucN n (s_und K (top K (K 15 (n : Int))) n)).2) (ucN n K)
def cr0 (M : MSt) (n : Int) : MSt := up (up M 13 0 (M 13 0 + n)) 12 0 (M 13 0 + n - M 11 0)
def cr1 (M : MSt) (n : Int) : MSt := cst (zfr (cr0 M n) 8) (M 22 0)
noncomputable def cr2 (M : MSt) (n : Int) : MSt := rdN (cr1 M n) (M 13 0 + n - M 11 0).toNat
noncomputable def cr3 (M : MSt) (n : Int) : Int × MSt := ucN (M 13 0 + n - M 11 0).toNat (cr2 M n)
noncomputable def crs (M : MSt) (n : Int) : Int × MSt := ((cr3 M n).1, up (cr3 M n).2 13 0 (lst (cr3 M n).2))
noncomputable def r_crash (M : MSt) (n : Int) : Int × MSt := if 0 ≤ n ∧ n ≤ lst M - M 13 0 then crs M n else (-1, M)
/-- an update that no undo is of -/
def UU (M : MSt) (r : Int) : Prop := M 14 r = 2 ∧ ¬ Und M r
def CrOk (M : MSt) : Prop := RootOk M ∧ (M 11 0 ≤ M 13 0 ∧ M 13 0 ≤ lst M) ∧ M 10 0 ≤ 900000 ∧ ∀ n, 0 ≤ n → n ≤ lst M - M 13 0 → (M 13 0 + n - M 11 0) + cnt (UU (cr0 M n)) (M 13 0 + n - M 11 0) ≤ 300
theorem UU_und {M : MSt} {t u r : Int} (hu : u < M 12 0) (hr : r < M 12 0) : UU (s_und M t u) r ↔ UU M r ∧ r ≠ u := by
  have k1 : s_und M t u 14 r = M 14 r := und_l rfl (by decide) (by omega)
  unfold UU
  rw [k1, Und_und hu hr]
  constructor
  · rintro ⟨h1, h2⟩
    exact ⟨⟨h1, fun q => h2 (Or.inl q)⟩, fun q => h2 (Or.inr q)⟩
  · rintro ⟨⟨h1, h2⟩, h3⟩
    exact ⟨h1, fun q => by rcases q with q | q; exact h2 q; exact h3 q⟩
set_option maxHeartbeats 4000000 in
set_option maxRecDepth 20000 in
theorem c_M_crash (n : Int) (M : MSt) (hn : InR n) (hf : WF M) (hc : CrOk M) : MF y_M_crash (wsOf y_M_crash b_M_crash 5 (some .int)) 3 [n] M (some (r_crash M n).1) ((r_crash M n).2) := by
  refine MCon.of (by decide) rfl (Nat.le_of_ble_eq_true rfl) ?_
  intro X E o
  show V X (RelM E M) 0 [(0, .ref (Em.x E)), (1, J (n))] [] []
  have hb := hf.base
  have hr := hf.recs
  have hm := hf.many
  obtain ⟨hroot, hfl, hck, hsum⟩ := hc
  have hck0 := hf.clk
  have el : lst M = M 11 0 + M 12 0 := rfl
  have hP : (h : 0 ≤ n ∧ n ≤ lst M - M 13 0) → V X (RelM E (cr0 M n)) 42 [(0, .ref (Em.x E)), (1, J n)] [] [] := by
    intro hcn
    have hs := hsum n hcn.1 hcn.2
    generalize hkept : M 13 0 + n - M 11 0 = kept at hs
    have hkb : 0 ≤ kept ∧ kept ≤ M 12 0 := by omega
    have er : r_crash M n = crs M n := if_pos hcn
    -- phase 3
    have p3 : ∀ (m : Nat) (c : Int) (K : MSt), (m : Int) ≤ kept → kept ≤ K 12 0 → 0 ≤ K 12 0 ∧ K 12 0 + cntN (UU K) m ≤ 300 → ParOk K → K 22 0 = M 22 0 → (∀ r, 0 ≤ r → r < kept → (0 ≤ K 15 r ∧ K 15 r < K 22 0) ∧ (K 14 r = 2 ∨ K 14 r = 3 → 0 ≤ K 16 r ∧ K 16 r ≤ 31)) → K 11 0 = M 11 0 → (0 ≤ K 10 0 ∧ K 10 0 + m ≤ 950000) → (1 ≤ K 0 0 ∧ K 0 0 ≤ 8) → 0 ≤ c → c + m ≤ 300 → c + (ucN m K).1 = (cr3 M n).1 → (ucN m K).2 = (cr3 M n).2 → V X (RelM E K) 232 [(0, .ref (Em.x E)), (1, J n), (2, J kept), (3, J c), (4, J ((m : Int) - 1))] [] [] := by
      intro m
      induction m with
      | zero =>
        intro c K hmk hkr hrs hp em hby eb hcl hfr hc0 hc1 h1 h2
        have e2 : K = (cr3 M n).2 := h2
        have ell : lst K = K 11 0 + K 12 0 := rfl
        have hcn0 := cntN_bd (P := UU K) 0
        refine v_iload (i := 4) o.ok d_M_crash_232 rfl ?_
        refine v_if_lt o.ok (by omega) d_M_crash_234 (fun c234 => ?_) (fun c234 => ?_)
        · refine v_aload_n (i := 0) o.ok d_M_crash_301 rfl rfl ?_
          refine v_aload_n (i := 0) o.ok d_M_crash_302 rfl rfl ?_
          refine m_cf o (c_M_last K) q_M_last lm_M_128 d_M_crash_303 (by decide) rfl (Nat.le_of_ble_eq_true rfl) rfl ?_
          refine m_puti o 13 (by decide) rfl rfl rfl lf_M_105 rfl (by omega) d_M_crash_306 ?_
          refine v_iload_n (i := 3) o.ok d_M_crash_309 rfl rfl ?_
          refine m_iret o d_M_crash_310 ?_
          rw [er]
          refine ⟨congrArg some ?_, ?_⟩
          · show c = (cr3 M n).1
            rw [← h1]; show c = c + 0; omega
          · show up K 13 0 (lst K) = up (cr3 M n).2 13 0 (lst (cr3 M n).2)
            rw [e2]
        · exfalso; omega
      | succ m ih =>
        intro c K hmk hkr hrs hp em hby eb hcl hfr hc0 hc1 h1 h2
        rw [show ((m + 1 : Nat) : Int) - 1 = (m : Int) from by omega]
        have hcm := cntN_bd (P := UU K) m
        have hbm := hby m (by omega) (by omega)
        have htb := top_bd hp hbm.1.1 hbm.1.2
        have hmy := hp.2.1
        have he : ucN (m + 1) K = pick (K 14 (m : Int) = 2 ∧ ¬ Und K (m : Int) ∧ ¬ Cmt K (top K (K 15 (m : Int)))) ((ucN m (s_und K (top K (K 15 (m : Int))) m)).1 + 1, (ucN m (s_und K (top K (K 15 (m : Int))) m)).2) (ucN m K) := rfl
        have hcs : cntN (UU K) (m + 1) = cntN (UU K) m + b01 (UU K (m : Int)) := rfl
        have hb01 := b01_or (UU K (m : Int))
        refine v_iload (i := 4) o.ok d_M_crash_232 rfl ?_
        refine v_if_lt o.ok (by omega) d_M_crash_234 (fun c234 => ?_) (fun c234 => ?_)
        · exfalso; omega
        · refine v_aload_n (i := 0) o.ok d_M_crash_237 rfl rfl ?_
          refine m_geta o 14 (by decide) (by decide) lf_M_38 rfl d_M_crash_238 ?_
          refine v_iload (i := 4) o.ok d_M_crash_241 rfl ?_
          refine m_iald o 14 301 rfl rfl (by omega) d_M_crash_243 (fun i243 => ?_)
          (try simp only [clk, up, cpd, cpu, Nat.reduceEqDiff, false_and, if_false, and_self, if_true, true_and] at i243 ⊢)
          refine v_iconst o.ok d_M_crash_244 ?_
          refine v_icmp_ne o.ok (by omega) (by omega) d_M_crash_245 (fun c245 => ?_) (fun c245 => ?_)
          · refine v_iinc (i := 4) (L' := [(0, _), (1, _), (2, _), (3, _), (4, _)]) (G' := []) o.ok d_M_crash_295 rfl (o.lt (by decide)) rfl rfl ?_
            refine v_goto o.ok d_M_crash_298 ?_
            first
              | (have hcd : K 14 (m : Int) = 2 ∧ ¬ Und K (m : Int) ∧ ¬ Cmt K (top K (K 15 (m : Int))) := ⟨by omega, by assumption, by assumption⟩
                 rw [he, pick_t hcd] at h1 h2
                 have e1 : s_und K (top K (K 15 m)) m 12 0 = K 12 0 + 1 := und_n.1
                 have e3 : s_und K (top K (K 15 m)) m 22 0 = K 22 0 := und_o rfl rfl
                 have e4 : s_und K (top K (K 15 m)) m 11 0 = K 11 0 := und_o rfl rfl
                 have e5 : s_und K (top K (K 15 m)) m 10 0 = K 10 0 + 1 := und_clock
                 have e6 : s_und K (top K (K 15 m)) m 0 0 = K 0 0 := und_o rfl rfl
                 have e7 : cntN (UU (s_und K (top K (K 15 m)) m)) m = cntN (UU K) m := by
                   have := cnt_ext (P := UU (s_und K (top K (K 15 m)) m)) (P' := UU K) (b := (m : Int)) (fun i a b => by rw [UU_und (by omega) (by omega)]; exact ⟨fun q => q.1, fun q => ⟨q, by omega⟩⟩)
                   exact this
                 rw [b01_t (show UU K (m : Int) from ⟨hcd.1, hcd.2.1⟩)] at hcs
                 refine ih (c + 1) _ (by omega) (by omega) ⟨by omega, by omega⟩ ⟨by rw [e3]; exact hp.1, by rw [e3]; exact hp.2.1, fun q a b => by rw [und_par]; exact hp.2.2 q a (by rw [e3] at b; exact b)⟩ (by rw [e3]; exact em) (fun r a b => ?_) (by rw [e4]; exact eb) (by omega) (by rw [e6]; exact hfr) (by omega) (by omega) (by rw [← h1]; show c + 1 + (ucN m (s_und K (top K (K 15 m)) m)).1 = c + ((ucN m (s_und K (top K (K 15 m)) m)).1 + 1); omega) h2
                 rw [e3, und_l rfl (by decide) (by omega), und_l rfl (by decide) (by omega), und_l rfl (by decide) (by omega)]
                 exact hby r a b)
              | (have hcd : ¬ (K 14 (m : Int) = 2 ∧ ¬ Und K (m : Int) ∧ ¬ Cmt K (top K (K 15 (m : Int)))) := fun q => by
                   obtain ⟨q1, q2, q3⟩ := q
                   first
                     | omega
                     | exact absurd (by assumption) q2
                     | exact absurd (by assumption) q3
                 rw [he, pick_f hcd] at h1 h2
                 exact ih c K (by omega) hkr ⟨by omega, by omega⟩ hp em hby eb (by omega) hfr hc0 (by omega) h1 h2)
          · refine v_aload_n (i := 0) o.ok d_M_crash_248 rfl rfl ?_
            refine v_iload (i := 4) o.ok d_M_crash_249 rfl ?_
            refine m_cf o (c_M_undone m K (by omega) ⟨by omega, by omega⟩ (by omega)) q_M_undone lm_M_140 d_M_crash_251 (by decide) rfl (Nat.le_of_ble_eq_true rfl) rfl ?_
            first | refine v_ifne_b o.ok d_M_crash_254 (fun c254 => ?_) (fun c254 => ?_) | refine v_if_ne o.ok (by omega) d_M_crash_254 (fun c254 => ?_) (fun c254 => ?_)
            · refine v_iinc (i := 4) (L' := [(0, _), (1, _), (2, _), (3, _), (4, _)]) (G' := []) o.ok d_M_crash_295 rfl (o.lt (by decide)) rfl rfl ?_
              refine v_goto o.ok d_M_crash_298 ?_
              first
                | (have hcd : K 14 (m : Int) = 2 ∧ ¬ Und K (m : Int) ∧ ¬ Cmt K (top K (K 15 (m : Int))) := ⟨by omega, by assumption, by assumption⟩
                   rw [he, pick_t hcd] at h1 h2
                   have e1 : s_und K (top K (K 15 m)) m 12 0 = K 12 0 + 1 := und_n.1
                   have e3 : s_und K (top K (K 15 m)) m 22 0 = K 22 0 := und_o rfl rfl
                   have e4 : s_und K (top K (K 15 m)) m 11 0 = K 11 0 := und_o rfl rfl
                   have e5 : s_und K (top K (K 15 m)) m 10 0 = K 10 0 + 1 := und_clock
                   have e6 : s_und K (top K (K 15 m)) m 0 0 = K 0 0 := und_o rfl rfl
                   have e7 : cntN (UU (s_und K (top K (K 15 m)) m)) m = cntN (UU K) m := by
                     have := cnt_ext (P := UU (s_und K (top K (K 15 m)) m)) (P' := UU K) (b := (m : Int)) (fun i a b => by rw [UU_und (by omega) (by omega)]; exact ⟨fun q => q.1, fun q => ⟨q, by omega⟩⟩)
                     exact this
                   rw [b01_t (show UU K (m : Int) from ⟨hcd.1, hcd.2.1⟩)] at hcs
                   refine ih (c + 1) _ (by omega) (by omega) ⟨by omega, by omega⟩ ⟨by rw [e3]; exact hp.1, by rw [e3]; exact hp.2.1, fun q a b => by rw [und_par]; exact hp.2.2 q a (by rw [e3] at b; exact b)⟩ (by rw [e3]; exact em) (fun r a b => ?_) (by rw [e4]; exact eb) (by omega) (by rw [e6]; exact hfr) (by omega) (by omega) (by rw [← h1]; show c + 1 + (ucN m (s_und K (top K (K 15 m)) m)).1 = c + ((ucN m (s_und K (top K (K 15 m)) m)).1 + 1); omega) h2
                   rw [e3, und_l rfl (by decide) (by omega), und_l rfl (by decide) (by omega), und_l rfl (by decide) (by omega)]
                   exact hby r a b)
                | (have hcd : ¬ (K 14 (m : Int) = 2 ∧ ¬ Und K (m : Int) ∧ ¬ Cmt K (top K (K 15 (m : Int)))) := fun q => by
                     obtain ⟨q1, q2, q3⟩ := q
                     first
                       | omega
                       | exact absurd (by assumption) q2
                       | exact absurd (by assumption) q3
                   rw [he, pick_f hcd] at h1 h2
                   exact ih c K (by omega) hkr ⟨by omega, by omega⟩ hp em hby eb (by omega) hfr hc0 (by omega) h1 h2)
            · refine v_aload_n (i := 0) o.ok d_M_crash_257 rfl rfl ?_
              refine v_aload_n (i := 0) o.ok d_M_crash_258 rfl rfl ?_
              refine v_aload_n (i := 0) o.ok d_M_crash_259 rfl rfl ?_
              refine m_geta o 15 (by decide) (by decide) lf_M_41 rfl d_M_crash_260 ?_
              refine v_iload (i := 4) o.ok d_M_crash_263 rfl ?_
              refine m_iald o 15 301 rfl rfl (by omega) d_M_crash_265 (fun i265 => ?_)
              (try simp only [clk, up, cpd, cpu, Nat.reduceEqDiff, false_and, if_false, and_self, if_true, true_and] at i265 ⊢)
              refine m_cf o (c_M_top (K 15 m) K hp hbm.1) q_M_top lm_M_136 d_M_crash_266 (by decide) rfl (Nat.le_of_ble_eq_true rfl) rfl ?_
              refine m_cf o (c_M_committed (top K (K 15 m)) K (by omega) ⟨by omega, by omega⟩) q_M_committed lm_M_261 d_M_crash_269 (by decide) rfl (Nat.le_of_ble_eq_true rfl) rfl ?_
              first | refine v_ifne_b o.ok d_M_crash_272 (fun c272 => ?_) (fun c272 => ?_) | refine v_if_ne o.ok (by omega) d_M_crash_272 (fun c272 => ?_) (fun c272 => ?_)
              · refine v_iinc (i := 4) (L' := [(0, _), (1, _), (2, _), (3, _), (4, _)]) (G' := []) o.ok d_M_crash_295 rfl (o.lt (by decide)) rfl rfl ?_
                refine v_goto o.ok d_M_crash_298 ?_
                first
                  | (have hcd : K 14 (m : Int) = 2 ∧ ¬ Und K (m : Int) ∧ ¬ Cmt K (top K (K 15 (m : Int))) := ⟨by omega, by assumption, by assumption⟩
                     rw [he, pick_t hcd] at h1 h2
                     have e1 : s_und K (top K (K 15 m)) m 12 0 = K 12 0 + 1 := und_n.1
                     have e3 : s_und K (top K (K 15 m)) m 22 0 = K 22 0 := und_o rfl rfl
                     have e4 : s_und K (top K (K 15 m)) m 11 0 = K 11 0 := und_o rfl rfl
                     have e5 : s_und K (top K (K 15 m)) m 10 0 = K 10 0 + 1 := und_clock
                     have e6 : s_und K (top K (K 15 m)) m 0 0 = K 0 0 := und_o rfl rfl
                     have e7 : cntN (UU (s_und K (top K (K 15 m)) m)) m = cntN (UU K) m := by
                       have := cnt_ext (P := UU (s_und K (top K (K 15 m)) m)) (P' := UU K) (b := (m : Int)) (fun i a b => by rw [UU_und (by omega) (by omega)]; exact ⟨fun q => q.1, fun q => ⟨q, by omega⟩⟩)
                       exact this
                     rw [b01_t (show UU K (m : Int) from ⟨hcd.1, hcd.2.1⟩)] at hcs
                     refine ih (c + 1) _ (by omega) (by omega) ⟨by omega, by omega⟩ ⟨by rw [e3]; exact hp.1, by rw [e3]; exact hp.2.1, fun q a b => by rw [und_par]; exact hp.2.2 q a (by rw [e3] at b; exact b)⟩ (by rw [e3]; exact em) (fun r a b => ?_) (by rw [e4]; exact eb) (by omega) (by rw [e6]; exact hfr) (by omega) (by omega) (by rw [← h1]; show c + 1 + (ucN m (s_und K (top K (K 15 m)) m)).1 = c + ((ucN m (s_und K (top K (K 15 m)) m)).1 + 1); omega) h2
                     rw [e3, und_l rfl (by decide) (by omega), und_l rfl (by decide) (by omega), und_l rfl (by decide) (by omega)]
                     exact hby r a b)
                  | (have hcd : ¬ (K 14 (m : Int) = 2 ∧ ¬ Und K (m : Int) ∧ ¬ Cmt K (top K (K 15 (m : Int)))) := fun q => by
                       obtain ⟨q1, q2, q3⟩ := q
                       first
                         | omega
                         | exact absurd (by assumption) q2
                         | exact absurd (by assumption) q3
                     rw [he, pick_f hcd] at h1 h2
                     exact ih c K (by omega) hkr ⟨by omega, by omega⟩ hp em hby eb (by omega) hfr hc0 (by omega) h1 h2)
              · refine v_aload_n (i := 0) o.ok d_M_crash_275 rfl rfl ?_
                refine v_aload_n (i := 0) o.ok d_M_crash_276 rfl rfl ?_
                refine v_aload_n (i := 0) o.ok d_M_crash_277 rfl rfl ?_
                refine m_geta o 15 (by decide) (by decide) lf_M_41 rfl d_M_crash_278 ?_
                refine v_iload (i := 4) o.ok d_M_crash_281 rfl ?_
                refine m_iald o 15 301 rfl rfl (by omega) d_M_crash_283 (fun i283 => ?_)
                (try simp only [clk, up, cpd, cpu, Nat.reduceEqDiff, false_and, if_false, and_self, if_true, true_and] at i283 ⊢)
                refine m_cf o (c_M_top (K 15 m) K hp hbm.1) q_M_top lm_M_136 d_M_crash_284 (by decide) rfl (Nat.le_of_ble_eq_true rfl) rfl ?_
                refine v_iload (i := 4) o.ok d_M_crash_287 rfl ?_
                refine m_cfv o (c_M_undo (top K (K 15 m)) m K (by omega) (by omega) (hbm.2 (Or.inl (by omega))) (by omega) ⟨by omega, by omega⟩ (by omega) ⟨⟨by omega, by omega⟩, hfr⟩) q_M_undo lm_M_248 d_M_crash_289 (by decide) rfl (Nat.le_of_ble_eq_true rfl) rfl ?_
                refine v_iinc (i := 3) (L' := [(0, _), (1, _), (2, _), (3, _), (4, _)]) (G' := []) o.ok d_M_crash_292 rfl (o.lt (by decide)) rfl rfl ?_
                refine v_iinc (i := 4) (L' := [(0, _), (1, _), (2, _), (3, _), (4, _)]) (G' := []) o.ok d_M_crash_295 rfl (o.lt (by decide)) rfl rfl ?_
                refine v_goto o.ok d_M_crash_298 ?_
                first
                  | (have hcd : K 14 (m : Int) = 2 ∧ ¬ Und K (m : Int) ∧ ¬ Cmt K (top K (K 15 (m : Int))) := ⟨by omega, by assumption, by assumption⟩
                     rw [he, pick_t hcd] at h1 h2
                     have e1 : s_und K (top K (K 15 m)) m 12 0 = K 12 0 + 1 := und_n.1
                     have e3 : s_und K (top K (K 15 m)) m 22 0 = K 22 0 := und_o rfl rfl
                     have e4 : s_und K (top K (K 15 m)) m 11 0 = K 11 0 := und_o rfl rfl
                     have e5 : s_und K (top K (K 15 m)) m 10 0 = K 10 0 + 1 := und_clock
                     have e6 : s_und K (top K (K 15 m)) m 0 0 = K 0 0 := und_o rfl rfl
                     have e7 : cntN (UU (s_und K (top K (K 15 m)) m)) m = cntN (UU K) m := by
                       have := cnt_ext (P := UU (s_und K (top K (K 15 m)) m)) (P' := UU K) (b := (m : Int)) (fun i a b => by rw [UU_und (by omega) (by omega)]; exact ⟨fun q => q.1, fun q => ⟨q, by omega⟩⟩)
                       exact this
                     rw [b01_t (show UU K (m : Int) from ⟨hcd.1, hcd.2.1⟩)] at hcs
                     refine ih (c + 1) _ (by omega) (by omega) ⟨by omega, by omega⟩ ⟨by rw [e3]; exact hp.1, by rw [e3]; exact hp.2.1, fun q a b => by rw [und_par]; exact hp.2.2 q a (by rw [e3] at b; exact b)⟩ (by rw [e3]; exact em) (fun r a b => ?_) (by rw [e4]; exact eb) (by omega) (by rw [e6]; exact hfr) (by omega) (by omega) (by rw [← h1]; show c + 1 + (ucN m (s_und K (top K (K 15 m)) m)).1 = c + ((ucN m (s_und K (top K (K 15 m)) m)).1 + 1); omega) h2
                     rw [e3, und_l rfl (by decide) (by omega), und_l rfl (by decide) (by omega), und_l rfl (by decide) (by omega)]
                     exact hby r a b)
                  | (have hcd : ¬ (K 14 (m : Int) = 2 ∧ ¬ Und K (m : Int) ∧ ¬ Cmt K (top K (K 15 (m : Int)))) := fun q => by
                       obtain ⟨q1, q2, q3⟩ := q
                       first
                         | omega
                         | exact absurd (by assumption) q2
                         | exact absurd (by assumption) q3
                     rw [he, pick_f hcd] at h1 h2
                     exact ih c K (by omega) hkr ⟨by omega, by omega⟩ hp em hby eb (by omega) hfr hc0 (by omega) h1 h2)
    -- phase 2
    have p2 : ∀ (j : Nat) (m : Nat), (m : Int) + j = kept → V X (RelM E (rdN (cr1 M n) m)) 128 [(0, .ref (Em.x E)), (1, J n), (2, J kept), (3, J (m : Int))] [] [] := by
      intro j
      induction j with
      | zero =>
        intro m hmk
        have e : (M 13 0 + n - M 11 0).toNat = m := by omega
        have ec := rdN_clock (K := cr1 M n) m
        have ec0 : cr1 M n 10 0 = M 10 0 := rfl
        have o1 := fun f h => rdN_o (K := cr1 M n) (f := f) h m
        have erc : rdN (cr1 M n) m 12 0 = kept := by rw [o1 12 rfl]; exact hkept
        have euu : cntN (UU (rdN (cr1 M n) m)) m = cntN (UU (cr0 M n)) m := by
          have := cnt_ext (P := UU (rdN (cr1 M n) m)) (P' := UU (cr0 M n)) (b := (m : Int)) (fun i a b => by
            unfold UU
            rw [Und_c (M' := cr0 M n) (o1 14 rfl) (o1 17 rfl) (congrFun (o1 11 rfl) 0) (congrFun (o1 12 rfl) 0), o1 14 rfl]
            exact Iff.rfl)
          exact this
        have hcc : cnt (UU (cr0 M n)) kept = cntN (UU (cr0 M n)) m := by unfold cnt; rw [show kept.toNat = m from by omega]
        refine v_iload_n (i := 3) o.ok d_M_crash_128 rfl rfl ?_
        refine v_iload_n (i := 2) o.ok d_M_crash_129 rfl rfl ?_
        refine v_icmp_ge o.ok (by omega) (by omega) d_M_crash_130 (fun c130 => ?_) (fun c130 => ?_)
        · refine v_iconst o.ok d_M_crash_225 ?_
          refine v_istore_n (i := 3) (L' := [(0, _), (1, _), (2, _), (3, _)]) (G' := []) o.ok d_M_crash_226 rfl (o.lt (by decide)) rfl rfl ?_
          refine v_iload_n (i := 2) o.ok d_M_crash_227 rfl rfl ?_
          refine v_iconst o.ok d_M_crash_228 ?_
          refine v_isub o.ok d_M_crash_229 ?_
          refine v_istore (i := 4) (L' := [(0, _), (1, _), (2, _), (3, _), (4, _)]) (G' := []) o.ok d_M_crash_230 (o.lt (by decide)) rfl rfl ?_
          have z := p3 m 0 (rdN (cr1 M n) m) (by omega) (by omega) ⟨by omega, by omega⟩ ⟨by rw [o1 22 rfl]; exact hf.par.1, by rw [o1 22 rfl]; exact hf.par.2.1, fun q a b => by rw [o1 24 rfl]; exact hf.par.2.2 q a (by rw [o1 22 rfl] at b; exact b)⟩ (congrFun (o1 22 rfl) 0) (fun r a b => by rw [o1 15 rfl, o1 22 rfl, o1 14 rfl, o1 16 rfl]; exact hf.2.2.2.1 r a (by omega)) (congrFun (o1 11 rfl) 0) (by omega) (by rw [o1 0 rfl]; exact hf.frm) (by omega) (by omega) (by unfold cr3 cr2; rw [e]; omega) (by unfold cr3 cr2; rw [e])
          rw [show ((m : Nat) : Int) - 1 = kept - 1 from by omega] at z
          exact z
        · exfalso; omega
      | succ j ih =>
        intro m hmk
        have ec := rdN_clock (K := cr1 M n) m
        have ec0 : cr1 M n 10 0 = M 10 0 := rfl
        have o1 := fun f h => rdN_o (K := cr1 M n) (f := f) h m
        have k1 : rdN (cr1 M n) m 14 m = M 14 m := by rw [o1 14 rfl]; rfl
        have k2 : rdN (cr1 M n) m 16 m = M 16 m := by rw [o1 16 rfl]; rfl
        have k3 : rdN (cr1 M n) m 11 0 = M 11 0 := by rw [o1 11 rfl]; rfl
        have k4 : rdN (cr1 M n) m 0 0 = M 0 0 := by rw [o1 0 rfl]; rfl
        have hfm := hf.frm
        have hab := hf.abt m (by omega) (by omega)
        have hd : rdN (cr1 M n) (m + 1) = rdo (rdN (cr1 M n) m) m := rfl
        have ut : ∀ (q : Int), tch (rdN (cr1 M n) m) q 16 m = M 16 m := fun q => by rw [tch_about, k2]
        have ub : ∀ (q : Int), tch (rdN (cr1 M n) m) q 11 0 = M 11 0 := fun q => by rw [tch_base, k3]
        have nxt : ∀ K, K = rdN (cr1 M n) (m + 1) → V X (RelM E K) 219 [(0, .ref (Em.x E)), (1, J n), (2, J kept), (3, J (m : Int))] [] [] := by
          intro K hK
          refine v_iinc (i := 3) (L' := [(0, _), (1, _), (2, _), (3, _)]) (G' := []) o.ok d_M_crash_219 rfl (o.lt (by decide)) rfl rfl ?_
          refine v_goto o.ok d_M_crash_222 ?_
          rw [hK]
          have z := ih (m + 1) (by omega)
          rw [show ((m + 1 : Nat) : Int) = (m : Int) + 1 from by omega] at z
          exact z
        have j153 : (M 14 m = 2 ∨ M 14 m = 3) → V X (RelM E (rdN (cr1 M n) m)) 153 [(0, .ref (Em.x E)), (1, J n), (2, J kept), (3, J (m : Int))] [] [] := by
          intro hk
          have hab := hab hk
          have hd2 : rdN (cr1 M n) (m + 1) = (if tch (rdN (cr1 M n) m) (M 16 m / 4) 6 (M 16 m / 4) < M 11 0 + m + 1 then bcm (tch (rdN (cr1 M n) m) (M 16 m / 4)) (M 16 m) (rdN (cr1 M n) m 20 m) (rdN (cr1 M n) m 21 m) (M 11 0 + m + 1) else tch (rdN (cr1 M n) m) (M 16 m / 4)) := by
            rw [hd]
            unfold rdo
            rw [if_pos (by rw [k1]; exact hk), k2, k3]
          refine v_aload_n (i := 0) o.ok d_M_crash_153 rfl rfl ?_
          refine v_aload_n (i := 0) o.ok d_M_crash_154 rfl rfl ?_
          refine m_geta o 16 (by decide) (by decide) lf_M_44 rfl d_M_crash_155 ?_
          refine v_iload_n (i := 3) o.ok d_M_crash_158 rfl rfl ?_
          refine m_iald o 16 301 rfl rfl (by omega) d_M_crash_159 (fun i159 => ?_)
          (try simp only [clk, up, cpd, cpu, Nat.reduceEqDiff, false_and, if_false, and_self, if_true, true_and] at i159 ⊢)
          rw [k2] at i159 ⊢
          refine v_iconst o.ok d_M_crash_160 ?_
          refine v_idiv o.ok d_M_crash_161 (by omega) (by omega) ?_
          refine m_cfv o (c_M_touch (M 16 m / 4) _ (by omega) ⟨⟨by omega, by omega⟩, by rw [k4]; exact hfm⟩) q_M_touch lm_M_125 d_M_crash_162 (by decide) rfl (Nat.le_of_ble_eq_true rfl) rfl ?_
          refine v_aload_n (i := 0) o.ok d_M_crash_165 rfl rfl ?_
          refine m_geta o 6 (by decide) (by decide) lf_M_26 rfl d_M_crash_166 ?_
          refine v_aload_n (i := 0) o.ok d_M_crash_169 rfl rfl ?_
          refine m_geta o 16 (by decide) (by decide) lf_M_44 rfl d_M_crash_170 ?_
          refine v_iload_n (i := 3) o.ok d_M_crash_173 rfl rfl ?_
          refine m_iald o 16 301 rfl rfl (by omega) d_M_crash_174 (fun i174 => ?_)
          (try simp only [clk, up, cpd, cpu, Nat.reduceEqDiff, false_and, if_false, and_self, if_true, true_and] at i174 ⊢)
          rw [ut] at i174 ⊢
          refine v_iconst o.ok d_M_crash_175 ?_
          refine v_idiv o.ok d_M_crash_176 (by omega) (by omega) ?_
          refine m_iald o 6 8 rfl rfl (by omega) d_M_crash_177 (fun i177 => ?_)
          (try simp only [clk, up, cpd, cpu, Nat.reduceEqDiff, false_and, if_false, and_self, if_true, true_and] at i177 ⊢)
          refine v_aload_n (i := 0) o.ok d_M_crash_178 rfl rfl ?_
          refine m_geti o 11 (by decide) rfl lf_M_115 rfl d_M_crash_179 (fun i179 => ?_)
          (try simp only [clk, up, cpd, cpu, Nat.reduceEqDiff, false_and, if_false, and_self, if_true, true_and] at i179 ⊢)
          rw [ub] at i179 ⊢
          refine v_iload_n (i := 3) o.ok d_M_crash_182 rfl rfl ?_
          refine v_iadd o.ok d_M_crash_183 ?_
          refine v_iconst o.ok d_M_crash_184 ?_
          refine v_iadd o.ok d_M_crash_185 ?_
          refine v_icmp_ge o.ok (by omega) (by omega) d_M_crash_186 (fun c186 => ?_) (fun c186 => ?_)
          · refine nxt _ ?_
            rw [hd2]
            first | rw [if_pos (by omega)] | rw [if_neg (by omega)]
          · refine v_aload_n (i := 0) o.ok d_M_crash_189 rfl rfl ?_
            refine v_aload_n (i := 0) o.ok d_M_crash_190 rfl rfl ?_
            refine m_geta o 16 (by decide) (by decide) lf_M_44 rfl d_M_crash_191 ?_
            refine v_iload_n (i := 3) o.ok d_M_crash_194 rfl rfl ?_
            refine m_iald o 16 301 rfl rfl (by omega) d_M_crash_195 (fun i195 => ?_)
            (try simp only [clk, up, cpd, cpu, Nat.reduceEqDiff, false_and, if_false, and_self, if_true, true_and] at i195 ⊢)
            rw [ut] at i195 ⊢
            refine v_aload_n (i := 0) o.ok d_M_crash_196 rfl rfl ?_
            refine m_geta o 20 (by decide) (by decide) lf_M_56 rfl d_M_crash_197 ?_
            refine v_iload_n (i := 3) o.ok d_M_crash_200 rfl rfl ?_
            refine m_zald o 20 301 rfl rfl (by omega) d_M_crash_201 (fun i201 => ?_)
            (try simp only [clk, up, cpd, cpu, Nat.reduceEqDiff, false_and, if_false, and_self, if_true, true_and] at i201 ⊢)
            rw [tch_isThere] at i201 ⊢
            refine v_aload_n (i := 0) o.ok d_M_crash_202 rfl rfl ?_
            refine m_geta o 21 (by decide) (by decide) lf_M_59 rfl d_M_crash_203 ?_
            refine v_iload_n (i := 3) o.ok d_M_crash_206 rfl rfl ?_
            refine m_iald o 21 301 rfl rfl (by omega) d_M_crash_207 (fun i207 => ?_)
            (try simp only [clk, up, cpd, cpu, Nat.reduceEqDiff, false_and, if_false, and_self, if_true, true_and] at i207 ⊢)
            rw [tch_isValue] at i207 ⊢
            refine v_aload_n (i := 0) o.ok d_M_crash_208 rfl rfl ?_
            refine m_geti o 11 (by decide) rfl lf_M_115 rfl d_M_crash_209 (fun i209 => ?_)
            (try simp only [clk, up, cpd, cpu, Nat.reduceEqDiff, false_and, if_false, and_self, if_true, true_and] at i209 ⊢)
            rw [ub] at i209 ⊢
            refine v_iload_n (i := 3) o.ok d_M_crash_212 rfl rfl ?_
            refine v_iadd o.ok d_M_crash_213 ?_
            refine v_iconst o.ok d_M_crash_214 ?_
            refine v_iadd o.ok d_M_crash_215 ?_
            refine m_cfv o (c_M_become (M 16 m) (rdN (cr1 M n) m 20 m) (rdN (cr1 M n) m 21 m) _ _ hab i201 i207 (by omega)) q_M_become lm_M_132 d_M_crash_216 (by decide) rfl (Nat.le_of_ble_eq_true rfl) rfl ?_
            refine nxt _ ?_
            rw [hd2]
            first | rw [if_pos (by omega)] | rw [if_neg (by omega)]
        refine v_iload_n (i := 3) o.ok d_M_crash_128 rfl rfl ?_
        refine v_iload_n (i := 2) o.ok d_M_crash_129 rfl rfl ?_
        refine v_icmp_ge o.ok (by omega) (by omega) d_M_crash_130 (fun c130 => ?_) (fun c130 => ?_)
        · exfalso; omega
        · refine v_aload_n (i := 0) o.ok d_M_crash_133 rfl rfl ?_
          refine m_geta o 14 (by decide) (by decide) lf_M_38 rfl d_M_crash_134 ?_
          refine v_iload_n (i := 3) o.ok d_M_crash_137 rfl rfl ?_
          refine m_iald o 14 301 rfl rfl (by omega) d_M_crash_138 (fun i138 => ?_)
          (try simp only [clk, up, cpd, cpu, Nat.reduceEqDiff, false_and, if_false, and_self, if_true, true_and] at i138 ⊢)
          rw [k1] at i138 ⊢
          refine v_iconst o.ok d_M_crash_139 ?_
          refine v_icmp_eq o.ok (by omega) (by omega) d_M_crash_140 (fun c140 => ?_) (fun c140 => ?_)
          · exact j153 (by omega)
          · refine v_aload_n (i := 0) o.ok d_M_crash_143 rfl rfl ?_
            refine m_geta o 14 (by decide) (by decide) lf_M_38 rfl d_M_crash_144 ?_
            refine v_iload_n (i := 3) o.ok d_M_crash_147 rfl rfl ?_
            refine m_iald o 14 301 rfl rfl (by omega) d_M_crash_148 (fun i148 => ?_)
            (try simp only [clk, up, cpd, cpu, Nat.reduceEqDiff, false_and, if_false, and_self, if_true, true_and] at i148 ⊢)
            rw [k1] at i148 ⊢
            refine v_iconst o.ok d_M_crash_149 ?_
            refine v_icmp_ne o.ok (by omega) (by omega) d_M_crash_150 (fun c150 => ?_) (fun c150 => ?_)
            · refine nxt _ ?_
              rw [hd]
              unfold rdo
              rw [if_neg (by rw [k1]; omega)]
            · exact j153 (by omega)
    -- the transactions
    have p1 : ∀ (j : Nat) (t : Int), 0 ≤ t → t + j = M 22 0 → V X (RelM E (cst (zfr (cr0 M n) 8) t)) 72 [(0, .ref (Em.x E)), (1, J n), (2, J t)] [] [] := by
      intro j
      induction j with
      | zero =>
        intro t h0 h1
        have e : t = M 22 0 := by omega
        subst e
        have e1 : cst (zfr (cr0 M n) 8) (M 22 0) 22 0 = M 22 0 := rfl
        have e2 : cst (zfr (cr0 M n) 8) (M 22 0) 12 0 = kept := hkept
        refine v_iload_n (i := 2) o.ok d_M_crash_72 rfl rfl ?_
        refine v_aload_n (i := 0) o.ok d_M_crash_73 rfl rfl ?_
        refine m_geti o 22 (by decide) rfl lf_M_147 rfl d_M_crash_74 (fun i74 => ?_)
        (try simp only [clk, up, cpd, cpu, Nat.reduceEqDiff, false_and, if_false, and_self, if_true, true_and] at i74 ⊢)
        refine v_icmp_ge o.ok (by omega) (by omega) d_M_crash_77 (fun c77 => ?_) (fun c77 => ?_)
        · refine v_aload_n (i := 0) o.ok d_M_crash_121 rfl rfl ?_
          refine m_geti o 12 (by decide) rfl lf_M_118 rfl d_M_crash_122 (fun i122 => ?_)
          (try simp only [clk, up, cpd, cpu, Nat.reduceEqDiff, false_and, if_false, and_self, if_true, true_and] at i122 ⊢)
          rw [e2] at i122 ⊢
          refine v_istore_n (i := 2) (L' := [(0, _), (1, _), (2, _)]) (G' := []) o.ok d_M_crash_125 rfl (o.lt (by decide)) rfl rfl ?_
          refine v_iconst o.ok d_M_crash_126 ?_
          refine v_istore_n (i := 3) (L' := [(0, _), (1, _), (2, _), (3, _)]) (G' := []) o.ok d_M_crash_127 rfl (o.lt (by decide)) rfl rfl ?_
          exact p2 kept.toNat 0 (by omega)
        · exfalso; omega
      | succ j ih =>
        intro t h0 h1
        have e1 : cst (zfr (cr0 M n) 8) t 22 0 = M 22 0 := rfl
        have ePar : ParOk (ulk (cst (zfr (cr0 M n) 8) t) t) := hf.par
        have eTop : top (ulk (cst (zfr (cr0 M n) 8) t) t) t = top M t := rfl
        have hrt := hroot t h0 (by omega)
        have htb := top_bd hf.par h0 (show t < M 22 0 by omega)
        have hzs : ∀ u, zfr (cr0 M n) 8 23 u = M 23 u := fun _ => rfl
        have eS1 : (ulk (cst (zfr (cr0 M n) 8) t) t 23 (top M t) = 3) ↔ (M 23 (top M t) = 3) := by
          rw [ulk_o (by decide)]
          unfold cst
          rw [if_neg (by omega)]
          by_cases hlt : top M t < t
          · rw [if_pos ⟨rfl, htb.1, hlt⟩]
            have e9 : top (zfr (cr0 M n) 8) (top M t) = top M t := by
              rw [top_c (M' := M) rfl]
              exact top_root hrt
            rw [e9, hzs]
            split
            · exact Iff.rfl
            · omega
          · rw [if_neg (by omega)]
            exact Iff.rfl
        have eS2 : ulk (cst (zfr (cr0 M n) 8) t) t 23 t = M 23 t := by
          rw [ulk_o (by decide)]
          unfold cst
          rw [if_neg (by omega), if_neg (by omega)]
          rfl
        have hst := cst_s (zfr (cr0 M n) 8) h0
        have eT2 : top (zfr (cr0 M n) 8) t = top M t := rfl
        rw [eT2, hzs, hzs] at hst
        refine v_iload_n (i := 2) o.ok d_M_crash_72 rfl rfl ?_
        refine v_aload_n (i := 0) o.ok d_M_crash_73 rfl rfl ?_
        refine m_geti o 22 (by decide) rfl lf_M_147 rfl d_M_crash_74 (fun i74 => ?_)
        (try simp only [clk, up, cpd, cpu, Nat.reduceEqDiff, false_and, if_false, and_self, if_true, true_and] at i74 ⊢)
        refine v_icmp_ge o.ok (by omega) (by omega) d_M_crash_77 (fun c77 => ?_) (fun c77 => ?_)
        · exfalso; omega
        · refine v_aload_n (i := 0) o.ok d_M_crash_80 rfl rfl ?_
          refine v_iload_n (i := 2) o.ok d_M_crash_81 rfl rfl ?_
          refine m_cfv o (c_M_unlock t _ (by omega)) q_M_unlock lm_M_245 d_M_crash_82 (by decide) rfl (Nat.le_of_ble_eq_true rfl) rfl ?_
          refine v_aload_n (i := 0) o.ok d_M_crash_85 rfl rfl ?_
          refine m_geta o 23 (by decide) (by decide) lf_M_62 rfl d_M_crash_86 ?_
          refine v_iload_n (i := 2) o.ok d_M_crash_89 rfl rfl ?_
          refine v_aload_n (i := 0) o.ok d_M_crash_90 rfl rfl ?_
          refine m_geta o 23 (by decide) (by decide) lf_M_62 rfl d_M_crash_91 ?_
          refine v_aload_n (i := 0) o.ok d_M_crash_94 rfl rfl ?_
          refine v_iload_n (i := 2) o.ok d_M_crash_95 rfl rfl ?_
          refine m_cf o (c_M_top t _ ePar ⟨h0, (by show t < M 22 0; omega)⟩) q_M_top lm_M_136 d_M_crash_96 (by decide) rfl (Nat.le_of_ble_eq_true rfl) rfl ?_
          rw [eTop]
          refine m_iald o 23 60 rfl rfl (by omega) d_M_crash_99 (fun i99 => ?_)
          (try simp only [clk, up, cpd, cpu, Nat.reduceEqDiff, false_and, if_false, and_self, if_true, true_and] at i99 ⊢)
          refine v_iconst o.ok d_M_crash_100 ?_
          refine v_icmp_ne o.ok (by omega) (by omega) d_M_crash_101 (fun c101 => ?_) (fun c101 => ?_)
          · refine v_iconst o.ok d_M_crash_113 ?_
            refine m_iast o 23 60 rfl rfl (by omega) (by omega) d_M_crash_114 ?_
            refine v_iinc (i := 2) (L' := [(0, _), (1, _), (2, _)]) (G' := []) o.ok d_M_crash_115 rfl (o.lt (by decide)) rfl rfl ?_
            refine v_goto o.ok d_M_crash_118 ?_
            have z := ih (t + 1) (by omega) (by omega)
            rw [← hst] at z
            first
              | (rw [if_pos (eS1.mp (by assumption))] at z; exact z)
              | (rw [if_neg (fun q => absurd (eS1.mpr q) (by assumption))] at z; exact z)
          · refine v_aload_n (i := 0) o.ok d_M_crash_104 rfl rfl ?_
            refine m_geta o 23 (by decide) (by decide) lf_M_62 rfl d_M_crash_105 ?_
            refine v_iload_n (i := 2) o.ok d_M_crash_108 rfl rfl ?_
            refine m_iald o 23 60 rfl rfl (by omega) d_M_crash_109 (fun i109 => ?_)
            (try simp only [clk, up, cpd, cpu, Nat.reduceEqDiff, false_and, if_false, and_self, if_true, true_and] at i109 ⊢)
            rw [eS2] at i109 ⊢
            refine v_goto o.ok d_M_crash_110 ?_
            refine m_iast o 23 60 rfl rfl (by omega) (by omega) d_M_crash_114 ?_
            refine v_iinc (i := 2) (L' := [(0, _), (1, _), (2, _)]) (G' := []) o.ok d_M_crash_115 rfl (o.lt (by decide)) rfl rfl ?_
            refine v_goto o.ok d_M_crash_118 ?_
            have z := ih (t + 1) (by omega) (by omega)
            rw [← hst] at z
            first
              | (rw [if_pos (eS1.mp (by assumption))] at z; exact z)
              | (rw [if_neg (fun q => absurd (eS1.mpr q) (by assumption))] at z; exact z)
    -- the frames
    have p0 : ∀ (j : Nat) (p : Int), 0 ≤ p → p + j = 8 → V X (RelM E (zfr (cr0 M n) p)) 44 [(0, .ref (Em.x E)), (1, J n), (2, J p)] [] [] := by
      intro j
      induction j with
      | zero =>
        intro p h0 h1
        have e : p = 8 := by omega
        subst e
        have z := p1 (M 22 0).toNat 0 (by omega) (by omega)
        rw [cst_0] at z
        refine v_iload_n (i := 2) o.ok d_M_crash_44 rfl rfl ?_
        refine v_bipush o.ok d_M_crash_45 rfl ?_
        refine v_icmp_ge o.ok (by omega) (by omega) d_M_crash_47 (fun c47 => ?_) (fun c47 => ?_)
        · refine v_iconst o.ok d_M_crash_70 ?_
          refine v_istore_n (i := 2) (L' := [(0, _), (1, _), (2, _)]) (G' := []) o.ok d_M_crash_71 rfl (o.lt (by decide)) rfl rfl ?_
          exact z
        · exfalso; omega
      | succ j ih =>
        intro p h0 h1
        refine v_iload_n (i := 2) o.ok d_M_crash_44 rfl rfl ?_
        refine v_bipush o.ok d_M_crash_45 rfl ?_
        refine v_icmp_ge o.ok (by omega) (by omega) d_M_crash_47 (fun c47 => ?_) (fun c47 => ?_)
        · exfalso; omega
        · refine v_aload_n (i := 0) o.ok d_M_crash_50 rfl rfl ?_
          refine m_geta o 7 (by decide) (by decide) lf_M_29 rfl d_M_crash_51 ?_
          refine v_iload_n (i := 2) o.ok d_M_crash_54 rfl rfl ?_
          refine v_iconst o.ok d_M_crash_55 ?_
          refine m_zast o 7 8 rfl rfl (by omega) (by exact Or.inl rfl) d_M_crash_56 ?_
          refine v_aload_n (i := 0) o.ok d_M_crash_57 rfl rfl ?_
          refine m_geta o 8 (by decide) (by decide) lf_M_32 rfl d_M_crash_58 ?_
          refine v_iload_n (i := 2) o.ok d_M_crash_61 rfl rfl ?_
          refine v_iconst o.ok d_M_crash_62 ?_
          refine m_zast o 8 8 rfl rfl (by omega) (by exact Or.inl rfl) d_M_crash_63 ?_
          refine v_iinc (i := 2) (L' := [(0, _), (1, _), (2, _)]) (G' := []) o.ok d_M_crash_64 rfl (o.lt (by decide)) rfl rfl ?_
          refine v_goto o.ok d_M_crash_67 ?_
          rw [zfr_s _ h0]
          exact ih _ (by omega) (by omega)
    have z := p0 8 0 (by omega) (by omega)
    rw [zfr_0] at z
    refine v_iconst o.ok d_M_crash_42 ?_
    refine v_istore_n (i := 2) (L' := [(0, _), (1, _), (2, _)]) (G' := []) o.ok d_M_crash_43 rfl (o.lt (by decide)) rfl rfl ?_
    exact z
  refine v_iload_n (i := 1) o.ok d_M_crash_0 rfl rfl ?_
  refine v_if_lt o.ok (by omega) d_M_crash_1 (fun c1 => ?_) (fun c1 => ?_)
  · refine v_iconst o.ok d_M_crash_17 ?_
    refine m_iret o d_M_crash_18 ?_
    have e : r_crash M n = (-1, M) := if_neg (by omega)
    rw [e]
    exact ⟨rfl, rfl⟩
  · refine v_iload_n (i := 1) o.ok d_M_crash_4 rfl rfl ?_
    refine v_aload_n (i := 0) o.ok d_M_crash_5 rfl rfl ?_
    refine m_cf o (c_M_last M) q_M_last lm_M_128 d_M_crash_6 (by decide) rfl (Nat.le_of_ble_eq_true rfl) rfl ?_
    refine v_aload_n (i := 0) o.ok d_M_crash_9 rfl rfl ?_
    refine m_geti o 13 (by decide) rfl lf_M_105 rfl d_M_crash_10 (fun i10 => ?_)
    (try simp only [clk, up, cpd, cpu, Nat.reduceEqDiff, false_and, if_false, and_self, if_true, true_and] at i10 ⊢)
    refine v_isub o.ok d_M_crash_13 ?_
    refine v_icmp_le o.ok (by omega) (by omega) d_M_crash_14 (fun c14 => ?_) (fun c14 => ?_)
    · refine v_aload_n (i := 0) o.ok d_M_crash_19 rfl rfl ?_
      refine v_dup o.ok d_M_crash_20 rfl ?_
      refine m_geti o 13 (by decide) rfl lf_M_105 rfl d_M_crash_21 (fun i21 => ?_)
      (try simp only [clk, up, cpd, cpu, Nat.reduceEqDiff, false_and, if_false, and_self, if_true, true_and] at i21 ⊢)
      refine v_iload_n (i := 1) o.ok d_M_crash_24 rfl rfl ?_
      refine v_iadd o.ok d_M_crash_25 ?_
      refine m_puti o 13 (by decide) rfl rfl rfl lf_M_105 rfl (by omega) d_M_crash_26 ?_
      refine v_aload_n (i := 0) o.ok d_M_crash_29 rfl rfl ?_
      refine v_aload_n (i := 0) o.ok d_M_crash_30 rfl rfl ?_
      refine m_geti o 13 (by decide) rfl lf_M_105 rfl d_M_crash_31 (fun i31 => ?_)
      (try simp only [clk, up, cpd, cpu, Nat.reduceEqDiff, false_and, if_false, and_self, if_true, true_and] at i31 ⊢)
      refine v_aload_n (i := 0) o.ok d_M_crash_34 rfl rfl ?_
      refine m_geti o 11 (by decide) rfl lf_M_115 rfl d_M_crash_35 (fun i35 => ?_)
      (try simp only [clk, up, cpd, cpu, Nat.reduceEqDiff, false_and, if_false, and_self, if_true, true_and] at i35 ⊢)
      refine v_isub o.ok d_M_crash_38 ?_
      refine m_puti o 12 (by decide) rfl rfl rfl lf_M_118 rfl (by omega) d_M_crash_39 ?_
      exact hP (by omega)
    · refine v_iconst o.ok d_M_crash_17 ?_
      refine m_iret o d_M_crash_18 ?_
      have e : r_crash M n = (-1, M) := if_neg (by omega)
      rw [e]
      exact ⟨rfl, rfl⟩

