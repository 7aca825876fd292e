theorem nxtN_c {M M' : MSt} (h : ∀ k, thr M k = thr M' k) : ∀ (n : Nat) (k : Int), nxtN M n k = nxtN M' n k := by
  intro n
  induction n with
  | zero => intro k; rfl
  | succ n ih => intro k; unfold nxtN; rw [ih, h]
theorem scl_c {M M' : MSt} (h : ∀ k, thr M k = thr M' k) : ∀ (n : Nat) (k : Int), scl M n k = scl M' n k := by
  intro n
  induction n with
  | zero => intro k; rfl
  | succ n ih => intro k; unfold scl; rw [ih, h]
theorem nxt_c {M M' : MSt} (h : ∀ k, thr M k = thr M' k) (k : Int) : nxt M k = nxt M' k := nxtN_c h 32 (k + 1)
theorem nds_c {M M' : MSt} (h : ∀ k, thr M k = thr M' k) {w a b : Int} : nds M w a b = nds M' w a b := by
  unfold nds
  rw [scl_c h, nxt_c h, nxt_c h, h]
theorem mdo_c {M M' : MSt} (h : ∀ k, thr M k = thr M' k) {w a : Int} : mdo M w a = mdo M' w a := by
  unfold mdo
  rw [h]
noncomputable def acqL (t m : Int) : List Int → MSt → Int × MSt
  | [], M => (1, M)
  | x :: xs, M => pick (m ≤ M 26 (33 * t + x)) (acqL t m xs M) (pick (May M t x m) (acqL t m xs (up M 26 (33 * t + x) m)) (0, M))
noncomputable def act (M : MSt) (t w a b : Int) : Int × MSt :=
  if w = 1 then (thr (tch M (a / 4)) a, up (tch M (a / 4)) 38 0 (vlw (tch M (a / 4)) a)) else if w = 4 then scn M a b else if w = 3 ∧ thr M a = 0 then (0, M) else pick (Ful M) (-5, M) (if w = 2 then 0 else 1, s_upd M t a (if w = 2 then 1 else 0) b)
noncomputable def req (M : MSt) (t w a b : Int) : Int × MSt :=
  if (acqL t (mdo M w a) (nds M w a b) (up M 23 t 1)).1 = 0 then sty (acqL t (mdo M w a) (nds M w a b) (up M 23 t 1)).2 t w a b else act (acqL t (mdo M w a) (nds M w a b) (up M 23 t 1)).2 t w a b
theorem acqL_01 (t m : Int) : ∀ (l : List Int) (M : MSt), (acqL t m l M).1 = 0 ∨ (acqL t m l M).1 = 1 := by
  intro l
  induction l with
  | nil => intro M; exact Or.inr rfl
  | cons x xs ih =>
    intro M
    unfold acqL
    by_cases h : m ≤ M 26 (33 * t + x)
    · rw [pick_t h]; exact ih M
    · rw [pick_f h]
      by_cases h2 : May M t x m
      · rw [pick_t h2]; exact ih _
      · rw [pick_f h2]; exact Or.inl rfl
/-- locks and scratch are not in WF -/
theorem WF.lk {M : MSt} {i z : Int} (h : WF M) : WF (up M 26 i z) := by
  refine WF.c ?_ ?_ ?_ ?_ ?_ ?_ ?_ ?_ ?_ ?_ ?_ ?_ ?_ ?_ h <;> rfl
theorem WF.act1 {M : MSt} {t : Int} (h : WF M) (hs : M 23 t = 1 ∨ M 23 t = 2) : WF (up M 23 t 1) := by
  have est : ∀ u, up M 23 t 1 23 u = if u = t then 1 else M 23 u := by
    intro u
    unfold up
    by_cases e : u = t
    · rw [if_pos ⟨rfl, e⟩, if_pos e]
    · rw [if_neg (fun q => e q.2), if_neg e]
  refine h.live hs (fun u hu => by rw [est, if_neg hu]) (Or.inl (by rw [est, if_pos rfl])) rfl rfl rfl rfl rfl rfl rfl rfl rfl rfl (fun u h0 h1 h2 => ?_)
  by_cases e : u = t
  · subst e; rw [est, if_pos rfl] at h2; omega
  · rw [est, if_neg e] at h2
    exact h.req u h0 h1 h2
theorem Ful_sset (M Z : MSt) : Ful (sset M Z) ↔ Ful M := by
  unfold Ful
  rw [show opens (sset M Z) = opens M from opens_c rfl rfl rfl rfl rfl rfl rfl, show lives (sset M Z) = lives M from lives_c rfl rfl]
  exact Iff.rfl
theorem c_fullS (M Z : MSt) (hf : WF M) : MF y_M_full (wsOf y_M_full b_M_full 1 (some .boolean)) 3 [] (sset M Z) (some (b01 (Ful M))) (sset M Z) := by
  rw [← b01_c (Ful_sset M Z)]
  have h := hf.sst (Z := Z)
  exact c_M_full (sset M Z) h.par h.bys h.recs h.base
set_option maxHeartbeats 4000000 in
set_option maxRecDepth 20000 in
theorem c_M_request (t w a b : Int) (M Z0 : MSt) (hf : WF M) (ht : 0 ≤ t ∧ t < M 22 0) (hs : M 23 t = 1 ∨ M 23 t = 2) (hq : ReqOk w a b) (hb : InR b) : MI y_M_request (wsOf y_M_request b_M_request 7 (some .int)) 6 [t, w, a, b] (sset M Z0) (fun z M' => z = (req M t w a b).1 ∧ ∃ Z, M' = sset (req M t w a b).2 Z) := by
  refine MCon.of (by decide) rfl (Nat.le_of_ble_eq_true rfl) ?_
  intro X E o
  show V X (RelM E (sset M Z0)) 0 [(0, .ref (Em.x E)), (1, J (t)), (2, J (w)), (3, J (a)), (4, J (b))] [] []
  have hm := hf.many
  have haw : (1 ≤ w ∧ w ≤ 4) ∧ (0 ≤ a ∧ a ≤ 31) := by rcases hq with h | h <;> omega
  have hnb := nds_bd (M := M) hq
  have h12 := mdo_12 M w a
  -- when all locks are there
  have ac : ∀ (S Z : MSt), WF S → act S t w a b = req M t w a b → S 22 0 = M 22 0 → V X (RelM E (sset S Z)) 101 [(0, .ref (Em.x E)), (1, J t), (2, J w), (3, J a), (4, J b)] [] [] := by
    intro S Z wS he em
    have hr := wS.recs
    have hbs := wS.base
    have hck := wS.clk
    rw [← he] at o
    have e1 : w = 1 → act S t w a b = (thr (tch S (a / 4)) a, up (tch S (a / 4)) 38 0 (vlw (tch S (a / 4)) a)) := fun h => by unfold act; rw [if_pos h]
    have e4 : w = 4 → act S t w a b = scn S a b := fun h => by unfold act; rw [if_neg (by omega), if_pos h]
    have e3 : w = 3 → thr S a = 0 → act S t w a b = (0, S) := fun h h2 => by unfold act; rw [if_neg (by omega), if_neg (by omega), if_pos ⟨h, h2⟩]
    have e5 : ¬ w = 1 → ¬ w = 4 → ¬ (w = 3 ∧ thr S a = 0) → act S t w a b = pick (Ful S) (-5, S) (if w = 2 then 0 else 1, s_upd S t a (if w = 2 then 1 else 0) b) := fun h h2 h3 => by unfold act; rw [if_neg h, if_neg h2, if_neg h3]
    have fin : ∀ (z now : Int), z = (if w = 2 then (0 : Int) else 1) → now = (if w = 2 then (1 : Int) else 0) → ¬ Ful S → ¬ w = 1 → ¬ w = 4 → ¬ (w = 3 ∧ thr S a = 0) → ∃ z', some z = some z' ∧ z' = (act S t w a b).1 ∧ ∃ Z', s_upd (sset S Z) t a now b = sset (act S t w a b).2 Z' := by
      intro z now hz hn h1 h2 h3 h4
      have e : act S t w a b = (if w = 2 then 0 else 1, s_upd S t a (if w = 2 then 1 else 0) b) := by rw [e5 h2 h3 h4, pick_f h1]
      refine ⟨z, rfl, by rw [e]; exact hz, Z, ?_⟩
      rw [e, sset_upd, hn]
    refine v_iload_n (i := 2) o.ok d_M_request_101 rfl rfl ?_
    refine v_iconst o.ok d_M_request_102 ?_
    refine v_icmp_ne o.ok (by omega) (by omega) d_M_request_103 (fun c103 => ?_) (fun c103 => ?_)
    · refine v_iload_n (i := 2) o.ok d_M_request_136 rfl rfl ?_
      refine v_iconst o.ok d_M_request_137 ?_
      refine v_icmp_ne o.ok (by omega) (by omega) d_M_request_138 (fun c138 => ?_) (fun c138 => ?_)
      · refine v_aload_n (i := 0) o.ok d_M_request_149 rfl rfl ?_
        refine v_iload_n (i := 3) o.ok d_M_request_150 rfl rfl ?_
        refine m_cf o (c_isTS a S Z haw.2) q_M_isThereNow lm_M_172 d_M_request_151 (by decide) rfl (Nat.le_of_ble_eq_true rfl) rfl ?_
        refine V.get (fun H hR => (show thr S a = 0 ∨ thr S a = 1 from by rw [← thr_sset S Z]; unfold thr; split; exact hR.2.2.2.2.2.2 4 _ rfl; exact hR.2.2.2.2.2.2 1 _ rfl)) (fun i154 => ?_)
        refine v_istore (i := 5) (L' := [(0, _), (1, _), (2, _), (3, _), (4, _), (5, _)]) (G' := []) o.ok d_M_request_154 (o.lt (by decide)) rfl rfl ?_
        refine v_iload_n (i := 2) o.ok d_M_request_156 rfl rfl ?_
        refine v_iconst o.ok d_M_request_157 ?_
        refine v_icmp_ne o.ok (by omega) (by omega) d_M_request_158 (fun c158 => ?_) (fun c158 => ?_)
        · refine v_aload_n (i := 0) o.ok d_M_request_168 rfl rfl ?_
          refine m_cf o (c_fullS S Z wS) q_M_full lm_M_168 d_M_request_169 (by decide) rfl (Nat.le_of_ble_eq_true rfl) rfl ?_
          first | refine v_ifeq_b o.ok d_M_request_172 (fun c172 => ?_) (fun c172 => ?_) | refine v_if_eq o.ok (by omega) d_M_request_172 (fun c172 => ?_) (fun c172 => ?_)
          · refine v_aload_n (i := 0) o.ok d_M_request_178 rfl rfl ?_
            refine v_iload_n (i := 1) o.ok d_M_request_179 rfl rfl ?_
            refine v_iload_n (i := 3) o.ok d_M_request_180 rfl rfl ?_
            refine v_iload_n (i := 2) o.ok d_M_request_181 rfl rfl ?_
            refine v_iconst o.ok d_M_request_182 ?_
            refine v_icmp_ne o.ok (by omega) (by omega) d_M_request_183 (fun c183 => ?_) (fun c183 => ?_)
            · refine v_iconst o.ok d_M_request_190 ?_
              refine v_iload (i := 4) o.ok d_M_request_191 rfl ?_
              refine m_cfv o (c_M_update t a _ b (sset S Z) haw.2 (by first | exact Or.inr rfl | exact Or.inl rfl) hb (by omega) hr hbs wS.sst.pg) q_M_update lm_M_223 d_M_request_193 (by decide) rfl (Nat.le_of_ble_eq_true rfl) rfl ?_
              refine v_iload_n (i := 2) o.ok d_M_request_196 rfl rfl ?_
              refine v_iconst o.ok d_M_request_197 ?_
              refine v_icmp_ne o.ok (by omega) (by omega) d_M_request_198 (fun c198 => ?_) (fun c198 => ?_)
              · refine v_iconst o.ok d_M_request_205 ?_
                refine m_iret o d_M_request_206 ?_
                refine fin _ _ ?_ ?_ (by assumption) (by omega) (by omega) (by omega) <;> first | (exfalso; omega) | rw [if_pos (by omega)] | rw [if_neg (by omega)]
              · exfalso; omega
            · refine v_iconst o.ok d_M_request_186 ?_
              refine v_goto o.ok d_M_request_187 ?_
              refine v_iload (i := 4) o.ok d_M_request_191 rfl ?_
              refine m_cfv o (c_M_update t a _ b (sset S Z) haw.2 (by first | exact Or.inr rfl | exact Or.inl rfl) hb (by omega) hr hbs wS.sst.pg) q_M_update lm_M_223 d_M_request_193 (by decide) rfl (Nat.le_of_ble_eq_true rfl) rfl ?_
              refine v_iload_n (i := 2) o.ok d_M_request_196 rfl rfl ?_
              refine v_iconst o.ok d_M_request_197 ?_
              refine v_icmp_ne o.ok (by omega) (by omega) d_M_request_198 (fun c198 => ?_) (fun c198 => ?_)
              · exfalso; omega
              · refine v_iconst o.ok d_M_request_201 ?_
                refine v_goto o.ok d_M_request_202 ?_
                refine m_iret o d_M_request_206 ?_
                refine fin _ _ ?_ ?_ (by assumption) (by omega) (by omega) (by omega) <;> first | (exfalso; omega) | rw [if_pos (by omega)] | rw [if_neg (by omega)]
          · refine v_bipush o.ok d_M_request_175 rfl ?_
            refine m_iret o d_M_request_177 ⟨_, rfl, by rw [e5 (by omega) (by omega) (by omega), pick_t (by assumption)], Z, by rw [e5 (by omega) (by omega) (by omega), pick_t (by assumption)]⟩
        · refine v_iload (i := 5) o.ok d_M_request_161 rfl ?_
          refine v_if_ne o.ok (by omega) d_M_request_163 (fun c163 => ?_) (fun c163 => ?_)
          · refine v_aload_n (i := 0) o.ok d_M_request_168 rfl rfl ?_
            refine m_cf o (c_fullS S Z wS) q_M_full lm_M_168 d_M_request_169 (by decide) rfl (Nat.le_of_ble_eq_true rfl) rfl ?_
            first | refine v_ifeq_b o.ok d_M_request_172 (fun c172 => ?_) (fun c172 => ?_) | refine v_if_eq o.ok (by omega) d_M_request_172 (fun c172 => ?_) (fun c172 => ?_)
            · refine v_aload_n (i := 0) o.ok d_M_request_178 rfl rfl ?_
              refine v_iload_n (i := 1) o.ok d_M_request_179 rfl rfl ?_
              refine v_iload_n (i := 3) o.ok d_M_request_180 rfl rfl ?_
              refine v_iload_n (i := 2) o.ok d_M_request_181 rfl rfl ?_
              refine v_iconst o.ok d_M_request_182 ?_
              refine v_icmp_ne o.ok (by omega) (by omega) d_M_request_183 (fun c183 => ?_) (fun c183 => ?_)
              · refine v_iconst o.ok d_M_request_190 ?_
                refine v_iload (i := 4) o.ok d_M_request_191 rfl ?_
                refine m_cfv o (c_M_update t a _ b (sset S Z) haw.2 (by first | exact Or.inr rfl | exact Or.inl rfl) hb (by omega) hr hbs wS.sst.pg) q_M_update lm_M_223 d_M_request_193 (by decide) rfl (Nat.le_of_ble_eq_true rfl) rfl ?_
                refine v_iload_n (i := 2) o.ok d_M_request_196 rfl rfl ?_
                refine v_iconst o.ok d_M_request_197 ?_
                refine v_icmp_ne o.ok (by omega) (by omega) d_M_request_198 (fun c198 => ?_) (fun c198 => ?_)
                · refine v_iconst o.ok d_M_request_205 ?_
                  refine m_iret o d_M_request_206 ?_
                  refine fin _ _ ?_ ?_ (by assumption) (by omega) (by omega) (by omega) <;> first | (exfalso; omega) | rw [if_pos (by omega)] | rw [if_neg (by omega)]
                · exfalso; omega
              · refine v_iconst o.ok d_M_request_186 ?_
                refine v_goto o.ok d_M_request_187 ?_
                refine v_iload (i := 4) o.ok d_M_request_191 rfl ?_
                refine m_cfv o (c_M_update t a _ b (sset S Z) haw.2 (by first | exact Or.inr rfl | exact Or.inl rfl) hb (by omega) hr hbs wS.sst.pg) q_M_update lm_M_223 d_M_request_193 (by decide) rfl (Nat.le_of_ble_eq_true rfl) rfl ?_
                refine v_iload_n (i := 2) o.ok d_M_request_196 rfl rfl ?_
                refine v_iconst o.ok d_M_request_197 ?_
                refine v_icmp_ne o.ok (by omega) (by omega) d_M_request_198 (fun c198 => ?_) (fun c198 => ?_)
                · exfalso; omega
                · refine v_iconst o.ok d_M_request_201 ?_
                  refine v_goto o.ok d_M_request_202 ?_
                  refine m_iret o d_M_request_206 ?_
                  refine fin _ _ ?_ ?_ (by assumption) (by omega) (by omega) (by omega) <;> first | (exfalso; omega) | rw [if_pos (by omega)] | rw [if_neg (by omega)]
            · refine v_bipush o.ok d_M_request_175 rfl ?_
              refine m_iret o d_M_request_177 ⟨_, rfl, by rw [e5 (by omega) (by omega) (by omega), pick_t (by assumption)], Z, by rw [e5 (by omega) (by omega) (by omega), pick_t (by assumption)]⟩
          · refine v_iconst o.ok d_M_request_166 ?_
            refine m_iret o d_M_request_167 ⟨_, rfl, by rw [e3 (by omega) (by omega)], Z, by rw [e3 (by omega) (by omega)]⟩
      · refine v_aload_n (i := 0) o.ok d_M_request_141 rfl rfl ?_
        refine v_iload_n (i := 3) o.ok d_M_request_142 rfl rfl ?_
        refine v_iload (i := 4) o.ok d_M_request_143 rfl ?_
        refine m_cf o (c_M_scanned a b (sset S Z) (by rcases hq with h | h <;> omega) ⟨hck.1, (by show S 10 0 ≤ 950000; omega)⟩ wS.frm) q_M_scanned lm_M_219 d_M_request_145 (by decide) rfl (Nat.le_of_ble_eq_true rfl) rfl ?_
        rw [scn_sset]
        dsimp only
        refine m_iret o d_M_request_148 ⟨_, rfl, by rw [e4 (by omega)], Z, by rw [e4 (by omega)]⟩
    · refine v_aload_n (i := 0) o.ok d_M_request_106 rfl rfl ?_
      refine v_iload_n (i := 3) o.ok d_M_request_107 rfl rfl ?_
      refine v_iconst o.ok d_M_request_108 ?_
      refine v_idiv o.ok d_M_request_109 (by omega) (by omega) ?_
      refine m_cfv o (c_M_touch (a / 4) (sset S Z) (by omega) wS.sst.pg) q_M_touch lm_M_125 d_M_request_110 (by decide) rfl (Nat.le_of_ble_eq_true rfl) rfl ?_
      rw [sset_tch]
      refine v_aload_n (i := 0) o.ok d_M_request_113 rfl rfl ?_
      refine v_aload_n (i := 0) o.ok d_M_request_114 rfl rfl ?_
      refine v_iload_n (i := 3) o.ok d_M_request_115 rfl rfl ?_
      refine m_cf o (c_M_valueNow a _ haw.2) q_M_valueNow lm_M_213 d_M_request_116 (by decide) rfl (Nat.le_of_ble_eq_true rfl) rfl ?_
      refine V.get (fun H hR => (show InR (vlw (sset (tch S (a / 4)) Z) a) from by unfold vlw; split; exact hR.2.2.2.2.2.1 5 _; exact hR.2.2.2.2.2.1 2 _)) (fun i119 => ?_)
      refine m_puti o 38 (by decide) rfl rfl rfl lf_M_216 rfl (by omega) d_M_request_119 ?_
      rw [sset_up rfl]
      refine v_aload_n (i := 0) o.ok d_M_request_122 rfl rfl ?_
      refine v_iload_n (i := 3) o.ok d_M_request_123 rfl rfl ?_
      refine m_cf o (c_M_isThereNow a _ haw.2) q_M_isThereNow lm_M_172 d_M_request_124 (by decide) rfl (Nat.le_of_ble_eq_true rfl) rfl ?_
      refine V.get (fun H hR => (show thr (sset (up (tch S (a / 4)) 38 0 (vlw (sset (tch S (a / 4)) Z) a)) Z) a = 0 ∨ thr (sset (up (tch S (a / 4)) 38 0 (vlw (sset (tch S (a / 4)) Z) a)) Z) a = 1 from by unfold thr; split; exact hR.2.2.2.2.2.2 4 _ rfl; exact hR.2.2.2.2.2.2 1 _ rfl)) (fun i127 => ?_)
      refine v_if_eq o.ok (by omega) d_M_request_127 (fun c127 => ?_) (fun c127 => ?_)
      · refine v_iconst o.ok d_M_request_134 ?_
        refine m_iret o d_M_request_135 ?_
        have hth : thr (tch S (a / 4)) a = 0 ∨ thr (tch S (a / 4)) a = 1 := i127
        have hh : ∀ z, (z = thr (tch S (a / 4)) a) → ∃ z', some z = some z' ∧ z' = (act S t w a b).1 ∧ ∃ Z', sset (up (tch S (a / 4)) 38 0 (vlw (sset (tch S (a / 4)) Z) a)) Z = sset (act S t w a b).2 Z' := fun z hz => ⟨z, rfl, by rw [e1 (by omega)]; exact hz, Z, by rw [e1 (by omega)]; rfl⟩
        refine hh _ ?_
        have c127' : thr (tch S (a / 4)) a = 0 ∨ thr (tch S (a / 4)) a ≠ 0 := by omega
        first
          | (have c : thr (tch S (a / 4)) a = 0 := by assumption
             rw [c])
          | (have c : thr (tch S (a / 4)) a ≠ 0 := by assumption
             omega)
      · refine v_iconst o.ok d_M_request_130 ?_
        refine v_goto o.ok d_M_request_131 ?_
        refine m_iret o d_M_request_135 ?_
        have hth : thr (tch S (a / 4)) a = 0 ∨ thr (tch S (a / 4)) a = 1 := i127
        have hh : ∀ z, (z = thr (tch S (a / 4)) a) → ∃ z', some z = some z' ∧ z' = (act S t w a b).1 ∧ ∃ Z', sset (up (tch S (a / 4)) 38 0 (vlw (sset (tch S (a / 4)) Z) a)) Z = sset (act S t w a b).2 Z' := fun z hz => ⟨z, rfl, by rw [e1 (by omega)]; exact hz, Z, by rw [e1 (by omega)]; rfl⟩
        refine hh _ ?_
        have c127' : thr (tch S (a / 4)) a = 0 ∨ thr (tch S (a / 4)) a ≠ 0 := by omega
        first
          | (have c : thr (tch S (a / 4)) a = 0 := by assumption
             rw [c])
          | (have c : thr (tch S (a / 4)) a ≠ 0 := by assumption
             omega)
  have lp : ∀ (n k : Nat) (S Z : MSt), k + n = (nds M w a b).length → WF S → (S 23 t = 1 ∨ S 23 t = 2) → S 22 0 = M 22 0 → Its Z (nds M w a b) → Z 32 0 = mdo M w a → acqL t (mdo M w a) ((nds M w a b).drop k) S = acqL t (mdo M w a) (nds M w a b) (up M 23 t 1) → V X (RelM E (sset S Z)) 18 [(0, .ref (Em.x E)), (1, J t), (2, J w), (3, J a), (4, J b), (5, J (k : Int))] [] [] := by
    intro n
    induction n with
    | zero =>
      intro k S Z hk wS hst em hI hMo he
      have eW : sset S Z 30 0 = ((nds M w a b).length : Int) := hI.1
      rw [List.drop_of_length_le (by omega)] at he
      refine v_iload (i := 5) o.ok d_M_request_18 rfl ?_
      refine v_aload_n (i := 0) o.ok d_M_request_20 rfl rfl ?_
      refine m_geti o 30 (by decide) rfl lf_M_175 rfl d_M_request_21 (fun i21 => ?_)
      refine v_icmp_ge o.ok (by omega) (by omega) d_M_request_24 (fun c24 => ?_) (fun c24 => ?_)
      · refine v_sel [0, 1, 2, 3, 4] [] (L' := [(0, _), (1, _), (2, _), (3, _), (4, _)]) (G' := []) rfl rfl (ac S Z wS ?_ em)
        unfold req
        rw [← he]
        rfl
      · exfalso; omega
    | succ n ih =>
      intro k S Z hk wS hst em hI hMo he
      have eW : sset S Z 30 0 = ((nds M w a b).length : Int) := hI.1
      obtain ⟨x, hx⟩ : ∃ x, (nds M w a b)[k]? = some x := ⟨_, List.getElem?_eq_getElem (by omega)⟩
      have hxb := hnb.2 x (List.mem_of_getElem? hx)
      have ei : sset S Z 31 k = x := hI.2 k x hx
      have eM : sset S Z 32 0 = mdo M w a := hMo
      have eL : sset S Z 26 (33 * t + x) = S 26 (33 * t + x) := rfl
      rw [drop_cons hx] at he
      have he2 : acqL t (mdo M w a) (x :: (nds M w a b).drop (k + 1)) S = pick (mdo M w a ≤ S 26 (33 * t + x)) (acqL t (mdo M w a) ((nds M w a b).drop (k + 1)) S) (pick (May S t x (mdo M w a)) (acqL t (mdo M w a) ((nds M w a b).drop (k + 1)) (up S 26 (33 * t + x) (mdo M w a))) (0, S)) := rfl
      rw [he2] at he
      have hlen := hnb.1
      refine v_iload (i := 5) o.ok d_M_request_18 rfl ?_
      refine v_aload_n (i := 0) o.ok d_M_request_20 rfl rfl ?_
      refine m_geti o 30 (by decide) rfl lf_M_175 rfl d_M_request_21 (fun i21 => ?_)
      refine v_icmp_ge o.ok (by omega) (by omega) d_M_request_24 (fun c24 => ?_) (fun c24 => ?_)
      · exfalso; omega
      · refine v_bipush o.ok d_M_request_27 rfl ?_
        refine v_iload_n (i := 1) o.ok d_M_request_29 rfl rfl ?_
        refine v_imul o.ok d_M_request_30 ?_
        refine v_aload_n (i := 0) o.ok d_M_request_31 rfl rfl ?_
        refine m_geta o 31 (by decide) (by decide) lf_M_83 rfl d_M_request_32 ?_
        refine v_iload (i := 5) o.ok d_M_request_35 rfl ?_
        refine m_iald o 31 33 rfl rfl (by omega) d_M_request_37 (fun i37 => ?_)
        rw [ei] at i37 ⊢
        refine v_iadd o.ok d_M_request_38 ?_
        refine v_istore (i := 6) (L' := [(0, _), (1, _), (2, _), (3, _), (4, _), (5, _), (6, _)]) (G' := []) o.ok d_M_request_39 (o.lt (by decide)) rfl rfl ?_
        refine v_aload_n (i := 0) o.ok d_M_request_41 rfl rfl ?_
        refine m_geta o 26 (by decide) (by decide) lf_M_71 rfl d_M_request_42 ?_
        refine v_iload (i := 6) o.ok d_M_request_45 rfl ?_
        refine m_iald o 26 1980 rfl rfl (by omega) d_M_request_47 (fun i47 => ?_)
        rw [eL] at i47 ⊢
        refine v_aload_n (i := 0) o.ok d_M_request_48 rfl rfl ?_
        refine m_geti o 32 (by decide) rfl lf_M_178 rfl d_M_request_49 (fun i49 => ?_)
        rw [eM] at i49 ⊢
        refine v_icmp_ge o.ok (by omega) (by omega) d_M_request_52 (fun c52 => ?_) (fun c52 => ?_)
        · refine v_iinc (i := 5) (L' := [(0, _), (1, _), (2, _), (3, _), (4, _), (5, _), (6, _)]) (G' := []) o.ok d_M_request_95 rfl (o.lt (by decide)) rfl rfl ?_
          refine v_goto o.ok d_M_request_98 ?_
          first
            | (rw [pick_t (by omega)] at he
               have z := ih (k + 1) S Z (by omega) wS hst em hI hMo he
               rw [show ((k + 1 : Nat) : Int) = (k : Int) + 1 from by omega] at z
               exact v_sel [0, 1, 2, 3, 4, 5] [] rfl rfl z)
            | (rw [pick_f (by omega), pick_t (by assumption)] at he
               have z := ih (k + 1) (up S 26 (33 * t + x) (mdo M w a)) Z (by omega) wS.lk hst em hI hMo he
               rw [show ((k + 1 : Nat) : Int) = (k : Int) + 1 from by omega] at z
               rw [sset_up rfl]
               exact v_sel [0, 1, 2, 3, 4, 5] [] rfl rfl z)
        · refine v_aload_n (i := 0) o.ok d_M_request_55 rfl rfl ?_
          refine v_iload_n (i := 1) o.ok d_M_request_56 rfl rfl ?_
          refine v_aload_n (i := 0) o.ok d_M_request_57 rfl rfl ?_
          refine m_geta o 31 (by decide) (by decide) lf_M_83 rfl d_M_request_58 ?_
          refine v_iload (i := 5) o.ok d_M_request_61 rfl ?_
          refine m_iald o 31 33 rfl rfl (by omega) d_M_request_63 (fun i63 => ?_)
          rw [ei] at i63 ⊢
          refine v_aload_n (i := 0) o.ok d_M_request_64 rfl rfl ?_
          refine m_geti o 32 (by decide) rfl lf_M_178 rfl d_M_request_65 (fun i65 => ?_)
          rw [eM] at i65 ⊢
          refine m_cf o (c_mayS t x (mdo M w a) S Z wS.par (by omega) hxb h12) q_M_may lm_M_199 d_M_request_68 (by decide) rfl (Nat.le_of_ble_eq_true rfl) rfl ?_
          first | refine v_ifne_b o.ok d_M_request_71 (fun c71 => ?_) (fun c71 => ?_) | refine v_if_ne o.ok (by omega) d_M_request_71 (fun c71 => ?_) (fun c71 => ?_)
          · refine v_aload_n (i := 0) o.ok d_M_request_84 rfl rfl ?_
            refine m_geta o 26 (by decide) (by decide) lf_M_71 rfl d_M_request_85 ?_
            refine v_iload (i := 6) o.ok d_M_request_88 rfl ?_
            refine v_aload_n (i := 0) o.ok d_M_request_90 rfl rfl ?_
            refine m_geti o 32 (by decide) rfl lf_M_178 rfl d_M_request_91 (fun i91 => ?_)
            rw [eM] at i91 ⊢
            refine m_iast o 26 1980 rfl rfl (by omega) (by omega) d_M_request_94 ?_
            refine v_iinc (i := 5) (L' := [(0, _), (1, _), (2, _), (3, _), (4, _), (5, _), (6, _)]) (G' := []) o.ok d_M_request_95 rfl (o.lt (by decide)) rfl rfl ?_
            refine v_goto o.ok d_M_request_98 ?_
            first
              | (rw [pick_t (by omega)] at he
                 have z := ih (k + 1) S Z (by omega) wS hst em hI hMo he
                 rw [show ((k + 1 : Nat) : Int) = (k : Int) + 1 from by omega] at z
                 exact v_sel [0, 1, 2, 3, 4, 5] [] rfl rfl z)
              | (rw [pick_f (by omega), pick_t (by assumption)] at he
                 have z := ih (k + 1) (up S 26 (33 * t + x) (mdo M w a)) Z (by omega) wS.lk hst em hI hMo he
                 rw [show ((k + 1 : Nat) : Int) = (k : Int) + 1 from by omega] at z
                 rw [sset_up rfl]
                 exact v_sel [0, 1, 2, 3, 4, 5] [] rfl rfl z)
          · refine v_aload_n (i := 0) o.ok d_M_request_74 rfl rfl ?_
            refine v_iload_n (i := 1) o.ok d_M_request_75 rfl rfl ?_
            refine v_iload_n (i := 2) o.ok d_M_request_76 rfl rfl ?_
            refine v_iload_n (i := 3) o.ok d_M_request_77 rfl rfl ?_
            refine v_iload (i := 4) o.ok d_M_request_78 rfl ?_
            refine m_ci o (c_M_stays t w a b S Z wS (by omega) hst hq hb) q_M_stays lm_M_209 d_M_request_80 (by decide) rfl (Nat.le_of_ble_eq_true rfl) rfl (fun z80 M80 h80 => ?_)
            obtain ⟨e80, Z1, rfl⟩ := h80
            refine m_iret o d_M_request_83 ?_
            rw [pick_f (by omega), pick_f (by assumption)] at he
            have er : req M t w a b = sty S t w a b := by
              unfold req
              rw [← he, if_pos rfl]
            exact ⟨_, rfl, by rw [er]; exact e80, Z1, by rw [er]⟩
  refine v_aload_n (i := 0) o.ok d_M_request_0 rfl rfl ?_
  refine m_geta o 23 (by decide) (by decide) lf_M_62 rfl d_M_request_1 ?_
  refine v_iload_n (i := 1) o.ok d_M_request_4 rfl rfl ?_
  refine v_iconst o.ok d_M_request_5 ?_
  refine m_iast o 23 60 rfl rfl (by omega) (by omega) d_M_request_6 ?_
  rw [sset_up rfl]
  refine v_aload_n (i := 0) o.ok d_M_request_7 rfl rfl ?_
  refine v_iload_n (i := 2) o.ok d_M_request_8 rfl rfl ?_
  refine v_iload_n (i := 3) o.ok d_M_request_9 rfl rfl ?_
  refine v_iload (i := 4) o.ok d_M_request_10 rfl ?_
  refine m_cv o (c_M_needs w a b (sset (up M 23 t 1) Z0) hq hb) q_M_needs lm_M_195 d_M_request_12 (by decide) rfl (Nat.le_of_ble_eq_true rfl) rfl (fun M12 h12 => ?_)
  obtain ⟨Z1, eZ, hI, hMo, hKp⟩ := h12
  obtain rfl : M12 = sset (up M 23 t 1) Z1 := by rw [eZ]; exact sset_sset _ _ _
  rw [nds_sset, nds_c (M := up M 23 t 1) (M' := M) (fun _ => rfl)] at hI
  refine v_iconst o.ok d_M_request_15 ?_
  refine v_istore (i := 5) (L' := [(0, _), (1, _), (2, _), (3, _), (4, _), (5, _)]) (G' := []) o.ok d_M_request_16 (o.lt (by decide)) rfl rfl ?_
  exact lp (nds M w a b).length 0 _ Z1 (by omega) (hf.act1 hs) (Or.inl (up_same _ _ _ _)) rfl hI hMo rfl

