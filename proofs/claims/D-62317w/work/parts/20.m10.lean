/-! scans, and the locks that a request needs -/
noncomputable def tcs : Nat → Int → MSt → MSt
  | 0, _, M => M
  | n + 1, p, M => tcs n (p + 1) (tch M p)
theorem tcs_o {f : Nat} (h : pgF f = false) : ∀ (n : Nat) (p : Int) (M : MSt), tcs n p M f = M f := by
  intro n
  induction n with
  | zero => intro p M; rfl
  | succ n ih => intro p M; unfold tcs; rw [ih]; exact funext fun _ => tch_o h
theorem tcs_clock : ∀ (n : Nat) (p : Int) (M : MSt), tcs n p M 10 0 = M 10 0 + n := by
  intro n
  induction n with
  | zero => intro p M; show M 10 0 = M 10 0 + 0; omega
  | succ n ih => intro p M; unfold tcs; rw [ih, tch_clock _ _ rfl]; omega
theorem tcs_sset (Z : MSt) : ∀ (n : Nat) (p : Int) (M : MSt), tcs n p (sset M Z) = sset (tcs n p M) Z := by
  intro n
  induction n with
  | zero => intro p M; rfl
  | succ n ih => intro p M; unfold tcs; rw [sset_tch, ih]
def sumA (g : Int → Int) (a : Int) : Nat → Int
  | 0 => 0
  | n + 1 => sumA g a n + g (a + n)
noncomputable def scn1 (M : MSt) (a b : Int) : MSt := tcs (b / 4 - a / 4 + 1).toNat (a / 4) M
noncomputable def scn (M : MSt) (a b : Int) : Int × MSt := (sumA (thr (scn1 M a b)) a (b - a + 1).toNat, up (scn1 M a b) 38 0 (wr (sumA (vlw (scn1 M a b)) a (b - a + 1).toNat)))
theorem thr_sset (M Z : MSt) (k : Int) : thr (sset M Z) k = thr M k := rfl
theorem vlw_sset (M Z : MSt) (k : Int) : vlw (sset M Z) k = vlw M k := rfl
theorem scn_sset (M Z : MSt) (a b : Int) : scn (sset M Z) a b = ((scn M a b).1, sset (scn M a b).2 Z) := by
  have e1 : scn1 (sset M Z) a b = sset (scn1 M a b) Z := tcs_sset Z _ _ M
  unfold scn
  rw [e1, sset_up rfl]
  rfl
set_option maxHeartbeats 4000000 in
set_option maxRecDepth 20000 in
theorem c_M_scanned (a b : Int) (M : MSt) (ha : 0 ≤ a ∧ a ≤ b ∧ b ≤ 31) (hc : 0 ≤ M 10 0 ∧ M 10 0 ≤ 950000) (hfr : 1 ≤ M 0 0 ∧ M 0 0 ≤ 8) : MF y_M_scanned (wsOf y_M_scanned b_M_scanned 5 (some .int)) 2 [a, b] M (some (scn M a b).1) ((scn M a b).2) := by
  refine MCon.of (by decide) rfl (Nat.le_of_ble_eq_true rfl) ?_
  intro X E o
  show V X (RelM E M) 0 [(0, .ref (Em.x E)), (1, J (a)), (2, J (b))] [] []
  have l2 : ∀ (n m : Nat), (m : Int) + n = b - a + 1 → 0 ≤ sumA (thr (scn1 M a b)) a m → sumA (thr (scn1 M a b)) a m ≤ m → V X (RelM E (up (scn1 M a b) 38 0 (wr (sumA (vlw (scn1 M a b)) a m)))) 32 [(0, .ref (Em.x E)), (1, J a), (2, J b), (3, J (sumA (thr (scn1 M a b)) a m)), (4, J (a + m))] [] [] := by
    intro n
    induction n with
    | zero =>
      intro m h1 h2 h3
      refine v_iload (i := 4) o.ok d_M_scanned_32 rfl ?_
      refine v_iload_n (i := 2) o.ok d_M_scanned_34 rfl rfl ?_
      refine v_icmp_gt o.ok (by omega) (by omega) d_M_scanned_35 (fun c35 => ?_) (fun c35 => ?_)
      · refine v_iload_n (i := 3) o.ok d_M_scanned_76 rfl rfl ?_
        refine m_iret o d_M_scanned_77 ?_
        rw [show m = (b - a + 1).toNat from by omega]
        exact ⟨rfl, rfl⟩
      · exfalso; omega
    | succ n ih =>
      intro m h1 h2 h3
      have eth : ∀ (K : MSt) (z k : Int), thr (up K 38 0 z) k = thr K k := fun _ _ _ => rfl
      have evl : ∀ (K : MSt) (z k : Int), vlw (up K 38 0 z) k = vlw K k := fun _ _ _ => rfl
      have eup : ∀ (K : MSt) (y z : Int), up (up K 38 0 y) 38 0 z = up K 38 0 z := fun K y z => by funext f i; unfold up; split <;> rfl
      refine v_iload (i := 4) o.ok d_M_scanned_32 rfl ?_
      refine v_iload_n (i := 2) o.ok d_M_scanned_34 rfl rfl ?_
      refine v_icmp_gt o.ok (by omega) (by omega) d_M_scanned_35 (fun c35 => ?_) (fun c35 => ?_)
      · exfalso; omega
      · refine v_iload_n (i := 3) o.ok d_M_scanned_38 rfl rfl ?_
        refine v_aload_n (i := 0) o.ok d_M_scanned_39 rfl rfl ?_
        refine v_iload (i := 4) o.ok d_M_scanned_40 rfl ?_
        refine m_cf o (c_M_isThereNow (a + m) _ (by omega)) q_M_isThereNow lm_M_172 d_M_scanned_42 (by decide) rfl (Nat.le_of_ble_eq_true rfl) rfl ?_
        rw [eth]
        refine V.get (fun H hR => (show thr (scn1 M a b) (a + m) = 0 ∨ thr (scn1 M a b) (a + m) = 1 from by unfold thr; split; exact hR.2.2.2.2.2.2 4 _ rfl; exact hR.2.2.2.2.2.2 1 _ rfl)) (fun i45 => ?_)
        refine v_if_eq o.ok (by omega) d_M_scanned_45 (fun c45 => ?_) (fun c45 => ?_)
        · refine v_iconst o.ok d_M_scanned_52 ?_
          refine v_iadd o.ok d_M_scanned_53 ?_
          refine v_istore_n (i := 3) (L' := [(0, _), (1, _), (2, _), (3, _), (4, _)]) (G' := []) o.ok d_M_scanned_54 rfl (o.lt (by decide)) rfl rfl ?_
          refine v_aload_n (i := 0) o.ok d_M_scanned_55 rfl rfl ?_
          refine v_dup o.ok d_M_scanned_56 rfl ?_
          refine m_geti o 38 (by decide) rfl lf_M_216 rfl d_M_scanned_57 (fun i57 => ?_)
          (try simp only [clk, up, cpd, cpu, Nat.reduceEqDiff, false_and, if_false, and_self, if_true, true_and] at i57 ⊢)
          refine v_aload_n (i := 0) o.ok d_M_scanned_60 rfl rfl ?_
          refine v_iload (i := 4) o.ok d_M_scanned_61 rfl ?_
          refine m_cf o (c_M_valueNow (a + m) _ (by omega)) q_M_valueNow lm_M_213 d_M_scanned_63 (by decide) rfl (Nat.le_of_ble_eq_true rfl) rfl ?_
          rw [evl]
          refine v_iadd o.ok d_M_scanned_66 ?_
          refine m_putiw o 38 (by decide) rfl rfl rfl lf_M_216 rfl d_M_scanned_67 ?_
          rw [eup, wr_add]
          refine v_iinc (i := 4) (L' := [(0, _), (1, _), (2, _), (3, _), (4, _)]) (G' := []) o.ok d_M_scanned_70 rfl (o.lt (by decide)) rfl rfl ?_
          refine v_goto o.ok d_M_scanned_73 ?_
          have z := ih (m + 1) (by omega) (by show 0 ≤ sumA _ _ _ + thr _ (a + m); omega) (by show sumA _ _ _ + thr _ (a + m) ≤ _; omega)
          rw [show a + ((m + 1 : Nat) : Int) = a + (m : Int) + 1 from by omega] at z
          have e7 : sumA (thr (scn1 M a b)) a (m + 1) = sumA (thr (scn1 M a b)) a m + thr (scn1 M a b) (a + m) := rfl
          have e8 : sumA (vlw (scn1 M a b)) a (m + 1) = sumA (vlw (scn1 M a b)) a m + vlw (scn1 M a b) (a + m) := rfl
          rw [e7, e8] at z
          first
            | (rw [show thr (scn1 M a b) (a + m) = 0 from by omega] at z; exact z)
            | (rw [show thr (scn1 M a b) (a + m) = 1 from by omega] at z; exact z)
        · refine v_iconst o.ok d_M_scanned_48 ?_
          refine v_goto o.ok d_M_scanned_49 ?_
          refine v_iadd o.ok d_M_scanned_53 ?_
          refine v_istore_n (i := 3) (L' := [(0, _), (1, _), (2, _), (3, _), (4, _)]) (G' := []) o.ok d_M_scanned_54 rfl (o.lt (by decide)) rfl rfl ?_
          refine v_aload_n (i := 0) o.ok d_M_scanned_55 rfl rfl ?_
          refine v_dup o.ok d_M_scanned_56 rfl ?_
          refine m_geti o 38 (by decide) rfl lf_M_216 rfl d_M_scanned_57 (fun i57 => ?_)
          (try simp only [clk, up, cpd, cpu, Nat.reduceEqDiff, false_and, if_false, and_self, if_true, true_and] at i57 ⊢)
          refine v_aload_n (i := 0) o.ok d_M_scanned_60 rfl rfl ?_
          refine v_iload (i := 4) o.ok d_M_scanned_61 rfl ?_
          refine m_cf o (c_M_valueNow (a + m) _ (by omega)) q_M_valueNow lm_M_213 d_M_scanned_63 (by decide) rfl (Nat.le_of_ble_eq_true rfl) rfl ?_
          rw [evl]
          refine v_iadd o.ok d_M_scanned_66 ?_
          refine m_putiw o 38 (by decide) rfl rfl rfl lf_M_216 rfl d_M_scanned_67 ?_
          rw [eup, wr_add]
          refine v_iinc (i := 4) (L' := [(0, _), (1, _), (2, _), (3, _), (4, _)]) (G' := []) o.ok d_M_scanned_70 rfl (o.lt (by decide)) rfl rfl ?_
          refine v_goto o.ok d_M_scanned_73 ?_
          have z := ih (m + 1) (by omega) (by show 0 ≤ sumA _ _ _ + thr _ (a + m); omega) (by show sumA _ _ _ + thr _ (a + m) ≤ _; omega)
          rw [show a + ((m + 1 : Nat) : Int) = a + (m : Int) + 1 from by omega] at z
          have e7 : sumA (thr (scn1 M a b)) a (m + 1) = sumA (thr (scn1 M a b)) a m + thr (scn1 M a b) (a + m) := rfl
          have e8 : sumA (vlw (scn1 M a b)) a (m + 1) = sumA (vlw (scn1 M a b)) a m + vlw (scn1 M a b) (a + m) := rfl
          rw [e7, e8] at z
          first
            | (rw [show thr (scn1 M a b) (a + m) = 0 from by omega] at z; exact z)
            | (rw [show thr (scn1 M a b) (a + m) = 1 from by omega] at z; exact z)
  have l1 : ∀ (n : Nat) (p : Int) (K : MSt), a / 4 ≤ p → p + n = b / 4 + 1 → tcs n p K = scn1 M a b → K 10 0 ≤ 950000 + (p - a / 4) → 0 ≤ K 10 0 → K 0 0 = M 0 0 → V X (RelM E K) 4 [(0, .ref (Em.x E)), (1, J a), (2, J b), (3, J p)] [] [] := by
    intro n
    induction n with
    | zero =>
      intro p K h0 h1 h2 h3 h4 h5
      refine v_iload_n (i := 3) o.ok d_M_scanned_4 rfl rfl ?_
      refine v_iload_n (i := 2) o.ok d_M_scanned_5 rfl rfl ?_
      refine v_iconst o.ok d_M_scanned_6 ?_
      refine v_idiv o.ok d_M_scanned_7 (by omega) (by omega) ?_
      refine v_icmp_gt o.ok (by omega) (by omega) d_M_scanned_8 (fun c8 => ?_) (fun c8 => ?_)
      · refine v_iconst o.ok d_M_scanned_22 ?_
        refine v_istore_n (i := 3) (L' := [(0, _), (1, _), (2, _), (3, _)]) (G' := []) o.ok d_M_scanned_23 rfl (o.lt (by decide)) rfl rfl ?_
        refine v_aload_n (i := 0) o.ok d_M_scanned_24 rfl rfl ?_
        refine v_iconst o.ok d_M_scanned_25 ?_
        refine m_puti o 38 (by decide) rfl rfl rfl lf_M_216 rfl (by omega) d_M_scanned_26 ?_
        refine v_iload_n (i := 1) o.ok d_M_scanned_29 rfl rfl ?_
        refine v_istore (i := 4) (L' := [(0, _), (1, _), (2, _), (3, _), (4, _)]) (G' := []) o.ok d_M_scanned_30 (o.lt (by decide)) rfl rfl ?_
        have z := l2 (b - a + 1).toNat 0 (by omega) (Int.le_refl _) (Int.le_refl _)
        rw [show K = scn1 M a b from h2]
        rw [show a + ((0 : Nat) : Int) = a from by omega, show sumA (vlw (scn1 M a b)) a 0 = 0 from rfl, wr_id (by decide)] at z
        exact z
      · exfalso; omega
    | succ n ih =>
      intro p K h0 h1 h2 h3 h4 h5
      have ec := tch_clock K p rfl
      have ef : tch K p 0 0 = K 0 0 := tch_o rfl
      refine v_iload_n (i := 3) o.ok d_M_scanned_4 rfl rfl ?_
      refine v_iload_n (i := 2) o.ok d_M_scanned_5 rfl rfl ?_
      refine v_iconst o.ok d_M_scanned_6 ?_
      refine v_idiv o.ok d_M_scanned_7 (by omega) (by omega) ?_
      refine v_icmp_gt o.ok (by omega) (by omega) d_M_scanned_8 (fun c8 => ?_) (fun c8 => ?_)
      · exfalso; omega
      · refine v_aload_n (i := 0) o.ok d_M_scanned_11 rfl rfl ?_
        refine v_iload_n (i := 3) o.ok d_M_scanned_12 rfl rfl ?_
        refine m_cfv o (c_M_touch p K (by omega) ⟨⟨by omega, by omega⟩, by rw [h5]; exact hfr⟩) q_M_touch lm_M_125 d_M_scanned_13 (by decide) rfl (Nat.le_of_ble_eq_true rfl) rfl ?_
        refine v_iinc (i := 3) (L' := [(0, _), (1, _), (2, _), (3, _)]) (G' := []) o.ok d_M_scanned_16 rfl (o.lt (by decide)) rfl rfl ?_
        refine v_goto o.ok d_M_scanned_19 ?_
        exact ih (p + 1) (tch K p) (by omega) (by omega) h2 (by omega) (by omega) (by rw [ef]; exact h5)
  refine v_iload_n (i := 1) o.ok d_M_scanned_0 rfl rfl ?_
  refine v_iconst o.ok d_M_scanned_1 ?_
  refine v_idiv o.ok d_M_scanned_2 (by omega) (by omega) ?_
  refine v_istore_n (i := 3) (L' := [(0, _), (1, _), (2, _), (3, _)]) (G' := []) o.ok d_M_scanned_3 rfl (o.lt (by decide)) rfl rfl ?_
  exact l1 (b / 4 - a / 4 + 1).toNat (a / 4) M (Int.le_refl _) (by omega) rfl (by omega) hc.1 rfl
set_option maxHeartbeats 4000000 in
set_option maxRecDepth 20000 in
theorem c_M_want (i : Int) (M : MSt) (hi : InR i) (hw : 0 ≤ M 30 0 ∧ M 30 0 < 33) : MF y_M_want (wsOf y_M_want b_M_want 2 none) 0 [i] M (none) (up (up M 31 (M 30 0) i) 30 0 (M 30 0 + 1)) := by
  refine MCon.of (by decide) rfl (Nat.le_of_ble_eq_true rfl) ?_
  intro X E o
  show V X (RelM E M) 0 [(0, .ref (Em.x E)), (1, J (i))] [] []
  refine v_aload_n (i := 0) o.ok d_M_want_0 rfl rfl ?_
  refine m_geta o 31 (by decide) (by decide) lf_M_83 rfl d_M_want_1 ?_
  refine v_aload_n (i := 0) o.ok d_M_want_4 rfl rfl ?_
  refine m_geti o 30 (by decide) rfl lf_M_175 rfl d_M_want_5 (fun i5 => ?_)
  (try simp only [clk, up, cpd, cpu, Nat.reduceEqDiff, false_and, if_false, and_self, if_true, true_and] at i5 ⊢)
  refine v_iload_n (i := 1) o.ok d_M_want_8 rfl rfl ?_
  refine m_iast o 31 33 rfl rfl (by omega) (by omega) d_M_want_9 ?_
  refine v_aload_n (i := 0) o.ok d_M_want_10 rfl rfl ?_
  refine v_dup o.ok d_M_want_11 rfl ?_
  refine m_geti o 30 (by decide) rfl lf_M_175 rfl d_M_want_12 (fun i12 => ?_)
  (try simp only [clk, up, cpd, cpu, Nat.reduceEqDiff, false_and, if_false, and_self, if_true, true_and] at i12 ⊢)
  refine v_iconst o.ok d_M_want_15 ?_
  refine v_iadd o.ok d_M_want_16 ?_
  refine m_puti o 30 (by decide) rfl rfl rfl lf_M_175 rfl (by omega) d_M_want_17 ?_
  refine m_vret o d_M_want_20 ⟨rfl, rfl⟩
/-- the scratch Z holds the items l -/
def Its (Z : MSt) (l : List Int) : Prop := Z 30 0 = l.length ∧ ∀ (k : Nat) (x : Int), l[k]? = some x → Z 31 k = x
theorem Its.snoc {Z : MSt} {l : List Int} (h : Its Z l) (i : Int) : Its (up (up Z 31 (Z 30 0) i) 30 0 (Z 30 0 + 1)) (l ++ [i]) := by
  refine ⟨?_, fun k x hk => ?_⟩
  · rw [up_same, h.1, List.length_append]
    rfl
  · rw [up_ne (fun q => by cases q.1)]
    by_cases hkl : k = l.length
    · subst hkl
      rw [h.1, up_same]
      simp at hk
      exact hk
    · have hlt := (List.getElem?_eq_some_iff.mp hk).1
      rw [List.length_append] at hlt
      have hlt2 : k < l.length := by simp at hlt; omega
      rw [h.1, up_ne (fun q => hkl (by have := q.2; omega))]
      rw [List.getElem?_append_left hlt2] at hk
      exact h.2 k x hk
def scl (M : MSt) : Nat → Int → List Int
  | 0, _ => []
  | n + 1, k => if thr M k = 1 then k :: scl M n (k + 1) else scl M n (k + 1)
def nds (M : MSt) (w a b : Int) : List Int := if w = 4 then scl M (b - a + 1).toNat a ++ [nxt M b] else if w = 1 ∨ (w = 3 ∧ thr M a = 0) then [if thr M a = 1 then a else nxt M a] else (if w = 3 ∨ thr M a = 0 then [nxt M a, a] else [a])
def mdo (M : MSt) (w a : Int) : Int := if w = 2 ∨ (w = 3 ∧ thr M a = 1) then 2 else 1
theorem nxtN_sset (M Z : MSt) : ∀ (n : Nat) (k : Int), nxtN (sset M Z) n k = nxtN M n k := by
  intro n
  induction n with
  | zero => intro k; rfl
  | succ n ih => intro k; unfold nxtN; rw [ih, thr_sset]
theorem nxt_sset (M Z : MSt) (k : Int) : nxt (sset M Z) k = nxt M k := nxtN_sset M Z 32 (k + 1)
theorem scl_sset (M Z : MSt) : ∀ (n : Nat) (k : Int), scl (sset M Z) n k = scl M n k := by
  intro n
  induction n with
  | zero => intro k; rfl
  | succ n ih => intro k; unfold scl; rw [ih, thr_sset]
theorem nds_sset (M Z : MSt) (w a b : Int) : nds (sset M Z) w a b = nds M w a b := by
  unfold nds
  rw [scl_sset, nxt_sset, nxt_sset, thr_sset]
theorem scl_bd (M : MSt) : ∀ (n : Nat) (k : Int), (scl M n k).length ≤ n ∧ ∀ x ∈ scl M n k, k ≤ x ∧ x < k + n := by
  intro n
  induction n with
  | zero => intro k; exact ⟨Nat.le_refl _, fun x h => by cases h⟩
  | succ n ih =>
    intro k
    have h := ih (k + 1)
    unfold scl
    split
    · refine ⟨by simp; omega, fun x hx => ?_⟩
      rcases List.mem_cons.mp hx with rfl | hx
      · omega
      · have := h.2 x hx; omega
    · exact ⟨by omega, fun x hx => by have := h.2 x hx; omega⟩
theorem nds_bd {M : MSt} {w a b : Int} (h : ReqOk w a b) : (nds M w a b).length ≤ 33 ∧ ∀ x ∈ nds M w a b, 0 ≤ x ∧ x ≤ 32 := by
  unfold nds
  have hn : ∀ k : Int, 0 ≤ k → k ≤ 31 → 0 ≤ nxt M k ∧ nxt M k ≤ 32 := fun k h1 h2 => by have := nxt_bd (M := M) h2; omega
  rcases h with ⟨h1, h2, h3⟩ | ⟨h1, h2, h3, h4⟩
  · rw [if_neg (by omega)]
    split
    · refine ⟨by simp, fun x hx => ?_⟩
      simp at hx
      subst hx
      split
      · omega
      · exact hn a h2 h3
    · split
      · refine ⟨by simp, fun x hx => ?_⟩
        simp at hx
        rcases hx with rfl | rfl
        · exact hn a h2 h3
        · omega
      · refine ⟨by simp, fun x hx => ?_⟩
        simp at hx
        omega
  · rw [if_pos h1]
    have hs := scl_bd M (b - a + 1).toNat a
    refine ⟨by rw [List.length_append]; simp; omega, fun x hx => ?_⟩
    rcases List.mem_append.mp hx with hx | hx
    · have := hs.2 x hx; omega
    · simp at hx
      subst hx
      exact hn b (by omega) h4

