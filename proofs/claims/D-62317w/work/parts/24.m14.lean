set_option maxHeartbeats 4000000 in
set_option maxRecDepth 20000 in
theorem c_M_victim (t : Int) (M Z00 : MSt) (hf : WF M) (ht : 0 ≤ t ∧ t < M 22 0) : MI y_M_victim (wsOf y_M_victim b_M_victim 8 (some .int)) 4 [t] (sset M Z00) (fun z M' => z = vic M t ∧ ∃ Z, M' = sset M Z) := by
  refine MCon.of (by decide) rfl (Nat.le_of_ble_eq_true rfl) ?_
  intro X E o
  show V X (RelM E (sset M Z00)) 0 [(0, .ref (Em.x E)), (1, J (t))] [] []
  have hm := hf.many
  have emy : ∀ Z, sset M Z 22 0 = M 22 0 := fun _ => rfl
  have eA : ∀ Z x, sset M Z 35 x = Z 35 x := fun _ _ => rfl
  have eB : ∀ Z x, sset M Z 36 x = Z 36 x := fun _ _ => rfl
  -- the last loop
  have lst : ∀ (Z : MSt), ClA M t Z → ClB M t Z → (∀ x, inM M x → Ah Z x → Fw M t x) → (∀ x, inM M x → Bh Z x → Bk M t x) → ∀ (n k : Nat), (k : Int) + n = M 22 0 → ∀ (f : Int), (Fw M t t → f = lastN (fun u => Fw M t u ∧ Fw M u t) k) → (¬ Fw M t t → f = -1) → V X (RelM E (sset M Z)) 259 [(0, .ref (Em.x E)), (1, J t), (3, J f), (4, J (k : Int))] [] [] := by
    intro Z hcA hcB hsA hsB n
    have hF := fun x hx => Cl_Fw hcA hsA (x := x) hx
    have hG := fun x hx => Cl_Bk hcB hsB (x := x) hx
    induction n with
    | zero =>
      intro k hk f hf1 hf2
      have em := emy Z
      have hfb : InR f := by
        by_cases q : Fw M t t
        · have := lastN_bd (P := fun u => Fw M t u ∧ Fw M u t) k
          rw [hf1 q]; omega
        · rw [hf2 q]; decide
      have e : f = vic M t := by
        unfold vic
        by_cases q : Fw M t t
        · rw [pick_t q, hf1 q, show (M 22 0).toNat = k from by omega]
        · rw [pick_f q, hf2 q]
      refine v_iload (i := 4) o.ok d_M_victim_259 rfl ?_
      refine v_aload_n (i := 0) o.ok d_M_victim_261 rfl rfl ?_
      refine m_geti o 22 (by decide) rfl lf_M_147 rfl d_M_victim_262 (fun i262 => ?_)
      refine v_icmp_ge o.ok (by omega) (by omega) d_M_victim_265 (fun c265 => ?_) (fun c265 => ?_)
      · refine v_iload_n (i := 3) o.ok d_M_victim_310 rfl rfl ?_
        refine m_iret o d_M_victim_311 ⟨_, rfl, e, Z, rfl⟩
      · exfalso; omega
    | succ n ih =>
      intro k hk f hf1 hf2
      have em := emy Z
      have hkM : inM M (k : Int) := ⟨by omega, by omega⟩
      have hfb : InR f := by
        by_cases q : Fw M t t
        · have := lastN_bd (P := fun u => Fw M t u ∧ Fw M u t) k
          rw [hf1 q]; omega
        · rw [hf2 q]; decide
      have nx : Fw M t t → ∀ f', f' = lastN (fun u => Fw M t u ∧ Fw M u t) (k + 1) → V X (RelM E (sset M Z)) 303 [(0, .ref (Em.x E)), (1, J t), (3, J f), (4, J (k : Int))] [] [J f'] := by
        intro q f' hf'
        refine v_istore_n (i := 3) (L' := [(0, _), (1, _), (3, _), (4, _)]) (G' := []) o.ok d_M_victim_303 rfl (o.lt (by decide)) rfl rfl ?_
        refine v_iinc (i := 4) (L' := [(0, _), (1, _), (3, _), (4, _)]) (G' := []) o.ok d_M_victim_304 rfl (o.lt (by decide)) rfl rfl ?_
        refine v_goto o.ok d_M_victim_307 ?_
        have z := ih (k + 1) (by omega) f' (fun _ => hf') (fun h => absurd q h)
        rw [show ((k + 1 : Nat) : Int) = (k : Int) + 1 from by omega] at z
        exact z
      refine v_iload (i := 4) o.ok d_M_victim_259 rfl ?_
      refine v_aload_n (i := 0) o.ok d_M_victim_261 rfl rfl ?_
      refine m_geti o 22 (by decide) rfl lf_M_147 rfl d_M_victim_262 (fun i262 => ?_)
      refine v_icmp_ge o.ok (by omega) (by omega) d_M_victim_265 (fun c265 => ?_) (fun c265 => ?_)
      · exfalso; omega
      · refine v_aload_n (i := 0) o.ok d_M_victim_268 rfl rfl ?_
        refine m_geta o 35 (by decide) (by decide) lf_M_92 rfl d_M_victim_269 ?_
        refine v_iload_n (i := 1) o.ok d_M_victim_272 rfl rfl ?_
        refine m_zald o 35 60 rfl rfl (by omega) d_M_victim_273 (fun i273 => ?_)
        rw [eA] at i273 ⊢
        refine v_if_eq o.ok (by omega) d_M_victim_274 (fun c274 => ?_) (fun c274 => ?_)
        · have nF : ¬ Fw M t t := fun q => by have := (hF t ht).mpr q; unfold Ah at this; omega
          have e : f = vic M t := by unfold vic; rw [pick_f nF, hf2 nF]
          refine v_iload_n (i := 3) o.ok d_M_victim_310 rfl rfl ?_
          refine m_iret o d_M_victim_311 ⟨_, rfl, e, Z, rfl⟩
        · have yF : Fw M t t := (hF t ht).mp (by unfold Ah; omega)
          refine v_aload_n (i := 0) o.ok d_M_victim_277 rfl rfl ?_
          refine m_geta o 35 (by decide) (by decide) lf_M_92 rfl d_M_victim_278 ?_
          refine v_iload (i := 4) o.ok d_M_victim_281 rfl ?_
          refine m_zald o 35 60 rfl rfl (by omega) d_M_victim_283 (fun i283 => ?_)
          rw [eA] at i283 ⊢
          refine v_if_eq o.ok (by omega) d_M_victim_284 (fun c284 => ?_) (fun c284 => ?_)
          · refine v_iload_n (i := 3) o.ok d_M_victim_302 rfl rfl ?_
            refine nx yF _ ?_
            show _ = pick _ _ _
            first
              | (rw [pick_t ⟨(hF k hkM).mp (by unfold Ah; omega), (hG k hkM).mp (by unfold Bh; omega)⟩])
              | (rw [pick_f (fun q => by have := (hF k hkM).mpr q.1; unfold Ah at this; omega)]; exact hf1 yF)
              | (rw [pick_f (fun q => by have := (hG k hkM).mpr q.2; unfold Bh at this; omega)]; exact hf1 yF)
          · refine v_aload_n (i := 0) o.ok d_M_victim_287 rfl rfl ?_
            refine m_geta o 36 (by decide) (by decide) lf_M_95 rfl d_M_victim_288 ?_
            refine v_iload (i := 4) o.ok d_M_victim_291 rfl ?_
            refine m_zald o 36 60 rfl rfl (by omega) d_M_victim_293 (fun i293 => ?_)
            rw [eB] at i293 ⊢
            refine v_if_eq o.ok (by omega) d_M_victim_294 (fun c294 => ?_) (fun c294 => ?_)
            · refine v_iload_n (i := 3) o.ok d_M_victim_302 rfl rfl ?_
              refine nx yF _ ?_
              show _ = pick _ _ _
              first
                | (rw [pick_t ⟨(hF k hkM).mp (by unfold Ah; omega), (hG k hkM).mp (by unfold Bh; omega)⟩])
                | (rw [pick_f (fun q => by have := (hF k hkM).mpr q.1; unfold Ah at this; omega)]; exact hf1 yF)
                | (rw [pick_f (fun q => by have := (hG k hkM).mpr q.2; unfold Bh at this; omega)]; exact hf1 yF)
            · refine v_iload (i := 4) o.ok d_M_victim_297 rfl ?_
              refine v_goto o.ok d_M_victim_299 ?_
              refine nx yF _ ?_
              show _ = pick _ _ _
              first
                | (rw [pick_t ⟨(hF k hkM).mp (by unfold Ah; omega), (hG k hkM).mp (by unfold Bh; omega)⟩])
                | (rw [pick_f (fun q => by have := (hF k hkM).mpr q.1; unfold Ah at this; omega)]; exact hf1 yF)
                | (rw [pick_f (fun q => by have := (hG k hkM).mpr q.2; unfold Bh at this; omega)]; exact hf1 yF)
  -- one pair
  have pr : ∀ (rd u v m : Int) (Z : MSt), InR rd → inM M u → inM M v → (m = 0 ∨ m = 1) → Lkd M Z (M 22 0) → (∀ x, Z 35 x = 0 ∨ Z 35 x = 1) → (∀ x, Z 36 x = 0 ∨ Z 36 x = 1) →
      (V X (RelM E (sset M (zst Z u v ((u = t ∨ Ah Z u) ∧ ¬ Ah Z v ∧ Lead M u v) ((v = t ∨ Bh Z v) ∧ ¬ Bh Z u ∧ Lead M u v)))) 65 [(0, .ref (Em.x E)), (1, J t), (2, J (b01 (m = 1 ∨ ((u = t ∨ Ah Z u) ∧ ¬ Ah Z v ∧ Lead M u v) ∨ ((v = t ∨ Bh Z v) ∧ ¬ Bh Z u ∧ Lead M u v)))), (3, J rd), (4, J u), (5, J (v + 1))] [] []) →
      V X (RelM E (sset M Z)) 74 [(0, .ref (Em.x E)), (1, J t), (2, J m), (3, J rd), (4, J u), (5, J v)] [] [] := by
    intro rd u v m Z hrd hu hv hmm hk hbA hbB kk
    have hu1 := hu.1
    have hu2 := hu.2
    have hv1 := hv.1
    have hv2 := hv.2
    generalize hP : ((u = t ∨ Ah Z u) ∧ ¬ Ah Z v ∧ Lead M u v) = P at kk
    generalize hP2 : ((v = t ∨ Bh Z v) ∧ ¬ Bh Z u ∧ Lead M u v) = P2 at kk
    have j235 : V X (RelM E (sset M (zst Z u v P P2))) 235 [(0, .ref (Em.x E)), (1, J t), (2, J m), (3, J rd), (4, J u), (5, J v), (6, J (b01 P)), (7, J (b01 P2))] [] [J (b01 (m = 1 ∨ P ∨ P2))] := by
      refine v_istore_n (i := 2) (L' := [(0, _), (1, _), (2, _), (3, _), (4, _), (5, _), (6, _), (7, _)]) (G' := []) o.ok d_M_victim_235 rfl (o.lt (by decide)) rfl rfl ?_
      refine v_iinc (i := 5) (L' := [(0, _), (1, _), (2, _), (3, _), (4, _), (5, _), (6, _), (7, _)]) (G' := []) o.ok d_M_victim_236 rfl (o.lt (by decide)) rfl rfl ?_
      refine v_goto o.ok d_M_victim_239 ?_
      exact v_sel [0, 1, 2, 3, 4, 5] [] rfl rfl kk
    have j216 : V X (RelM E (sset M (zst Z u v P P2))) 216 [(0, .ref (Em.x E)), (1, J t), (2, J m), (3, J rd), (4, J u), (5, J v), (6, J (b01 P)), (7, J (b01 P2))] [] [] := by
      refine v_iload_n (i := 2) o.ok d_M_victim_216 rfl rfl ?_
      refine v_if_ne o.ok (by omega) d_M_victim_217 (fun c217 => ?_) (fun c217 => ?_)
      · refine v_iconst o.ok d_M_victim_230 ?_
        refine v_goto o.ok d_M_victim_231 ?_
        have z := j235
        first
          | (rw [b01_t (P := m = 1 ∨ P ∨ P2) (Or.inl (by omega))] at z; exact z)
          | (rw [b01_t (P := m = 1 ∨ P ∨ P2) (Or.inr (Or.inl (by assumption)))] at z; exact z)
          | (rw [b01_t (P := m = 1 ∨ P ∨ P2) (Or.inr (Or.inr (by assumption)))] at z; exact z)
          | (rw [b01_f (P := m = 1 ∨ P ∨ P2) (fun q => by rcases q with q | q | q; omega; exact absurd q (by assumption); exact absurd q (by assumption))] at z; exact z)
      · refine v_iload (i := 6) o.ok d_M_victim_220 rfl ?_
        first | refine v_ifne_b o.ok d_M_victim_222 (fun c222 => ?_) (fun c222 => ?_) | refine v_if_ne o.ok (by omega) d_M_victim_222 (fun c222 => ?_) (fun c222 => ?_)
        · refine v_iconst o.ok d_M_victim_230 ?_
          refine v_goto o.ok d_M_victim_231 ?_
          have z := j235
          first
            | (rw [b01_t (P := m = 1 ∨ P ∨ P2) (Or.inl (by omega))] at z; exact z)
            | (rw [b01_t (P := m = 1 ∨ P ∨ P2) (Or.inr (Or.inl (by assumption)))] at z; exact z)
            | (rw [b01_t (P := m = 1 ∨ P ∨ P2) (Or.inr (Or.inr (by assumption)))] at z; exact z)
            | (rw [b01_f (P := m = 1 ∨ P ∨ P2) (fun q => by rcases q with q | q | q; omega; exact absurd q (by assumption); exact absurd q (by assumption))] at z; exact z)
        · refine v_iload (i := 7) o.ok d_M_victim_225 rfl ?_
          first | refine v_ifeq_b o.ok d_M_victim_227 (fun c227 => ?_) (fun c227 => ?_) | refine v_if_eq o.ok (by omega) d_M_victim_227 (fun c227 => ?_) (fun c227 => ?_)
          · refine v_iconst o.ok d_M_victim_234 ?_
            have z := j235
            first
              | (rw [b01_t (P := m = 1 ∨ P ∨ P2) (Or.inl (by omega))] at z; exact z)
              | (rw [b01_t (P := m = 1 ∨ P ∨ P2) (Or.inr (Or.inl (by assumption)))] at z; exact z)
              | (rw [b01_t (P := m = 1 ∨ P ∨ P2) (Or.inr (Or.inr (by assumption)))] at z; exact z)
              | (rw [b01_f (P := m = 1 ∨ P ∨ P2) (fun q => by rcases q with q | q | q; omega; exact absurd q (by assumption); exact absurd q (by assumption))] at z; exact z)
          · refine v_iconst o.ok d_M_victim_230 ?_
            refine v_goto o.ok d_M_victim_231 ?_
            have z := j235
            first
              | (rw [b01_t (P := m = 1 ∨ P ∨ P2) (Or.inl (by omega))] at z; exact z)
              | (rw [b01_t (P := m = 1 ∨ P ∨ P2) (Or.inr (Or.inl (by assumption)))] at z; exact z)
              | (rw [b01_t (P := m = 1 ∨ P ∨ P2) (Or.inr (Or.inr (by assumption)))] at z; exact z)
              | (rw [b01_f (P := m = 1 ∨ P ∨ P2) (fun q => by rcases q with q | q | q; omega; exact absurd q (by assumption); exact absurd q (by assumption))] at z; exact z)
    have j189 : V X (RelM E (sset M (up Z 35 v (b01 (Ah Z v ∨ P))))) 189 [(0, .ref (Em.x E)), (1, J t), (2, J m), (3, J rd), (4, J u), (5, J v), (6, J (b01 P)), (7, J (b01 P2))] [] [] := by
      have e5 : sset M (up Z 35 v (b01 (Ah Z v ∨ P))) 36 u = Z 36 u := rfl
      refine v_aload_n (i := 0) o.ok d_M_victim_189 rfl rfl ?_
      refine m_geta o 36 (by decide) (by decide) lf_M_95 rfl d_M_victim_190 ?_
      refine v_iload (i := 4) o.ok d_M_victim_193 rfl ?_
      refine v_aload_n (i := 0) o.ok d_M_victim_195 rfl rfl ?_
      refine m_geta o 36 (by decide) (by decide) lf_M_95 rfl d_M_victim_196 ?_
      refine v_iload (i := 4) o.ok d_M_victim_199 rfl ?_
      refine m_zald o 36 60 rfl rfl (by omega) d_M_victim_201 (fun i201 => ?_)
      rw [e5] at i201 ⊢
      refine v_if_ne o.ok (by omega) d_M_victim_202 (fun c202 => ?_) (fun c202 => ?_)
      · refine v_iconst o.ok d_M_victim_210 ?_
        refine v_goto o.ok d_M_victim_211 ?_
        refine m_zast o 36 60 rfl rfl (by omega) (by first | exact Or.inr rfl | exact Or.inl rfl) d_M_victim_215 ?_
        rw [sset_sc rfl]
        have z := j216
        unfold zst at z
        first
          | (rw [b01_t (P := Bh Z u ∨ P2) (Or.inl (by unfold Bh; omega))] at z; exact z)
          | (rw [b01_t (P := Bh Z u ∨ P2) (Or.inr (by assumption))] at z; exact z)
          | (rw [b01_f (P := Bh Z u ∨ P2) (fun q => by rcases q with q | q; unfold Bh at q; omega; exact absurd q (by assumption))] at z; exact z)
      · refine v_iload (i := 7) o.ok d_M_victim_205 rfl ?_
        first | refine v_ifeq_b o.ok d_M_victim_207 (fun c207 => ?_) (fun c207 => ?_) | refine v_if_eq o.ok (by omega) d_M_victim_207 (fun c207 => ?_) (fun c207 => ?_)
        · refine v_iconst o.ok d_M_victim_214 ?_
          refine m_zast o 36 60 rfl rfl (by omega) (by first | exact Or.inr rfl | exact Or.inl rfl) d_M_victim_215 ?_
          rw [sset_sc rfl]
          have z := j216
          unfold zst at z
          first
            | (rw [b01_t (P := Bh Z u ∨ P2) (Or.inl (by unfold Bh; omega))] at z; exact z)
            | (rw [b01_t (P := Bh Z u ∨ P2) (Or.inr (by assumption))] at z; exact z)
            | (rw [b01_f (P := Bh Z u ∨ P2) (fun q => by rcases q with q | q; unfold Bh at q; omega; exact absurd q (by assumption))] at z; exact z)
        · refine v_iconst o.ok d_M_victim_210 ?_
          refine v_goto o.ok d_M_victim_211 ?_
          refine m_zast o 36 60 rfl rfl (by omega) (by first | exact Or.inr rfl | exact Or.inl rfl) d_M_victim_215 ?_
          rw [sset_sc rfl]
          have z := j216
          unfold zst at z
          first
            | (rw [b01_t (P := Bh Z u ∨ P2) (Or.inl (by unfold Bh; omega))] at z; exact z)
            | (rw [b01_t (P := Bh Z u ∨ P2) (Or.inr (by assumption))] at z; exact z)
            | (rw [b01_f (P := Bh Z u ∨ P2) (fun q => by rcases q with q | q; unfold Bh at q; omega; exact absurd q (by assumption))] at z; exact z)
    have j160 : V X (RelM E (sset M Z)) 160 [(0, .ref (Em.x E)), (1, J t), (2, J m), (3, J rd), (4, J u), (5, J v), (6, J (b01 P))] [] [J (b01 P2)] := by
      refine v_istore (i := 7) (L' := [(0, _), (1, _), (2, _), (3, _), (4, _), (5, _), (6, _), (7, _)]) (G' := []) o.ok d_M_victim_160 (o.lt (by decide)) rfl rfl ?_
      refine v_aload_n (i := 0) o.ok d_M_victim_162 rfl rfl ?_
      refine m_geta o 35 (by decide) (by decide) lf_M_92 rfl d_M_victim_163 ?_
      refine v_iload (i := 5) o.ok d_M_victim_166 rfl ?_
      refine v_aload_n (i := 0) o.ok d_M_victim_168 rfl rfl ?_
      refine m_geta o 35 (by decide) (by decide) lf_M_92 rfl d_M_victim_169 ?_
      refine v_iload (i := 5) o.ok d_M_victim_172 rfl ?_
      refine m_zald o 35 60 rfl rfl (by omega) d_M_victim_174 (fun i174 => ?_)
      rw [eA] at i174 ⊢
      refine v_if_ne o.ok (by omega) d_M_victim_175 (fun c175 => ?_) (fun c175 => ?_)
      · refine v_iconst o.ok d_M_victim_183 ?_
        refine v_goto o.ok d_M_victim_184 ?_
        refine m_zast o 35 60 rfl rfl (by omega) (by first | exact Or.inr rfl | exact Or.inl rfl) d_M_victim_188 ?_
        rw [sset_sc rfl]
        have z := j189
        first
          | (rw [b01_t (P := Ah Z v ∨ P) (Or.inl (by unfold Ah; omega))] at z; exact z)
          | (rw [b01_t (P := Ah Z v ∨ P) (Or.inr (by assumption))] at z; exact z)
          | (rw [b01_f (P := Ah Z v ∨ P) (fun q => by rcases q with q | q; unfold Ah at q; omega; exact absurd q (by assumption))] at z; exact z)
      · refine v_iload (i := 6) o.ok d_M_victim_178 rfl ?_
        first | refine v_ifeq_b o.ok d_M_victim_180 (fun c180 => ?_) (fun c180 => ?_) | refine v_if_eq o.ok (by omega) d_M_victim_180 (fun c180 => ?_) (fun c180 => ?_)
        · refine v_iconst o.ok d_M_victim_187 ?_
          refine m_zast o 35 60 rfl rfl (by omega) (by first | exact Or.inr rfl | exact Or.inl rfl) d_M_victim_188 ?_
          rw [sset_sc rfl]
          have z := j189
          first
            | (rw [b01_t (P := Ah Z v ∨ P) (Or.inl (by unfold Ah; omega))] at z; exact z)
            | (rw [b01_t (P := Ah Z v ∨ P) (Or.inr (by assumption))] at z; exact z)
            | (rw [b01_f (P := Ah Z v ∨ P) (fun q => by rcases q with q | q; unfold Ah at q; omega; exact absurd q (by assumption))] at z; exact z)
        · refine v_iconst o.ok d_M_victim_183 ?_
          refine v_goto o.ok d_M_victim_184 ?_
          refine m_zast o 35 60 rfl rfl (by omega) (by first | exact Or.inr rfl | exact Or.inl rfl) d_M_victim_188 ?_
          rw [sset_sc rfl]
          have z := j189
          first
            | (rw [b01_t (P := Ah Z v ∨ P) (Or.inl (by unfold Ah; omega))] at z; exact z)
            | (rw [b01_t (P := Ah Z v ∨ P) (Or.inr (by assumption))] at z; exact z)
            | (rw [b01_f (P := Ah Z v ∨ P) (fun q => by rcases q with q | q; unfold Ah at q; omega; exact absurd q (by assumption))] at z; exact z)
    have j116 : V X (RelM E (sset M Z)) 116 [(0, .ref (Em.x E)), (1, J t), (2, J m), (3, J rd), (4, J u), (5, J v)] [] [J (b01 P)] := by
      refine v_istore (i := 6) (L' := [(0, _), (1, _), (2, _), (3, _), (4, _), (5, _), (6, _)]) (G' := []) o.ok d_M_victim_116 (o.lt (by decide)) rfl rfl ?_
      refine v_iload (i := 5) o.ok d_M_victim_118 rfl ?_
      refine v_iload_n (i := 1) o.ok d_M_victim_120 rfl rfl ?_
      refine v_icmp_eq o.ok (by omega) (by omega) d_M_victim_121 (fun c121 => ?_) (fun c121 => ?_)
      · refine v_aload_n (i := 0) o.ok d_M_victim_134 rfl rfl ?_
        refine m_geta o 36 (by decide) (by decide) lf_M_95 rfl d_M_victim_135 ?_
        refine v_iload (i := 4) o.ok d_M_victim_138 rfl ?_
        refine m_zald o 36 60 rfl rfl (by omega) d_M_victim_140 (fun i140 => ?_)
        rw [eB] at i140 ⊢
        refine v_if_ne o.ok (by omega) d_M_victim_141 (fun c141 => ?_) (fun c141 => ?_)
        · refine v_iconst o.ok d_M_victim_159 ?_
          have z := j160
          rw [← hP2] at z
          first
            | (rw [b01_t (P := (v = t ∨ Bh Z v) ∧ ¬ Bh Z u ∧ Lead M u v) ⟨by unfold Bh; omega, by unfold Bh; omega, by assumption⟩] at z; rw [hP2] at z; exact z)
            | (rw [b01_f (P := (v = t ∨ Bh Z v) ∧ ¬ Bh Z u ∧ Lead M u v) (fun q => by unfold Bh at q; first | omega | exact absurd q.2.2 (by assumption))] at z; rw [hP2] at z; exact z)
            | (rw [b01_t (P := (v = t ∨ Bh Z v) ∧ ¬ Bh Z u ∧ Lead M u v) ⟨by unfold Bh; omega, by unfold Bh; omega, by assumption⟩] at z; exact z)
            | (rw [b01_f (P := (v = t ∨ Bh Z v) ∧ ¬ Bh Z u ∧ Lead M u v) (fun q => by unfold Bh at q; first | omega | exact absurd q.2.2 (by assumption))] at z; exact z)
        · refine v_aload_n (i := 0) o.ok d_M_victim_144 rfl rfl ?_
          refine v_iload (i := 4) o.ok d_M_victim_145 rfl ?_
          refine v_iload (i := 5) o.ok d_M_victim_147 rfl ?_
          refine m_cf o (c_M_leads u v M Z hf hu hv hk) q_M_leads lm_M_206 d_M_victim_149 (by decide) rfl (Nat.le_of_ble_eq_true rfl) rfl ?_
          first | refine v_ifeq_b o.ok d_M_victim_152 (fun c152 => ?_) (fun c152 => ?_) | refine v_if_eq o.ok (by omega) d_M_victim_152 (fun c152 => ?_) (fun c152 => ?_)
          · refine v_iconst o.ok d_M_victim_159 ?_
            have z := j160
            rw [← hP2] at z
            first
              | (rw [b01_t (P := (v = t ∨ Bh Z v) ∧ ¬ Bh Z u ∧ Lead M u v) ⟨by unfold Bh; omega, by unfold Bh; omega, by assumption⟩] at z; rw [hP2] at z; exact z)
              | (rw [b01_f (P := (v = t ∨ Bh Z v) ∧ ¬ Bh Z u ∧ Lead M u v) (fun q => by unfold Bh at q; first | omega | exact absurd q.2.2 (by assumption))] at z; rw [hP2] at z; exact z)
              | (rw [b01_t (P := (v = t ∨ Bh Z v) ∧ ¬ Bh Z u ∧ Lead M u v) ⟨by unfold Bh; omega, by unfold Bh; omega, by assumption⟩] at z; exact z)
              | (rw [b01_f (P := (v = t ∨ Bh Z v) ∧ ¬ Bh Z u ∧ Lead M u v) (fun q => by unfold Bh at q; first | omega | exact absurd q.2.2 (by assumption))] at z; exact z)
          · refine v_iconst o.ok d_M_victim_155 ?_
            refine v_goto o.ok d_M_victim_156 ?_
            have z := j160
            rw [← hP2] at z
            first
              | (rw [b01_t (P := (v = t ∨ Bh Z v) ∧ ¬ Bh Z u ∧ Lead M u v) ⟨by unfold Bh; omega, by unfold Bh; omega, by assumption⟩] at z; rw [hP2] at z; exact z)
              | (rw [b01_f (P := (v = t ∨ Bh Z v) ∧ ¬ Bh Z u ∧ Lead M u v) (fun q => by unfold Bh at q; first | omega | exact absurd q.2.2 (by assumption))] at z; rw [hP2] at z; exact z)
              | (rw [b01_t (P := (v = t ∨ Bh Z v) ∧ ¬ Bh Z u ∧ Lead M u v) ⟨by unfold Bh; omega, by unfold Bh; omega, by assumption⟩] at z; exact z)
              | (rw [b01_f (P := (v = t ∨ Bh Z v) ∧ ¬ Bh Z u ∧ Lead M u v) (fun q => by unfold Bh at q; first | omega | exact absurd q.2.2 (by assumption))] at z; exact z)
      · refine v_aload_n (i := 0) o.ok d_M_victim_124 rfl rfl ?_
        refine m_geta o 36 (by decide) (by decide) lf_M_95 rfl d_M_victim_125 ?_
        refine v_iload (i := 5) o.ok d_M_victim_128 rfl ?_
        refine m_zald o 36 60 rfl rfl (by omega) d_M_victim_130 (fun i130 => ?_)
        rw [eB] at i130 ⊢
        refine v_if_eq o.ok (by omega) d_M_victim_131 (fun c131 => ?_) (fun c131 => ?_)
        · refine v_iconst o.ok d_M_victim_159 ?_
          have z := j160
          rw [← hP2] at z
          first
            | (rw [b01_t (P := (v = t ∨ Bh Z v) ∧ ¬ Bh Z u ∧ Lead M u v) ⟨by unfold Bh; omega, by unfold Bh; omega, by assumption⟩] at z; rw [hP2] at z; exact z)
            | (rw [b01_f (P := (v = t ∨ Bh Z v) ∧ ¬ Bh Z u ∧ Lead M u v) (fun q => by unfold Bh at q; first | omega | exact absurd q.2.2 (by assumption))] at z; rw [hP2] at z; exact z)
            | (rw [b01_t (P := (v = t ∨ Bh Z v) ∧ ¬ Bh Z u ∧ Lead M u v) ⟨by unfold Bh; omega, by unfold Bh; omega, by assumption⟩] at z; exact z)
            | (rw [b01_f (P := (v = t ∨ Bh Z v) ∧ ¬ Bh Z u ∧ Lead M u v) (fun q => by unfold Bh at q; first | omega | exact absurd q.2.2 (by assumption))] at z; exact z)
        · refine v_aload_n (i := 0) o.ok d_M_victim_134 rfl rfl ?_
          refine m_geta o 36 (by decide) (by decide) lf_M_95 rfl d_M_victim_135 ?_
          refine v_iload (i := 4) o.ok d_M_victim_138 rfl ?_
          refine m_zald o 36 60 rfl rfl (by omega) d_M_victim_140 (fun i140 => ?_)
          rw [eB] at i140 ⊢
          refine v_if_ne o.ok (by omega) d_M_victim_141 (fun c141 => ?_) (fun c141 => ?_)
          · refine v_iconst o.ok d_M_victim_159 ?_
            have z := j160
            rw [← hP2] at z
            first
              | (rw [b01_t (P := (v = t ∨ Bh Z v) ∧ ¬ Bh Z u ∧ Lead M u v) ⟨by unfold Bh; omega, by unfold Bh; omega, by assumption⟩] at z; rw [hP2] at z; exact z)
              | (rw [b01_f (P := (v = t ∨ Bh Z v) ∧ ¬ Bh Z u ∧ Lead M u v) (fun q => by unfold Bh at q; first | omega | exact absurd q.2.2 (by assumption))] at z; rw [hP2] at z; exact z)
              | (rw [b01_t (P := (v = t ∨ Bh Z v) ∧ ¬ Bh Z u ∧ Lead M u v) ⟨by unfold Bh; omega, by unfold Bh; omega, by assumption⟩] at z; exact z)
              | (rw [b01_f (P := (v = t ∨ Bh Z v) ∧ ¬ Bh Z u ∧ Lead M u v) (fun q => by unfold Bh at q; first | omega | exact absurd q.2.2 (by assumption))] at z; exact z)
          · refine v_aload_n (i := 0) o.ok d_M_victim_144 rfl rfl ?_
            refine v_iload (i := 4) o.ok d_M_victim_145 rfl ?_
            refine v_iload (i := 5) o.ok d_M_victim_147 rfl ?_
            refine m_cf o (c_M_leads u v M Z hf hu hv hk) q_M_leads lm_M_206 d_M_victim_149 (by decide) rfl (Nat.le_of_ble_eq_true rfl) rfl ?_
            first | refine v_ifeq_b o.ok d_M_victim_152 (fun c152 => ?_) (fun c152 => ?_) | refine v_if_eq o.ok (by omega) d_M_victim_152 (fun c152 => ?_) (fun c152 => ?_)
            · refine v_iconst o.ok d_M_victim_159 ?_
              have z := j160
              rw [← hP2] at z
              first
                | (rw [b01_t (P := (v = t ∨ Bh Z v) ∧ ¬ Bh Z u ∧ Lead M u v) ⟨by unfold Bh; omega, by unfold Bh; omega, by assumption⟩] at z; rw [hP2] at z; exact z)
                | (rw [b01_f (P := (v = t ∨ Bh Z v) ∧ ¬ Bh Z u ∧ Lead M u v) (fun q => by unfold Bh at q; first | omega | exact absurd q.2.2 (by assumption))] at z; rw [hP2] at z; exact z)
                | (rw [b01_t (P := (v = t ∨ Bh Z v) ∧ ¬ Bh Z u ∧ Lead M u v) ⟨by unfold Bh; omega, by unfold Bh; omega, by assumption⟩] at z; exact z)
                | (rw [b01_f (P := (v = t ∨ Bh Z v) ∧ ¬ Bh Z u ∧ Lead M u v) (fun q => by unfold Bh at q; first | omega | exact absurd q.2.2 (by assumption))] at z; exact z)
            · refine v_iconst o.ok d_M_victim_155 ?_
              refine v_goto o.ok d_M_victim_156 ?_
              have z := j160
              rw [← hP2] at z
              first
                | (rw [b01_t (P := (v = t ∨ Bh Z v) ∧ ¬ Bh Z u ∧ Lead M u v) ⟨by unfold Bh; omega, by unfold Bh; omega, by assumption⟩] at z; rw [hP2] at z; exact z)
                | (rw [b01_f (P := (v = t ∨ Bh Z v) ∧ ¬ Bh Z u ∧ Lead M u v) (fun q => by unfold Bh at q; first | omega | exact absurd q.2.2 (by assumption))] at z; rw [hP2] at z; exact z)
                | (rw [b01_t (P := (v = t ∨ Bh Z v) ∧ ¬ Bh Z u ∧ Lead M u v) ⟨by unfold Bh; omega, by unfold Bh; omega, by assumption⟩] at z; exact z)
                | (rw [b01_f (P := (v = t ∨ Bh Z v) ∧ ¬ Bh Z u ∧ Lead M u v) (fun q => by unfold Bh at q; first | omega | exact absurd q.2.2 (by assumption))] at z; exact z)
    refine v_iload (i := 4) o.ok d_M_victim_74 rfl ?_
    refine v_iload_n (i := 1) o.ok d_M_victim_76 rfl rfl ?_
    refine v_icmp_eq o.ok (by omega) (by omega) d_M_victim_77 (fun c77 => ?_) (fun c77 => ?_)
    · refine v_aload_n (i := 0) o.ok d_M_victim_90 rfl rfl ?_
      refine m_geta o 35 (by decide) (by decide) lf_M_92 rfl d_M_victim_91 ?_
      refine v_iload (i := 5) o.ok d_M_victim_94 rfl ?_
      refine m_zald o 35 60 rfl rfl (by omega) d_M_victim_96 (fun i96 => ?_)
      rw [eA] at i96 ⊢
      refine v_if_ne o.ok (by omega) d_M_victim_97 (fun c97 => ?_) (fun c97 => ?_)
      · refine v_iconst o.ok d_M_victim_115 ?_
        have z := j116
        rw [← hP] at z
        first
          | (rw [b01_t (P := (u = t ∨ Ah Z u) ∧ ¬ Ah Z v ∧ Lead M u v) ⟨by unfold Ah; omega, by unfold Ah; omega, by assumption⟩] at z; exact z)
          | (rw [b01_f (P := (u = t ∨ Ah Z u) ∧ ¬ Ah Z v ∧ Lead M u v) (fun q => by unfold Ah at q; first | omega | exact absurd q.2.2 (by assumption))] at z; exact z)
      · refine v_aload_n (i := 0) o.ok d_M_victim_100 rfl rfl ?_
        refine v_iload (i := 4) o.ok d_M_victim_101 rfl ?_
        refine v_iload (i := 5) o.ok d_M_victim_103 rfl ?_
        refine m_cf o (c_M_leads u v M Z hf hu hv hk) q_M_leads lm_M_206 d_M_victim_105 (by decide) rfl (Nat.le_of_ble_eq_true rfl) rfl ?_
        first | refine v_ifeq_b o.ok d_M_victim_108 (fun c108 => ?_) (fun c108 => ?_) | refine v_if_eq o.ok (by omega) d_M_victim_108 (fun c108 => ?_) (fun c108 => ?_)
        · refine v_iconst o.ok d_M_victim_115 ?_
          have z := j116
          rw [← hP] at z
          first
            | (rw [b01_t (P := (u = t ∨ Ah Z u) ∧ ¬ Ah Z v ∧ Lead M u v) ⟨by unfold Ah; omega, by unfold Ah; omega, by assumption⟩] at z; exact z)
            | (rw [b01_f (P := (u = t ∨ Ah Z u) ∧ ¬ Ah Z v ∧ Lead M u v) (fun q => by unfold Ah at q; first | omega | exact absurd q.2.2 (by assumption))] at z; exact z)
        · refine v_iconst o.ok d_M_victim_111 ?_
          refine v_goto o.ok d_M_victim_112 ?_
          have z := j116
          rw [← hP] at z
          first
            | (rw [b01_t (P := (u = t ∨ Ah Z u) ∧ ¬ Ah Z v ∧ Lead M u v) ⟨by unfold Ah; omega, by unfold Ah; omega, by assumption⟩] at z; exact z)
            | (rw [b01_f (P := (u = t ∨ Ah Z u) ∧ ¬ Ah Z v ∧ Lead M u v) (fun q => by unfold Ah at q; first | omega | exact absurd q.2.2 (by assumption))] at z; exact z)
    · refine v_aload_n (i := 0) o.ok d_M_victim_80 rfl rfl ?_
      refine m_geta o 35 (by decide) (by decide) lf_M_92 rfl d_M_victim_81 ?_
      refine v_iload (i := 4) o.ok d_M_victim_84 rfl ?_
      refine m_zald o 35 60 rfl rfl (by omega) d_M_victim_86 (fun i86 => ?_)
      rw [eA] at i86 ⊢
      refine v_if_eq o.ok (by omega) d_M_victim_87 (fun c87 => ?_) (fun c87 => ?_)
      · refine v_iconst o.ok d_M_victim_115 ?_
        have z := j116
        rw [← hP] at z
        first
          | (rw [b01_t (P := (u = t ∨ Ah Z u) ∧ ¬ Ah Z v ∧ Lead M u v) ⟨by unfold Ah; omega, by unfold Ah; omega, by assumption⟩] at z; exact z)
          | (rw [b01_f (P := (u = t ∨ Ah Z u) ∧ ¬ Ah Z v ∧ Lead M u v) (fun q => by unfold Ah at q; first | omega | exact absurd q.2.2 (by assumption))] at z; exact z)
      · refine v_aload_n (i := 0) o.ok d_M_victim_90 rfl rfl ?_
        refine m_geta o 35 (by decide) (by decide) lf_M_92 rfl d_M_victim_91 ?_
        refine v_iload (i := 5) o.ok d_M_victim_94 rfl ?_
        refine m_zald o 35 60 rfl rfl (by omega) d_M_victim_96 (fun i96 => ?_)
        rw [eA] at i96 ⊢
        refine v_if_ne o.ok (by omega) d_M_victim_97 (fun c97 => ?_) (fun c97 => ?_)
        · refine v_iconst o.ok d_M_victim_115 ?_
          have z := j116
          rw [← hP] at z
          first
            | (rw [b01_t (P := (u = t ∨ Ah Z u) ∧ ¬ Ah Z v ∧ Lead M u v) ⟨by unfold Ah; omega, by unfold Ah; omega, by assumption⟩] at z; exact z)
            | (rw [b01_f (P := (u = t ∨ Ah Z u) ∧ ¬ Ah Z v ∧ Lead M u v) (fun q => by unfold Ah at q; first | omega | exact absurd q.2.2 (by assumption))] at z; exact z)
        · refine v_aload_n (i := 0) o.ok d_M_victim_100 rfl rfl ?_
          refine v_iload (i := 4) o.ok d_M_victim_101 rfl ?_
          refine v_iload (i := 5) o.ok d_M_victim_103 rfl ?_
          refine m_cf o (c_M_leads u v M Z hf hu hv hk) q_M_leads lm_M_206 d_M_victim_105 (by decide) rfl (Nat.le_of_ble_eq_true rfl) rfl ?_
          first | refine v_ifeq_b o.ok d_M_victim_108 (fun c108 => ?_) (fun c108 => ?_) | refine v_if_eq o.ok (by omega) d_M_victim_108 (fun c108 => ?_) (fun c108 => ?_)
          · refine v_iconst o.ok d_M_victim_115 ?_
            have z := j116
            rw [← hP] at z
            first
              | (rw [b01_t (P := (u = t ∨ Ah Z u) ∧ ¬ Ah Z v ∧ Lead M u v) ⟨by unfold Ah; omega, by unfold Ah; omega, by assumption⟩] at z; exact z)
              | (rw [b01_f (P := (u = t ∨ Ah Z u) ∧ ¬ Ah Z v ∧ Lead M u v) (fun q => by unfold Ah at q; first | omega | exact absurd q.2.2 (by assumption))] at z; exact z)
          · refine v_iconst o.ok d_M_victim_111 ?_
            refine v_goto o.ok d_M_victim_112 ?_
            have z := j116
            rw [← hP] at z
            first
              | (rw [b01_t (P := (u = t ∨ Ah Z u) ∧ ¬ Ah Z v ∧ Lead M u v) ⟨by unfold Ah; omega, by unfold Ah; omega, by assumption⟩] at z; exact z)
              | (rw [b01_f (P := (u = t ∨ Ah Z u) ∧ ¬ Ah Z v ∧ Lead M u v) (fun q => by unfold Ah at q; first | omega | exact absurd q.2.2 (by assumption))] at z; exact z)
  -- a row of pairs
  have b01s : ∀ (P : Prop), b01 P = 0 ∨ b01 P = 1 := fun P => b01_or P
  have zA : ∀ (Z : MSt) (u v : Int) (P P2 : Prop), (∀ x, Z 35 x = 0 ∨ Z 35 x = 1) → ∀ x, zst Z u v P P2 35 x = 0 ∨ zst Z u v P P2 35 x = 1 := by
    intro Z u v P P2 h x
    unfold zst
    rw [up_ne (fun q => by cases q.1)]
    unfold up
    split
    · exact b01_or _
    · exact h x
  have zB : ∀ (Z : MSt) (u v : Int) (P P2 : Prop), (∀ x, Z 36 x = 0 ∨ Z 36 x = 1) → ∀ x, zst Z u v P P2 36 x = 0 ∨ zst Z u v P P2 36 x = 1 := by
    intro Z u v P P2 h x
    unfold zst
    unfold up
    split
    · exact b01_or _
    · split
      · next q => cases q.1
      · exact h x
  have zK : ∀ (Z : MSt) (u v : Int) (P P2 : Prop), Lkd M Z (M 22 0) → Lkd M (zst Z u v P P2) (M 22 0) := fun Z u v P P2 h => h.c (fun _ _ _ => rfl) (fun _ _ _ => rfl)
  have rw1 : ∀ (rd u : Int) (Z0 : MSt), InR rd → inM M u →
      (∀ Z m, Scn M t Z0 Z m u (M 22 0) → Lkd M Z (M 22 0) → (∀ x, Z 35 x = 0 ∨ Z 35 x = 1) → (∀ x, Z 36 x = 0 ∨ Z 36 x = 1) → V X (RelM E (sset M Z)) 242 [(0, .ref (Em.x E)), (1, J t), (2, J m), (3, J rd), (4, J u), (5, J (M 22 0))] [] []) →
      ∀ (n : Nat) (v m : Int) (Z : MSt), 0 ≤ v → v + n = M 22 0 → Scn M t Z0 Z m u v → Lkd M Z (M 22 0) → (∀ x, Z 35 x = 0 ∨ Z 35 x = 1) → (∀ x, Z 36 x = 0 ∨ Z 36 x = 1) → V X (RelM E (sset M Z)) 65 [(0, .ref (Em.x E)), (1, J t), (2, J m), (3, J rd), (4, J u), (5, J v)] [] [] := by
    intro rd u Z0 hrd hu ex n
    have hu1 := hu.1
    have hu2 := hu.2
    induction n with
    | zero =>
      intro v m Z h0 h1 hs hk hbA hbB
      have em := emy Z
      have e : v = M 22 0 := by omega
      subst e
      refine v_iload (i := 5) o.ok d_M_victim_65 rfl ?_
      refine v_aload_n (i := 0) o.ok d_M_victim_67 rfl rfl ?_
      refine m_geti o 22 (by decide) rfl lf_M_147 rfl d_M_victim_68 (fun i68 => ?_)
      refine v_icmp_ge o.ok (by omega) (by omega) d_M_victim_71 (fun c71 => ?_) (fun c71 => ?_)
      · exact ex Z m hs hk hbA hbB
      · exfalso; omega
    | succ n ih =>
      intro v m Z h0 h1 hs hk hbA hbB
      have em := emy Z
      refine v_iload (i := 5) o.ok d_M_victim_65 rfl ?_
      refine v_aload_n (i := 0) o.ok d_M_victim_67 rfl rfl ?_
      refine m_geti o 22 (by decide) rfl lf_M_147 rfl d_M_victim_68 (fun i68 => ?_)
      refine v_icmp_ge o.ok (by omega) (by omega) d_M_victim_71 (fun c71 => ?_) (fun c71 => ?_)
      · exfalso; omega
      · refine pr rd u v m Z hrd hu ⟨h0, by omega⟩ hs.2.2.2.2.2.2 hk hbA hbB ?_
        exact ih (v + 1) _ _ (by omega) (by omega) (hs.step hu ⟨h0, by omega⟩) (zK _ _ _ _ _ hk) (zA _ _ _ _ _ hbA) (zB _ _ _ _ _ hbB)
  -- a round
  have rnd : ∀ (rd : Int) (Z0 : MSt), InR rd →
      (∀ Z m, Scn M t Z0 Z m (M 22 0) 0 → Lkd M Z (M 22 0) → (∀ x, Z 35 x = 0 ∨ Z 35 x = 1) → (∀ x, Z 36 x = 0 ∨ Z 36 x = 1) → V X (RelM E (sset M Z)) 248 [(0, .ref (Em.x E)), (1, J t), (2, J m), (3, J rd), (4, J (M 22 0))] [] []) →
      ∀ (n : Nat) (u m : Int) (Z : MSt), 0 ≤ u → u + n = M 22 0 → Scn M t Z0 Z m u 0 → Lkd M Z (M 22 0) → (∀ x, Z 35 x = 0 ∨ Z 35 x = 1) → (∀ x, Z 36 x = 0 ∨ Z 36 x = 1) → V X (RelM E (sset M Z)) 53 [(0, .ref (Em.x E)), (1, J t), (2, J m), (3, J rd), (4, J u)] [] [] := by
    intro rd Z0 hrd ex n
    induction n with
    | zero =>
      intro u m Z h0 h1 hs hk hbA hbB
      have em := emy Z
      have e : u = M 22 0 := by omega
      subst e
      refine v_iload (i := 4) o.ok d_M_victim_53 rfl ?_
      refine v_aload_n (i := 0) o.ok d_M_victim_55 rfl rfl ?_
      refine m_geti o 22 (by decide) rfl lf_M_147 rfl d_M_victim_56 (fun i56 => ?_)
      refine v_icmp_ge o.ok (by omega) (by omega) d_M_victim_59 (fun c59 => ?_) (fun c59 => ?_)
      · exact ex Z m hs hk hbA hbB
      · exfalso; omega
    | succ n ih =>
      intro u m Z h0 h1 hs hk hbA hbB
      have em := emy Z
      have j242 : ∀ Z m, Scn M t Z0 Z m u (M 22 0) → Lkd M Z (M 22 0) → (∀ x, Z 35 x = 0 ∨ Z 35 x = 1) → (∀ x, Z 36 x = 0 ∨ Z 36 x = 1) → V X (RelM E (sset M Z)) 242 [(0, .ref (Em.x E)), (1, J t), (2, J m), (3, J rd), (4, J u), (5, J (M 22 0))] [] [] := by
        intro Z m hs hk hbA hbB
        refine v_iinc (i := 4) (L' := [(0, _), (1, _), (2, _), (3, _), (4, _), (5, _)]) (G' := []) o.ok d_M_victim_242 rfl (o.lt (by decide)) rfl rfl ?_
        refine v_goto o.ok d_M_victim_245 ?_
        exact v_sel [0, 1, 2, 3, 4] [] rfl rfl (ih (u + 1) m Z (by omega) (by omega) (hs.row (Int.le_refl _)) hk hbA hbB)
      refine v_iload (i := 4) o.ok d_M_victim_53 rfl ?_
      refine v_aload_n (i := 0) o.ok d_M_victim_55 rfl rfl ?_
      refine m_geti o 22 (by decide) rfl lf_M_147 rfl d_M_victim_56 (fun i56 => ?_)
      refine v_icmp_ge o.ok (by omega) (by omega) d_M_victim_59 (fun c59 => ?_) (fun c59 => ?_)
      · exfalso; omega
      · refine v_iconst o.ok d_M_victim_62 ?_
        refine v_istore (i := 5) (L' := [(0, _), (1, _), (2, _), (3, _), (4, _), (5, _)]) (G' := []) o.ok d_M_victim_63 (o.lt (by decide)) rfl rfl ?_
        exact rw1 rd u Z0 hrd ⟨h0, by omega⟩ j242 (M 22 0).toNat 0 m Z (by omega) (by omega) hs hk hbA hbB
  -- the rounds
  have rds : ∀ (n : Nat) (rd m : Int) (Z : MSt), 0 ≤ rd → rd + n = 61 → Lkd M Z (M 22 0) → (∀ x, Z 35 x = 0 ∨ Z 35 x = 1) → (∀ x, Z 36 x = 0 ∨ Z 36 x = 1) → (∀ x, inM M x → Ah Z x → Fw M t x) → (∀ x, inM M x → Bh Z x → Bk M t x) → (ClA M t Z ∨ rd ≤ cnt (Ah Z) (M 22 0)) → (ClB M t Z ∨ rd ≤ cnt (Bh Z) (M 22 0)) → (m = 0 → ClA M t Z ∧ ClB M t Z) → (m = 0 ∨ m = 1) → V X (RelM E (sset M Z)) 38 [(0, .ref (Em.x E)), (1, J t), (2, J m), (3, J rd)] [] [] := by
    intro n
    have lst0 : ∀ (Z : MSt), ClA M t Z → ClB M t Z → (∀ x, inM M x → Ah Z x → Fw M t x) → (∀ x, inM M x → Bh Z x → Bk M t x) → ∀ L, lget L 0 = some (.ref (Em.x E)) → lget L 1 = some (J t) → V X (RelM E (sset M Z)) 254 L [] [] := by
      intro Z hcA hcB hsA hsB L e0 e1
      have z := lst Z hcA hcB hsA hsB (M 22 0).toNat 0 (by omega) (-1) (fun _ => rfl) (fun _ => rfl)
      refine V.sub (L' := [(0, .ref (Em.x E)), (1, J t)]) (G' := []) (fun q hq => ?_) (fun q hq => hq) ?_
      · simp only [List.mem_cons, List.not_mem_nil, or_false] at hq
        rcases hq with rfl | rfl
        · exact lget_mem e0
        · exact lget_mem e1
      refine v_iconst o.ok d_M_victim_254 ?_
      refine v_istore_n (i := 3) (L' := [(0, _), (1, _), (3, _)]) (G' := []) o.ok d_M_victim_255 rfl (o.lt (by decide)) rfl rfl ?_
      refine v_iconst o.ok d_M_victim_256 ?_
      refine v_istore (i := 4) (L' := [(0, _), (1, _), (3, _), (4, _)]) (G' := []) o.ok d_M_victim_257 (o.lt (by decide)) rfl rfl ?_
      exact z
    induction n with
    | zero =>
      intro rd m Z h0 h1 hk hbA hbB hsA hsB hA hB hmc hm01
      have cA := cnt_bd (P := Ah Z) hm.1
      have cB := cnt_bd (P := Bh Z) hm.1
      have hA' : ClA M t Z := by rcases hA with h | h; exact h; omega
      have hB' : ClB M t Z := by rcases hB with h | h; exact h; omega
      refine v_iload_n (i := 3) o.ok d_M_victim_38 rfl rfl ?_
      refine v_bipush o.ok d_M_victim_39 rfl ?_
      refine v_icmp_ge o.ok (by omega) (by omega) d_M_victim_41 (fun c41 => ?_) (fun c41 => ?_)
      · exact lst0 Z hA' hB' hsA hsB _ rfl rfl
      · exfalso; omega
    | succ n ih =>
      intro rd m Z h0 h1 hk hbA hbB hsA hsB hA hB hmc hm01
      refine v_iload_n (i := 3) o.ok d_M_victim_38 rfl rfl ?_
      refine v_bipush o.ok d_M_victim_39 rfl ?_
      refine v_icmp_ge o.ok (by omega) (by omega) d_M_victim_41 (fun c41 => ?_) (fun c41 => ?_)
      · exfalso; omega
      · refine v_iload_n (i := 2) o.ok d_M_victim_44 rfl rfl ?_
        refine v_if_eq o.ok (by omega) d_M_victim_45 (fun c45 => ?_) (fun c45 => ?_)
        · have hc := hmc (by omega)
          exact lst0 Z hc.1 hc.2 hsA hsB _ rfl rfl
        · refine v_iconst o.ok d_M_victim_48 ?_
          refine v_istore_n (i := 2) (L' := [(0, _), (1, _), (2, _), (3, _)]) (G' := []) o.ok d_M_victim_49 rfl (o.lt (by decide)) rfl rfl ?_
          refine v_iconst o.ok d_M_victim_50 ?_
          refine v_istore (i := 4) (L' := [(0, _), (1, _), (2, _), (3, _), (4, _)]) (G' := []) o.ok d_M_victim_51 (o.lt (by decide)) rfl rfl ?_
          refine rnd rd Z (by omega) (fun Z' m' hs' hk' hbA' hbB' => ?_) (M 22 0).toNat 0 0 Z (by omega) (by omega) ⟨fun _ _ h => h, fun _ _ h => h, hsA, hsB, fun a b hab hlt => by have := hab.1.1; have := hab.2.1.1; omega, fun _ => ⟨fun _ _ h => h, fun _ _ h => h⟩, Or.inl rfl⟩ hk hbA hbB
          have hd := hs'.done (Int.le_refl _) hm.1 ht rd hA hB
          refine v_iinc (i := 3) (L' := [(0, _), (1, _), (2, _), (3, _), (4, _)]) (G' := []) o.ok d_M_victim_248 rfl (o.lt (by decide)) rfl rfl ?_
          refine v_goto o.ok d_M_victim_251 ?_
          exact v_sel [0, 1, 2, 3] [] rfl rfl (ih (rd + 1) m' Z' (by omega) (by omega) hk' hbA' hbB' hs'.2.2.1 hs'.2.2.2.1 hd.1 hd.2.1 hd.2.2 hs'.2.2.2.2.2.2)
  -- clearing
  have clr : ∀ (n : Nat) (u : Int) (Z : MSt), 0 ≤ u → u + n = M 22 0 → Lkd M Z (M 22 0) → (∀ x, Z 35 x = 0 ∨ Z 35 x = 1) → (∀ x, Z 36 x = 0 ∨ Z 36 x = 1) → (∀ x, 0 ≤ x → x < u → Z 35 x = 0 ∧ Z 36 x = 0) → V X (RelM E (sset M Z)) 6 [(0, .ref (Em.x E)), (1, J t), (2, J u)] [] [] := by
    intro n
    induction n with
    | zero =>
      intro u Z h0 h1 hk hbA hbB hz
      have em := emy Z
      have e : u = M 22 0 := by omega
      subst e
      have cA := cnt_bd (P := Ah Z) hm.1
      have cB := cnt_bd (P := Bh Z) hm.1
      refine v_iload_n (i := 2) o.ok d_M_victim_6 rfl rfl ?_
      refine v_aload_n (i := 0) o.ok d_M_victim_7 rfl rfl ?_
      refine m_geti o 22 (by decide) rfl lf_M_147 rfl d_M_victim_8 (fun i8 => ?_)
      refine v_icmp_ge o.ok (by omega) (by omega) d_M_victim_11 (fun c11 => ?_) (fun c11 => ?_)
      · refine v_iconst o.ok d_M_victim_34 ?_
        refine v_istore_n (i := 2) (L' := [(0, _), (1, _), (2, _)]) (G' := []) o.ok d_M_victim_35 rfl (o.lt (by decide)) rfl rfl ?_
        refine v_iconst o.ok d_M_victim_36 ?_
        refine v_istore_n (i := 3) (L' := [(0, _), (1, _), (2, _), (3, _)]) (G' := []) o.ok d_M_victim_37 rfl (o.lt (by decide)) rfl rfl ?_
        refine rds 61 0 1 Z (by omega) (by omega) hk hbA hbB (fun x hx q => ?_) (fun x hx q => ?_) (Or.inr cA.1) (Or.inr cB.1) (fun h => by omega) (Or.inr rfl)
        · unfold Ah at q; have := (hz x hx.1 hx.2).1; omega
        · unfold Bh at q; have := (hz x hx.1 hx.2).2; omega
      · exfalso; omega
    | succ n ih =>
      intro u Z h0 h1 hk hbA hbB hz
      have em := emy Z
      refine v_iload_n (i := 2) o.ok d_M_victim_6 rfl rfl ?_
      refine v_aload_n (i := 0) o.ok d_M_victim_7 rfl rfl ?_
      refine m_geti o 22 (by decide) rfl lf_M_147 rfl d_M_victim_8 (fun i8 => ?_)
      refine v_icmp_ge o.ok (by omega) (by omega) d_M_victim_11 (fun c11 => ?_) (fun c11 => ?_)
      · exfalso; omega
      · refine v_aload_n (i := 0) o.ok d_M_victim_14 rfl rfl ?_
        refine m_geta o 35 (by decide) (by decide) lf_M_92 rfl d_M_victim_15 ?_
        refine v_iload_n (i := 2) o.ok d_M_victim_18 rfl rfl ?_
        refine v_iconst o.ok d_M_victim_19 ?_
        refine m_zast o 35 60 rfl rfl (by omega) (by exact Or.inl rfl) d_M_victim_20 ?_
        rw [sset_sc rfl]
        refine v_aload_n (i := 0) o.ok d_M_victim_21 rfl rfl ?_
        refine m_geta o 36 (by decide) (by decide) lf_M_95 rfl d_M_victim_22 ?_
        refine v_iload_n (i := 2) o.ok d_M_victim_25 rfl rfl ?_
        refine v_iconst o.ok d_M_victim_26 ?_
        refine m_zast o 36 60 rfl rfl (by omega) (by exact Or.inl rfl) d_M_victim_27 ?_
        refine v_iinc (i := 2) (L' := [(0, _), (1, _), (2, _)]) (G' := []) o.ok d_M_victim_28 rfl (o.lt (by decide)) rfl rfl ?_
        refine v_goto o.ok d_M_victim_31 ?_
        rw [sset_sc rfl]
        refine ih (u + 1) _ (by omega) (by omega) (hk.c (fun _ _ _ => rfl) (fun _ _ _ => rfl)) (fun x => ?_) (fun x => ?_) (fun x a b => ?_)
        · rw [up_ne (fun q => by cases q.1)]; unfold up; split; exact Or.inl rfl; exact hbA x
        · unfold up; split; exact Or.inl rfl; split; exact Or.inl rfl; exact hbB x
        · rw [up_ne (fun q => by cases q.1)]
          by_cases e : x = u
          · subst e; rw [up_same, up_same]; exact ⟨rfl, rfl⟩
          · rw [up_ne (fun q => e q.2), up_ne (fun q => e q.2), up_ne (fun q => e q.2)]; exact hz x a (by omega)
  refine v_aload_n (i := 0) o.ok d_M_victim_0 rfl rfl ?_
  refine m_cv o (c_M_look M Z00 hf) q_M_look lm_M_203 d_M_victim_1 (by decide) rfl (Nat.le_of_ble_eq_true rfl) rfl (fun M1 h1 => ?_)
  obtain ⟨Z, rfl, hk⟩ := h1
  refine V.get (fun H hR => (show (∀ x, Z 35 x = 0 ∨ Z 35 x = 1) ∧ (∀ x, Z 36 x = 0 ∨ Z 36 x = 1) from ⟨fun x => hR.2.2.2.2.2.2 35 x rfl, fun x => hR.2.2.2.2.2.2 36 x rfl⟩)) (fun hbb => ?_)
  refine v_iconst o.ok d_M_victim_4 ?_
  refine v_istore_n (i := 2) (L' := [(0, _), (1, _), (2, _)]) (G' := []) o.ok d_M_victim_5 rfl (o.lt (by decide)) rfl rfl ?_
  exact clr (M 22 0).toNat 0 Z (by omega) (by omega) hk hbb.1 hbb.2 (fun x a b => by omega)

