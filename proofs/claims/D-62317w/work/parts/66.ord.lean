set_option maxRecDepth 20000 in
theorem lf_En_7 : Cond.fieldLink "java/lang/Enum" 7 "java/lang/Enum" "ordinal" "I" ∈ tbG := tb_in 973 (by rfl) rfl
theorem d_En_0 : dc b_En_ordinal 0 (.aload_n 0) 1 := ⟨by decide +kernel, rfl⟩
theorem d_En_1 : dc b_En_ordinal 1 (.getfield 7) 4 := ⟨by decide +kernel, rfl⟩
theorem d_En_4 : dc b_En_ordinal 4 .ireturn 5 := ⟨by decide +kernel, rfl⟩
theorem c_En_ord (D : GD) (g : GSt) (a : Nat) (v : Int) (hO : ∀ (U : State) (H : Heap), ConG D U H → va_OF "java/lang/Enum" "ordinal" "I" (J v) a (dA D) U H) : GCon D y_En_ordinal (wsOf y_En_ordinal b_En_ordinal 1 (some .int)) 0 [.ref a] g (fun r g1 => r = some (J v) ∧ g1 = g) := by
  refine GCon.of (by decide) (by intro v hv; simp at hv; subst hv; rfl) (Nat.le_of_ble_eq_true rfl) (fun X o _ => ?_)
  show V X (RelG D g) 0 [(0, .ref a)] [] []
  refine v_aload_n (i := 0) o.ok d_En_0 rfl rfl ?_
  intro H locs ls hS hR hl
  obtain ⟨cf, k, i, f, cell, h1, h2, h3, h4, h5, h6⟩ := hO _ _ o.2.1.2
  have hA := o.2.2.1
  have hc : H[a]? = some cell := by
    rw [← h3]
    exact hS.2.1 a (by exact (Array.getElem?_eq_some_iff.mp h3).1) (by rw [hA]; exact h6)
  have kk := g_iret o d_En_4 (Q := fun r g1 => r = some (J v) ∧ g1 = g) (g := g) (L := [(0, .ref a)]) (G := []) ⟨rfl, rfl⟩ rfl H locs ls hS hR hl
  obtain ⟨⟨⟨hx, hb⟩, hown, hts, -⟩, hKG, -⟩ := o
  exact W.getf hx hb hown (hts _ lf_En_7) h1 h2 hc h4 (v := J v) h5 rfl rfl d_En_1.1 kk
def x_Qo : MethodName := ⟨"NestedStore$State", "ordinal", "()I"⟩
def x_Ko : MethodName := ⟨"NestedStore$Kind", "ordinal", "()I"⟩
set_option maxRecDepth 20000 in
theorem or_w1 : Cond.sameMethod "NestedStore$State" "java/lang/Enum" "ordinal" "()I" ∈ tbG := tb_in 554 (by rfl) rfl
set_option maxRecDepth 20000 in
theorem or_w2 : Cond.selects "NestedStore$State" x_Qo y_En_ordinal ∈ tbG := tb_in 556 (by rfl) rfl
set_option maxRecDepth 20000 in
theorem or_w3 : Cond.instanceMethod y_En_ordinal ∈ tbG := tb_in 557 (by rfl) rfl
set_option maxRecDepth 20000 in
theorem or_w4 : Cond.sameMethod "NestedStore$Kind" "java/lang/Enum" "ordinal" "()I" ∈ tbG := tb_in 576 (by rfl) rfl
set_option maxRecDepth 20000 in
theorem or_w5 : Cond.selects "NestedStore$Kind" x_Ko y_En_ordinal ∈ tbG := tb_in 577 (by rfl) rfl
section NOrd
variable {X : Cx} {D : GD} {A : ASt} {N : MSt} {C : String} {g0 : GSt} {cc : ByteArray} {n lv : Nat} {rt : Option FieldType} {Q : Option Value → GSt → Prop} {pc nx tgt : Nat} {L L' : List (Nat × Value)} {G : List (Nat × Int64)} {st : List Value}
theorem g_ord (o : OkG X D C cc n rt lv g0 Q) {g : GSt} {i a : Nat} {v : Int} (E : String) (x : MethodName) (hx0 : x = ⟨E, "ordinal", "()I"⟩) (hO : ∀ (U : State) (H : Heap), ConG D U H → va_OF "java/lang/Enum" "ordinal" "I" (J v) a (dA D) U H ∧ va_O E a (dA D) U H) (w1 : Cond.sameMethod E "java/lang/Enum" "ordinal" "()I" ∈ tbG) (w2 : Cond.selects E x y_En_ordinal ∈ tbG) (hlk : Cond.methodLink C i x ∈ tbG) (d : dc cc pc (.invokevirtual i) nx) (hlv : 1 ≤ lv) (hcat : (st.map fun v => v.category).sum ≤ 8) (kk : V X (RelG D g) nx L G (J v :: st)) (hn : pc + 3 = nx := by rfl) : V X (RelG D g) pc L G (.ref a :: st) := by
  subst hn
  subst hx0
  have d := d.1
  rw [Nat.add_sub_cancel_left] at d
  refine g_after (Q' := fun r g1 => r = some (J v) ∧ g1 = g) (av := [Value.ref a].toArray) (mc := dTp D - gZ g) (ms := 301 * (dTp D - gZ g)) o (fun H locs ls hS hR hl => ?_) (fun r g1 h => by obtain ⟨rfl, rfl⟩ := h; exact kk)
  have hfit := g_fit o hS hR
  have hpre := g_pre (av := [.ref a]) o hS hR
  have hA := o.2.2.1
  have hrec := va_Orecv (hO _ _ o.2.1.2).2 (by rw [← hA]; exact hS)
  have hcon := c_En_ord D g a v (fun U H q => (hO U H q).1)
  obtain ⟨⟨⟨hx, hb⟩, hown, hts, hml, hlk1, hr, hfr, hlo⟩, -⟩ := o
  have hgood : GoodIn tbG (va_wsU C i E "java/lang/Enum" ⟨E, "ordinal", "()I"⟩ y_En_ordinal (wsOf y_En_ordinal b_En_ordinal 1 (some .int))) := by
    intro w hw
    rcases List.mem_append.mp hw with hw | hw
    · have : w ∈ tbG := by
        simp only [List.mem_cons, List.not_mem_nil, or_false] at hw
        rcases hw with rfl | rfl | rfl | rfl | rfl
        · exact hlk
        · exact w1
        · exact w2
        · exact or_w3
        · exact in_Enum
      exact ⟨this, tb_good _ this⟩
    · exact tbl_good k_En_ordinal w hw
  exact va_runU (As := []) (rest := st) (b := a) ⟨hx, hb, hml, hown, hts⟩ (hcon (Cx.l X)) (va_cwU (R := Cx.R X) 0 hts hgood rfl rfl rfl rfl ⟨by decide, by decide, (by decide +kernel : (parseMethodDescriptor "()I").map (fun d => d.parameters.length) = some 0)⟩ ⟨by show 0 + 1 ≤ _; omega, by show 8 + (1 + 11) + 40 * 0 ≤ _; omega⟩) ⟨hpre.1, hrec, hpre.2⟩ rfl rfl hl.1.1 rfl (cat_sum hcat) d hfit
set_option maxRecDepth 20000 in
theorem lm_S_321 : Cond.methodLink R_S 321 x_Qo ∈ tbG := tb_in 553 (by rfl) rfl
set_option maxRecDepth 20000 in
theorem lm_S_324 : Cond.methodLink R_S 324 x_Ko ∈ tbG := tb_in 575 (by rfl) rfl
theorem n_ordQ (o : OkG X D R_S cc n rt lv g0 Q) {v : Int} (hv : Vld N 20 v) (d : dc cc pc (.invokevirtual 321) nx) (hlv : 1 ≤ lv) (hcat : (st.map fun v => v.category).sum ≤ 8) (kk : V X (RelN D A N) nx L G (J v :: st)) (hn : pc + 3 = nx := by rfl) : V X (RelN D A N) pc L G (rq A 20 v :: st) := by
  refine n_in fun g hF => ?_
  have hv : 1 ≤ v ∧ v < 5 := hv
  rw [rq_s (by omega), hF.2.2.2.2.1.1 v hv.1 hv.2]
  refine g_ord o (v := v) "NestedStore$State" x_Qo rfl (fun U H q => ?_) or_w1 or_w2 lm_S_321 d hlv hcat (n_out hF kk) hn
  have w := q.1 v.toNat (by omega) (by omega)
  rw [show ((v.toNat : Nat) : Int) = v from by omega] at w
  exact ⟨w.2.2, w.2.1⟩
theorem n_ordK (o : OkG X D R_S cc n rt lv g0 Q) {v : Int} (hv : Vld N 21 v) (d : dc cc pc (.invokevirtual 324) nx) (hlv : 1 ≤ lv) (hcat : (st.map fun v => v.category).sum ≤ 8) (kk : V X (RelN D A N) nx L G (J v :: st)) (hn : pc + 3 = nx := by rfl) : V X (RelN D A N) pc L G (rq A 21 v :: st) := by
  refine n_in fun g hF => ?_
  have hv : 1 ≤ v ∧ v < 6 := hv
  rw [rq_s (by omega), hF.2.2.2.2.1.2 v hv.1 hv.2]
  refine g_ord o (v := v) "NestedStore$Kind" x_Ko rfl (fun U H q => ?_) or_w4 or_w5 lm_S_324 d hlv hcat (n_out hF kk) hn
  have w := q.2.1 v.toNat (by omega) (by omega)
  rw [show ((v.toNat : Nat) : Int) = v from by omega] at w
  exact ⟨w.2.2, w.2.1⟩
end NOrd

