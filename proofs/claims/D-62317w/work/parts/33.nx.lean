set_option maxRecDepth 20000 in
theorem jl_S_40 : Cond.methodLink R_S 40 Lib.Math.max.name ∈ tbG := tb_in 35 (by rfl) rfl
set_option maxRecDepth 20000 in
theorem jl_T_71 : Cond.methodLink R_T 71 Lib.Math.max.name ∈ tbG := tb_in 519 (by rfl) rfl
set_option maxRecDepth 20000 in
theorem jl_S_34 : Cond.methodLink R_S 34 Lib.Math.min.name ∈ tbG := tb_in 32 (by rfl) rfl
set_option maxRecDepth 20000 in
theorem j_maxS : Cond.static Lib.Math.max.name ∈ tbG := tb_in 36 (by rfl) rfl
set_option maxRecDepth 20000 in
theorem j_minS : Cond.static Lib.Math.min.name ∈ tbG := tb_in 33 (by rfl) rfl
set_option maxRecDepth 20000 in
theorem j_maxC : Cond.code Lib.Math.max.name Lib.Math.max.code 2 (some .int) ∈ tbG := tb_in 37 (by rfl) rfl
set_option maxRecDepth 20000 in
theorem j_minC : Cond.code Lib.Math.min.name Lib.Math.min.code 2 (some .int) ∈ tbG := tb_in 34 (by rfl) rfl
set_option maxRecDepth 20000 in
theorem jl_P_23 : Cond.methodLink R_P 23 arraycopyName ∈ tbG := tb_in 367 (by rfl) rfl
set_option maxRecDepth 20000 in
theorem j_acS : Cond.static arraycopyName ∈ tbG := tb_in 368 (by rfl) rfl
set_option maxRecDepth 20000 in
theorem j_acN : Cond.native arraycopyName ∈ tbG := tb_in 369 (by rfl) rfl
set_option maxRecDepth 20000 in
theorem jl_S_1 : Cond.methodLink R_S 1 objectInit ∈ tbG := tb_in 23 (by rfl) rfl
set_option maxRecDepth 20000 in
theorem jl_P_1 : Cond.methodLink R_P 1 objectInit ∈ tbG := tb_in 42 (by rfl) rfl
set_option maxRecDepth 20000 in
theorem jl_T_3 : Cond.methodLink R_T 3 objectInit ∈ tbG := tb_in 133 (by rfl) rfl
set_option maxRecDepth 20000 in
theorem jl_E_1 : Cond.methodLink R_E 1 objectInit ∈ tbG := tb_in 188 (by rfl) rfl
set_option maxRecDepth 20000 in
theorem j_oiI : Cond.instanceMethod objectInit ∈ tbG := tb_in 24 (by rfl) rfl
set_option maxRecDepth 20000 in
theorem j_oiC : Cond.code objectInit ⟨#[0xb1]⟩ 1 none ∈ tbG := tb_in 25 (by rfl) rfl
set_option maxRecDepth 20000 in
theorem jc_S_9 : Cond.classLink R_S 9 R_P ∈ tbG := tb_in 26 (by rfl) rfl
set_option maxRecDepth 20000 in
theorem jc_S_22 : Cond.classLink R_S 22 R_E ∈ tbG := tb_in 28 (by rfl) rfl
set_option maxRecDepth 20000 in
theorem jc_S_28 : Cond.classLink R_S 28 R_T ∈ tbG := tb_in 30 (by rfl) rfl
set_option maxRecDepth 20000 in
theorem jc_S_270 : Cond.classLink R_S 270 R_RG ∈ tbG := tb_in 259 (by rfl) rfl
set_option maxRecDepth 20000 in
theorem jc_S_277 : Cond.classLink R_S 277 R_RP ∈ tbG := tb_in 455 (by rfl) rfl
set_option maxRecDepth 20000 in
theorem jc_S_282 : Cond.classLink R_S 282 R_RD ∈ tbG := tb_in 472 (by rfl) rfl
set_option maxRecDepth 20000 in
theorem jc_S_285 : Cond.classLink R_S 285 R_RS ∈ tbG := tb_in 486 (by rfl) rfl
set_option maxRecDepth 20000 in
theorem ji_P : Cond.instantiable R_P 5 ∈ tbG := tb_in 38 (by rfl) rfl
set_option maxRecDepth 20000 in
theorem ji_T : Cond.instantiable R_T 11 ∈ tbG := tb_in 125 (by rfl) rfl
set_option maxRecDepth 20000 in
theorem ji_E : Cond.instantiable R_E 11 ∈ tbG := tb_in 184 (by rfl) rfl
set_option maxRecDepth 20000 in
theorem ji_RG : Cond.instantiable R_RG 1 ∈ tbG := tb_in 260 (by rfl) rfl
set_option maxRecDepth 20000 in
theorem ji_RP : Cond.instantiable R_RP 2 ∈ tbG := tb_in 456 (by rfl) rfl
set_option maxRecDepth 20000 in
theorem ji_RD : Cond.instantiable R_RD 1 ∈ tbG := tb_in 473 (by rfl) rfl
set_option maxRecDepth 20000 in
theorem ji_RS : Cond.instantiable R_RS 2 ∈ tbG := tb_in 487 (by rfl) rfl
set_option maxRecDepth 20000 in
theorem ji_S : Cond.instantiable R_S 14 ∈ tbG := tb_in 19 (by rfl) rfl
set_option maxRecDepth 20000 in
theorem j_arI : Cond.arrayClass .int ∈ tbG := tb_in 62 (by rfl) rfl
set_option maxRecDepth 20000 in
theorem j_arB : Cond.arrayClass .byte ∈ tbG := tb_in 177 (by rfl) rfl
set_option maxRecDepth 20000 in
theorem j_cl212 : Cond.constantLong R_S 212 (-1) ∈ tbG := tb_in 417 (by rfl) rfl
section NRows3
variable {X : Cx} {D : GD} {A : ASt} {N : MSt} {C : String} {g0 : GSt} {cc : ByteArray} {n lv : Nat} {rt : Option FieldType} {Q : Option Value → GSt → Prop} {pc nx tgt : Nat} {L L' : List (Nat × Value)} {G : List (Nat × Int64)} {st : List Value}
theorem i32_max {x y : Int} (hx : InR x) (hy : InR y) : (if Int32.ofInt x < Int32.ofInt y then Int32.ofInt y else Int32.ofInt x) = Int32.ofInt (if x < y then y else x) := by
  by_cases h : x < y
  · rw [if_pos h, if_pos ((i32_lt hx hy).mpr h)]
  · rw [if_neg h, if_neg (fun q => h ((i32_lt hx hy).mp q))]
theorem i32_min {x y : Int} (hx : InR x) (hy : InR y) : (if Int32.ofInt y < Int32.ofInt x then Int32.ofInt y else Int32.ofInt x) = Int32.ofInt (if y < x then y else x) := by
  by_cases h : y < x
  · rw [if_pos h, if_pos ((i32_lt hy hx).mpr h)]
  · rw [if_neg h, if_neg (fun q => h ((i32_lt hy hx).mp q))]
theorem n_max (o : OkG X D C cc n rt lv g0 Q) {i : Nat} {x y : Int} (hlk : Cond.methodLink C i Lib.Math.max.name ∈ tbG) (hlv : 1 ≤ lv) (hcat : (st.map fun v => v.category).sum ≤ 8) (hx : InR x) (hy : InR y) (d : dc cc pc (.invokestatic i) nx) (kk : V X (RelN D A N) nx L G (J (if x < y then y else x) :: st)) (hn : pc + 3 = nx := by rfl) : V X (RelN D A N) pc L G (J y :: J x :: st) := by
  subst hn
  refine n_in fun g hF => ?_
  intro H locs ls hS hR hl
  have d := d.1
  rw [Nat.add_sub_cancel_left] at d
  have hfit := g_fit o hS hR
  obtain ⟨⟨⟨hx0, hb⟩, hown, hts, hml, hlk1, hr, hfr, hlo⟩, -⟩ := o
  refine va_mmax hx0 hb (by rw [hml]; exact hl.1.1.symm) hown (hts _ hlk) (hts _ j_maxS) (hts _ in_Math) (hts _ j_maxC) (by omega) ?_ (by omega) (by omega) d ?_
  · have := Nat.mul_le_mul_left 40 hlv
    omega
  · rw [i32_max hx hy]
    exact n_out hF kk H locs ls hS hR hl
theorem n_copy4 (o : OkG X D C cc n rt lv g0 Q) {i : Nat} (fa fb : Nat) {ta tb : Nat} {p q : Int} (hTa : aTg fa = ta) (hTb : aTg fb = tb) (hka : tK ta = 11) (hkb : tK tb = 11) (hla : aLn fa = 4) (hlb : aLn fb = 4) (hab : fa ≠ fb) (hp : Vld N ta p) (hq : Vld N tb q) (hlk : Cond.methodLink C i arraycopyName ∈ tbG) (hlv : 1 ≤ lv) (d : dc cc pc (.invokestatic i) nx)
    (kk : V X (RelN D A (up (up (up (up N fb (4 * q + 0) (N fa (4 * p + 0))) fb (4 * q + 1) (N fa (4 * p + 1))) fb (4 * q + 2) (N fa (4 * p + 2))) fb (4 * q + 3) (N fa (4 * p + 3)))) nx L G []) (hn : pc + 3 = nx := by rfl) : V X (RelN D A N) pc L G [J 4, J 0, rq A tb q, J 0, rq A ta p] := by
  subst hTa
  subst hTb
  refine n_in fun g hF => ?_
  have ha9 := hp.n99
  have hb9 := hq.n99
  have tba := tb_at fa ha9
  have tbb := tb_at fb hb9
  have hKa := hF.2.2.1 _ p tba.1 hp
  have hKb := hF.2.2.1 _ q tbb.1 hq
  have ea : ∀ j : Int, 0 ≤ j → j < 4 → gI g 11 j (A (aTg fa) p) = N fa (4 * p + j) := fun j h1 h2 => by
    have := hF.2.2.2.2.2.2.2 fa p j ha9 hp h1 (by rw [hla]; exact h2)
    rw [hka, hla] at this
    exact this
  rw [rq_s hp.nn, rq_s hq.nn]
  refine g_copy4 o (hKa.1.trans hka) (hKb.1.trans hkb) (by rw [hKa.2, tba.2.2.2.2.2.2.2.2.1, hla]) (by rw [hKb.2, tbb.2.2.2.2.2.2.2.2.1, hlb]) hlk j_acN j_acS in_System hlv rfl d ?_ hn
  rw [ea 0 (by omega) (by omega), ea 1 (by omega) (by omega), ea 2 (by omega) (by omega), ea 3 (by omega) (by omega)]
  have st : ∀ (N1 : MSt) (g1 : GSt) (j x : Int), Flat D A N1 g1 → Vld N1 (aTg fb) q → 0 ≤ j → j < 4 → Flat D A (up N1 fb (4 * q + j) x) (uI g1 11 j (A (aTg fb) q) x) := fun N1 g1 j x hF1 hv1 h1 h2 => by
    have := hF1.setA (x := x) hb9 hv1 (z := j) ⟨h1, by rw [hlb]; exact h2⟩
    rw [hkb, hlb] at this
    exact this
  have hne : fb ≠ 50 ∧ fb ≠ 51 := ⟨tbb.2.1, tbb.2.2.1⟩
  have q1 : ∀ (N1 : MSt) (w x : Int), Vld N1 (aTg fb) q → Vld (up N1 fb w x) (aTg fb) q := fun N1 w x h => (Vld_up hne).mpr h
  refine n_out (st _ _ 3 _ (st _ _ 2 _ (st _ _ 1 _ (st _ _ 0 _ hF hq (by omega) (by omega)) ?_ (by omega) (by omega)) ?_ (by omega) (by omega)) ?_ (by omega) (by omega)) kk
  · exact q1 _ _ _ hq
  · exact q1 _ _ _ (q1 _ _ _ hq)
  · exact q1 _ _ _ (q1 _ _ _ (q1 _ _ _ hq))
/-- a call on a state -/
theorem n_cQ (o : OkG X D C cc n rt lv g0 Q) {y' : MethodName} {b' : ByteArray} {n' na i lv' : Nat} {v : Int} {rt' : Option FieldType} {av : List Value} {Q' : Option Value → ASt → MSt → Prop} {st0 : List Value} (hv : Vld N 20 v) (hcon : NCon D y' (wsOf y' b' n' rt') lv' (rq A 20 v :: av) A N Q') (q : MOk R_Q y' b' n' rt' na) (hlk : Cond.methodLink C i y' ∈ tbG) (d : dc cc pc (.invokevirtual i) nx) (hlv : lv' < lv) (hst : st0 = av.reverse ++ rq A 20 v :: st) (hcat : (st.map fun v => v.category).sum ≤ 8) (hna : av.length = na)
    (kk : ∀ r A1 N1, Q' r A1 N1 → V X (RelN D A1 N1) nx L G (r.toList ++ st)) (hn : pc + 3 = nx := by rfl) : V X (RelN D A N) pc L G st0 := by
  subst hn
  refine n_in fun g hF => ?_
  have hcon := hcon g hF
  have hv : 1 ≤ v ∧ v < 5 := hv
  have d := d.1
  rw [Nat.add_sub_cancel_left] at d
  rw [rq_s (by omega), hF.2.2.2.2.1.1 v hv.1 hv.2] at hcon hst
  refine g_after (av := (Value.ref (dQ D v.toNat) :: av).toArray) (mc := dTp D - gZ g) (ms := 301 * (dTp D - gZ g)) o (fun H locs ls hS hR hl => ?_) (n_qn kk)
  have hfit := g_fit o hS hR
  have hpre := g_pre (av := .ref (dQ D v.toNat) :: av) o hS hR
  have hO := (o.2.1.2.1 v.toNat (by omega) (by omega)).2.1
  have hA := o.2.2.1
  have hrec := va_Orecv hO (by rw [← hA]; exact hS)
  obtain ⟨⟨⟨hx, hb⟩, hown, hts, hml, hlk1, hr, hfr, hlo⟩, -⟩ := o
  have q6 := q.2.2.2.2.2
  exact va_runV (As := av) (rest := st) (b := dQ D v.toNat) ⟨hx, hb, hml, hown, hts⟩ (hcon (Cx.l X)) (cwV (R := Cx.R X) na hts (good_v q hlk) rfl rfl rfl q.2.2.2.2.1 ⟨by show lv' + 1 ≤ _; omega, by show 8 + (n' + 11) + 40 * lv' ≤ _; omega⟩) ⟨hpre.1, hrec, hpre.2⟩ rfl hna hl.1.1 hst (cat_sum hcat) d hfit
theorem cat_rr (a : Nat) : (Value.ref a).category = 1 := rfl
theorem cat_lg (w : Int64) : (Value.long w).category = 2 := rfl
theorem n_s1 (o : OkG X D C cc n rt lv g0 Q) {i : Nat} (hf : Cond.fieldLink C i (clN 1) (clT 1 0).2.1 (clT 1 0).2.2.1 ∈ tbG) (d : dc cc pc (.getfield i) nx) (kk : V X (RelN D A N) nx L G (rq A 1 0 :: st)) (hn : pc + 3 = nx := by rfl) : V X (RelN D A N) pc L G (rq A 0 0 :: st) :=
  n_gets o 1 0 1 0 rfl (by decide) (by decide) (by decide) rfl (by omega) (fun g h => h.1.1) hf rfl d kk hn
theorem n_s2 (o : OkG X D C cc n rt lv g0 Q) {i : Nat} (hf : Cond.fieldLink C i (clN 1) (clT 1 1).2.1 (clT 1 1).2.2.1 ∈ tbG) (d : dc cc pc (.getfield i) nx) (kk : V X (RelN D A N) nx L G (rq A 2 0 :: st)) (hn : pc + 3 = nx := by rfl) : V X (RelN D A N) pc L G (rq A 0 0 :: st) :=
  n_gets o 1 1 2 0 rfl (by decide) (by decide) (by decide) rfl (by omega) (fun g h => h.1.2.1) hf rfl d kk hn
theorem n_s3 (o : OkG X D C cc n rt lv g0 Q) {i : Nat} (hf : Cond.fieldLink C i (clN 1) (clT 1 2).2.1 (clT 1 2).2.2.1 ∈ tbG) (d : dc cc pc (.getfield i) nx) (kk : V X (RelN D A N) nx L G (rq A 3 0 :: st)) (hn : pc + 3 = nx := by rfl) : V X (RelN D A N) pc L G (rq A 0 0 :: st) :=
  n_gets o 1 2 3 0 rfl (by decide) (by decide) (by decide) rfl (by omega) (fun g h => h.1.2.2.1) hf rfl d kk hn
theorem n_s4 (o : OkG X D C cc n rt lv g0 Q) {i : Nat} (hf : Cond.fieldLink C i (clN 1) (clT 1 5).2.1 (clT 1 5).2.2.1 ∈ tbG) (d : dc cc pc (.getfield i) nx) (kk : V X (RelN D A N) nx L G (rq A 4 0 :: st)) (hn : pc + 3 = nx := by rfl) : V X (RelN D A N) pc L G (rq A 0 0 :: st) :=
  n_gets o 1 5 4 0 rfl (by decide) (by decide) (by decide) rfl (by omega) (fun g h => h.1.2.2.2.1) hf rfl d kk hn
theorem n_s5 (o : OkG X D C cc n rt lv g0 Q) {i : Nat} (hf : Cond.fieldLink C i (clN 1) (clT 1 11).2.1 (clT 1 11).2.2.1 ∈ tbG) (d : dc cc pc (.getfield i) nx) (kk : V X (RelN D A N) nx L G (rq A 5 0 :: st)) (hn : pc + 3 = nx := by rfl) : V X (RelN D A N) pc L G (rq A 0 0 :: st) :=
  n_gets o 1 11 5 0 rfl (by decide) (by decide) (by decide) rfl (by omega) (fun g h => h.1.2.2.2.2) hf rfl d kk hn
theorem n_vals6 (o : OkG X D C cc n rt lv g0 Q) {i : Nat} {v : Int} (hf : Cond.fieldLink C i (clN 2) (clT 2 2).2.1 (clT 2 2).2.2.1 ∈ tbG) (hv : Vld N 6 v) (d : dc cc pc (.getfield i) nx) (kk : V X (RelN D A N) nx L G (rq A 7 v :: st)) (hn : pc + 3 = nx := by rfl) : V X (RelN D A N) pc L G (rq A 6 v :: st) :=
  n_gets o 2 2 7 v rfl (by decide) (by decide) (by decide) rfl hv.nn (fun g h => (h.2.1 v hv.1 hv.2).2.2.1) hf hv d kk hn
theorem n_num6 (o : OkG X D C cc n rt lv g0 Q) {i : Nat} {v : Int} (hf : Cond.fieldLink C i (clN 2) (clT 2 0).2.1 (clT 2 0).2.2.1 ∈ tbG) (hv : Vld N 6 v) (d : dc cc pc (.getfield i) nx) (kk : V X (RelN D A N) nx L G (J v :: st)) (hn : pc + 3 = nx := by rfl) : V X (RelN D A N) pc L G (rq A 6 v :: st) :=
  n_getn o 2 0 rfl (by decide) (by decide) (by decide) rfl (fun g h => (h.2.1 v hv.1 hv.2).2.2.2.2.1) hf hv d kk hn
theorem n_vals8 (o : OkG X D C cc n rt lv g0 Q) {i : Nat} {v : Int} (hf : Cond.fieldLink C i (clN 2) (clT 2 2).2.1 (clT 2 2).2.2.1 ∈ tbG) (hv : Vld N 8 v) (d : dc cc pc (.getfield i) nx) (kk : V X (RelN D A N) nx L G (rq A 9 v :: st)) (hn : pc + 3 = nx := by rfl) : V X (RelN D A N) pc L G (rq A 8 v :: st) :=
  n_gets o 2 2 9 v rfl (by decide) (by decide) (by decide) rfl hv.nn (fun g h => (h.2.1 v hv.1 hv.2).2.2.2.1) hf hv d kk hn
theorem n_num8 (o : OkG X D C cc n rt lv g0 Q) {i : Nat} {v : Int} (hf : Cond.fieldLink C i (clN 2) (clT 2 0).2.1 (clT 2 0).2.2.1 ∈ tbG) (hv : Vld N 8 v) (d : dc cc pc (.getfield i) nx) (kk : V X (RelN D A N) nx L G (J v :: st)) (hn : pc + 3 = nx := by rfl) : V X (RelN D A N) pc L G (rq A 8 v :: st) :=
  n_getn o 2 0 rfl (by decide) (by decide) (by decide) rfl (fun g h => (h.2.1 v hv.1 hv.2).2.2.2.2.2) hf hv d kk hn
theorem n_lks (o : OkG X D C cc n rt lv g0 Q) {i : Nat} {v : Int} (hf : Cond.fieldLink C i (clN 4) (clT 4 7).2.1 (clT 4 7).2.2.1 ∈ tbG) (hv : Vld N 11 v) (d : dc cc pc (.getfield i) nx) (kk : V X (RelN D A N) nx L G (rq A 12 v :: st)) (hn : pc + 3 = nx := by rfl) : V X (RelN D A N) pc L G (rq A 11 v :: st) :=
  n_gets o 4 7 12 v rfl (by decide) (by decide) (by decide) rfl hv.nn (fun g h => (h.2.2.2.2 v hv.1 hv.2).1) hf hv d kk hn
theorem n_numT (o : OkG X D C cc n rt lv g0 Q) {i : Nat} {v : Int} (hf : Cond.fieldLink C i (clN 4) (clT 4 0).2.1 (clT 4 0).2.2.1 ∈ tbG) (hv : Vld N 11 v) (d : dc cc pc (.getfield i) nx) (kk : V X (RelN D A N) nx L G (J v :: st)) (hn : pc + 3 = nx := by rfl) : V X (RelN D A N) pc L G (rq A 11 v :: st) :=
  n_getn o 4 0 rfl (by decide) (by decide) (by decide) rfl (fun g h => (h.2.2.2.2 v hv.1 hv.2).2) hf hv d kk hn
end NRows3

