theorem d_I_ntz_0 : dc b_I_ntz 0 (.iload_n 0) 1 := ⟨by decide +kernel, rfl⟩
theorem d_I_ntz_1 : dc b_I_ntz 1 (.iconst (-1)) 2 := ⟨by decide +kernel, rfl⟩
theorem d_I_ntz_2 : dc b_I_ntz 2 (.ixor) 3 := ⟨by decide +kernel, rfl⟩
theorem d_I_ntz_3 : dc b_I_ntz 3 (.iload_n 0) 4 := ⟨by decide +kernel, rfl⟩
theorem d_I_ntz_4 : dc b_I_ntz 4 (.iconst 1) 5 := ⟨by decide +kernel, rfl⟩
theorem d_I_ntz_5 : dc b_I_ntz 5 (.isub) 6 := ⟨by decide +kernel, rfl⟩
theorem d_I_ntz_6 : dc b_I_ntz 6 (.iand) 7 := ⟨by decide +kernel, rfl⟩
theorem d_I_ntz_7 : dc b_I_ntz 7 (.istore_n 0) 8 := ⟨by decide +kernel, rfl⟩
theorem d_I_ntz_8 : dc b_I_ntz 8 (.iload_n 0) 9 := ⟨by decide +kernel, rfl⟩
theorem d_I_ntz_9 : dj b_I_ntz 9 (.ifCond .gt) 17 12 := ⟨by decide +kernel, rfl⟩
theorem d_I_ntz_12 : dc b_I_ntz 12 (.iload_n 0) 13 := ⟨by decide +kernel, rfl⟩
theorem d_I_ntz_13 : dc b_I_ntz 13 (.bipush 32) 15 := ⟨by decide +kernel, rfl⟩
theorem d_I_ntz_15 : dc b_I_ntz 15 (.iand) 16 := ⟨by decide +kernel, rfl⟩
theorem d_I_ntz_16 : dc b_I_ntz 16 (.ireturn) 17 := ⟨by decide +kernel, rfl⟩
theorem d_I_ntz_17 : dc b_I_ntz 17 (.iconst 1) 18 := ⟨by decide +kernel, rfl⟩
theorem d_I_ntz_18 : dc b_I_ntz 18 (.istore_n 1) 19 := ⟨by decide +kernel, rfl⟩
theorem d_I_ntz_19 : dc b_I_ntz 19 (.iload_n 0) 20 := ⟨by decide +kernel, rfl⟩
theorem d_I_ntz_20 : dc b_I_ntz 20 (.ldc_w 264) 23 := ⟨by decide +kernel, rfl⟩
theorem d_I_ntz_23 : dj b_I_ntz 23 (.if_icmp .le) 34 26 := ⟨by decide +kernel, rfl⟩
theorem d_I_ntz_26 : dc b_I_ntz 26 (.iinc 1 16) 29 := ⟨by decide +kernel, rfl⟩
theorem d_I_ntz_29 : dc b_I_ntz 29 (.iload_n 0) 30 := ⟨by decide +kernel, rfl⟩
theorem d_I_ntz_30 : dc b_I_ntz 30 (.bipush 16) 32 := ⟨by decide +kernel, rfl⟩
theorem d_I_ntz_32 : dc b_I_ntz 32 (.iushr) 33 := ⟨by decide +kernel, rfl⟩
theorem d_I_ntz_33 : dc b_I_ntz 33 (.istore_n 0) 34 := ⟨by decide +kernel, rfl⟩
theorem d_I_ntz_34 : dc b_I_ntz 34 (.iload_n 0) 35 := ⟨by decide +kernel, rfl⟩
theorem d_I_ntz_35 : dc b_I_ntz 35 (.sipush 256) 38 := ⟨by decide +kernel, rfl⟩
theorem d_I_ntz_38 : dj b_I_ntz 38 (.if_icmp .le) 49 41 := ⟨by decide +kernel, rfl⟩
theorem d_I_ntz_41 : dc b_I_ntz 41 (.iinc 1 8) 44 := ⟨by decide +kernel, rfl⟩
theorem d_I_ntz_44 : dc b_I_ntz 44 (.iload_n 0) 45 := ⟨by decide +kernel, rfl⟩
theorem d_I_ntz_45 : dc b_I_ntz 45 (.bipush 8) 47 := ⟨by decide +kernel, rfl⟩
theorem d_I_ntz_47 : dc b_I_ntz 47 (.iushr) 48 := ⟨by decide +kernel, rfl⟩
theorem d_I_ntz_48 : dc b_I_ntz 48 (.istore_n 0) 49 := ⟨by decide +kernel, rfl⟩
theorem d_I_ntz_49 : dc b_I_ntz 49 (.iload_n 0) 50 := ⟨by decide +kernel, rfl⟩
theorem d_I_ntz_50 : dc b_I_ntz 50 (.bipush 16) 52 := ⟨by decide +kernel, rfl⟩
theorem d_I_ntz_52 : dj b_I_ntz 52 (.if_icmp .le) 62 55 := ⟨by decide +kernel, rfl⟩
theorem d_I_ntz_55 : dc b_I_ntz 55 (.iinc 1 4) 58 := ⟨by decide +kernel, rfl⟩
theorem d_I_ntz_58 : dc b_I_ntz 58 (.iload_n 0) 59 := ⟨by decide +kernel, rfl⟩
theorem d_I_ntz_59 : dc b_I_ntz 59 (.iconst 4) 60 := ⟨by decide +kernel, rfl⟩
theorem d_I_ntz_60 : dc b_I_ntz 60 (.iushr) 61 := ⟨by decide +kernel, rfl⟩
theorem d_I_ntz_61 : dc b_I_ntz 61 (.istore_n 0) 62 := ⟨by decide +kernel, rfl⟩
theorem d_I_ntz_62 : dc b_I_ntz 62 (.iload_n 0) 63 := ⟨by decide +kernel, rfl⟩
theorem d_I_ntz_63 : dc b_I_ntz 63 (.iconst 4) 64 := ⟨by decide +kernel, rfl⟩
theorem d_I_ntz_64 : dj b_I_ntz 64 (.if_icmp .le) 74 67 := ⟨by decide +kernel, rfl⟩
theorem d_I_ntz_67 : dc b_I_ntz 67 (.iinc 1 2) 70 := ⟨by decide +kernel, rfl⟩
theorem d_I_ntz_70 : dc b_I_ntz 70 (.iload_n 0) 71 := ⟨by decide +kernel, rfl⟩
theorem d_I_ntz_71 : dc b_I_ntz 71 (.iconst 2) 72 := ⟨by decide +kernel, rfl⟩
theorem d_I_ntz_72 : dc b_I_ntz 72 (.iushr) 73 := ⟨by decide +kernel, rfl⟩
theorem d_I_ntz_73 : dc b_I_ntz 73 (.istore_n 0) 74 := ⟨by decide +kernel, rfl⟩
theorem d_I_ntz_74 : dc b_I_ntz 74 (.iload_n 1) 75 := ⟨by decide +kernel, rfl⟩
theorem d_I_ntz_75 : dc b_I_ntz 75 (.iload_n 0) 76 := ⟨by decide +kernel, rfl⟩
theorem d_I_ntz_76 : dc b_I_ntz 76 (.iconst 1) 77 := ⟨by decide +kernel, rfl⟩
theorem d_I_ntz_77 : dc b_I_ntz 77 (.iushr) 78 := ⟨by decide +kernel, rfl⟩
theorem d_I_ntz_78 : dc b_I_ntz 78 (.iadd) 79 := ⟨by decide +kernel, rfl⟩
theorem d_I_ntz_79 : dc b_I_ntz 79 (.ireturn) 80 := ⟨by decide +kernel, rfl⟩
theorem d_L_ntz_0 : dc b_L_ntz 0 (.lload_n 0) 1 := ⟨by decide +kernel, rfl⟩
theorem d_L_ntz_1 : dc b_L_ntz 1 (.l2i) 2 := ⟨by decide +kernel, rfl⟩
theorem d_L_ntz_2 : dc b_L_ntz 2 (.istore_n 2) 3 := ⟨by decide +kernel, rfl⟩
theorem d_L_ntz_3 : dc b_L_ntz 3 (.iload_n 2) 4 := ⟨by decide +kernel, rfl⟩
theorem d_L_ntz_4 : dj b_L_ntz 4 (.ifCond .ne) 21 7 := ⟨by decide +kernel, rfl⟩
theorem d_L_ntz_7 : dc b_L_ntz 7 (.bipush 32) 9 := ⟨by decide +kernel, rfl⟩
theorem d_L_ntz_9 : dc b_L_ntz 9 (.lload_n 0) 10 := ⟨by decide +kernel, rfl⟩
theorem d_L_ntz_10 : dc b_L_ntz 10 (.bipush 32) 12 := ⟨by decide +kernel, rfl⟩
theorem d_L_ntz_12 : dc b_L_ntz 12 (.lushr) 13 := ⟨by decide +kernel, rfl⟩
theorem d_L_ntz_13 : dc b_L_ntz 13 (.l2i) 14 := ⟨by decide +kernel, rfl⟩
theorem d_L_ntz_14 : dc b_L_ntz 14 (.invokestatic 311) 17 := ⟨by decide +kernel, rfl⟩
theorem d_L_ntz_17 : dc b_L_ntz 17 (.iadd) 18 := ⟨by decide +kernel, rfl⟩
theorem d_L_ntz_18 : dj b_L_ntz 18 .goto 25 21 := ⟨by decide +kernel, rfl⟩
theorem d_L_ntz_21 : dc b_L_ntz 21 (.iload_n 2) 22 := ⟨by decide +kernel, rfl⟩
theorem d_L_ntz_22 : dc b_L_ntz 22 (.invokestatic 311) 25 := ⟨by decide +kernel, rfl⟩
theorem d_L_ntz_25 : dc b_L_ntz 25 (.ireturn) 26 := ⟨by decide +kernel, rfl⟩
/-! trailing zeros -/
set_option maxRecDepth 20000 in
theorem q_I_ntz : SOk "java/lang/Integer" y_I_ntz b_I_ntz 2 (some .int) 1 := ⟨k_I_ntz, tb_in 422 (by rfl) rfl, in_Integer, ⟨by decide +kernel, by decide +kernel, by decide +kernel, by decide +kernel⟩, by decide⟩
set_option maxRecDepth 20000 in
theorem q_L_ntz : SOk "java/lang/Long" y_L_ntz b_L_ntz 3 (some .int) 1 := ⟨k_L_ntz, tb_in 419 (by rfl) rfl, in_Long, ⟨by decide +kernel, by decide +kernel, by decide +kernel, by decide +kernel⟩, by decide⟩
set_option maxRecDepth 20000 in
theorem jl_L_311 : Cond.methodLink "java/lang/Long" 311 y_I_ntz ∈ tbG := tb_in 421 (by rfl) rfl
set_option maxRecDepth 20000 in
theorem jl_S_214 : Cond.methodLink R_S 214 y_L_ntz ∈ tbG := tb_in 418 (by rfl) rfl
set_option maxRecDepth 20000 in
theorem jk_I_264 : Cond.constant "java/lang/Integer" 264 65536 ∈ tbG := tb_in 424 (by rfl) rfl
def p2 (t : Nat) : Int := 2 ^ t - 1
theorem p2_c : ∀ t : Nat, t < 32 → (p2 t ≤ 65536 ↔ t ≤ 16) ∧ (p2 t ≤ 256 ↔ t ≤ 8) ∧ (p2 t ≤ 16 ↔ t ≤ 4) ∧ (p2 t ≤ 4 ↔ t ≤ 2) ∧ (0 < p2 t ↔ 0 < t) ∧ InR (p2 t) := by decide +kernel
def ush (a b : Int) : Int32 := ((Int32.ofInt a).toUInt32 >>> ((Int32.ofInt b).toUInt32 &&& Int32.toUInt32 31)).toInt32
theorem p2_s : ∀ t : Nat, t < 32 → (16 ≤ t → ush (p2 t) 16 = Int32.ofInt (p2 (t - 16))) ∧ (8 ≤ t → ush (p2 t) 8 = Int32.ofInt (p2 (t - 8))) ∧ (4 ≤ t → ush (p2 t) 4 = Int32.ofInt (p2 (t - 4))) ∧ (2 ≤ t → ush (p2 t) 2 = Int32.ofInt (p2 (t - 2))) ∧ (1 ≤ t → ush (p2 t) 1 = Int32.ofInt (p2 (t - 1))) := by decide +kernel
/-- the lowest bit of n -/
def Lwb (n t : Nat) : Prop := ∃ q, n = 2 ^ t * (2 * q + 1)
theorem Lwb_ex : ∀ n : Nat, n ≠ 0 → ∃ t, Lwb n t := by
  intro n
  induction n using Nat.strongRecOn with
  | _ n ih =>
    intro h
    rcases Nat.mod_two_eq_zero_or_one n with e | e
    · obtain ⟨t, q, hq⟩ := ih (n / 2) (by omega) (by omega)
      refine ⟨t + 1, q, ?_⟩
      rw [Nat.pow_succ, Nat.mul_comm (2 ^ t) 2, Nat.mul_assoc, ← hq]
      omega
    · exact ⟨0, n / 2, by rw [Nat.pow_zero]; omega⟩
theorem Lwb.bit {n t : Nat} (h : Lwb n t) (j : Nat) : n.testBit j = if j < t then false else (2 * (n / 2 ^ t / 2) + 1).testBit (j - t) := by
  obtain ⟨q, rfl⟩ := h
  have hp := Nat.two_pow_pos t
  rw [Nat.mul_div_cancel_left _ hp, show (2 * q + 1) / 2 = q from by omega]
  have := Nat.testBit_two_pow_mul_add (2 * q + 1) (b := 0) hp j
  rw [Nat.add_zero] at this
  rw [this, Nat.zero_testBit]
theorem Lwb.at {n t : Nat} (h : Lwb n t) : n.testBit t = true := by
  rw [h.bit t, if_neg (by omega), Nat.sub_self, Nat.testBit_zero]
  simp
theorem Lwb.lt {n t w : Nat} (h : Lwb n t) (hn : n < 2 ^ w) : t < w := Nat.lt_of_not_le fun q => by
  have := Nat.testBit_lt_two_pow (Nat.lt_of_lt_of_le hn (Nat.pow_le_pow_right (by decide) q))
  rw [h.at] at this
  cases this
theorem Lwb.pred {n t : Nat} (h : Lwb n t) (j : Nat) : (!n.testBit j && (n - 1).testBit j) = decide (j < t) := by
  have hb := h.bit j
  obtain ⟨q, rfl⟩ := h
  have hp := Nat.two_pow_pos t
  rw [Nat.mul_div_cancel_left _ hp, show (2 * q + 1) / 2 = q from by omega] at hb
  have e : 2 ^ t * (2 * q + 1) - 1 = 2 ^ t * (2 * q) + (2 ^ t - 1) := by rw [Nat.mul_add]; omega
  rw [hb, e, Nat.testBit_two_pow_mul_add (2 * q) (b := 2 ^ t - 1) (by omega) j, Nat.testBit_two_pow_sub_one]
  by_cases c : j < t
  · rw [if_pos c, if_pos c]; simp [c]
  · rw [if_neg c, if_neg c]
    cases hd : j - t with
    | zero => rw [Nat.testBit_zero]; simp [c]
    | succ d =>
      rw [Nat.testBit_succ, Nat.testBit_succ, show (2 * q + 1) / 2 = q from by omega, show 2 * q / 2 = q from by omega]
      simp [c]
theorem lw32 (a : Int64) : a.toInt32.toBitVec.toNat = a.toBitVec.toNat % 2 ^ 32 := by
  show (BitVec.signExtend 32 a.toBitVec).toNat = _
  rw [BitVec.signExtend_eq_setWidth_of_le _ (by decide), BitVec.toNat_setWidth]
theorem mask_e {x : Int32} {t : Nat} (h : Lwb x.toBitVec.toNat t) : (x ^^^ Int32.ofInt (-1)) &&& (x - Int32.ofInt 1) = Int32.ofInt (p2 t) := by
  have ht : t < 32 := h.lt x.toBitVec.isLt
  have hne : x.toBitVec.toNat ≠ 0 := fun e => by have := h.at; rw [e] at this; simp at this
  have hm : ∀ t : Nat, t < 32 → (Int32.ofInt (p2 t)).toBitVec.toNat = 2 ^ t - 1 := by decide +kernel
  have hall : ∀ j : Nat, j < 32 → (Int32.ofInt (-1)).toBitVec.getLsbD j = true := by decide +kernel
  have hs : (x - Int32.ofInt 1).toBitVec.toNat = x.toBitVec.toNat - 1 := by
    have := x.toBitVec.isLt
    rw [Int32.toBitVec_sub, BitVec.toNat_sub]
    show (2 ^ 32 - 1 + x.toBitVec.toNat) % 2 ^ 32 = _
    omega
  apply Int32.toBitVec_inj.mp
  apply BitVec.eq_of_getLsbD_eq
  intro j hj
  have p := h.pred j
  rw [Int32.toBitVec_and, Int32.toBitVec_xor, BitVec.getLsbD_and, BitVec.getLsbD_xor, hall j hj, Bool.xor_true]
  show (!x.toBitVec.toNat.testBit j && (x - Int32.ofInt 1).toBitVec.toNat.testBit j) = (Int32.ofInt (p2 t)).toBitVec.toNat.testBit j
  rw [hs, hm t ht, p, Nat.testBit_two_pow_sub_one]
section NRows5
variable {X : Cx} {D : GD} {A : ASt} {N : MSt} {C : String} {g g0 : GSt} {cc : ByteArray} {n lv : Nat} {rt : Option FieldType} {Q : Option Value → GSt → Prop} {pc nx tgt : Nat} {L L' : List (Nat × Value)} {G : List (Nat × Int64)} {st : List Value}
theorem v_ldcw {Rl : Heap → Prop} (o : Ok X cc) {own : String} {i : Nat} {w : Int32} (hown : (Cx.s X).vm.findClass own = some (Cx.m X).cls) (hc : (Jvm.Cond.constant own i w).before (Cx.args X) (Cx.s X) = true) (d : dc cc pc (.ldc_w i) nx) (k : V X Rl nx L G (.int w :: st)) (hn : pc + 3 = nx := by rfl) : V X Rl pc L G st := by
  subst hn
  intro H locs ls hS hR hl
  have d := d.1
  rw [Nat.add_sub_cancel_left] at d
  exact lv_ldcw o.1 o.2 hown hc d (k H locs ls hS hR hl)
/-- a static of another class -/
theorem g_cSF (o : OkG X D C cc n rt lv g0 Q) {C' : String} {y' : MethodName} {b' : ByteArray} {n' na i lv' : Nat} {rt' : Option FieldType} {av : List Value} {Q' : Option Value → GSt → Prop} {st0 : List Value} (hcon : GCon D y' (wsOf y' b' n' rt') lv' av g Q') (q : SOk C' y' b' n' rt' na) (hlk : Cond.methodLink C i y' ∈ tbG) (d : dc cc pc (.invokestatic i) nx) (hlv : lv' < lv) (hst : st0 = av.reverse ++ st) (hcat : (st.map fun v => v.category).sum ≤ 8) (hna : av.length = na)
    (kk : ∀ r g1, Q' r g1 → V X (RelG D g1) nx L G (r.toList ++ st)) (hn : pc + 3 = nx := by rfl) : V X (RelG D g) pc L G st0 := by
  subst hn
  have d := d.1
  rw [Nat.add_sub_cancel_left] at d
  refine g_after (av := av.toArray) (mc := dTp D - gZ g) (ms := 301 * (dTp D - gZ g)) o (fun H locs ls hS hR hl => ?_) kk
  have hfit := g_fit o hS hR
  have hpre := g_pre (av := av) o hS hR
  obtain ⟨⟨⟨hx, hb⟩, hown, hts, hml, hlk1, hr, hfr, hlo⟩, -⟩ := o
  obtain ⟨q1, q2, q4, q5, q6⟩ := q
  exact va_runS (As := av) (rest := st) ⟨hx, hb, hml, hown, hts⟩ (hcon (Cx.l X)) ⟨callB_of (R := Cx.R X) na hts (tbl_good q1) rfl rfl rfl (by rw [q5.1]; exact hts _ q4) (hts _ hlk) q5.2 ⟨by show lv' + 1 ≤ _; omega, by show 8 + (n' + 11) + 40 * lv' ≤ _; omega⟩, hts _ q2⟩ ⟨hpre.1, hpre.2⟩ rfl hna hl.1.1 hst (cat_sum hcat) d hfit
end NRows5
theorem lok_entryL {m : MethodId} {a : Int64} {n : Nat} (hn : 2 ≤ n) : ∃ ls, entryFrame m [Value.long a].toArray n = F0 m 0 ls [] ∧ lok ls n [] [(0, a)] := by
  rw [lg_entry_eq]
  refine ⟨_, rfl, ?_, fun q hq => by cases hq⟩
  have := lv_entry [Value.long a] (n := n) (by show 2 ≤ n; exact hn)
  exact this
theorem GCon.ofL {D : GD} {y : MethodName} {cc : ByteArray} {n : Nat} {rt : Option FieldType} {lv : Nat} {a : Int64} {g : GSt} {Q : Option Value → GSt → Prop} (hy : plainName y.cls = true) (hn : 2 ≤ n)
    (k : ∀ (X : Cx), OkG X D y.cls cc n rt lv g Q → V X (RelG D g) 0 [] [(0, a)] []) : GCon D y (wsOf y cc n rt) lv [.long a] g Q := by
  intro l
  refine Met.ofW (cc := cc) (maxL := n) (ret := rt) hy rfl ?_
  intro p e s m args below meth c s₁ B hml hv
  obtain ⟨rfl, hR, hK⟩ := hv
  have hts := atoms_spec (ws := wsOf y cc n rt) B.pre
  have hown : s.vm.findClass y.cls = some m.cls := findClass_of_methodNamed B.named
  obtain ⟨ls, he, hl⟩ := lok_entryL (m := m) (a := a) (n := n) hn
  rw [he]
  have := k (p, l, e, (headSpec (wsOf y cc n rt) (rmG D lv g)).room, s, m, [Value.long a].toArray, below, meth, c, MQ below (QG D Q) [Value.long a].toArray s (dTp D - gZ g) (301 * (dTp D - gZ g)) (dA D), n, dA D)
    ⟨⟨⟨B.exec, B.bytes⟩, hown, fun w hw => hts w (List.mem_cons_of_mem _ hw), hml, B.notSynchronized, B.returns, Nat.le_refl _, Nat.le_refl _⟩, hK, rfl, rfl, ⟨hR.1.1, hR.1.2.2⟩, rfl, rfl, rfl⟩ s.heap [] ls va_S.rf hR hl
  exact WX.exact (cells := 0) (slots := 0) this
set_option maxHeartbeats 4000000 in
theorem c_I_ntz (D : GD) (g : GSt) (z : Int) (t : Nat) (h : Lwb (Int32.ofInt z).toBitVec.toNat t) : GCon D y_I_ntz (wsOf y_I_ntz b_I_ntz 2 (some .int)) 1 [J z] g (fun r g1 => r = some (J t) ∧ g1 = g) := by
  have ht : t < 32 := h.lt (Int32.ofInt z).toBitVec.isLt
  have hm := mask_e h
  refine GCon.of (by decide) (by intro v hv; simp at hv; subst hv; rfl) (Nat.le_of_ble_eq_true rfl) (fun X o _ => ?_)
  show V X (RelG D g) 0 [(0, J z)] [] []
  have c5 : ∀ (t4 : Nat) (n4 : Int), 1 ≤ t4 → t4 ≤ 2 → n4 + t4 = 1 + t → V X (RelG D g) 74 [(0, J (p2 t4)), (1, J n4)] [] [] := by
    intro t4 n4 h1 h2 h3
    have hs := (p2_s t4 (by omega)).2.2.2.2 h1
    refine v_iload_n (i := 1) o.ok d_I_ntz_74 rfl rfl ?_
    refine v_iload_n (i := 0) o.ok d_I_ntz_75 rfl rfl ?_
    refine v_iconst o.ok d_I_ntz_76 ?_
    refine v_iushr o.ok d_I_ntz_77 ?_
    show V X (RelG D g) 78 _ _ (.int (ush (p2 t4) 1) :: J n4 :: [])
    rw [hs]
    show V X (RelG D g) 78 _ _ (J (p2 (t4 - 1)) :: J n4 :: [])
    refine v_iadd o.ok d_I_ntz_78 ?_
    have e : n4 + p2 (t4 - 1) = t := by
      rcases (show t4 = 1 ∨ t4 = 2 from by omega) with rfl | rfl
      · show n4 + 0 = _; omega
      · show n4 + 1 = _; omega
    rw [e]
    exact g_iret o d_I_ntz_79 ⟨rfl, rfl⟩
  have c4 : ∀ (t4 : Nat) (n4 : Int), 1 ≤ t4 → t4 ≤ 4 → n4 + t4 = 1 + t → V X (RelG D g) 62 [(0, J (p2 t4)), (1, J n4)] [] [] := by
    intro t4 n4 h1 h2 h3
    have hc := p2_c t4 (by omega)
    refine v_iload_n (i := 0) o.ok d_I_ntz_62 rfl rfl ?_
    refine v_iconst o.ok d_I_ntz_63 ?_
    refine v_icmp_le o.ok hc.2.2.2.2.2 (by decide) d_I_ntz_64 (fun c => ?_) (fun c => ?_)
    · exact c5 t4 n4 h1 (hc.2.2.2.1.mp c) h3
    · have h5 : 2 < t4 := Nat.lt_of_not_le fun q => by have := hc.2.2.2.1.mpr q; omega
      refine v_iinc (i := 1) (L' := [(0, _), (1, _)]) (G' := []) o.ok d_I_ntz_67 rfl (o.lt (by decide)) rfl rfl ?_
      refine v_iload_n (i := 0) o.ok d_I_ntz_70 rfl rfl ?_
      refine v_iconst o.ok d_I_ntz_71 ?_
      refine v_iushr o.ok d_I_ntz_72 ?_
      show V X (RelG D g) 73 _ _ (.int (ush (p2 t4) 2) :: [])
      rw [(p2_s t4 (by omega)).2.2.2.1 (by omega)]
      show V X (RelG D g) 73 _ _ (J (p2 (t4 - 2)) :: [])
      refine v_istore_n (i := 0) (L' := [(0, _), (1, _)]) (G' := []) o.ok d_I_ntz_73 rfl (o.lt (by decide)) rfl rfl ?_
      exact c5 (t4 - 2) (n4 + 2) (by omega) (by omega) (by omega)
  have c3 : ∀ (t4 : Nat) (n4 : Int), 1 ≤ t4 → t4 ≤ 8 → n4 + t4 = 1 + t → V X (RelG D g) 49 [(0, J (p2 t4)), (1, J n4)] [] [] := by
    intro t4 n4 h1 h2 h3
    have hc := p2_c t4 (by omega)
    refine v_iload_n (i := 0) o.ok d_I_ntz_49 rfl rfl ?_
    refine v_bipush o.ok d_I_ntz_50 rfl ?_
    refine v_icmp_le o.ok hc.2.2.2.2.2 (by decide) d_I_ntz_52 (fun c => ?_) (fun c => ?_)
    · exact c4 t4 n4 h1 (hc.2.2.1.mp c) h3
    · have h5 : 4 < t4 := Nat.lt_of_not_le fun q => by have := hc.2.2.1.mpr q; omega
      refine v_iinc (i := 1) (L' := [(0, _), (1, _)]) (G' := []) o.ok d_I_ntz_55 rfl (o.lt (by decide)) rfl rfl ?_
      refine v_iload_n (i := 0) o.ok d_I_ntz_58 rfl rfl ?_
      refine v_iconst o.ok d_I_ntz_59 ?_
      refine v_iushr o.ok d_I_ntz_60 ?_
      show V X (RelG D g) 61 _ _ (.int (ush (p2 t4) 4) :: [])
      rw [(p2_s t4 (by omega)).2.2.1 (by omega)]
      show V X (RelG D g) 61 _ _ (J (p2 (t4 - 4)) :: [])
      refine v_istore_n (i := 0) (L' := [(0, _), (1, _)]) (G' := []) o.ok d_I_ntz_61 rfl (o.lt (by decide)) rfl rfl ?_
      exact c4 (t4 - 4) (n4 + 4) (by omega) (by omega) (by omega)
  have c2 : ∀ (t4 : Nat) (n4 : Int), 1 ≤ t4 → t4 ≤ 16 → n4 + t4 = 1 + t → V X (RelG D g) 34 [(0, J (p2 t4)), (1, J n4)] [] [] := by
    intro t4 n4 h1 h2 h3
    have hc := p2_c t4 (by omega)
    refine v_iload_n (i := 0) o.ok d_I_ntz_34 rfl rfl ?_
    refine v_sipush o.ok d_I_ntz_35 rfl ?_
    refine v_icmp_le o.ok hc.2.2.2.2.2 (by decide) d_I_ntz_38 (fun c => ?_) (fun c => ?_)
    · exact c3 t4 n4 h1 (hc.2.1.mp c) h3
    · have h5 : 8 < t4 := Nat.lt_of_not_le fun q => by have := hc.2.1.mpr q; omega
      refine v_iinc (i := 1) (L' := [(0, _), (1, _)]) (G' := []) o.ok d_I_ntz_41 rfl (o.lt (by decide)) rfl rfl ?_
      refine v_iload_n (i := 0) o.ok d_I_ntz_44 rfl rfl ?_
      refine v_bipush o.ok d_I_ntz_45 rfl ?_
      refine v_iushr o.ok d_I_ntz_47 ?_
      show V X (RelG D g) 48 _ _ (.int (ush (p2 t4) 8) :: [])
      rw [(p2_s t4 (by omega)).2.1 (by omega)]
      show V X (RelG D g) 48 _ _ (J (p2 (t4 - 8)) :: [])
      refine v_istore_n (i := 0) (L' := [(0, _), (1, _)]) (G' := []) o.ok d_I_ntz_48 rfl (o.lt (by decide)) rfl rfl ?_
      exact c3 (t4 - 8) (n4 + 8) (by omega) (by omega) (by omega)
  refine v_iload_n (i := 0) o.ok d_I_ntz_0 rfl rfl ?_
  refine v_iconst o.ok d_I_ntz_1 ?_
  refine v_ixor o.ok d_I_ntz_2 ?_
  refine v_iload_n (i := 0) o.ok d_I_ntz_3 rfl rfl ?_
  refine v_iconst o.ok d_I_ntz_4 ?_
  refine v_isub o.ok d_I_ntz_5 ?_
  refine v_iand o.ok d_I_ntz_6 ?_
  rw [show Int32.ofInt (z - 1) = Int32.ofInt z - Int32.ofInt 1 from Int32.ofInt_sub z 1, hm]
  show V X (RelG D g) 7 _ _ (J (p2 t) :: [])
  refine v_istore_n (i := 0) (L' := [(0, _)]) (G' := []) o.ok d_I_ntz_7 rfl (o.lt (by decide)) rfl rfl ?_
  refine v_iload_n (i := 0) o.ok d_I_ntz_8 rfl rfl ?_
  have hc := p2_c t ht
  refine v_if_gt o.ok hc.2.2.2.2.2 d_I_ntz_9 (fun c => ?_) (fun c => ?_)
  · have h1 : 1 ≤ t := hc.2.2.2.2.1.mp c
    refine v_iconst o.ok d_I_ntz_17 ?_
    refine v_istore_n (i := 1) (L' := [(0, _), (1, _)]) (G' := []) o.ok d_I_ntz_18 rfl (o.lt (by decide)) rfl rfl ?_
    refine v_iload_n (i := 0) o.ok d_I_ntz_19 rfl rfl ?_
    refine v_ldcw o.ok o.1.2.1 (o.1.2.2.1 _ jk_I_264) d_I_ntz_20 ?_
    show V X (RelG D g) 23 _ _ (J 65536 :: J (p2 t) :: [])
    refine v_icmp_le o.ok hc.2.2.2.2.2 (by decide) d_I_ntz_23 (fun c => ?_) (fun c => ?_)
    · exact c2 t 1 h1 (hc.1.mp c) rfl
    · have h5 : 16 < t := Nat.lt_of_not_le fun q => by have := hc.1.mpr q; omega
      refine v_iinc (i := 1) (L' := [(0, _), (1, _)]) (G' := []) o.ok d_I_ntz_26 rfl (o.lt (by decide)) rfl rfl ?_
      refine v_iload_n (i := 0) o.ok d_I_ntz_29 rfl rfl ?_
      refine v_bipush o.ok d_I_ntz_30 rfl ?_
      refine v_iushr o.ok d_I_ntz_32 ?_
      show V X (RelG D g) 33 _ _ (.int (ush (p2 t) 16) :: [])
      rw [(p2_s t (by omega)).1 (by omega)]
      show V X (RelG D g) 33 _ _ (J (p2 (t - 16)) :: [])
      refine v_istore_n (i := 0) (L' := [(0, _), (1, _)]) (G' := []) o.ok d_I_ntz_33 rfl (o.lt (by decide)) rfl rfl ?_
      exact c2 (t - 16) (1 + 16) (by omega) (by omega) (by omega)
  · have h0 : t = 0 := Nat.eq_zero_of_not_pos fun q => by have := hc.2.2.2.2.1.mpr q; omega
    subst h0
    refine v_iload_n (i := 0) o.ok d_I_ntz_12 rfl rfl ?_
    refine v_bipush o.ok d_I_ntz_13 rfl ?_
    refine v_iand o.ok d_I_ntz_15 ?_
    rw [show Int32.ofInt (p2 0) &&& Int32.ofInt 32 = Int32.ofInt 0 from by decide]
    exact g_iret (z := 0) o d_I_ntz_16 ⟨rfl, rfl⟩
theorem c_L_ntz (D : GD) (g : GSt) (a : Int64) (h : a ≠ 0) : GCon D y_L_ntz (wsOf y_L_ntz b_L_ntz 3 (some .int)) 2 [.long a] g (fun r g1 => (∃ u : Int, r = some (J u) ∧ lb a u) ∧ g1 = g) := by
  have hn : a.toBitVec.toNat ≠ 0 := fun e => h (by
    apply Int64.toBitVec_inj.mp
    apply BitVec.eq_of_toNat_eq
    rw [e]
    rfl)
  have hlt := a.toBitVec.isLt
  have bit : ∀ k : Nat, k < 64 → a.toBitVec.toNat.testBit k = true → lb a (k : Int) := fun k hk e => ⟨⟨by omega, by omega⟩, by
    rw [show (k : Int).toNat = k from by omega]
    exact e⟩
  refine GCon.ofL (by decide) (Nat.le_of_ble_eq_true rfl) (fun X o => ?_)
  have e1 : Value.int a.toInt32 = J a.toInt32.toInt := by unfold J; rw [Int32.ofInt_toInt]
  have e1' : Int32.ofInt a.toInt32.toInt = a.toInt32 := Int32.ofInt_toInt _
  have l32 := lw32 a
  refine v_lload_n (i := 0) o.ok d_L_ntz_0 rfl rfl ?_
  refine v_l2i o.ok d_L_ntz_1 ?_
  rw [e1]
  refine v_istore_n (i := 2) (L' := [(2, _)]) (G' := [(0, _)]) o.ok d_L_ntz_2 rfl (o.lt (by decide)) rfl rfl ?_
  refine v_iload_n (i := 2) o.ok d_L_ntz_3 rfl rfl ?_
  refine v_if_ne o.ok (i32_in _) d_L_ntz_4 (fun c => ?_) (fun c => ?_)
  · have hne : (Int32.ofInt a.toInt32.toInt).toBitVec.toNat ≠ 0 := fun e => c (by
      rw [e1'] at e
      have : a.toInt32 = 0 := by
        apply Int32.toBitVec_inj.mp
        apply BitVec.eq_of_toNat_eq
        rw [e]
        rfl
      rw [this]
      rfl)
    obtain ⟨t, ht⟩ := Lwb_ex _ hne
    have ht2 := ht.lt (Int32.ofInt a.toInt32.toInt).toBitVec.isLt
    have hat := ht.at
    rw [e1', l32, Nat.testBit_mod_two_pow] at hat
    refine v_iload_n (i := 2) o.ok d_L_ntz_21 rfl rfl ?_
    refine g_cSF o (c_I_ntz D g a.toInt32.toInt t ht) q_I_ntz jl_L_311 d_L_ntz_22 (by decide) rfl (by decide) rfl (fun r g1 hh => ?_)
    obtain ⟨rfl, rfl⟩ := hh
    exact g_iret (z := (t : Int)) o d_L_ntz_25 ⟨⟨t, rfl, bit t (by omega) (by simpa [ht2] using hat)⟩, rfl⟩
  · have e0 : a.toBitVec.toNat % 2 ^ 32 = 0 := by
      rw [← l32, ← e1', c]
      rfl
    refine v_bipush o.ok d_L_ntz_7 rfl ?_
    refine v_lload_n (i := 0) o.ok d_L_ntz_9 rfl rfl ?_
    refine v_bipush o.ok d_L_ntz_10 rfl ?_
    refine v_lushr o.ok d_L_ntz_12 ?_
    refine v_l2i o.ok d_L_ntz_13 ?_
    have e2 : ((a.toUInt64 >>> ((Int32.ofInt 32).toInt64.toUInt64 &&& Int64.toUInt64 63)).toInt64).toInt32.toBitVec.toNat = a.toBitVec.toNat / 2 ^ 32 := by
      rw [lw32]
      have e3 : ((a.toUInt64 >>> ((Int32.ofInt 32).toInt64.toUInt64 &&& Int64.toUInt64 63)).toInt64).toBitVec.toNat = a.toBitVec.toNat / 2 ^ 32 := by
        show (a.toBitVec >>> (32#64 % 64#64)).toNat = _
        simp [Nat.shiftRight_eq_div_pow]
      rw [e3]
      omega
    generalize hy : ((a.toUInt64 >>> ((Int32.ofInt 32).toInt64.toUInt64 &&& Int64.toUInt64 63)).toInt64).toInt32 = y at e2 ⊢
    have e4 : Value.int y = J y.toInt := by unfold J; rw [Int32.ofInt_toInt]
    have e4' : Int32.ofInt y.toInt = y := Int32.ofInt_toInt _
    have hne : (Int32.ofInt y.toInt).toBitVec.toNat ≠ 0 := by rw [e4', e2]; omega
    obtain ⟨t, ht⟩ := Lwb_ex _ hne
    have ht2 := ht.lt (Int32.ofInt y.toInt).toBitVec.isLt
    have hat := ht.at
    rw [e4', e2, Nat.testBit_div_two_pow] at hat
    rw [e4]
    refine g_cSF o (c_I_ntz D g y.toInt t ht) q_I_ntz jl_L_311 d_L_ntz_14 (by decide) rfl (by decide) rfl (fun r g1 hh => ?_)
    obtain ⟨rfl, rfl⟩ := hh
    show V X (RelG D g1) 17 _ _ (J t :: J 32 :: [])
    refine v_iadd o.ok d_L_ntz_17 ?_
    refine v_goto o.ok d_L_ntz_18 ?_
    exact g_iret (z := (32 : Int) + t) o d_L_ntz_25 ⟨⟨(32 : Int) + t, rfl, by
      have := bit (t + 32) (by omega) hat
      rw [show ((t + 32 : Nat) : Int) = (32 : Int) + t from by omega] at this
      exact this⟩, rfl⟩
section NRows6
variable {X : Cx} {D : GD} {A : ASt} {N : MSt} {g0 : GSt} {cc : ByteArray} {n lv : Nat} {rt : Option FieldType} {Q : Option Value → GSt → Prop} {pc nx tgt : Nat} {L L' : List (Nat × Value)} {G : List (Nat × Int64)} {st : List Value}
theorem n_ntz (o : OkG X D R_S cc n rt lv g0 Q) {a : Int64} (h : a ≠ 0) (d : dc cc pc (.invokestatic 214) nx) (hlv : 2 < lv) (hcat : (st.map fun v => v.category).sum ≤ 8) (kk : ∀ u, lb a u → V X (RelN D A N) nx L G (J u :: st)) (hn : pc + 3 = nx := by rfl) : V X (RelN D A N) pc L G (.long a :: st) := by
  refine n_in fun g hF => ?_
  refine g_cSF o (c_L_ntz D g a h) q_L_ntz jl_S_214 d hlv rfl hcat rfl (fun r g1 hh => ?_) hn
  obtain ⟨⟨u, rfl, hu⟩, rfl⟩ := hh
  exact n_out hF (kk u hu)
end NRows6

