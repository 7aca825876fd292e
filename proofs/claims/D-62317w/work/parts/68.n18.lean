/-! a new transaction at g -/
def tI0 (D : GD) (g : GSt) (a : Nat) (num born : Int) : GSt :=
  uI (uR (uI (uR (gnw (uR g 4 5 a (some (dQ D 1))) 12 33) 4 7 a (some (gZ g))) 4 0 a num) 4 1 a none) 4 4 a born
def tIn (D : GD) (g : GSt) (a : Nat) (num born : Int) : GSt := uR (uI (uR (tI0 D g a num born) 4 2 a (some a)) 4 3 a 1) 4 10 a none
set_option maxHeartbeats 4000000 in
theorem c_T_initN (D : GD) (g : GSt) (a : Nat) (num born : Int) (hK : gK g a = 4) (ha : a ≠ gZ g) (hnum : InR num) (hborn : InR born) (htp : gZ g + 1 ≤ dTp D) : GCon D y_T_init (wsOf y_T_init b_T_init 4 none) 1 [.ref a, J num, .null, J born] g (fun r g1 => r = none ∧ g1 = tIn D g a num born) := by
  refine GCon.of (by decide) (by intro v hv; simp at hv; rcases hv with rfl | rfl | rfl | rfl <;> rfl) (Nat.le_of_ble_eq_true rfl) (fun X o hnm => ?_)
  show V X (RelG D g) 0 [(0, .ref a), (1, J num), (2, va_rf none), (3, J born)] [] []
  have hfi : ∀ k, (clT 4 k).2.2.2 = true → (clT 4 k).2.2.2 = false ∨ ((clT 4 k).2.2.2 = true ∧ (Cx.meth X).name = "<init>" ∧ clN 4 = R_T) := fun k q => Or.inr ⟨q, hnm, rfl⟩
  have hK2 : gK (gnw (uR g 4 5 a (some (dQ D 1))) 12 33) a = 4 := (gnw_K (g := uR g 4 5 a (some (dQ D 1))) ha).trans hK
  refine v_aload_n (i := 0) o.ok d_T_init_0 rfl rfl ?_
  refine g_obj o jl_T_3 j_oiI j_oiC d_T_init_1 (by decide) (by decide) ?_
  refine v_aload_n (i := 0) o.ok d_T_init_4 rfl rfl ?_
  refine g_getQ o 1 (by decide) ls_T_9 d_T_init_5 ?_
  refine g_putrs o 4 5 5 rfl (by decide) (by decide) lf_T_15 hK rfl (Or.inl rfl) d_T_init_8 ?_
  refine v_aload_n (i := 0) o.ok d_T_init_11 rfl rfl ?_
  refine v_bipush o.ok d_T_init_12 rfl ?_
  refine g_newp (atype := .byte) o 12 33 (Or.inr ⟨rfl, rfl⟩) rfl (by decide) j_arB htp d_T_init_14 ?_
  refine g_putrs o 4 7 7 rfl (by decide) (by decide) lf_T_20 hK2 rfl (hfi 7 rfl) d_T_init_16 ?_
  refine v_aload_n (i := 0) o.ok d_T_init_19 rfl rfl ?_
  refine v_iload_n (i := 1) o.ok d_T_init_20 rfl rfl ?_
  refine g_puti o 4 0 0 rfl (by decide) (by decide) lf_T_24 hK2 rfl (hfi 0 rfl) hnum d_T_init_21 ?_
  refine v_aload_n (i := 0) o.ok d_T_init_24 rfl rfl ?_
  refine v_aload_nq (r := none) (i := 2) o.ok d_T_init_25 rfl rfl ?_
  refine g_putr o 4 1 1 rfl (by decide) (by decide) lf_T_28 hK2 rfl (hfi 1 rfl) d_T_init_26 ?_
  refine v_aload_n (i := 0) o.ok d_T_init_29 rfl rfl ?_
  refine v_iload_n (i := 3) o.ok d_T_init_30 rfl rfl ?_
  refine g_puti o 4 4 4 rfl (by decide) (by decide) lf_T_32 hK2 rfl (hfi 4 rfl) hborn d_T_init_31 ?_
  refine v_aload_n (i := 0) o.ok d_T_init_34 rfl rfl ?_
  refine v_aload_nq (r := none) (i := 2) o.ok d_T_init_35 rfl rfl ?_
  refine v_ifnonnull o.ok d_T_init_36 (fun _ q => by cases q) (fun _ => ?_)
  refine v_aload_n (i := 0) o.ok d_T_init_39 rfl rfl ?_
  refine v_goto o.ok d_T_init_40 ?_
  refine g_putrs o 4 2 2 rfl (by decide) (by decide) lf_T_35 hK2 rfl (hfi 2 rfl) d_T_init_47 ?_
  refine v_aload_n (i := 0) o.ok d_T_init_50 rfl rfl ?_
  refine v_aload_nq (r := none) (i := 2) o.ok d_T_init_51 rfl rfl ?_
  refine v_ifnonnull o.ok d_T_init_52 (fun _ q => by cases q) (fun _ => ?_)
  refine v_iconst o.ok d_T_init_55 ?_
  refine v_goto o.ok d_T_init_56 ?_
  refine g_puti o 4 3 3 rfl (by decide) (by decide) lf_T_38 hK2 rfl (hfi 3 rfl) (by decide) d_T_init_65 ?_
  refine v_aload_n (i := 0) o.ok d_T_init_68 rfl rfl ?_
  refine v_aload_nq (r := none) (i := 2) o.ok d_T_init_69 rfl rfl ?_
  refine v_ifnonnull o.ok d_T_init_70 (fun _ q => by cases q) (fun _ => ?_)
  refine v_null o.ok d_T_init_73 ?_
  refine v_goto o.ok d_T_init_74 ?_
  refine g_putrn o 4 10 10 rfl (by decide) (by decide) lf_T_44 hK2 rfl (hfi 10 rfl) d_T_init_81 ?_
  refine v_aload_nq (r := none) (i := 2) o.ok d_T_init_84 rfl rfl ?_
  refine v_ifnull o.ok d_T_init_85 (fun _ => ?_) (fun _ q => by cases q)
  exact g_vret o d_T_init_93 ⟨rfl, rfl⟩

