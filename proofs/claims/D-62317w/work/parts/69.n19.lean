def tJ0 (D : GD) (g : GSt) (a p : Nat) (num born : Int) : GSt :=
  uI (uR (uI (uR (gnw (uR g 4 5 a (some (dQ D 1))) 12 33) 4 7 a (some (gZ g))) 4 0 a num) 4 1 a (some p)) 4 4 a born
def tJ1 (D : GD) (g : GSt) (a p : Nat) (num born : Int) : GSt := uR (tJ0 D g a p num born) 4 2 a (gR (tJ0 D g a p num born) 4 2 p)
def tJ2 (D : GD) (g : GSt) (a p : Nat) (num born : Int) : GSt := uI (tJ1 D g a p num born) 4 3 a (gI (tJ1 D g a p num born) 4 3 p + 1)
def tIp (D : GD) (g : GSt) (a p : Nat) (num born : Int) : GSt := uR (uR (tJ2 D g a p num born) 4 10 a (gR (tJ2 D g a p num born) 4 9 p)) 4 9 p (some a)
set_option maxHeartbeats 4000000 in
theorem c_T_initP (D : GD) (g : GSt) (a : Nat) (num born : Int) (p : Nat) (hK : gK g a = 4) (hKp : gK g p = 4) (hp : p ≠ gZ g) (hdp : InR (gI (tJ1 D g a p num born) 4 3 p + 1)) (ha : a ≠ gZ g) (hnum : InR num) (hborn : InR born) (htp : gZ g + 1 ≤ dTp D) : GCon D y_T_init (wsOf y_T_init b_T_init 4 none) 1 [.ref a, J num, .ref p, J born] g (fun r g1 => r = none ∧ g1 = tIp D g a p num born) := by
  refine GCon.of (by decide) (by intro v hv; simp at hv; rcases hv with rfl | rfl | rfl | rfl <;> rfl) (Nat.le_of_ble_eq_true rfl) (fun X o hnm => ?_)
  show V X (RelG D g) 0 [(0, .ref a), (1, J num), (2, .ref p), (3, J born)] [] []
  have hfi : ∀ k, (clT 4 k).2.2.2 = true → (clT 4 k).2.2.2 = false ∨ ((clT 4 k).2.2.2 = true ∧ (Cx.meth X).name = "<init>" ∧ clN 4 = R_T) := fun k q => Or.inr ⟨q, hnm, rfl⟩
  have hK2 : gK (gnw (uR g 4 5 a (some (dQ D 1))) 12 33) a = 4 := (gnw_K (g := uR g 4 5 a (some (dQ D 1))) ha).trans hK
  have hKp2 : gK (gnw (uR g 4 5 a (some (dQ D 1))) 12 33) p = 4 := (gnw_K (g := uR g 4 5 a (some (dQ D 1))) hp).trans hKp
  refine v_aload_n (i := 0) o.ok d_T_init_0 rfl rfl ?_
  refine g_obj o jl_T_3 j_oiI j_oiC d_T_init_1 (by decide) (by decide) ?_
  refine v_aload_n (i := 0) o.ok d_T_init_4 rfl rfl ?_
  refine g_getQ o 1 (by decide) ls_T_9 d_T_init_5 ?_
  refine g_putrs o 4 5 5 rfl (by decide) (by decide) lf_T_15 hK rfl (Or.inl rfl) d_T_init_8 ?_
  refine v_aload_n (i := 0) o.ok d_T_init_11 rfl rfl ?_
  refine v_bipush o.ok d_T_init_12 rfl ?_
  refine g_newp (atype := .byte) o 12 33 (Or.inr ⟨rfl, rfl⟩) rfl (by decide) j_arB htp d_T_init_14 ?_
  refine g_putrs o 4 7 7 rfl (by decide) (by decide) lf_T_20 hK2 rfl (hfi 7 rfl) d_T_init_16 ?_
  refine v_aload_n (i := 0) o.ok d_T_init_19 rfl rfl ?_
  refine v_iload_n (i := 1) o.ok d_T_init_20 rfl rfl ?_
  refine g_puti o 4 0 0 rfl (by decide) (by decide) lf_T_24 hK2 rfl (hfi 0 rfl) hnum d_T_init_21 ?_
  refine v_aload_n (i := 0) o.ok d_T_init_24 rfl rfl ?_
  refine v_aload_n (i := 2) o.ok d_T_init_25 rfl rfl ?_
  refine g_putrs o 4 1 1 rfl (by decide) (by decide) lf_T_28 hK2 rfl (hfi 1 rfl) d_T_init_26 ?_
  refine v_aload_n (i := 0) o.ok d_T_init_29 rfl rfl ?_
  refine v_iload_n (i := 3) o.ok d_T_init_30 rfl rfl ?_
  refine g_puti o 4 4 4 rfl (by decide) (by decide) lf_T_32 hK2 rfl (hfi 4 rfl) hborn d_T_init_31 ?_
  refine v_aload_n (i := 0) o.ok d_T_init_34 rfl rfl ?_
  refine v_aload_n (i := 2) o.ok d_T_init_35 rfl rfl ?_
  refine v_ifnonnull (r := some p) o.ok d_T_init_36 (fun _ _ => ?_) (fun q => by cases q)
  refine v_aload_n (i := 2) o.ok d_T_init_43 rfl rfl ?_
  refine g_getr o 4 2 2 rfl (by decide) (by decide) lf_T_35 hKp2 rfl d_T_init_44 ?_
  refine g_putr o 4 2 2 rfl (by decide) (by decide) lf_T_35 hK2 rfl (hfi 2 rfl) d_T_init_47 ?_
  refine v_aload_n (i := 0) o.ok d_T_init_50 rfl rfl ?_
  refine v_aload_n (i := 2) o.ok d_T_init_51 rfl rfl ?_
  refine v_ifnonnull (r := some p) o.ok d_T_init_52 (fun _ _ => ?_) (fun q => by cases q)
  refine v_aload_n (i := 2) o.ok d_T_init_59 rfl rfl ?_
  refine g_geti o 4 3 3 rfl (by decide) (by decide) lf_T_38 hKp2 rfl d_T_init_60 (fun i60 => ?_)
  refine v_iconst o.ok d_T_init_63 ?_
  refine v_iadd o.ok d_T_init_64 ?_
  refine g_puti o 4 3 3 rfl (by decide) (by decide) lf_T_38 hK2 rfl (hfi 3 rfl) hdp d_T_init_65 ?_
  refine v_aload_n (i := 0) o.ok d_T_init_68 rfl rfl ?_
  refine v_aload_n (i := 2) o.ok d_T_init_69 rfl rfl ?_
  refine v_ifnonnull (r := some p) o.ok d_T_init_70 (fun _ _ => ?_) (fun q => by cases q)
  refine v_aload_n (i := 2) o.ok d_T_init_77 rfl rfl ?_
  refine g_getr o 4 9 9 rfl (by decide) (by decide) lf_T_41 hKp2 rfl d_T_init_78 ?_
  refine g_putr o 4 10 10 rfl (by decide) (by decide) lf_T_44 hK2 rfl (hfi 10 rfl) d_T_init_81 ?_
  refine v_aload_n (i := 2) o.ok d_T_init_84 rfl rfl ?_
  refine v_ifnull (r := some p) o.ok d_T_init_85 (fun q => by cases q) (fun _ _ => ?_)
  refine v_aload_n (i := 2) o.ok d_T_init_88 rfl rfl ?_
  refine v_aload_n (i := 0) o.ok d_T_init_89 rfl rfl ?_
  refine g_putrs o 4 9 9 rfl (by decide) (by decide) lf_T_41 hKp2 rfl (Or.inl rfl) d_T_init_90 ?_
  exact g_vret o d_T_init_93 ⟨rfl, rfl⟩

