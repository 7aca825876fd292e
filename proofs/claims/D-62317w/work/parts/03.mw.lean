def R_M : String := "NestedStoreModel"
def F_M : u_T := fun k => match k with
  | 0 => ("NestedStoreModel", "frames", "I", true)
  | 1 => ("NestedStoreModel", "diskThere", "[Z", true)
  | 2 => ("NestedStoreModel", "diskValue", "[I", true)
  | 3 => ("NestedStoreModel", "diskLsn", "[I", true)
  | 4 => ("NestedStoreModel", "there", "[Z", true)
  | 5 => ("NestedStoreModel", "value", "[I", true)
  | 6 => ("NestedStoreModel", "lsn", "[I", true)
  | 7 => ("NestedStoreModel", "inFrame", "[Z", true)
  | 8 => ("NestedStoreModel", "dirty", "[Z", true)
  | 9 => ("NestedStoreModel", "touched", "[I", true)
  | 10 => ("NestedStoreModel", "clock", "I", false)
  | 11 => ("NestedStoreModel", "base", "I", false)
  | 12 => ("NestedStoreModel", "records", "I", false)
  | 13 => ("NestedStoreModel", "flushed", "I", false)
  | 14 => ("NestedStoreModel", "kind", "[I", true)
  | 15 => ("NestedStoreModel", "by", "[I", true)
  | 16 => ("NestedStoreModel", "about", "[I", true)
  | 17 => ("NestedStoreModel", "of", "[I", true)
  | 18 => ("NestedStoreModel", "wasThere", "[Z", true)
  | 19 => ("NestedStoreModel", "wasValue", "[I", true)
  | 20 => ("NestedStoreModel", "isThere", "[Z", true)
  | 21 => ("NestedStoreModel", "isValue", "[I", true)
  | 22 => ("NestedStoreModel", "many", "I", false)
  | 23 => ("NestedStoreModel", "state", "[I", true)
  | 24 => ("NestedStoreModel", "parent", "[I", true)
  | 25 => ("NestedStoreModel", "began", "[I", true)
  | 26 => ("NestedStoreModel", "locks", "[I", true)
  | 27 => ("NestedStoreModel", "asks", "[I", true)
  | 28 => ("NestedStoreModel", "first", "[I", true)
  | 29 => ("NestedStoreModel", "second", "[I", true)
  | 30 => ("NestedStoreModel", "wanted", "I", false)
  | 31 => ("NestedStoreModel", "item", "[I", true)
  | 32 => ("NestedStoreModel", "mode", "I", false)
  | 33 => ("NestedStoreModel", "lacks", "[I", true)
  | 34 => ("NestedStoreModel", "lackMode", "[I", true)
  | 35 => ("NestedStoreModel", "ahead", "[Z", true)
  | 36 => ("NestedStoreModel", "back", "[Z", true)
  | 37 => ("NestedStoreModel", "falls", "[Z", true)
  | _ => ("NestedStoreModel", "latest", "I", false)
def t_M : Nat → FieldType := fun k => match k with
  | 0 => .int
  | 1 => .array .boolean
  | 2 => .array .int
  | 3 => .array .int
  | 4 => .array .boolean
  | 5 => .array .int
  | 6 => .array .int
  | 7 => .array .boolean
  | 8 => .array .boolean
  | 9 => .array .int
  | 10 => .int
  | 11 => .int
  | 12 => .int
  | 13 => .int
  | 14 => .array .int
  | 15 => .array .int
  | 16 => .array .int
  | 17 => .array .int
  | 18 => .array .boolean
  | 19 => .array .int
  | 20 => .array .boolean
  | 21 => .array .int
  | 22 => .int
  | 23 => .array .int
  | 24 => .array .int
  | 25 => .array .int
  | 26 => .array .int
  | 27 => .array .int
  | 28 => .array .int
  | 29 => .array .int
  | 30 => .int
  | 31 => .array .int
  | 32 => .int
  | 33 => .array .int
  | 34 => .array .int
  | 35 => .array .boolean
  | 36 => .array .boolean
  | 37 => .array .boolean
  | _ => .int
theorem n_M : ∀ a, a < 39 → ∀ b, b < 39 → a ≠ b → (F_M a).2.1 ≠ (F_M b).2.1 := by decide +kernel
theorem t_M_ok : ∀ k, k < 39 → parseFieldDescriptor (F_M k).2.2.1 = some (t_M k) := by decide +kernel
set_option maxRecDepth 20000 in
theorem fl_M_0 : u_lay R_M F_M 0 ∈ tbG := tb_in 642 (by rfl) rfl
set_option maxRecDepth 20000 in
theorem fl_M_1 : u_lay R_M F_M 1 ∈ tbG := tb_in 644 (by rfl) rfl
set_option maxRecDepth 20000 in
theorem fl_M_2 : u_lay R_M F_M 2 ∈ tbG := tb_in 646 (by rfl) rfl
set_option maxRecDepth 20000 in
theorem fl_M_3 : u_lay R_M F_M 3 ∈ tbG := tb_in 648 (by rfl) rfl
set_option maxRecDepth 20000 in
theorem fl_M_4 : u_lay R_M F_M 4 ∈ tbG := tb_in 650 (by rfl) rfl
set_option maxRecDepth 20000 in
theorem fl_M_5 : u_lay R_M F_M 5 ∈ tbG := tb_in 652 (by rfl) rfl
set_option maxRecDepth 20000 in
theorem fl_M_6 : u_lay R_M F_M 6 ∈ tbG := tb_in 654 (by rfl) rfl
set_option maxRecDepth 20000 in
theorem fl_M_7 : u_lay R_M F_M 7 ∈ tbG := tb_in 656 (by rfl) rfl
set_option maxRecDepth 20000 in
theorem fl_M_8 : u_lay R_M F_M 8 ∈ tbG := tb_in 658 (by rfl) rfl
set_option maxRecDepth 20000 in
theorem fl_M_9 : u_lay R_M F_M 9 ∈ tbG := tb_in 660 (by rfl) rfl
set_option maxRecDepth 20000 in
theorem fl_M_10 : u_lay R_M F_M 10 ∈ tbG := tb_in 662 (by rfl) rfl
set_option maxRecDepth 20000 in
theorem fl_M_11 : u_lay R_M F_M 11 ∈ tbG := tb_in 664 (by rfl) rfl
set_option maxRecDepth 20000 in
theorem fl_M_12 : u_lay R_M F_M 12 ∈ tbG := tb_in 666 (by rfl) rfl
set_option maxRecDepth 20000 in
theorem fl_M_13 : u_lay R_M F_M 13 ∈ tbG := tb_in 668 (by rfl) rfl
set_option maxRecDepth 20000 in
theorem fl_M_14 : u_lay R_M F_M 14 ∈ tbG := tb_in 670 (by rfl) rfl
set_option maxRecDepth 20000 in
theorem fl_M_15 : u_lay R_M F_M 15 ∈ tbG := tb_in 672 (by rfl) rfl
set_option maxRecDepth 20000 in
theorem fl_M_16 : u_lay R_M F_M 16 ∈ tbG := tb_in 674 (by rfl) rfl
set_option maxRecDepth 20000 in
theorem fl_M_17 : u_lay R_M F_M 17 ∈ tbG := tb_in 676 (by rfl) rfl
set_option maxRecDepth 20000 in
theorem fl_M_18 : u_lay R_M F_M 18 ∈ tbG := tb_in 678 (by rfl) rfl
set_option maxRecDepth 20000 in
theorem fl_M_19 : u_lay R_M F_M 19 ∈ tbG := tb_in 680 (by rfl) rfl
set_option maxRecDepth 20000 in
theorem fl_M_20 : u_lay R_M F_M 20 ∈ tbG := tb_in 682 (by rfl) rfl
set_option maxRecDepth 20000 in
theorem fl_M_21 : u_lay R_M F_M 21 ∈ tbG := tb_in 684 (by rfl) rfl
set_option maxRecDepth 20000 in
theorem fl_M_22 : u_lay R_M F_M 22 ∈ tbG := tb_in 686 (by rfl) rfl
set_option maxRecDepth 20000 in
theorem fl_M_23 : u_lay R_M F_M 23 ∈ tbG := tb_in 688 (by rfl) rfl
set_option maxRecDepth 20000 in
theorem fl_M_24 : u_lay R_M F_M 24 ∈ tbG := tb_in 690 (by rfl) rfl
set_option maxRecDepth 20000 in
theorem fl_M_25 : u_lay R_M F_M 25 ∈ tbG := tb_in 692 (by rfl) rfl
set_option maxRecDepth 20000 in
theorem fl_M_26 : u_lay R_M F_M 26 ∈ tbG := tb_in 694 (by rfl) rfl
set_option maxRecDepth 20000 in
theorem fl_M_27 : u_lay R_M F_M 27 ∈ tbG := tb_in 696 (by rfl) rfl
set_option maxRecDepth 20000 in
theorem fl_M_28 : u_lay R_M F_M 28 ∈ tbG := tb_in 698 (by rfl) rfl
set_option maxRecDepth 20000 in
theorem fl_M_29 : u_lay R_M F_M 29 ∈ tbG := tb_in 700 (by rfl) rfl
set_option maxRecDepth 20000 in
theorem fl_M_30 : u_lay R_M F_M 30 ∈ tbG := tb_in 702 (by rfl) rfl
set_option maxRecDepth 20000 in
theorem fl_M_31 : u_lay R_M F_M 31 ∈ tbG := tb_in 704 (by rfl) rfl
set_option maxRecDepth 20000 in
theorem fl_M_32 : u_lay R_M F_M 32 ∈ tbG := tb_in 706 (by rfl) rfl
set_option maxRecDepth 20000 in
theorem fl_M_33 : u_lay R_M F_M 33 ∈ tbG := tb_in 708 (by rfl) rfl
set_option maxRecDepth 20000 in
theorem fl_M_34 : u_lay R_M F_M 34 ∈ tbG := tb_in 710 (by rfl) rfl
set_option maxRecDepth 20000 in
theorem fl_M_35 : u_lay R_M F_M 35 ∈ tbG := tb_in 712 (by rfl) rfl
set_option maxRecDepth 20000 in
theorem fl_M_36 : u_lay R_M F_M 36 ∈ tbG := tb_in 714 (by rfl) rfl
set_option maxRecDepth 20000 in
theorem fl_M_37 : u_lay R_M F_M 37 ∈ tbG := tb_in 716 (by rfl) rfl
set_option maxRecDepth 20000 in
theorem fl_M_38 : u_lay R_M F_M 38 ∈ tbG := tb_in 718 (by rfl) rfl
theorem i_M : ∀ w ∈ u_ws R_M F_M 39, w ∈ tbG := by
  intro w hw
  obtain ⟨k, hk, rfl⟩ := List.mem_map.mp hw
  have hk := List.mem_range.mp hk
  match k, hk with
  | 0, _ => exact fl_M_0
  | 1, _ => exact fl_M_1
  | 2, _ => exact fl_M_2
  | 3, _ => exact fl_M_3
  | 4, _ => exact fl_M_4
  | 5, _ => exact fl_M_5
  | 6, _ => exact fl_M_6
  | 7, _ => exact fl_M_7
  | 8, _ => exact fl_M_8
  | 9, _ => exact fl_M_9
  | 10, _ => exact fl_M_10
  | 11, _ => exact fl_M_11
  | 12, _ => exact fl_M_12
  | 13, _ => exact fl_M_13
  | 14, _ => exact fl_M_14
  | 15, _ => exact fl_M_15
  | 16, _ => exact fl_M_16
  | 17, _ => exact fl_M_17
  | 18, _ => exact fl_M_18
  | 19, _ => exact fl_M_19
  | 20, _ => exact fl_M_20
  | 21, _ => exact fl_M_21
  | 22, _ => exact fl_M_22
  | 23, _ => exact fl_M_23
  | 24, _ => exact fl_M_24
  | 25, _ => exact fl_M_25
  | 26, _ => exact fl_M_26
  | 27, _ => exact fl_M_27
  | 28, _ => exact fl_M_28
  | 29, _ => exact fl_M_29
  | 30, _ => exact fl_M_30
  | 31, _ => exact fl_M_31
  | 32, _ => exact fl_M_32
  | 33, _ => exact fl_M_33
  | 34, _ => exact fl_M_34
  | 35, _ => exact fl_M_35
  | 36, _ => exact fl_M_36
  | 37, _ => exact fl_M_37
  | 38, _ => exact fl_M_38
  | k + 39, h => exact absurd h (by omega)
abbrev m_frames : Nat := 0
abbrev m_diskThere : Nat := 1
abbrev m_diskValue : Nat := 2
abbrev m_diskLsn : Nat := 3
abbrev m_there : Nat := 4
abbrev m_value : Nat := 5
abbrev m_lsn : Nat := 6
abbrev m_inFrame : Nat := 7
abbrev m_dirty : Nat := 8
abbrev m_touched : Nat := 9
abbrev m_clock : Nat := 10
abbrev m_base : Nat := 11
abbrev m_records : Nat := 12
abbrev m_flushed : Nat := 13
abbrev m_kind : Nat := 14
abbrev m_by : Nat := 15
abbrev m_about : Nat := 16
abbrev m_of : Nat := 17
abbrev m_wasThere : Nat := 18
abbrev m_wasValue : Nat := 19
abbrev m_isThere : Nat := 20
abbrev m_isValue : Nat := 21
abbrev m_many : Nat := 22
abbrev m_state : Nat := 23
abbrev m_parent : Nat := 24
abbrev m_began : Nat := 25
abbrev m_locks : Nat := 26
abbrev m_asks : Nat := 27
abbrev m_first : Nat := 28
abbrev m_second : Nat := 29
abbrev m_wanted : Nat := 30
abbrev m_item : Nat := 31
abbrev m_mode : Nat := 32
abbrev m_lacks : Nat := 33
abbrev m_lackMode : Nat := 34
abbrev m_ahead : Nat := 35
abbrev m_back : Nat := 36
abbrev m_falls : Nat := 37
abbrev m_latest : Nat := 38
def kndM (k : Nat) : Nat := match k with
  | 1 => 2
  | 2 => 1
  | 3 => 1
  | 4 => 2
  | 5 => 1
  | 6 => 1
  | 7 => 2
  | 8 => 2
  | 9 => 1
  | 14 => 1
  | 15 => 1
  | 16 => 1
  | 17 => 1
  | 18 => 2
  | 19 => 1
  | 20 => 2
  | 21 => 1
  | 23 => 1
  | 24 => 1
  | 25 => 1
  | 26 => 1
  | 27 => 1
  | 28 => 1
  | 29 => 1
  | 31 => 1
  | 33 => 1
  | 34 => 1
  | 35 => 2
  | 36 => 2
  | 37 => 2
  | _ => 0
def lenM (k : Nat) : Nat := match k with
  | 1 => 32
  | 2 => 32
  | 3 => 8
  | 4 => 32
  | 5 => 32
  | 6 => 8
  | 7 => 8
  | 8 => 8
  | 9 => 8
  | 14 => 301
  | 15 => 301
  | 16 => 301
  | 17 => 301
  | 18 => 301
  | 19 => 301
  | 20 => 301
  | 21 => 301
  | 23 => 60
  | 24 => 60
  | 25 => 60
  | 26 => 1980
  | 27 => 60
  | 28 => 60
  | 29 => 60
  | 31 => 33
  | 33 => 60
  | 34 => 60
  | 35 => 60
  | 36 => 60
  | 37 => 60
  | _ => 0
abbrev MSt : Type := Nat → Int → Int
def up (M : MSt) (k : Nat) (i z : Int) (k' : Nat) (i' : Int) : Int := if k' = k ∧ i' = i then z else M k' i'
theorem up_same (M : MSt) (k : Nat) (i z : Int) : up M k i z k i = z := by simp [up]
theorem up_ne {M : MSt} {k k' : Nat} {i i' z : Int} (h : ¬ (k' = k ∧ i' = i)) : up M k i z k' i' = M k' i' := by simp only [up, if_neg h]
abbrev Em : Type := Nat × (Nat → Nat) × Nat × ClassId × (Nat → Nat) × ClassId × ClassId
abbrev Em.x (E : Em) : Nat := E.1
abbrev Em.ad (E : Em) : Nat → Nat := E.2.1
abbrev Em.sz (E : Em) : Nat := E.2.2.1
abbrev Em.cM (E : Em) : ClassId := E.2.2.2.1
abbrev Em.iS (E : Em) : Nat → Nat := E.2.2.2.2.1
abbrev Em.cI (E : Em) : ClassId := E.2.2.2.2.2.1
abbrev Em.cZ (E : Em) : ClassId := E.2.2.2.2.2.2
def mV (E : Em) (M : MSt) (k : Nat) : Value := if kndM k = 0 then J (M k 0) else .ref (Em.ad E k)
def cAM (E : Em) (k : Nat) : ClassId := if kndM k = 1 then Em.cI E else Em.cZ E
def RelM (E : Em) (M : MSt) (H : Heap) : Prop :=
  H.size = Em.sz E ∧ t_OB (Em.x E) (Em.cM E) 39 (Em.iS E) H (mV E M) ∧ (∀ k, kndM k ≠ 0 → H[Em.ad E k]? = some (arrV (cAM E k) (lenM k) (fun j => J (M k j)))) ∧
  (∀ k j, kndM k ≠ 0 → kndM j ≠ 0 → Em.ad E k = Em.ad E j → k = j) ∧ (∀ k, kndM k ≠ 0 → Em.ad E k ≠ Em.x E) ∧ (∀ k i, InR (M k i)) ∧ (∀ k i, kndM k = 2 → M k i = 0 ∨ M k i = 1)
def AM (E : Em) : Nat → Prop := fun q => q = Em.x E ∨ ∃ k, kndM k ≠ 0 ∧ q = Em.ad E k
def KM (E : Em) (U : State) : Prop := u_Kn U R_M F_M 39 (Em.cM E) (Em.iS E) ∧ ArrOfT U (Em.cI E) .int ∧ ArrOfT U (Em.cZ E) .boolean
theorem KM.moved {E : Em} {u U : State} (hvm : u.vm.Alike U.vm) (h : KM E u) : KM E U := ⟨u_Kn_moved hvm h.1, arrOfT_moved hvm h.2.1, arrOfT_moved hvm h.2.2⟩
def QM (E : Em) (Q : Option Int → MSt → Prop) : Array Value → State → Outcome → State → Prop := fun _ st oc t =>
  (∃ (r : Option Int) (M' : MSt), oc = .returned (r.map J) ∧ Q r M' ∧ RelM E M' t.heap) ∧ va_F (AM E) st t
def rmO (lv : Nat) : Room := { frames := lv, cells := 0, slots := 0, locals := 40 * lv }
/-- a method of the model, called on it with av where it holds M: it returns r and leaves M' with Q -/
def MCon (y : MethodName) (w : List Cond) (lv : Nat) (av : List Int) (M : MSt) (Q : Option Int → MSt → Prop) : Prop :=
  ∀ (l : Launch) (E : Em), Met l y w (rmO lv) (va_Pc (.ref (Em.x E) :: av.map J) (fun U => RelM E M U.heap ∧ KM E U)) (QM E Q) 0 0 (AM E)
/-- a static method over numbers alone -/
def SCon (y : MethodName) (w : List Cond) (lv : Nat) (av : List Int) (Q : Option Int → Prop) : Prop :=
  ∀ (l : Launch), Met l y w (rmO lv) (va_Pc (av.map J) (fun _ => True)) (fun _ st oc t => (∃ r : Option Int, oc = .returned (r.map J) ∧ Q r) ∧ t.heap = st.heap) 0 0 (fun _ => False)
def MOk (C : String) (y : MethodName) (b : ByteArray) (n : Nat) (rt : Option FieldType) (na : Nat) : Prop :=
  Cond.code y b n rt ∈ tbG ∧ Cond.instanceMethod y ∈ tbG ∧ Cond.selects C y y ∈ tbG ∧ Cond.initialized C ∈ tbG ∧ (y.cls = C ∧ y.cls ≠ "java/lang/invoke/MethodHandle" ∧ y.cls ≠ "java/lang/invoke/VarHandle" ∧ (parseMethodDescriptor y.desc).map (fun d => d.parameters.length) = some na) ∧ n ≤ 21
def SOk (C : String) (y : MethodName) (b : ByteArray) (n : Nat) (rt : Option FieldType) (na : Nat) : Prop :=
  Cond.code y b n rt ∈ tbG ∧ Cond.static y ∈ tbG ∧ Cond.initialized C ∈ tbG ∧ (y.cls = C ∧ y.cls ≠ "java/lang/invoke/MethodHandle" ∧ y.cls ≠ "java/lang/invoke/VarHandle" ∧ (parseMethodDescriptor y.desc).map (fun d => d.parameters.length) = some na) ∧ n ≤ 21
/-- the frame of a method of class C at level lv: what its rows need -/
def OkC (X : Cx) (C : String) (cc : ByteArray) (rt : Option FieldType) (lv : Nat) : Prop :=
  Ok X cc ∧ (Cx.s X).vm.findClass C = some (Cx.m X).cls ∧ (∀ w ∈ tbG, w.before (Cx.args X) (Cx.s X) = true) ∧ (Cx.c X).maxLocals = Cx.nL X ∧ (Cx.meth X).locks = false ∧ (Cx.meth X).sig.returnType = rt ∧ lv ≤ (Cx.R X).frames ∧ 40 * lv ≤ (Cx.R X).locals
def OkM (X : Cx) (E : Em) (cc : ByteArray) (n : Nat) (rt : Option FieldType) (lv : Nat) (Q : Option Int → MSt → Prop) : Prop :=
  OkC X R_M cc rt lv ∧ KM E (Cx.s X) ∧ Cx.A X = AM E ∧ Cx.Q X = MQ (Cx.below X) (QM E Q) (Cx.args X) (Cx.s X) 0 0 (AM E) ∧ (Cx.s X).heap.size = Em.sz E ∧ Cx.nL X = n
def OkS (X : Cx) (C : String) (cc : ByteArray) (n : Nat) (rt : Option FieldType) (lv : Nat) (H0 : Heap) (Q : Option Int → Prop) : Prop :=
  OkC X C cc rt lv ∧ Cx.A X = (fun _ => False) ∧ Cx.Q X = MQ (Cx.below X) (fun _ st oc t => (∃ r : Option Int, oc = .returned (r.map J) ∧ Q r) ∧ t.heap = st.heap) (Cx.args X) (Cx.s X) 0 0 (fun _ => False) ∧ (Cx.s X).heap = H0 ∧ Cx.nL X = n
theorem slN_0 {H : Heap} {n : Nat} (h : H.size ≤ n) : slN n H = 0 := by
  unfold slN
  rw [List.drop_of_length_le (by simpa using h)]
  rfl
def lseq : Nat → List Value → List (Nat × Value)
  | _, [] => []
  | i, v :: vs => (i, v) :: lseq (i + 1) vs
theorem lseq_args (vs : List Value) (h : ∀ v ∈ vs, v.category = 1) : ∀ i, lv_args i vs = lseq i vs := by
  induction vs with
  | nil => intro i; rfl
  | cons v vs ih =>
    intro i
    have h1 := h v List.mem_cons_self
    unfold lv_args lseq
    rw [h1, if_neg (by decide), ih (fun w hw => h w (List.mem_cons_of_mem _ hw))]
theorem lseq_cat {vs : List Value} (h : ∀ v ∈ vs, v.category = 1) : ∀ (i : Nat) (q : Nat × Value), q ∈ lseq i vs → q.2.category = 1 := by
  induction vs with
  | nil => intro i q hq; cases hq
  | cons v vs ih =>
    intro i q hq
    rcases List.mem_cons.mp hq with rfl | hq
    · exact h _ List.mem_cons_self
    · exact ih (fun w hw => h w (List.mem_cons_of_mem _ hw)) _ q hq
theorem lg_len (vs : List Value) (h : ∀ v ∈ vs, v.category = 1) : (lg_sl vs).length = vs.length := by
  induction vs with
  | nil => rfl
  | cons v vs ih =>
    have h1 := h v List.mem_cons_self
    have h2 := ih (fun w hw => h w (List.mem_cons_of_mem _ hw))
    simp only [lg_sl, List.flatMap_cons, List.length_append, List.length_cons] at h2 ⊢
    rw [h2, h1]
    simp; omega
/-- the entry of a method: its locals -/
theorem lok_entry {m : MethodId} {vs : List Value} {n : Nat} (h : ∀ v ∈ vs, v.category = 1) (hn : vs.length ≤ n) : ∃ ls, entryFrame m vs.toArray n = F0 m 0 ls [] ∧ lok ls n (lseq 0 vs) [] := by
  rw [lg_entry_eq]
  refine ⟨_, rfl, ?_, lseq_cat h 0⟩
  have := lv_entry vs (n := n) (by rw [lg_len vs h]; exact hn)
  rw [lseq_args vs h] at this
  simpa [gval] using this
theorem cat_J (av : List Int) : ∀ v ∈ av.map J, v.category = 1 := by
  intro v hv
  obtain ⟨z, -, rfl⟩ := List.mem_map.mp hv
  rfl
theorem cat_rJ (x : Nat) (av : List Int) : ∀ v ∈ Value.ref x :: av.map J, v.category = 1 := by
  intro v hv
  rcases List.mem_cons.mp hv with rfl | hv
  · rfl
  · exact cat_J av v hv
theorem MCon.of {y : MethodName} {cc : ByteArray} {n : Nat} {rt : Option FieldType} {lv : Nat} {av : List Int} {M : MSt} {Q : Option Int → MSt → Prop} (hy : plainName y.cls = true) (hc : y.cls = R_M) (hn : av.length + 1 ≤ n)
    (k : ∀ (X : Cx) (E : Em), OkM X E cc n rt lv Q → V X (RelM E M) 0 (lseq 0 (.ref (Em.x E) :: av.map J)) [] []) : MCon y (wsOf y cc n rt) lv av M Q := by
  intro l E
  refine Met.ofW (cc := cc) (maxL := n) (ret := rt) hy rfl ?_
  intro p e s m args below meth c s₁ B hml hv
  obtain ⟨rfl, hR, hK⟩ := hv
  have hts := atoms_spec (ws := wsOf y cc n rt) B.pre
  have hown : s.vm.findClass R_M = some m.cls := hc ▸ findClass_of_methodNamed B.named
  obtain ⟨ls, he, hl⟩ := lok_entry (m := m) (n := n) (cat_rJ (Em.x E) av) (by simpa using hn)
  rw [he]
  have := k (p, l, e, (headSpec (wsOf y cc n rt) (rmO lv)).room, s, m, (Value.ref (Em.x E) :: av.map J).toArray, below, meth, c, MQ below (QM E Q) (Value.ref (Em.x E) :: av.map J).toArray s 0 0 (AM E), n, AM E) E
    ⟨⟨⟨B.exec, B.bytes⟩, hown, fun w hw => hts w (List.mem_cons_of_mem _ hw), hml, B.notSynchronized, B.returns, Nat.le_refl _, Nat.le_refl _⟩, hK, rfl, rfl, hR.1, rfl⟩ s.heap [] ls va_S.rf hR hl
  exact WX.exact (cells := 0) (slots := 0) this
theorem SCon.of {y : MethodName} {cc : ByteArray} {n : Nat} {rt : Option FieldType} {lv : Nat} {av : List Int} {Q : Option Int → Prop} (hy : plainName y.cls = true) (hn : av.length ≤ n)
    (k : ∀ (X : Cx) (H0 : Heap), OkS X y.cls cc n rt lv H0 Q → V X (fun H => H = H0) 0 (lseq 0 (av.map J)) [] []) : SCon y (wsOf y cc n rt) lv av Q := by
  intro l
  refine Met.ofW (cc := cc) (maxL := n) (ret := rt) hy rfl ?_
  intro p e s m args below meth c s₁ B hml hv
  obtain ⟨rfl, -⟩ := hv
  have hts := atoms_spec (ws := wsOf y cc n rt) B.pre
  have hown : s.vm.findClass y.cls = some m.cls := findClass_of_methodNamed B.named
  obtain ⟨ls, he, hl⟩ := lok_entry (m := m) (n := n) (cat_J av) (by simpa using hn)
  rw [he]
  have := k (p, l, e, (headSpec (wsOf y cc n rt) (rmO lv)).room, s, m, (av.map J).toArray, below, meth, c, MQ below (fun _ st oc t => (∃ r : Option Int, oc = .returned (r.map J) ∧ Q r) ∧ t.heap = st.heap) (av.map J).toArray s 0 0 (fun _ => False), n, fun _ => False) s.heap
    ⟨⟨⟨B.exec, B.bytes⟩, hown, fun w hw => hts w (List.mem_cons_of_mem _ hw), hml, B.notSynchronized, B.returns, Nat.le_refl _, Nat.le_refl _⟩, rfl, rfl, rfl, rfl⟩ s.heap [] ls va_S.rf rfl hl
  exact WX.exact (cells := 0) (slots := 0) this
theorem lenM_le (k : Nat) : (lenM k : Int) ≤ 1980 := by unfold lenM; split <;> decide
section MRows
variable {X : Cx} {E : Em} {M : MSt} {cc : ByteArray} {n lv : Nat} {rt : Option FieldType} {Q : Option Int → MSt → Prop} {pc nx tgt : Nat} {L L' : List (Nat × Value)} {G : List (Nat × Int64)} {st : List Value}
theorem OkM.lt (o : OkM X E cc n rt lv Q) {i : Nat} (h : i < n) : i < Cx.nL X := by rw [o.2.2.2.2.2]; exact h
theorem OkM.ok (o : OkM X E cc n rt lv Q) : Ok X cc := o.1.1
theorem m_get0 (o : OkM X E cc n rt lv Q) {i : Nat} (k : Nat) (hk : k < 39) (hf : Cond.fieldLink R_M i R_M (F_M k).2.1 (F_M k).2.2.1 ∈ tbG) (hF : (F_M k).1 = R_M) (d : dc cc pc (.getfield i) nx) (kk : V X (RelM E M) nx L G (mV E M k :: st)) (hn : pc + 3 = nx) : V X (RelM E M) pc L G (.ref (Em.x E) :: st) := by
  subst hn
  intro H locs ls hS hR hl
  have d := d.1
  rw [Nat.add_sub_cancel_left] at d
  obtain ⟨⟨⟨hx, hb⟩, hown, hts, -⟩, hK, -⟩ := o
  obtain ⟨cell, q1, q2, q3, q4⟩ := hR.2.1
  obtain ⟨hSl, hfc, kC, hkC, hkind⟩ := hK.1
  obtain ⟨cf, kf, fi, f, hi, hsl⟩ := hSl k hk
  refine W.getf hx hb hown (hts _ hf) (hF ▸ hi) (u_facts hfc hkC (u_lays hts i_M hk) hi).1 q1 (by rw [q3]; exact fun h => by cases h) (v := mV E M k) ?_ rfl rfl d (kk H locs ls hS hR hl)
  rw [hsl, q4 k hk]
theorem m_geti (o : OkM X E cc n rt lv Q) {i : Nat} (k : Nat) (hk : k < 39) (h0 : kndM k = 0) (hf : Cond.fieldLink R_M i R_M (F_M k).2.1 (F_M k).2.2.1 ∈ tbG) (hF : (F_M k).1 = R_M) (d : dc cc pc (.getfield i) nx) (kk : InR (M k 0) → V X (RelM E M) nx L G (J (M k 0) :: st)) (hn : pc + 3 = nx := by rfl) : V X (RelM E M) pc L G (.ref (Em.x E) :: st) :=
  V.get (fun _ hR => hR.2.2.2.2.2.1 k 0) fun hi => m_get0 o k hk hf hF d (by rw [mV, if_pos h0]; exact kk hi) hn
theorem m_geta (o : OkM X E cc n rt lv Q) {i : Nat} (k : Nat) (hk : k < 39) (h0 : kndM k ≠ 0) (hf : Cond.fieldLink R_M i R_M (F_M k).2.1 (F_M k).2.2.1 ∈ tbG) (hF : (F_M k).1 = R_M) (d : dc cc pc (.getfield i) nx) (kk : V X (RelM E M) nx L G (.ref (Em.ad E k) :: st)) (hn : pc + 3 = nx := by rfl) : V X (RelM E M) pc L G (.ref (Em.x E) :: st) :=
  m_get0 o k hk hf hF d (by rw [mV, if_neg h0]; exact kk) hn
theorem m_puti (o : OkM X E cc n rt lv Q) {i : Nat} {z : Int} (k : Nat) (hk : k < 39) (h0 : kndM k = 0) (hfin : (F_M k).2.2.2 = false) (hd0 : parseFieldDescriptor (F_M k).2.2.1 = some .int) (hf : Cond.fieldLink R_M i R_M (F_M k).2.1 (F_M k).2.2.1 ∈ tbG) (hF : (F_M k).1 = R_M) (hz : InR z) (d : dc cc pc (.putfield i) nx) (kk : V X (RelM E (up M k 0 z)) nx L G st) (hn : pc + 3 = nx := by rfl) : V X (RelM E M) pc L G (J z :: .ref (Em.x E) :: st) := by
  subst hn
  intro H locs ls hS hR hl
  have d := d.1
  rw [Nat.add_sub_cancel_left] at d
  obtain ⟨⟨⟨hx, hb⟩, hown, hts, -⟩, hK, hA, hQ, hsz, -⟩ := o
  obtain ⟨hs0, ⟨cell, q1, q2, q3, q4⟩, har, hinj, hne, hin, hbo⟩ := hR
  have hap : ∀ x y, x < 39 → y < 39 → x ≠ y → (Em.iS E) x ≠ (Em.iS E) y := by
    have hKv : va_K ((fun _ => Em.cM E, fun _ => Em.iS E) : va_G) [(R_M, F_M, 39)] [] (Cx.s X) := ⟨fun c q hq => by
      match c, hq with
      | 0, hq => cases hq; exact hK.1
      | c + 1, hq => simp at hq, fun k q h => by simp at h⟩
    exact va_apart (own := R_M) (ci := 0) hts i_M t_M t_M_ok n_M hKv rfl
  obtain ⟨hSl, hfc, kC, hkC, hkind⟩ := hK.1
  obtain ⟨cf, kf, fi, f, hi, hsl⟩ := hSl k hk
  have hlay := hts _ (i_M _ (u_in_lay hk))
  unfold u_lay at hlay
  rw [if_neg (by rw [hfin]; decide)] at hlay
  have hst := (u_facts hfc hkC (u_lays hts i_M hk) hi).1
  have h6 := u_store (v := J z) hfc hkC hkind hlay hi hd0 rfl rfl
  refine W.putK hx hb (f := f) ⟨hown, hts _ hf, ⟨_, _, _, hF ▸ hi⟩, hst⟩ (by rw [q2]; exact h6) q1 q3 (by rw [hsl]; exact k2_hasslot (q4 k hk)) rfl rfl d fun H' e1 e2 e3 => ?_
  rw [hsl] at e1 ⊢
  refine WX.exact (kk H' _ ls (hS.put e2 e3 (by rw [hA]; exact Or.inl rfl)) ⟨by rw [e2]; exact hs0, ?_, fun j hj => ?_, hinj, hne, fun j i => ?_, fun j i hj => ?_⟩ hl)
  · refine t_OB.to (V := updV (mV E M) k (J z)) ⟨_, e1, q2, q3, t_set q4 hap hk (J z)⟩ (fun j _ => ?_)
    unfold updV mV
    by_cases hj : j = k
    · subst hj
      rw [if_pos rfl, if_pos h0, up_same]
    · rw [if_neg hj]
      by_cases h1 : kndM j = 0
      · rw [if_pos h1, if_pos h1, up_ne (fun q => hj q.1)]
      · rw [if_neg h1, if_neg h1]
  · rw [e3 _ (hne j hj), har j hj]
    congr 2
    funext q
    rw [up_ne (fun q => hj (by rw [q.1]; exact h0))]
  · unfold up
    split
    · exact hz
    · exact hin j i
  · rw [up_ne (fun q => by rw [q.1, h0] at hj; cases hj)]
    exact hbo j i hj
theorem m_iald (o : OkM X E cc n rt lv Q) {z : Int} (k : Nat) (N : Int) (h1 : kndM k = 1) (hN : (lenM k : Int) = N) (hz : 0 ≤ z ∧ z < N) (d : dc cc pc .iaload nx) (kk : InR (M k z) → V X (RelM E M) nx L G (J (M k z) :: st)) (hn : pc + 1 = nx := by rfl) : V X (RelM E M) pc L G (J z :: .ref (Em.ad E k) :: st) := by
  subst hn
  subst hN
  have hl31 := lenM_le k
  intro H locs ls hS hR hl
  have d := d.1
  rw [Nat.add_sub_cancel_left] at d
  obtain ⟨⟨⟨hx, hb⟩, hown, hts, -⟩, hK, -⟩ := o
  have har := hR.2.2.1 k (by rw [h1]; decide)
  have hI : InR z := ⟨by omega, by omega⟩
  have hnat : (Int32.ofInt z).toNatClampNeg = z.toNat := i32_nat hI
  have ecA : cAM E k = Em.cI E := by rw [cAM, if_pos h1]
  rw [ecA] at har
  refine W.iald (v := J (M k z)) hx hb har (hK.2.1 _ _) (fun q => by cases q) (by rw [arrV_size, hnat, i32_0, i32_lt hI (by decide)]; omega) ?_ rfl rfl d (kk (hR.2.2.2.2.2.1 k z) H locs ls hS hR hl)
  rw [hnat, arrV_read _ _ (by omega)]
  rw [Int.toNat_of_nonneg hz.1]
theorem m_zald (o : OkM X E cc n rt lv Q) {z : Int} (k : Nat) (N : Int) (h1 : kndM k = 2) (hN : (lenM k : Int) = N) (hz : 0 ≤ z ∧ z < N) (d : dc cc pc .baload nx) (kk : (M k z = 0 ∨ M k z = 1) → V X (RelM E M) nx L G (J (M k z) :: st)) (hn : pc + 1 = nx := by rfl) : V X (RelM E M) pc L G (J z :: .ref (Em.ad E k) :: st) := by
  subst hn
  subst hN
  have hl31 := lenM_le k
  intro H locs ls hS hR hl
  have d := d.1
  rw [Nat.add_sub_cancel_left] at d
  obtain ⟨⟨⟨hx, hb⟩, hown, hts, -⟩, hK, -⟩ := o
  have har := hR.2.2.1 k (by rw [h1]; decide)
  have hI : InR z := ⟨by omega, by omega⟩
  have hnat : (Int32.ofInt z).toNatClampNeg = z.toNat := i32_nat hI
  have ecA : cAM E k = Em.cZ E := by rw [cAM, if_neg (by rw [h1]; decide)]
  rw [ecA] at har
  refine W.zald (v := J (M k z)) hx hb har (hK.2.2 _ _) (fun q => by cases q) (by rw [arrV_size, hnat, i32_0, i32_lt hI (by decide)]; omega) ?_ rfl rfl d (kk (hR.2.2.2.2.2.2 k z h1) H locs ls hS hR hl)
  rw [hnat, arrV_read _ _ (by omega)]
  rw [Int.toNat_of_nonneg hz.1]
theorem RelM.ast {H H' : Heap} {k : Nat} {z v : Int} (hR : RelM E M H) (hk : kndM k ≠ 0) (hz : 0 ≤ z) (hv : InR v) (hb : kndM k = 2 → v = 0 ∨ v = 1) (e1 : H'[Em.ad E k]? = some ((arrV (cAM E k) (lenM k) (fun j => J (M k j))).setSlot z.toNat (J v))) (e2 : H'.size = H.size) (e3 : ∀ q, q ≠ Em.ad E k → H'[q]? = H[q]?) : RelM E (up M k z v) H' := by
  obtain ⟨hs0, hob, har, hinj, hne, hin, hbo⟩ := hR
  refine ⟨by rw [e2]; exact hs0, ?_, fun j hj => ?_, hinj, hne, fun j i => ?_, fun j i hj => ?_⟩
  · refine t_OB.to (hob.kept (e3 _ (Ne.symm (hne k hk)))) (fun j _ => ?_)
    unfold mV
    by_cases h1 : kndM j = 0
    · rw [if_pos h1, if_pos h1, up_ne (fun q => hk (by rw [← q.1]; exact h1))]
    · rw [if_neg h1, if_neg h1]
  · by_cases hjk : j = k
    · subst hjk
      rw [e1, arrV_store]
      congr 2
      funext q
      unfold updV
      by_cases hq : q = z.toNat
      · subst hq
        rw [if_pos rfl, Int.toNat_of_nonneg hz, up_same]
      · rw [if_neg hq, up_ne (fun h => hq (by omega))]
    · rw [e3 _ (fun h => hjk (hinj j k hj hk h)), har j hj]
      congr 2
      funext q
      rw [up_ne (fun h => hjk h.1)]
  · unfold up
    split
    · exact hv
    · exact hin j i
  · unfold up
    split
    · next h => exact hb (h.1 ▸ hj)
    · exact hbo j i hj
theorem m_iast (o : OkM X E cc n rt lv Q) {z v : Int} (k : Nat) (N : Int) (h1 : kndM k = 1) (hN : (lenM k : Int) = N) (hz : 0 ≤ z ∧ z < N) (hv : InR v) (d : dc cc pc .iastore nx) (kk : V X (RelM E (up M k z v)) nx L G st) (hn : pc + 1 = nx := by rfl) : V X (RelM E M) pc L G (J v :: J z :: .ref (Em.ad E k) :: st) := by
  subst hn
  subst hN
  have hl31 := lenM_le k
  intro H locs ls hS hR hl
  have d := d.1
  rw [Nat.add_sub_cancel_left] at d
  obtain ⟨⟨⟨hx, hb⟩, hown, hts, -⟩, hK, hA, -⟩ := o
  have hk : kndM k ≠ 0 := by rw [h1]; decide
  have har := hR.2.2.1 k hk
  have hI : InR z := ⟨by omega, by omega⟩
  have hnat : (Int32.ofInt z).toNatClampNeg = z.toNat := i32_nat hI
  have ecA : cAM E k = Em.cI E := by rw [cAM, if_pos h1]
  refine W.iast hx hb har (by rw [ecA]; exact hK.2.1 _ _) (fun q => by cases q) (by rw [arrV_size, hnat, i32_0, i32_lt hI (by decide)]; omega) rfl rfl d fun H' e1 e2 e3 => ?_
  rw [hnat] at e1 ⊢
  exact WX.exact (kk H' _ ls (hS.put e2 e3 (by rw [hA]; exact Or.inr ⟨k, hk, rfl⟩)) (hR.ast hk hz.1 hv (fun h => by rw [h1] at h; cases h) e1 e2 e3) hl)
theorem nar_z {v : Int} (h : v = 0 ∨ v = 1) : narrow .boolean (J v) = J v := by rcases h with rfl | rfl <;> rfl
theorem m_zast (o : OkM X E cc n rt lv Q) {z v : Int} (k : Nat) (N : Int) (h1 : kndM k = 2) (hN : (lenM k : Int) = N) (hz : 0 ≤ z ∧ z < N) (hv : v = 0 ∨ v = 1) (d : dc cc pc .bastore nx) (kk : V X (RelM E (up M k z v)) nx L G st) (hn : pc + 1 = nx := by rfl) : V X (RelM E M) pc L G (J v :: J z :: .ref (Em.ad E k) :: st) := by
  subst hn
  subst hN
  have hl31 := lenM_le k
  intro H locs ls hS hR hl
  have d := d.1
  rw [Nat.add_sub_cancel_left] at d
  obtain ⟨⟨⟨hx, hb⟩, hown, hts, -⟩, hK, hA, -⟩ := o
  have hk : kndM k ≠ 0 := by rw [h1]; decide
  have har := hR.2.2.1 k hk
  have hI : InR z := ⟨by omega, by omega⟩
  have hnat : (Int32.ofInt z).toNatClampNeg = z.toNat := i32_nat hI
  have ecA : cAM E k = Em.cZ E := by rw [cAM, if_neg (by rw [h1]; decide)]
  refine W.zast hx hb har (by rw [ecA]; exact hK.2.2 _ _) (fun q => by cases q) (by rw [arrV_size, hnat, i32_0, i32_lt hI (by decide)]; omega) rfl rfl d fun H' e1 e2 e3 => ?_
  have e0 : narrow .boolean (.int (Int32.ofInt v)) = J v := nar_z hv
  rw [hnat, e0] at e1
  rw [hnat]
  exact WX.exact (kk H' _ ls (hS.put e2 e3 (by rw [hA]; exact Or.inr ⟨k, hk, rfl⟩)) (hR.ast hk hz.1 (by rcases hv with rfl | rfl <;> decide) (fun _ => hv) e1 e2 e3) hl)
theorem m_iret (o : OkM X E cc n (some .int) lv Q) {z : Int} (d : dc cc pc .ireturn nx) (hq : Q (some z) M) (hn : pc + 1 = nx := by rfl) : V X (RelM E M) pc L G [J z] := by
  subst hn
  intro H locs ls hS hR hl
  have d := d.1
  rw [Nat.add_sub_cancel_left] at d
  obtain ⟨⟨⟨hx, hb⟩, hown, hts, hml, hlk, hr, -⟩, hK, hA, hQ, hsz, -⟩ := o
  rw [hA] at hS
  unfold WX
  have e1 : H.size - (Cx.s X).heap.size = 0 := by rw [hR.1, hsz]; omega
  rw [hQ, e1, slN_0 (by rw [hR.1, hsz]; exact Nat.le_refl _)]
  exact W.iret hx hb hr (fun t ht _ => ⟨⟨some z, M, rfl, hq, by rw [ht]; exact hR⟩, hS.F ht⟩) hS.2.2 d hlk
theorem m_zret (o : OkM X E cc n (some .boolean) lv Q) {z : Int} (hz : z = 0 ∨ z = 1) (d : dc cc pc .ireturn nx) (hq : Q (some z) M) (hn : pc + 1 = nx := by rfl) : V X (RelM E M) pc L G [J z] := by
  subst hn
  intro H locs ls hS hR hl
  have d := d.1
  rw [Nat.add_sub_cancel_left] at d
  obtain ⟨⟨⟨hx, hb⟩, hown, hts, hml, hlk, hr, -⟩, hK, hA, hQ, hsz, -⟩ := o
  rw [hA] at hS
  unfold WX
  have e1 : H.size - (Cx.s X).heap.size = 0 := by rw [hR.1, hsz]; omega
  rw [hQ, e1, slN_0 (by rw [hR.1, hsz]; exact Nat.le_refl _)]
  exact W.zret hx hb hr (nar_z hz) (fun t ht _ => ⟨⟨some z, M, rfl, hq, by rw [ht]; exact hR⟩, hS.F ht⟩) hS.2.2 d hlk
theorem m_vret (o : OkM X E cc n none lv Q) (d : dc cc pc .return_ nx) (hq : Q none M) (hn : pc + 1 = nx := by rfl) : V X (RelM E M) pc L G [] := by
  subst hn
  intro H locs ls hS hR hl
  have d := d.1
  rw [Nat.add_sub_cancel_left] at d
  obtain ⟨⟨⟨hx, hb⟩, hown, hts, hml, hlk, hr, -⟩, hK, hA, hQ, hsz, -⟩ := o
  rw [hA] at hS
  unfold WX
  have e1 : H.size - (Cx.s X).heap.size = 0 := by rw [hR.1, hsz]; omega
  rw [hQ, e1, slN_0 (by rw [hR.1, hsz]; exact Nat.le_refl _)]
  exact W.vret hx hb hr (fun t ht _ => ⟨⟨none, M, rfl, hq, by rw [ht]; exact hR⟩, hS.F ht⟩) hS.2.2 d hlk
theorem cat_sum {l : List Value} (h : (l.map fun v => v.category).sum ≤ 8) {m : MethodId} {pc : Nat} {ls : Array Slot} {st : List Value} : 2 * (F0 m pc ls st).monitorRoom + (l.map fun v => v.category).sum ≤ 8 := lv_room h
theorem m_call (o : OkM X E cc n rt lv Q) {y' : MethodName} {b' : ByteArray} {n' na i lv' : Nat} {rt' : Option FieldType} {av : List Int} {Q' : Option Int → MSt → Prop} {st0 : List Value} (hc : MCon y' (wsOf y' b' n' rt') lv' av M Q') (q : MOk R_M y' b' n' rt' na) (hlk : Cond.methodLink R_M i y' ∈ tbG) (d : dc cc pc (.invokevirtual i) nx) (hlv : lv' < lv) (hst : st0 = (av.map J).reverse ++ .ref (Em.x E) :: st) (hcat : (st.map fun v => v.category).sum ≤ 8) (hna : av.length = na)
    (kk : ∀ r M', Q' r M' → V X (RelM E M') nx L G ((r.map J).toList ++ st)) (hn : pc + 3 = nx := by rfl) : V X (RelM E M) pc L G st0 := by
  subst hn
  intro H locs ls hS hR hl
  have d := d.1
  rw [Nat.add_sub_cancel_left] at d
  obtain ⟨⟨⟨hx, hb⟩, hown, hts, hml, hlk1, hr, hfr, hlo⟩, hK, hA, hQ, hsz, -⟩ := o
  obtain ⟨q1, q2, q3, q4, q5, q6⟩ := q
  have hgood : GoodIn tbG (wsV R_M i R_M y' (wsOf y' b' n' rt')) := by
    intro w hw
    rcases List.mem_append.mp hw with hw | hw
    · have : w ∈ tbG := by
        simp only [List.mem_cons, List.not_mem_nil, or_false] at hw
        rcases hw with rfl | rfl | rfl | rfl
        · exact hlk
        · exact q2
        · exact q3
        · exact q4
      exact ⟨this, tb_good _ this⟩
    · exact tbl_good q1 w hw
  have hrun := va_runV (As := av.map J) (rest := st) (H := H) (locs := locs) (cells := H.size - (Cx.s X).heap.size) (slots := slN (Cx.s X).heap.size H) (e := Cx.e X) (R := Cx.R X) (below := Cx.below X) (meth := Cx.meth X) (g := F0 (Cx.m X) pc ls st0) ⟨hx, hb, hml, hown, hts⟩ (hc (Cx.l X) E) (cwV (R := Cx.R X) na hts hgood rfl rfl rfl q5 ⟨by show lv' + 1 ≤ _; omega, by show 8 + (n' + 11) + 40 * lv' ≤ _; omega⟩)
    ⟨fun a U g mk q => by obtain ⟨q0, q1, q2⟩ := q; exact ⟨q0, q1, KM.moved (u := U) (U := U.calling g mk a) (Vm.Alike.refl U.vm) q2⟩, by
      obtain ⟨cell, g1, g2, g3, -⟩ := hR.2.1
      exact ⟨cell, g1, by rw [g3]; rfl, by rw [g2]; exact hK.1.2.1⟩, fun U hU hW => ⟨rfl, by rw [hU]; exact hR, KM.moved hW.alike hK⟩⟩ rfl (by simpa using hna) hl.1.1 hst (cat_sum hcat) d ⟨by rw [hR.1, hsz]; exact Nat.le_trans (by simp) (Nat.zero_le _), by rw [slN_0 (by rw [hR.1, hsz]; exact Nat.le_refl _)]; exact Nat.zero_le _⟩
  intro T hT Y
  obtain ⟨v, st₀, t, T', Ls, h0, Y', hL, e1, e2, ⟨⟨r, M', hv, hp, hb'⟩, hz, hkk⟩, stp⟩ := hrun T hT Y
  cases hv
  rw [h0] at hz hkk
  rw [hA] at hS
  have hS' : va_S (AM E) (Cx.s X).heap T'.heap (locs ++ Ls) := ⟨Nat.le_trans hS.1 (by rw [e1]; exact hz), fun q h1 h2 => by rw [e1, hkk q (Nat.lt_of_lt_of_le h1 hS.1) h2]; exact hS.2.1 q h1 h2, fun q hq => by
      rcases List.mem_append.mp hq with h | h
      · exact hS.2.2 q h
      · exact hL q h⟩
  obtain ⟨t2, a1, b1⟩ := WX.exact (kk r M' hp T'.heap (locs ++ Ls) ls (by rw [hA]; exact hS') (by rw [e1]; exact hb') hl) T' rfl Y'
  exact ⟨t2, stp t2 a1, b1⟩
theorem v_calls {C : String} {Rl : Heap → Prop} (o : OkC X C cc rt lv) {y' : MethodName} {b' : ByteArray} {n' na i lv' : Nat} {rt' : Option FieldType} {av : List Int} {Q' : Option Int → Prop} {st0 : List Value} (hc : SCon y' (wsOf y' b' n' rt') lv' av Q') (q : SOk C y' b' n' rt' na) (hlk : Cond.methodLink C i y' ∈ tbG) (d : dc cc pc (.invokestatic i) nx) (hlv : lv' < lv) (hst : st0 = (av.map J).reverse ++ st) (hcat : (st.map fun v => v.category).sum ≤ 8) (hna : av.length = na)
    (hroom : ∀ H, (Cx.s X).heap.size ≤ H.size → Rl H → H.size - (Cx.s X).heap.size ≤ (Cx.R X).cells ∧ slN (Cx.s X).heap.size H ≤ (Cx.R X).slots)
    (kk : ∀ r, Q' r → V X Rl nx L G ((r.map J).toList ++ st)) (hn : pc + 3 = nx := by rfl) : V X Rl pc L G st0 := by
  subst hn
  intro H locs ls hS hR hl
  have d := d.1
  rw [Nat.add_sub_cancel_left] at d
  obtain ⟨⟨hx, hb⟩, hown, hts, hml, hlk1, hr, hfr, hlo⟩ := o
  obtain ⟨q1, q2, q4, q5, q6⟩ := q
  have hgood : GoodIn tbG (wsS C i y' (wsOf y' b' n' rt')) := by
    intro w hw
    rcases List.mem_append.mp hw with hw | hw
    · have : w ∈ tbG := by
        simp only [List.mem_cons, List.not_mem_nil, or_false] at hw
        rcases hw with rfl | rfl | rfl
        · exact hlk
        · exact q2
        · exact q4
      exact ⟨this, tb_good _ this⟩
    · exact tbl_good q1 w hw
  have hro := hroom H hS.1 hR
  have hrun := va_runS (As := av.map J) (rest := st) (H := H) (locs := locs) (cells := H.size - (Cx.s X).heap.size) (slots := slN (Cx.s X).heap.size H) (e := Cx.e X) (R := Cx.R X) (below := Cx.below X) (meth := Cx.meth X) (g := F0 (Cx.m X) pc ls st0) ⟨hx, hb, hml, hown, hts⟩ (hc (Cx.l X)) (cwS (R := Cx.R X) na hts hgood rfl rfl rfl q5 ⟨by show lv' + 1 ≤ _; omega, by show 8 + (n' + 11) + 40 * lv' ≤ _; omega⟩)
    ⟨fun a U g mk q => q, fun U hU hW => ⟨rfl, trivial⟩⟩ rfl (by simpa using hna) hl.1.1 hst (cat_sum hcat) d hro
  intro T hT Y
  obtain ⟨v, st₀, t, T', Ls, h0, Y', hL, e1, e2, ⟨⟨r, hv, hp⟩, hh⟩, stp⟩ := hrun T hT Y
  cases hv
  have eT : T'.heap = H := by rw [e1, hh, h0]
  have hLs : Ls = [] := List.eq_nil_iff_forall_not_mem.mpr fun q hq => hL q hq
  obtain ⟨t2, a1, b1⟩ := WX.exact (kk r hp H (locs ++ Ls) ls (by rw [hLs, List.append_nil]; exact hS) hR hl) T' eT Y'
  exact ⟨t2, stp t2 a1, b1⟩
theorem m_calls (o : OkM X E cc n rt lv Q) {y' : MethodName} {b' : ByteArray} {n' na i lv' : Nat} {rt' : Option FieldType} {av : List Int} {Q' : Option Int → Prop} {st0 : List Value} (hc : SCon y' (wsOf y' b' n' rt') lv' av Q') (q : SOk R_M y' b' n' rt' na) (hlk : Cond.methodLink R_M i y' ∈ tbG) (d : dc cc pc (.invokestatic i) nx) (hlv : lv' < lv) (hst : st0 = (av.map J).reverse ++ st) (hcat : (st.map fun v => v.category).sum ≤ 8) (hna : av.length = na)
    (kk : ∀ r, Q' r → V X (RelM E M) nx L G ((r.map J).toList ++ st)) (hn : pc + 3 = nx := by rfl) : V X (RelM E M) pc L G st0 := by
  refine v_calls o.1 hc q hlk d hlv hst hcat hna ?_ kk hn
  intro H _ hR
  have hsz := o.2.2.2.2.1
  exact ⟨by rw [hR.1, hsz]; omega, by rw [slN_0 (by rw [hR.1, hsz]; exact Nat.le_refl _)]; exact Nat.zero_le _⟩
theorem s_iret {C : String} {H0 : Heap} {Qs : Option Int → Prop} (o : OkS X C cc n (some .int) lv H0 Qs) {z : Int} (d : dc cc pc .ireturn nx) (hq : Qs (some z)) (hn : pc + 1 = nx := by rfl) : V X (fun H => H = H0) pc L G [J z] := by
  subst hn
  intro H locs ls hS hR hl
  have d := d.1
  rw [Nat.add_sub_cancel_left] at d
  obtain ⟨⟨⟨hx, hb⟩, hown, hts, hml, hlk, hr, -⟩, hA, hQ, hsz, -⟩ := o
  rw [hA] at hS
  have hR : H = H0 := hR
  subst hR
  unfold WX
  rw [hQ, hsz, Nat.sub_self, slN_0 (Nat.le_refl _)]
  exact W.iret hx hb hr (fun t ht _ => ⟨⟨some z, rfl, hq⟩, by rw [ht, hsz]⟩) hS.2.2 d hlk
theorem s_zret {C : String} {H0 : Heap} {Qs : Option Int → Prop} (o : OkS X C cc n (some .boolean) lv H0 Qs) {z : Int} (hz : z = 0 ∨ z = 1) (d : dc cc pc .ireturn nx) (hq : Qs (some z)) (hn : pc + 1 = nx := by rfl) : V X (fun H => H = H0) pc L G [J z] := by
  subst hn
  intro H locs ls hS hR hl
  have d := d.1
  rw [Nat.add_sub_cancel_left] at d
  obtain ⟨⟨⟨hx, hb⟩, hown, hts, hml, hlk, hr, -⟩, hA, hQ, hsz, -⟩ := o
  rw [hA] at hS
  have hR : H = H0 := hR
  subst hR
  unfold WX
  rw [hQ, hsz, Nat.sub_self, slN_0 (Nat.le_refl _)]
  exact W.zret hx hb hr (nar_z hz) (fun t ht _ => ⟨⟨some z, rfl, hq⟩, by rw [ht, hsz]⟩) hS.2.2 d hlk
/-- a method with one answer and one end -/
def MF (y : MethodName) (w : List Cond) (lv : Nat) (av : List Int) (M : MSt) (z : Option Int) (M1 : MSt) : Prop := MCon y w lv av M (fun r M' => r = z ∧ M' = M1)
/-- a method that answers an int -/
def MI (y : MethodName) (w : List Cond) (lv : Nat) (av : List Int) (M : MSt) (Qi : Int → MSt → Prop) : Prop := MCon y w lv av M (fun r M' => ∃ z, r = some z ∧ Qi z M')
def MV (y : MethodName) (w : List Cond) (lv : Nat) (av : List Int) (M : MSt) (Qv : MSt → Prop) : Prop := MCon y w lv av M (fun r M' => r = none ∧ Qv M')
def SF (y : MethodName) (w : List Cond) (lv : Nat) (av : List Int) (z : Int) : Prop := SCon y w lv av (fun r => r = some z)
theorem m_cf (o : OkM X E cc n rt lv Q) {y' : MethodName} {b' : ByteArray} {n' na i lv' : Nat} {rt' : Option FieldType} {av : List Int} {z : Int} {M1 : MSt} {st0 : List Value} (hc : MF y' (wsOf y' b' n' rt') lv' av M (some z) M1) (q : MOk R_M y' b' n' rt' na) (hlk : Cond.methodLink R_M i y' ∈ tbG) (d : dc cc pc (.invokevirtual i) nx) (hlv : lv' < lv) (hst : st0 = (av.map J).reverse ++ .ref (Em.x E) :: st) (hcat : (st.map fun v => v.category).sum ≤ 8) (hna : av.length = na)
    (kk : V X (RelM E M1) nx L G (J z :: st)) (hn : pc + 3 = nx := by rfl) : V X (RelM E M) pc L G st0 :=
  m_call o hc q hlk d hlv hst hcat hna (fun r M' h => by obtain ⟨rfl, rfl⟩ := h; exact kk) hn
theorem m_cfv (o : OkM X E cc n rt lv Q) {y' : MethodName} {b' : ByteArray} {n' na i lv' : Nat} {rt' : Option FieldType} {av : List Int} {M1 : MSt} {st0 : List Value} (hc : MF y' (wsOf y' b' n' rt') lv' av M none M1) (q : MOk R_M y' b' n' rt' na) (hlk : Cond.methodLink R_M i y' ∈ tbG) (d : dc cc pc (.invokevirtual i) nx) (hlv : lv' < lv) (hst : st0 = (av.map J).reverse ++ .ref (Em.x E) :: st) (hcat : (st.map fun v => v.category).sum ≤ 8) (hna : av.length = na)
    (kk : V X (RelM E M1) nx L G st) (hn : pc + 3 = nx := by rfl) : V X (RelM E M) pc L G st0 :=
  m_call o hc q hlk d hlv hst hcat hna (fun r M' h => by obtain ⟨rfl, rfl⟩ := h; exact kk) hn
theorem m_ci (o : OkM X E cc n rt lv Q) {y' : MethodName} {b' : ByteArray} {n' na i lv' : Nat} {rt' : Option FieldType} {av : List Int} {Qi : Int → MSt → Prop} {st0 : List Value} (hc : MI y' (wsOf y' b' n' rt') lv' av M Qi) (q : MOk R_M y' b' n' rt' na) (hlk : Cond.methodLink R_M i y' ∈ tbG) (d : dc cc pc (.invokevirtual i) nx) (hlv : lv' < lv) (hst : st0 = (av.map J).reverse ++ .ref (Em.x E) :: st) (hcat : (st.map fun v => v.category).sum ≤ 8) (hna : av.length = na)
    (kk : ∀ z M', Qi z M' → V X (RelM E M') nx L G (J z :: st)) (hn : pc + 3 = nx := by rfl) : V X (RelM E M) pc L G st0 :=
  m_call o hc q hlk d hlv hst hcat hna (fun r M' h => by obtain ⟨z, rfl, h⟩ := h; exact kk z M' h) hn
theorem m_cv (o : OkM X E cc n rt lv Q) {y' : MethodName} {b' : ByteArray} {n' na i lv' : Nat} {rt' : Option FieldType} {av : List Int} {Qv : MSt → Prop} {st0 : List Value} (hc : MV y' (wsOf y' b' n' rt') lv' av M Qv) (q : MOk R_M y' b' n' rt' na) (hlk : Cond.methodLink R_M i y' ∈ tbG) (d : dc cc pc (.invokevirtual i) nx) (hlv : lv' < lv) (hst : st0 = (av.map J).reverse ++ .ref (Em.x E) :: st) (hcat : (st.map fun v => v.category).sum ≤ 8) (hna : av.length = na)
    (kk : ∀ M', Qv M' → V X (RelM E M') nx L G st) (hn : pc + 3 = nx := by rfl) : V X (RelM E M) pc L G st0 :=
  m_call o hc q hlk d hlv hst hcat hna (fun r M' h => by obtain ⟨rfl, h⟩ := h; exact kk M' h) hn
theorem m_cs (o : OkM X E cc n rt lv Q) {y' : MethodName} {b' : ByteArray} {n' na i lv' : Nat} {rt' : Option FieldType} {av : List Int} {z : Int} {st0 : List Value} (hc : SF y' (wsOf y' b' n' rt') lv' av z) (q : SOk R_M y' b' n' rt' na) (hlk : Cond.methodLink R_M i y' ∈ tbG) (d : dc cc pc (.invokestatic i) nx) (hlv : lv' < lv) (hst : st0 = (av.map J).reverse ++ st) (hcat : (st.map fun v => v.category).sum ≤ 8) (hna : av.length = na)
    (kk : V X (RelM E M) nx L G (J z :: st)) (hn : pc + 3 = nx := by rfl) : V X (RelM E M) pc L G st0 :=
  m_calls o hc q hlk d hlv hst hcat hna (fun r h => by obtain rfl := h; exact kk) hn
end MRows

set_option maxRecDepth 20000 in
theorem lf_M_101 : Cond.fieldLink R_M 101 R_M (F_M 0).2.1 (F_M 0).2.2.1 ∈ tbG := tb_in 603 (by rfl) rfl
set_option maxRecDepth 20000 in
theorem lf_M_7 : Cond.fieldLink R_M 7 R_M (F_M 1).2.1 (F_M 1).2.2.1 ∈ tbG := tb_in 604 (by rfl) rfl
set_option maxRecDepth 20000 in
theorem lf_M_13 : Cond.fieldLink R_M 13 R_M (F_M 2).2.1 (F_M 2).2.2.1 ∈ tbG := tb_in 605 (by rfl) rfl
set_option maxRecDepth 20000 in
theorem lf_M_17 : Cond.fieldLink R_M 17 R_M (F_M 3).2.1 (F_M 3).2.2.1 ∈ tbG := tb_in 606 (by rfl) rfl
set_option maxRecDepth 20000 in
theorem lf_M_20 : Cond.fieldLink R_M 20 R_M (F_M 4).2.1 (F_M 4).2.2.1 ∈ tbG := tb_in 607 (by rfl) rfl
set_option maxRecDepth 20000 in
theorem lf_M_23 : Cond.fieldLink R_M 23 R_M (F_M 5).2.1 (F_M 5).2.2.1 ∈ tbG := tb_in 608 (by rfl) rfl
set_option maxRecDepth 20000 in
theorem lf_M_26 : Cond.fieldLink R_M 26 R_M (F_M 6).2.1 (F_M 6).2.2.1 ∈ tbG := tb_in 609 (by rfl) rfl
set_option maxRecDepth 20000 in
theorem lf_M_29 : Cond.fieldLink R_M 29 R_M (F_M 7).2.1 (F_M 7).2.2.1 ∈ tbG := tb_in 610 (by rfl) rfl
set_option maxRecDepth 20000 in
theorem lf_M_32 : Cond.fieldLink R_M 32 R_M (F_M 8).2.1 (F_M 8).2.2.1 ∈ tbG := tb_in 611 (by rfl) rfl
set_option maxRecDepth 20000 in
theorem lf_M_35 : Cond.fieldLink R_M 35 R_M (F_M 9).2.1 (F_M 9).2.2.1 ∈ tbG := tb_in 612 (by rfl) rfl
set_option maxRecDepth 20000 in
theorem lf_M_108 : Cond.fieldLink R_M 108 R_M (F_M 10).2.1 (F_M 10).2.2.1 ∈ tbG := tb_in 613 (by rfl) rfl
set_option maxRecDepth 20000 in
theorem lf_M_115 : Cond.fieldLink R_M 115 R_M (F_M 11).2.1 (F_M 11).2.2.1 ∈ tbG := tb_in 614 (by rfl) rfl
set_option maxRecDepth 20000 in
theorem lf_M_118 : Cond.fieldLink R_M 118 R_M (F_M 12).2.1 (F_M 12).2.2.1 ∈ tbG := tb_in 615 (by rfl) rfl
set_option maxRecDepth 20000 in
theorem lf_M_105 : Cond.fieldLink R_M 105 R_M (F_M 13).2.1 (F_M 13).2.2.1 ∈ tbG := tb_in 616 (by rfl) rfl
set_option maxRecDepth 20000 in
theorem lf_M_38 : Cond.fieldLink R_M 38 R_M (F_M 14).2.1 (F_M 14).2.2.1 ∈ tbG := tb_in 617 (by rfl) rfl
set_option maxRecDepth 20000 in
theorem lf_M_41 : Cond.fieldLink R_M 41 R_M (F_M 15).2.1 (F_M 15).2.2.1 ∈ tbG := tb_in 618 (by rfl) rfl
set_option maxRecDepth 20000 in
theorem lf_M_44 : Cond.fieldLink R_M 44 R_M (F_M 16).2.1 (F_M 16).2.2.1 ∈ tbG := tb_in 619 (by rfl) rfl
set_option maxRecDepth 20000 in
theorem lf_M_47 : Cond.fieldLink R_M 47 R_M (F_M 17).2.1 (F_M 17).2.2.1 ∈ tbG := tb_in 620 (by rfl) rfl
set_option maxRecDepth 20000 in
theorem lf_M_50 : Cond.fieldLink R_M 50 R_M (F_M 18).2.1 (F_M 18).2.2.1 ∈ tbG := tb_in 621 (by rfl) rfl
set_option maxRecDepth 20000 in
theorem lf_M_53 : Cond.fieldLink R_M 53 R_M (F_M 19).2.1 (F_M 19).2.2.1 ∈ tbG := tb_in 622 (by rfl) rfl
set_option maxRecDepth 20000 in
theorem lf_M_56 : Cond.fieldLink R_M 56 R_M (F_M 20).2.1 (F_M 20).2.2.1 ∈ tbG := tb_in 623 (by rfl) rfl
set_option maxRecDepth 20000 in
theorem lf_M_59 : Cond.fieldLink R_M 59 R_M (F_M 21).2.1 (F_M 21).2.2.1 ∈ tbG := tb_in 624 (by rfl) rfl
set_option maxRecDepth 20000 in
theorem lf_M_147 : Cond.fieldLink R_M 147 R_M (F_M 22).2.1 (F_M 22).2.2.1 ∈ tbG := tb_in 625 (by rfl) rfl
set_option maxRecDepth 20000 in
theorem lf_M_62 : Cond.fieldLink R_M 62 R_M (F_M 23).2.1 (F_M 23).2.2.1 ∈ tbG := tb_in 626 (by rfl) rfl
set_option maxRecDepth 20000 in
theorem lf_M_65 : Cond.fieldLink R_M 65 R_M (F_M 24).2.1 (F_M 24).2.2.1 ∈ tbG := tb_in 627 (by rfl) rfl
set_option maxRecDepth 20000 in
theorem lf_M_68 : Cond.fieldLink R_M 68 R_M (F_M 25).2.1 (F_M 25).2.2.1 ∈ tbG := tb_in 628 (by rfl) rfl
set_option maxRecDepth 20000 in
theorem lf_M_71 : Cond.fieldLink R_M 71 R_M (F_M 26).2.1 (F_M 26).2.2.1 ∈ tbG := tb_in 629 (by rfl) rfl
set_option maxRecDepth 20000 in
theorem lf_M_74 : Cond.fieldLink R_M 74 R_M (F_M 27).2.1 (F_M 27).2.2.1 ∈ tbG := tb_in 630 (by rfl) rfl
set_option maxRecDepth 20000 in
theorem lf_M_77 : Cond.fieldLink R_M 77 R_M (F_M 28).2.1 (F_M 28).2.2.1 ∈ tbG := tb_in 631 (by rfl) rfl
set_option maxRecDepth 20000 in
theorem lf_M_80 : Cond.fieldLink R_M 80 R_M (F_M 29).2.1 (F_M 29).2.2.1 ∈ tbG := tb_in 632 (by rfl) rfl
set_option maxRecDepth 20000 in
theorem lf_M_175 : Cond.fieldLink R_M 175 R_M (F_M 30).2.1 (F_M 30).2.2.1 ∈ tbG := tb_in 633 (by rfl) rfl
set_option maxRecDepth 20000 in
theorem lf_M_83 : Cond.fieldLink R_M 83 R_M (F_M 31).2.1 (F_M 31).2.2.1 ∈ tbG := tb_in 634 (by rfl) rfl
set_option maxRecDepth 20000 in
theorem lf_M_178 : Cond.fieldLink R_M 178 R_M (F_M 32).2.1 (F_M 32).2.2.1 ∈ tbG := tb_in 635 (by rfl) rfl
set_option maxRecDepth 20000 in
theorem lf_M_86 : Cond.fieldLink R_M 86 R_M (F_M 33).2.1 (F_M 33).2.2.1 ∈ tbG := tb_in 636 (by rfl) rfl
set_option maxRecDepth 20000 in
theorem lf_M_89 : Cond.fieldLink R_M 89 R_M (F_M 34).2.1 (F_M 34).2.2.1 ∈ tbG := tb_in 637 (by rfl) rfl
set_option maxRecDepth 20000 in
theorem lf_M_92 : Cond.fieldLink R_M 92 R_M (F_M 35).2.1 (F_M 35).2.2.1 ∈ tbG := tb_in 638 (by rfl) rfl
set_option maxRecDepth 20000 in
theorem lf_M_95 : Cond.fieldLink R_M 95 R_M (F_M 36).2.1 (F_M 36).2.2.1 ∈ tbG := tb_in 639 (by rfl) rfl
set_option maxRecDepth 20000 in
theorem lf_M_98 : Cond.fieldLink R_M 98 R_M (F_M 37).2.1 (F_M 37).2.2.1 ∈ tbG := tb_in 640 (by rfl) rfl
set_option maxRecDepth 20000 in
theorem lf_M_216 : Cond.fieldLink R_M 216 R_M (F_M 38).2.1 (F_M 38).2.2.1 ∈ tbG := tb_in 641 (by rfl) rfl
set_option maxRecDepth 20000 in
theorem in_M : Cond.initialized R_M ∈ tbG := tb_in 4 (by rfl) rfl
set_option maxRecDepth 20000 in
theorem q_M_isKey : SOk R_M y_M_isKey b_M_isKey 1 (some .boolean) 1 := ⟨k_M_isKey, tb_in 779 (by rfl) rfl, in_M, ⟨by decide +kernel, by decide +kernel, by decide +kernel, by decide +kernel⟩, by decide⟩
set_option maxRecDepth 20000 in
theorem q_M_isPage : SOk R_M y_M_isPage b_M_isPage 1 (some .boolean) 1 := ⟨k_M_isPage, tb_in 918 (by rfl) rfl, in_M, ⟨by decide +kernel, by decide +kernel, by decide +kernel, by decide +kernel⟩, by decide⟩
set_option maxRecDepth 20000 in
theorem q_M_isThereNow : MOk R_M y_M_isThereNow b_M_isThereNow 2 (some .boolean) 1 := ⟨k_M_isThereNow, tb_in 799 (by rfl) rfl, tb_sel 36 (by rfl) rfl, in_M, ⟨by decide +kernel, by decide +kernel, by decide +kernel, by decide +kernel⟩, by decide⟩
set_option maxRecDepth 20000 in
theorem q_M_valueNow : MOk R_M y_M_valueNow b_M_valueNow 2 (some .int) 1 := ⟨k_M_valueNow, tb_in 867 (by rfl) rfl, tb_sel 53 (by rfl) rfl, in_M, ⟨by decide +kernel, by decide +kernel, by decide +kernel, by decide +kernel⟩, by decide⟩
set_option maxRecDepth 20000 in
theorem q_M_lsnNow : MOk R_M y_M_lsnNow b_M_lsnNow 2 (some .int) 1 := ⟨k_M_lsnNow, tb_in 971 (by rfl) rfl, tb_sel 57 (by rfl) rfl, in_M, ⟨by decide +kernel, by decide +kernel, by decide +kernel, by decide +kernel⟩, by decide⟩
set_option maxRecDepth 20000 in
theorem q_M_writes : MOk R_M y_M_writes b_M_writes 3 none 1 := ⟨k_M_writes, tb_in 855 (by rfl) rfl, tb_sel 50 (by rfl) rfl, in_M, ⟨by decide +kernel, by decide +kernel, by decide +kernel, by decide +kernel⟩, by decide⟩
set_option maxRecDepth 20000 in
theorem q_M_touch : MOk R_M y_M_touch b_M_touch 5 none 1 := ⟨k_M_touch, tb_in 851 (by rfl) rfl, tb_sel 49 (by rfl) rfl, in_M, ⟨by decide +kernel, by decide +kernel, by decide +kernel, by decide +kernel⟩, by decide⟩
set_option maxRecDepth 20000 in
theorem q_M_become : MOk R_M y_M_become b_M_become 5 none 4 := ⟨k_M_become, tb_in 859 (by rfl) rfl, tb_sel 51 (by rfl) rfl, in_M, ⟨by decide +kernel, by decide +kernel, by decide +kernel, by decide +kernel⟩, by decide⟩
set_option maxRecDepth 20000 in
theorem q_M_last : MOk R_M y_M_last b_M_last 1 (some .int) 0 := ⟨k_M_last, tb_in 772 (by rfl) rfl, tb_sel 31 (by rfl) rfl, in_M, ⟨by decide +kernel, by decide +kernel, by decide +kernel, by decide +kernel⟩, by decide⟩
set_option maxRecDepth 20000 in
theorem q_M_append : MOk R_M y_M_append b_M_append 5 (some .int) 3 := ⟨k_M_append, tb_in 768 (by rfl) rfl, tb_sel 30 (by rfl) rfl, in_M, ⟨by decide +kernel, by decide +kernel, by decide +kernel, by decide +kernel⟩, by decide⟩
set_option maxRecDepth 20000 in
theorem q_M_update : MOk R_M y_M_update b_M_update 6 none 4 := ⟨k_M_update, tb_in 875 (by rfl) rfl, tb_sel 55 (by rfl) rfl, in_M, ⟨by decide +kernel, by decide +kernel, by decide +kernel, by decide +kernel⟩, by decide⟩
set_option maxRecDepth 20000 in
theorem q_M_undo : MOk R_M y_M_undo b_M_undo 4 none 2 := ⟨k_M_undo, tb_in 847 (by rfl) rfl, tb_sel 48 (by rfl) rfl, in_M, ⟨by decide +kernel, by decide +kernel, by decide +kernel, by decide +kernel⟩, by decide⟩
set_option maxRecDepth 20000 in
theorem q_M_undone : MOk R_M y_M_undone b_M_undone 4 (some .boolean) 1 := ⟨k_M_undone, tb_in 756 (by rfl) rfl, tb_sel 27 (by rfl) rfl, in_M, ⟨by decide +kernel, by decide +kernel, by decide +kernel, by decide +kernel⟩, by decide⟩
set_option maxRecDepth 20000 in
theorem q_M_top : MOk R_M y_M_top b_M_top 4 (some .int) 1 := ⟨k_M_top, tb_in 752 (by rfl) rfl, tb_sel 26 (by rfl) rfl, in_M, ⟨by decide +kernel, by decide +kernel, by decide +kernel, by decide +kernel⟩, by decide⟩
set_option maxRecDepth 20000 in
theorem q_M_open : MOk R_M y_M_open b_M_open 2 (some .boolean) 1 := ⟨k_M_open, tb_in 748 (by rfl) rfl, tb_sel 25 (by rfl) rfl, in_M, ⟨by decide +kernel, by decide +kernel, by decide +kernel, by decide +kernel⟩, by decide⟩
set_option maxRecDepth 20000 in
theorem q_M_opens : MOk R_M y_M_opens b_M_opens 3 (some .int) 0 := ⟨k_M_opens, tb_in 744 (by rfl) rfl, tb_sel 24 (by rfl) rfl, in_M, ⟨by decide +kernel, by decide +kernel, by decide +kernel, by decide +kernel⟩, by decide⟩
set_option maxRecDepth 20000 in
theorem q_M_live : MOk R_M y_M_live b_M_live 2 (some .boolean) 1 := ⟨k_M_live, tb_in 764 (by rfl) rfl, tb_sel 29 (by rfl) rfl, in_M, ⟨by decide +kernel, by decide +kernel, by decide +kernel, by decide +kernel⟩, by decide⟩
set_option maxRecDepth 20000 in
theorem q_M_lives : MOk R_M y_M_lives b_M_lives 3 (some .int) 0 := ⟨k_M_lives, tb_in 760 (by rfl) rfl, tb_sel 28 (by rfl) rfl, in_M, ⟨by decide +kernel, by decide +kernel, by decide +kernel, by decide +kernel⟩, by decide⟩
set_option maxRecDepth 20000 in
theorem q_M_full : MOk R_M y_M_full b_M_full 1 (some .boolean) 0 := ⟨k_M_full, tb_in 740 (by rfl) rfl, tb_sel 23 (by rfl) rfl, in_M, ⟨by decide +kernel, by decide +kernel, by decide +kernel, by decide +kernel⟩, by decide⟩
set_option maxRecDepth 20000 in
theorem q_M_is : MOk R_M y_M_is b_M_is 2 (some .boolean) 1 := ⟨k_M_is, tb_in 732 (by rfl) rfl, tb_sel 21 (by rfl) rfl, in_M, ⟨by decide +kernel, by decide +kernel, by decide +kernel, by decide +kernel⟩, by decide⟩
set_option maxRecDepth 20000 in
theorem q_M_active : MOk R_M y_M_active b_M_active 2 (some .boolean) 1 := ⟨k_M_active, tb_in 728 (by rfl) rfl, tb_sel 20 (by rfl) rfl, in_M, ⟨by decide +kernel, by decide +kernel, by decide +kernel, by decide +kernel⟩, by decide⟩
set_option maxRecDepth 20000 in
theorem q_M_above : MOk R_M y_M_above b_M_above 6 (some .boolean) 2 := ⟨k_M_above, tb_in 819 (by rfl) rfl, tb_sel 41 (by rfl) rfl, in_M, ⟨by decide +kernel, by decide +kernel, by decide +kernel, by decide +kernel⟩, by decide⟩
set_option maxRecDepth 20000 in
theorem q_M_busy : MOk R_M y_M_busy b_M_busy 4 (some .boolean) 1 := ⟨k_M_busy, tb_in 787 (by rfl) rfl, tb_sel 33 (by rfl) rfl, in_M, ⟨by decide +kernel, by decide +kernel, by decide +kernel, by decide +kernel⟩, by decide⟩
set_option maxRecDepth 20000 in
theorem q_M_depth : MOk R_M y_M_depth b_M_depth 5 (some .int) 1 := ⟨k_M_depth, tb_in 736 (by rfl) rfl, tb_sel 22 (by rfl) rfl, in_M, ⟨by decide +kernel, by decide +kernel, by decide +kernel, by decide +kernel⟩, by decide⟩
set_option maxRecDepth 20000 in
theorem q_M_begin : MOk R_M y_M_begin b_M_begin 3 (some .int) 1 := ⟨k_M_begin, tb_in 723 (by rfl) rfl, tb_in 724 (by rfl) rfl, in_M, ⟨by decide +kernel, by decide +kernel, by decide +kernel, by decide +kernel⟩, by decide⟩
set_option maxRecDepth 20000 in
theorem q_M_next : MOk R_M y_M_next b_M_next 3 (some .int) 1 := ⟨k_M_next, tb_in 807 (by rfl) rfl, tb_sel 38 (by rfl) rfl, in_M, ⟨by decide +kernel, by decide +kernel, by decide +kernel, by decide +kernel⟩, by decide⟩
set_option maxRecDepth 20000 in
theorem q_M_want : MOk R_M y_M_want b_M_want 2 none 1 := ⟨k_M_want, tb_in 803 (by rfl) rfl, tb_sel 37 (by rfl) rfl, in_M, ⟨by decide +kernel, by decide +kernel, by decide +kernel, by decide +kernel⟩, by decide⟩
set_option maxRecDepth 20000 in
theorem q_M_needs : MOk R_M y_M_needs b_M_needs 6 none 3 := ⟨k_M_needs, tb_in 795 (by rfl) rfl, tb_sel 35 (by rfl) rfl, in_M, ⟨by decide +kernel, by decide +kernel, by decide +kernel, by decide +kernel⟩, by decide⟩
set_option maxRecDepth 20000 in
theorem q_M_bars : MOk R_M y_M_bars b_M_bars 6 (some .boolean) 4 := ⟨k_M_bars, tb_in 815 (by rfl) rfl, tb_sel 40 (by rfl) rfl, in_M, ⟨by decide +kernel, by decide +kernel, by decide +kernel, by decide +kernel⟩, by decide⟩
set_option maxRecDepth 20000 in
theorem q_M_may : MOk R_M y_M_may b_M_may 6 (some .boolean) 3 := ⟨k_M_may, tb_in 811 (by rfl) rfl, tb_sel 39 (by rfl) rfl, in_M, ⟨by decide +kernel, by decide +kernel, by decide +kernel, by decide +kernel⟩, by decide⟩
set_option maxRecDepth 20000 in
theorem q_M_look : MOk R_M y_M_look b_M_look 4 none 0 := ⟨k_M_look, tb_in 831 (by rfl) rfl, tb_sel 44 (by rfl) rfl, in_M, ⟨by decide +kernel, by decide +kernel, by decide +kernel, by decide +kernel⟩, by decide⟩
set_option maxRecDepth 20000 in
theorem q_M_leads : MOk R_M y_M_leads b_M_leads 3 (some .boolean) 2 := ⟨k_M_leads, tb_in 835 (by rfl) rfl, tb_sel 45 (by rfl) rfl, in_M, ⟨by decide +kernel, by decide +kernel, by decide +kernel, by decide +kernel⟩, by decide⟩
set_option maxRecDepth 20000 in
theorem q_M_victim : MOk R_M y_M_victim b_M_victim 8 (some .int) 1 := ⟨k_M_victim, tb_in 827 (by rfl) rfl, tb_sel 43 (by rfl) rfl, in_M, ⟨by decide +kernel, by decide +kernel, by decide +kernel, by decide +kernel⟩, by decide⟩
set_option maxRecDepth 20000 in
theorem q_M_request : MOk R_M y_M_request b_M_request 7 (some .int) 4 := ⟨k_M_request, tb_in 791 (by rfl) rfl, tb_sel 34 (by rfl) rfl, in_M, ⟨by decide +kernel, by decide +kernel, by decide +kernel, by decide +kernel⟩, by decide⟩
set_option maxRecDepth 20000 in
theorem q_M_scanned : MOk R_M y_M_scanned b_M_scanned 5 (some .int) 2 := ⟨k_M_scanned, tb_in 871 (by rfl) rfl, tb_sel 54 (by rfl) rfl, in_M, ⟨by decide +kernel, by decide +kernel, by decide +kernel, by decide +kernel⟩, by decide⟩
set_option maxRecDepth 20000 in
theorem q_M_stays : MOk R_M y_M_stays b_M_stays 7 (some .int) 4 := ⟨k_M_stays, tb_in 823 (by rfl) rfl, tb_sel 42 (by rfl) rfl, in_M, ⟨by decide +kernel, by decide +kernel, by decide +kernel, by decide +kernel⟩, by decide⟩
set_option maxRecDepth 20000 in
theorem q_M_ask : MOk R_M y_M_ask b_M_ask 5 (some .int) 4 := ⟨k_M_ask, tb_in 783 (by rfl) rfl, tb_sel 32 (by rfl) rfl, in_M, ⟨by decide +kernel, by decide +kernel, by decide +kernel, by decide +kernel⟩, by decide⟩
set_option maxRecDepth 20000 in
theorem q_M_get : MOk R_M y_M_get b_M_get 3 (some .int) 2 := ⟨k_M_get, tb_in 775 (by rfl) rfl, tb_in 776 (by rfl) rfl, in_M, ⟨by decide +kernel, by decide +kernel, by decide +kernel, by decide +kernel⟩, by decide⟩
set_option maxRecDepth 20000 in
theorem q_M_put : MOk R_M y_M_put b_M_put 4 (some .int) 3 := ⟨k_M_put, tb_in 878 (by rfl) rfl, tb_in 879 (by rfl) rfl, in_M, ⟨by decide +kernel, by decide +kernel, by decide +kernel, by decide +kernel⟩, by decide⟩
set_option maxRecDepth 20000 in
theorem q_M_delete : MOk R_M y_M_delete b_M_delete 3 (some .int) 2 := ⟨k_M_delete, tb_in 882 (by rfl) rfl, tb_in 883 (by rfl) rfl, in_M, ⟨by decide +kernel, by decide +kernel, by decide +kernel, by decide +kernel⟩, by decide⟩
set_option maxRecDepth 20000 in
theorem q_M_scan : MOk R_M y_M_scan b_M_scan 4 (some .int) 3 := ⟨k_M_scan, tb_in 886 (by rfl) rfl, tb_in 887 (by rfl) rfl, in_M, ⟨by decide +kernel, by decide +kernel, by decide +kernel, by decide +kernel⟩, by decide⟩
set_option maxRecDepth 20000 in
theorem q_M_resume : MOk R_M y_M_resume b_M_resume 2 (some .int) 1 := ⟨k_M_resume, tb_in 890 (by rfl) rfl, tb_in 891 (by rfl) rfl, in_M, ⟨by decide +kernel, by decide +kernel, by decide +kernel, by decide +kernel⟩, by decide⟩
set_option maxRecDepth 20000 in
theorem q_M_value : MOk R_M y_M_value b_M_value 1 (some .int) 0 := ⟨k_M_value, tb_in 894 (by rfl) rfl, tb_in 895 (by rfl) rfl, in_M, ⟨by decide +kernel, by decide +kernel, by decide +kernel, by decide +kernel⟩, by decide⟩
set_option maxRecDepth 20000 in
theorem q_M_unlock : MOk R_M y_M_unlock b_M_unlock 3 none 1 := ⟨k_M_unlock, tb_in 863 (by rfl) rfl, tb_sel 52 (by rfl) rfl, in_M, ⟨by decide +kernel, by decide +kernel, by decide +kernel, by decide +kernel⟩, by decide⟩
set_option maxRecDepth 20000 in
theorem q_M_commit : MOk R_M y_M_commit b_M_commit 6 (some .int) 1 := ⟨k_M_commit, tb_in 898 (by rfl) rfl, tb_in 899 (by rfl) rfl, in_M, ⟨by decide +kernel, by decide +kernel, by decide +kernel, by decide +kernel⟩, by decide⟩
set_option maxRecDepth 20000 in
theorem q_M_undoes : MOk R_M y_M_undoes b_M_undoes 5 (some .int) 2 := ⟨k_M_undoes, tb_in 843 (by rfl) rfl, tb_sel 47 (by rfl) rfl, in_M, ⟨by decide +kernel, by decide +kernel, by decide +kernel, by decide +kernel⟩, by decide⟩
set_option maxRecDepth 20000 in
theorem q_M_aborts : MOk R_M y_M_aborts b_M_aborts 5 (some .int) 1 := ⟨k_M_aborts, tb_in 839 (by rfl) rfl, tb_sel 46 (by rfl) rfl, in_M, ⟨by decide +kernel, by decide +kernel, by decide +kernel, by decide +kernel⟩, by decide⟩
set_option maxRecDepth 20000 in
theorem q_M_abort : MOk R_M y_M_abort b_M_abort 2 (some .int) 1 := ⟨k_M_abort, tb_in 902 (by rfl) rfl, tb_in 903 (by rfl) rfl, in_M, ⟨by decide +kernel, by decide +kernel, by decide +kernel, by decide +kernel⟩, by decide⟩
set_option maxRecDepth 20000 in
theorem q_M_save : MOk R_M y_M_save b_M_save 2 (some .int) 1 := ⟨k_M_save, tb_in 906 (by rfl) rfl, tb_in 907 (by rfl) rfl, in_M, ⟨by decide +kernel, by decide +kernel, by decide +kernel, by decide +kernel⟩, by decide⟩
set_option maxRecDepth 20000 in
theorem q_M_rollback : MOk R_M y_M_rollback b_M_rollback 3 (some .int) 2 := ⟨k_M_rollback, tb_in 910 (by rfl) rfl, tb_in 911 (by rfl) rfl, in_M, ⟨by decide +kernel, by decide +kernel, by decide +kernel, by decide +kernel⟩, by decide⟩
set_option maxRecDepth 20000 in
theorem q_M_write : MOk R_M y_M_write b_M_write 2 (some .boolean) 1 := ⟨k_M_write, tb_in 914 (by rfl) rfl, tb_in 915 (by rfl) rfl, in_M, ⟨by decide +kernel, by decide +kernel, by decide +kernel, by decide +kernel⟩, by decide⟩
set_option maxRecDepth 20000 in
theorem q_M_archive : MOk R_M y_M_archive b_M_archive 3 (some .int) 0 := ⟨k_M_archive, tb_in 921 (by rfl) rfl, tb_in 922 (by rfl) rfl, in_M, ⟨by decide +kernel, by decide +kernel, by decide +kernel, by decide +kernel⟩, by decide⟩
set_option maxRecDepth 20000 in
theorem q_M_committed : MOk R_M y_M_committed b_M_committed 4 (some .boolean) 1 := ⟨k_M_committed, tb_in 931 (by rfl) rfl, tb_sel 56 (by rfl) rfl, in_M, ⟨by decide +kernel, by decide +kernel, by decide +kernel, by decide +kernel⟩, by decide⟩
set_option maxRecDepth 20000 in
theorem q_M_crash : MOk R_M y_M_crash b_M_crash 5 (some .int) 1 := ⟨k_M_crash, tb_in 926 (by rfl) rfl, tb_in 927 (by rfl) rfl, in_M, ⟨by decide +kernel, by decide +kernel, by decide +kernel, by decide +kernel⟩, by decide⟩
set_option maxRecDepth 20000 in
theorem q_M_state : MOk R_M y_M_state b_M_state 2 (some .int) 1 := ⟨k_M_state, tb_in 934 (by rfl) rfl, tb_in 935 (by rfl) rfl, in_M, ⟨by decide +kernel, by decide +kernel, by decide +kernel, by decide +kernel⟩, by decide⟩
set_option maxRecDepth 20000 in
theorem q_M_parent : MOk R_M y_M_parent b_M_parent 2 (some .int) 1 := ⟨k_M_parent, tb_in 938 (by rfl) rfl, tb_in 939 (by rfl) rfl, in_M, ⟨by decide +kernel, by decide +kernel, by decide +kernel, by decide +kernel⟩, by decide⟩
set_option maxRecDepth 20000 in
theorem q_M_lock : MOk R_M y_M_lock b_M_lock 3 (some .int) 2 := ⟨k_M_lock, tb_in 942 (by rfl) rfl, tb_in 943 (by rfl) rfl, in_M, ⟨by decide +kernel, by decide +kernel, by decide +kernel, by decide +kernel⟩, by decide⟩
set_option maxRecDepth 20000 in
theorem q_M_waits : MOk R_M y_M_waits b_M_waits 3 (some .boolean) 2 := ⟨k_M_waits, tb_in 946 (by rfl) rfl, tb_in 947 (by rfl) rfl, in_M, ⟨by decide +kernel, by decide +kernel, by decide +kernel, by decide +kernel⟩, by decide⟩
set_option maxRecDepth 20000 in
theorem q_M_entry : MOk R_M y_M_entry b_M_entry 4 (some .int) 2 := ⟨k_M_entry, tb_in 950 (by rfl) rfl, tb_in 951 (by rfl) rfl, in_M, ⟨by decide +kernel, by decide +kernel, by decide +kernel, by decide +kernel⟩, by decide⟩
set_option maxRecDepth 20000 in
theorem q_M_log : MOk R_M y_M_log b_M_log 2 (some .int) 1 := ⟨k_M_log, tb_in 954 (by rfl) rfl, tb_in 955 (by rfl) rfl, in_M, ⟨by decide +kernel, by decide +kernel, by decide +kernel, by decide +kernel⟩, by decide⟩
set_option maxRecDepth 20000 in
theorem q_M_key : MOk R_M y_M_key b_M_key 3 (some .int) 2 := ⟨k_M_key, tb_in 958 (by rfl) rfl, tb_in 959 (by rfl) rfl, in_M, ⟨by decide +kernel, by decide +kernel, by decide +kernel, by decide +kernel⟩, by decide⟩
set_option maxRecDepth 20000 in
theorem q_M_frame : MOk R_M y_M_frame b_M_frame 5 (some .int) 1 := ⟨k_M_frame, tb_in 962 (by rfl) rfl, tb_in 963 (by rfl) rfl, in_M, ⟨by decide +kernel, by decide +kernel, by decide +kernel, by decide +kernel⟩, by decide⟩
set_option maxRecDepth 20000 in
theorem q_M_page : MOk R_M y_M_page b_M_page 2 (some .int) 1 := ⟨k_M_page, tb_in 966 (by rfl) rfl, tb_in 967 (by rfl) rfl, in_M, ⟨by decide +kernel, by decide +kernel, by decide +kernel, by decide +kernel⟩, by decide⟩
set_option maxRecDepth 20000 in
theorem lm_M_162 : Cond.methodLink R_M 162 y_M_active ∈ tbG := tb_in 726 (by rfl) rfl
set_option maxRecDepth 20000 in
theorem lm_M_159 : Cond.methodLink R_M 159 y_M_is ∈ tbG := tb_in 730 (by rfl) rfl
set_option maxRecDepth 20000 in
theorem lm_M_165 : Cond.methodLink R_M 165 y_M_depth ∈ tbG := tb_in 734 (by rfl) rfl
set_option maxRecDepth 20000 in
theorem lm_M_168 : Cond.methodLink R_M 168 y_M_full ∈ tbG := tb_in 738 (by rfl) rfl
set_option maxRecDepth 20000 in
theorem lm_M_153 : Cond.methodLink R_M 153 y_M_opens ∈ tbG := tb_in 742 (by rfl) rfl
set_option maxRecDepth 20000 in
theorem lm_M_144 : Cond.methodLink R_M 144 y_M_open ∈ tbG := tb_in 746 (by rfl) rfl
set_option maxRecDepth 20000 in
theorem lm_M_136 : Cond.methodLink R_M 136 y_M_top ∈ tbG := tb_in 750 (by rfl) rfl
set_option maxRecDepth 20000 in
theorem lm_M_140 : Cond.methodLink R_M 140 y_M_undone ∈ tbG := tb_in 754 (by rfl) rfl
set_option maxRecDepth 20000 in
theorem lm_M_156 : Cond.methodLink R_M 156 y_M_lives ∈ tbG := tb_in 758 (by rfl) rfl
set_option maxRecDepth 20000 in
theorem lm_M_150 : Cond.methodLink R_M 150 y_M_live ∈ tbG := tb_in 762 (by rfl) rfl
set_option maxRecDepth 20000 in
theorem lm_M_121 : Cond.methodLink R_M 121 y_M_append ∈ tbG := tb_in 766 (by rfl) rfl
set_option maxRecDepth 20000 in
theorem lm_M_128 : Cond.methodLink R_M 128 y_M_last ∈ tbG := tb_in 770 (by rfl) rfl
set_option maxRecDepth 20000 in
theorem lm_M_239 : Cond.methodLink R_M 239 y_M_isKey ∈ tbG := tb_in 778 (by rfl) rfl
set_option maxRecDepth 20000 in
theorem lm_M_242 : Cond.methodLink R_M 242 y_M_ask ∈ tbG := tb_in 781 (by rfl) rfl
set_option maxRecDepth 20000 in
theorem lm_M_233 : Cond.methodLink R_M 233 y_M_busy ∈ tbG := tb_in 785 (by rfl) rfl
set_option maxRecDepth 20000 in
theorem lm_M_236 : Cond.methodLink R_M 236 y_M_request ∈ tbG := tb_in 789 (by rfl) rfl
set_option maxRecDepth 20000 in
theorem lm_M_195 : Cond.methodLink R_M 195 y_M_needs ∈ tbG := tb_in 793 (by rfl) rfl
set_option maxRecDepth 20000 in
theorem lm_M_172 : Cond.methodLink R_M 172 y_M_isThereNow ∈ tbG := tb_in 797 (by rfl) rfl
set_option maxRecDepth 20000 in
theorem lm_M_181 : Cond.methodLink R_M 181 y_M_want ∈ tbG := tb_in 801 (by rfl) rfl
set_option maxRecDepth 20000 in
theorem lm_M_184 : Cond.methodLink R_M 184 y_M_next ∈ tbG := tb_in 805 (by rfl) rfl
set_option maxRecDepth 20000 in
theorem lm_M_199 : Cond.methodLink R_M 199 y_M_may ∈ tbG := tb_in 809 (by rfl) rfl
set_option maxRecDepth 20000 in
theorem lm_M_191 : Cond.methodLink R_M 191 y_M_bars ∈ tbG := tb_in 813 (by rfl) rfl
set_option maxRecDepth 20000 in
theorem lm_M_187 : Cond.methodLink R_M 187 y_M_above ∈ tbG := tb_in 817 (by rfl) rfl
set_option maxRecDepth 20000 in
theorem lm_M_209 : Cond.methodLink R_M 209 y_M_stays ∈ tbG := tb_in 821 (by rfl) rfl
set_option maxRecDepth 20000 in
theorem lm_M_227 : Cond.methodLink R_M 227 y_M_victim ∈ tbG := tb_in 825 (by rfl) rfl
set_option maxRecDepth 20000 in
theorem lm_M_203 : Cond.methodLink R_M 203 y_M_look ∈ tbG := tb_in 829 (by rfl) rfl
set_option maxRecDepth 20000 in
theorem lm_M_206 : Cond.methodLink R_M 206 y_M_leads ∈ tbG := tb_in 833 (by rfl) rfl
set_option maxRecDepth 20000 in
theorem lm_M_230 : Cond.methodLink R_M 230 y_M_aborts ∈ tbG := tb_in 837 (by rfl) rfl
set_option maxRecDepth 20000 in
theorem lm_M_252 : Cond.methodLink R_M 252 y_M_undoes ∈ tbG := tb_in 841 (by rfl) rfl
set_option maxRecDepth 20000 in
theorem lm_M_248 : Cond.methodLink R_M 248 y_M_undo ∈ tbG := tb_in 845 (by rfl) rfl
set_option maxRecDepth 20000 in
theorem lm_M_125 : Cond.methodLink R_M 125 y_M_touch ∈ tbG := tb_in 849 (by rfl) rfl
set_option maxRecDepth 20000 in
theorem lm_M_111 : Cond.methodLink R_M 111 y_M_writes ∈ tbG := tb_in 853 (by rfl) rfl
set_option maxRecDepth 20000 in
theorem lm_M_132 : Cond.methodLink R_M 132 y_M_become ∈ tbG := tb_in 857 (by rfl) rfl
set_option maxRecDepth 20000 in
theorem lm_M_245 : Cond.methodLink R_M 245 y_M_unlock ∈ tbG := tb_in 861 (by rfl) rfl
set_option maxRecDepth 20000 in
theorem lm_M_213 : Cond.methodLink R_M 213 y_M_valueNow ∈ tbG := tb_in 865 (by rfl) rfl
set_option maxRecDepth 20000 in
theorem lm_M_219 : Cond.methodLink R_M 219 y_M_scanned ∈ tbG := tb_in 869 (by rfl) rfl
set_option maxRecDepth 20000 in
theorem lm_M_223 : Cond.methodLink R_M 223 y_M_update ∈ tbG := tb_in 873 (by rfl) rfl
set_option maxRecDepth 20000 in
theorem lm_M_255 : Cond.methodLink R_M 255 y_M_isPage ∈ tbG := tb_in 917 (by rfl) rfl
set_option maxRecDepth 20000 in
theorem lm_M_258 : Cond.methodLink R_M 258 y_M_write ∈ tbG := tb_in 924 (by rfl) rfl
set_option maxRecDepth 20000 in
theorem lm_M_261 : Cond.methodLink R_M 261 y_M_committed ∈ tbG := tb_in 929 (by rfl) rfl
set_option maxRecDepth 20000 in
theorem lm_M_264 : Cond.methodLink R_M 264 y_M_lsnNow ∈ tbG := tb_in 969 (by rfl) rfl
