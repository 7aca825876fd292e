def R_S : String := "NestedStore"
def F_S : u_T := fun k => match k with
  | 0 => ("NestedStore", "disk", "[LNestedStore$Page;", true)
  | 1 => ("NestedStore", "room", "[LNestedStore$Page;", true)
  | 2 => ("NestedStore", "order", "[I", true)
  | 3 => ("NestedStore", "framed", "I", false)
  | 4 => ("NestedStore", "frames", "I", true)
  | 5 => ("NestedStore", "log", "[LNestedStore$Entry;", true)
  | 6 => ("NestedStore", "records", "I", false)
  | 7 => ("NestedStore", "gone", "I", false)
  | 8 => ("NestedStore", "flushed", "I", false)
  | 9 => ("NestedStore", "open", "I", false)
  | 10 => ("NestedStore", "live", "I", false)
  | 11 => ("NestedStore", "transactions", "[LNestedStore$Transaction;", true)
  | 12 => ("NestedStore", "many", "I", false)
  | _ => ("NestedStore", "value", "I", false)
def ty0_S : Nat → FieldType := fun k => match k with
  | 0 => .array (.object "NestedStore$Page")
  | 1 => .array (.object "NestedStore$Page")
  | 2 => .array (.int)
  | 3 => .int
  | 4 => .int
  | 5 => .array (.object "NestedStore$Entry")
  | 6 => .int
  | 7 => .int
  | 8 => .int
  | 9 => .int
  | 10 => .int
  | 11 => .array (.object "NestedStore$Transaction")
  | 12 => .int
  | _ => .int
theorem n_S : ∀ a, a < 14 → ∀ b, b < 14 → a ≠ b → (F_S a).2.1 ≠ (F_S b).2.1 := by decide +kernel
theorem t_S_ok : ∀ k, k < 14 → parseFieldDescriptor (F_S k).2.2.1 = some (ty0_S k) := by decide +kernel
set_option maxRecDepth 20000 in
theorem fl_S_0 : u_lay R_S F_S 0 ∈ tbG := tb_in 79 (by rfl) rfl
set_option maxRecDepth 20000 in
theorem fl_S_1 : u_lay R_S F_S 1 ∈ tbG := tb_in 81 (by rfl) rfl
set_option maxRecDepth 20000 in
theorem fl_S_2 : u_lay R_S F_S 2 ∈ tbG := tb_in 83 (by rfl) rfl
set_option maxRecDepth 20000 in
theorem fl_S_3 : u_lay R_S F_S 3 ∈ tbG := tb_in 85 (by rfl) rfl
set_option maxRecDepth 20000 in
theorem fl_S_4 : u_lay R_S F_S 4 ∈ tbG := tb_in 87 (by rfl) rfl
set_option maxRecDepth 20000 in
theorem fl_S_5 : u_lay R_S F_S 5 ∈ tbG := tb_in 89 (by rfl) rfl
set_option maxRecDepth 20000 in
theorem fl_S_6 : u_lay R_S F_S 6 ∈ tbG := tb_in 91 (by rfl) rfl
set_option maxRecDepth 20000 in
theorem fl_S_7 : u_lay R_S F_S 7 ∈ tbG := tb_in 93 (by rfl) rfl
set_option maxRecDepth 20000 in
theorem fl_S_8 : u_lay R_S F_S 8 ∈ tbG := tb_in 95 (by rfl) rfl
set_option maxRecDepth 20000 in
theorem fl_S_9 : u_lay R_S F_S 9 ∈ tbG := tb_in 97 (by rfl) rfl
set_option maxRecDepth 20000 in
theorem fl_S_10 : u_lay R_S F_S 10 ∈ tbG := tb_in 99 (by rfl) rfl
set_option maxRecDepth 20000 in
theorem fl_S_11 : u_lay R_S F_S 11 ∈ tbG := tb_in 101 (by rfl) rfl
set_option maxRecDepth 20000 in
theorem fl_S_12 : u_lay R_S F_S 12 ∈ tbG := tb_in 103 (by rfl) rfl
set_option maxRecDepth 20000 in
theorem fl_S_13 : u_lay R_S F_S 13 ∈ tbG := tb_in 105 (by rfl) rfl
theorem i_S : ∀ w ∈ u_ws R_S F_S 14, w ∈ tbG := by
  intro w hw
  obtain ⟨k, hk, rfl⟩ := List.mem_map.mp hw
  have hk := List.mem_range.mp hk
  match k, hk with
  | 0, _ => exact fl_S_0
  | 1, _ => exact fl_S_1
  | 2, _ => exact fl_S_2
  | 3, _ => exact fl_S_3
  | 4, _ => exact fl_S_4
  | 5, _ => exact fl_S_5
  | 6, _ => exact fl_S_6
  | 7, _ => exact fl_S_7
  | 8, _ => exact fl_S_8
  | 9, _ => exact fl_S_9
  | 10, _ => exact fl_S_10
  | 11, _ => exact fl_S_11
  | 12, _ => exact fl_S_12
  | 13, _ => exact fl_S_13
  | k + 14, h => exact absurd h (by omega)
def R_P : String := "NestedStore$Page"
def F_P : u_T := fun k => match k with
  | 0 => ("NestedStore$Page", "number", "I", true)
  | 1 => ("NestedStore$Page", "there", "I", false)
  | 2 => ("NestedStore$Page", "values", "[I", true)
  | 3 => ("NestedStore$Page", "lsn", "I", false)
  | _ => ("NestedStore$Page", "dirty", "Z", false)
def ty0_P : Nat → FieldType := fun k => match k with
  | 0 => .int
  | 1 => .int
  | 2 => .array (.int)
  | 3 => .int
  | _ => .boolean
theorem n_P : ∀ a, a < 5 → ∀ b, b < 5 → a ≠ b → (F_P a).2.1 ≠ (F_P b).2.1 := by decide +kernel
theorem t_P_ok : ∀ k, k < 5 → parseFieldDescriptor (F_P k).2.2.1 = some (ty0_P k) := by decide +kernel
set_option maxRecDepth 20000 in
theorem fl_P_0 : u_lay R_P F_P 0 ∈ tbG := tb_in 51 (by rfl) rfl
set_option maxRecDepth 20000 in
theorem fl_P_1 : u_lay R_P F_P 1 ∈ tbG := tb_in 53 (by rfl) rfl
set_option maxRecDepth 20000 in
theorem fl_P_2 : u_lay R_P F_P 2 ∈ tbG := tb_in 55 (by rfl) rfl
set_option maxRecDepth 20000 in
theorem fl_P_3 : u_lay R_P F_P 3 ∈ tbG := tb_in 57 (by rfl) rfl
set_option maxRecDepth 20000 in
theorem fl_P_4 : u_lay R_P F_P 4 ∈ tbG := tb_in 59 (by rfl) rfl
theorem i_P : ∀ w ∈ u_ws R_P F_P 5, w ∈ tbG := by
  intro w hw
  obtain ⟨k, hk, rfl⟩ := List.mem_map.mp hw
  have hk := List.mem_range.mp hk
  match k, hk with
  | 0, _ => exact fl_P_0
  | 1, _ => exact fl_P_1
  | 2, _ => exact fl_P_2
  | 3, _ => exact fl_P_3
  | 4, _ => exact fl_P_4
  | k + 5, h => exact absurd h (by omega)
def R_E : String := "NestedStore$Entry"
def F_E : u_T := fun k => match k with
  | 0 => ("NestedStore$Entry", "lsn", "I", false)
  | 1 => ("NestedStore$Entry", "kind", "LNestedStore$Kind;", false)
  | 2 => ("NestedStore$Entry", "by", "LNestedStore$Transaction;", false)
  | 3 => ("NestedStore$Entry", "key", "I", false)
  | 4 => ("NestedStore$Entry", "was", "Z", false)
  | 5 => ("NestedStore$Entry", "before", "I", false)
  | 6 => ("NestedStore$Entry", "is", "Z", false)
  | 7 => ("NestedStore$Entry", "after", "I", false)
  | 8 => ("NestedStore$Entry", "of", "LNestedStore$Entry;", false)
  | 9 => ("NestedStore$Entry", "undone", "Z", false)
  | _ => ("NestedStore$Entry", "former", "LNestedStore$Entry;", false)
def ty0_E : Nat → FieldType := fun k => match k with
  | 0 => .int
  | 1 => .object "NestedStore$Kind"
  | 2 => .object "NestedStore$Transaction"
  | 3 => .int
  | 4 => .boolean
  | 5 => .int
  | 6 => .boolean
  | 7 => .int
  | 8 => .object "NestedStore$Entry"
  | 9 => .boolean
  | _ => .object "NestedStore$Entry"
theorem n_E : ∀ a, a < 11 → ∀ b, b < 11 → a ≠ b → (F_E a).2.1 ≠ (F_E b).2.1 := by decide +kernel
theorem t_E_ok : ∀ k, k < 11 → parseFieldDescriptor (F_E k).2.2.1 = some (ty0_E k) := by decide +kernel
set_option maxRecDepth 20000 in
theorem fl_E_0 : u_lay R_E F_E 0 ∈ tbG := tb_in 214 (by rfl) rfl
set_option maxRecDepth 20000 in
theorem fl_E_1 : u_lay R_E F_E 1 ∈ tbG := tb_in 216 (by rfl) rfl
set_option maxRecDepth 20000 in
theorem fl_E_2 : u_lay R_E F_E 2 ∈ tbG := tb_in 218 (by rfl) rfl
set_option maxRecDepth 20000 in
theorem fl_E_3 : u_lay R_E F_E 3 ∈ tbG := tb_in 220 (by rfl) rfl
set_option maxRecDepth 20000 in
theorem fl_E_4 : u_lay R_E F_E 4 ∈ tbG := tb_in 222 (by rfl) rfl
set_option maxRecDepth 20000 in
theorem fl_E_5 : u_lay R_E F_E 5 ∈ tbG := tb_in 224 (by rfl) rfl
set_option maxRecDepth 20000 in
theorem fl_E_6 : u_lay R_E F_E 6 ∈ tbG := tb_in 226 (by rfl) rfl
set_option maxRecDepth 20000 in
theorem fl_E_7 : u_lay R_E F_E 7 ∈ tbG := tb_in 228 (by rfl) rfl
set_option maxRecDepth 20000 in
theorem fl_E_8 : u_lay R_E F_E 8 ∈ tbG := tb_in 230 (by rfl) rfl
set_option maxRecDepth 20000 in
theorem fl_E_9 : u_lay R_E F_E 9 ∈ tbG := tb_in 232 (by rfl) rfl
set_option maxRecDepth 20000 in
theorem fl_E_10 : u_lay R_E F_E 10 ∈ tbG := tb_in 234 (by rfl) rfl
theorem i_E : ∀ w ∈ u_ws R_E F_E 11, w ∈ tbG := by
  intro w hw
  obtain ⟨k, hk, rfl⟩ := List.mem_map.mp hw
  have hk := List.mem_range.mp hk
  match k, hk with
  | 0, _ => exact fl_E_0
  | 1, _ => exact fl_E_1
  | 2, _ => exact fl_E_2
  | 3, _ => exact fl_E_3
  | 4, _ => exact fl_E_4
  | 5, _ => exact fl_E_5
  | 6, _ => exact fl_E_6
  | 7, _ => exact fl_E_7
  | 8, _ => exact fl_E_8
  | 9, _ => exact fl_E_9
  | 10, _ => exact fl_E_10
  | k + 11, h => exact absurd h (by omega)
def R_T : String := "NestedStore$Transaction"
def F_T : u_T := fun k => match k with
  | 0 => ("NestedStore$Transaction", "number", "I", true)
  | 1 => ("NestedStore$Transaction", "parent", "LNestedStore$Transaction;", true)
  | 2 => ("NestedStore$Transaction", "top", "LNestedStore$Transaction;", true)
  | 3 => ("NestedStore$Transaction", "depth", "I", true)
  | 4 => ("NestedStore$Transaction", "born", "I", true)
  | 5 => ("NestedStore$Transaction", "state", "LNestedStore$State;", false)
  | 6 => ("NestedStore$Transaction", "request", "LNestedStore$Request;", false)
  | 7 => ("NestedStore$Transaction", "locks", "[B", true)
  | 8 => ("NestedStore$Transaction", "last", "LNestedStore$Entry;", false)
  | 9 => ("NestedStore$Transaction", "child", "LNestedStore$Transaction;", false)
  | _ => ("NestedStore$Transaction", "sibling", "LNestedStore$Transaction;", true)
def ty0_T : Nat → FieldType := fun k => match k with
  | 0 => .int
  | 1 => .object "NestedStore$Transaction"
  | 2 => .object "NestedStore$Transaction"
  | 3 => .int
  | 4 => .int
  | 5 => .object "NestedStore$State"
  | 6 => .object "NestedStore$Request"
  | 7 => .array (.byte)
  | 8 => .object "NestedStore$Entry"
  | 9 => .object "NestedStore$Transaction"
  | _ => .object "NestedStore$Transaction"
theorem n_T : ∀ a, a < 11 → ∀ b, b < 11 → a ≠ b → (F_T a).2.1 ≠ (F_T b).2.1 := by decide +kernel
theorem t_T_ok : ∀ k, k < 11 → parseFieldDescriptor (F_T k).2.2.1 = some (ty0_T k) := by decide +kernel
set_option maxRecDepth 20000 in
theorem fl_T_0 : u_lay R_T F_T 0 ∈ tbG := tb_in 154 (by rfl) rfl
set_option maxRecDepth 20000 in
theorem fl_T_1 : u_lay R_T F_T 1 ∈ tbG := tb_in 156 (by rfl) rfl
set_option maxRecDepth 20000 in
theorem fl_T_2 : u_lay R_T F_T 2 ∈ tbG := tb_in 158 (by rfl) rfl
set_option maxRecDepth 20000 in
theorem fl_T_3 : u_lay R_T F_T 3 ∈ tbG := tb_in 160 (by rfl) rfl
set_option maxRecDepth 20000 in
theorem fl_T_4 : u_lay R_T F_T 4 ∈ tbG := tb_in 162 (by rfl) rfl
set_option maxRecDepth 20000 in
theorem fl_T_5 : u_lay R_T F_T 5 ∈ tbG := tb_in 164 (by rfl) rfl
set_option maxRecDepth 20000 in
theorem fl_T_6 : u_lay R_T F_T 6 ∈ tbG := tb_in 166 (by rfl) rfl
set_option maxRecDepth 20000 in
theorem fl_T_7 : u_lay R_T F_T 7 ∈ tbG := tb_in 168 (by rfl) rfl
set_option maxRecDepth 20000 in
theorem fl_T_8 : u_lay R_T F_T 8 ∈ tbG := tb_in 170 (by rfl) rfl
set_option maxRecDepth 20000 in
theorem fl_T_9 : u_lay R_T F_T 9 ∈ tbG := tb_in 172 (by rfl) rfl
set_option maxRecDepth 20000 in
theorem fl_T_10 : u_lay R_T F_T 10 ∈ tbG := tb_in 174 (by rfl) rfl
theorem i_T : ∀ w ∈ u_ws R_T F_T 11, w ∈ tbG := by
  intro w hw
  obtain ⟨k, hk, rfl⟩ := List.mem_map.mp hw
  have hk := List.mem_range.mp hk
  match k, hk with
  | 0, _ => exact fl_T_0
  | 1, _ => exact fl_T_1
  | 2, _ => exact fl_T_2
  | 3, _ => exact fl_T_3
  | 4, _ => exact fl_T_4
  | 5, _ => exact fl_T_5
  | 6, _ => exact fl_T_6
  | 7, _ => exact fl_T_7
  | 8, _ => exact fl_T_8
  | 9, _ => exact fl_T_9
  | 10, _ => exact fl_T_10
  | k + 11, h => exact absurd h (by omega)
def R_RG : String := "NestedStore$Get"
def F_RG : u_T := fun k => match k with
  | _ => ("NestedStore$Get", "k", "I", true)
def ty0_RG : Nat → FieldType := fun k => match k with
  | _ => .int
theorem n_RG : ∀ a, a < 1 → ∀ b, b < 1 → a ≠ b → (F_RG a).2.1 ≠ (F_RG b).2.1 := by decide +kernel
theorem t_RG_ok : ∀ k, k < 1 → parseFieldDescriptor (F_RG k).2.2.1 = some (ty0_RG k) := by decide +kernel
set_option maxRecDepth 20000 in
theorem fl_RG_0 : u_lay R_RG F_RG 0 ∈ tbG := tb_in 269 (by rfl) rfl
theorem i_RG : ∀ w ∈ u_ws R_RG F_RG 1, w ∈ tbG := by
  intro w hw
  obtain ⟨k, hk, rfl⟩ := List.mem_map.mp hw
  have hk := List.mem_range.mp hk
  match k, hk with
  | 0, _ => exact fl_RG_0
  | k + 1, h => exact absurd h (by omega)
def R_RP : String := "NestedStore$Put"
def F_RP : u_T := fun k => match k with
  | 0 => ("NestedStore$Put", "k", "I", true)
  | _ => ("NestedStore$Put", "v", "I", true)
def ty0_RP : Nat → FieldType := fun k => match k with
  | 0 => .int
  | _ => .int
theorem n_RP : ∀ a, a < 2 → ∀ b, b < 2 → a ≠ b → (F_RP a).2.1 ≠ (F_RP b).2.1 := by decide +kernel
theorem t_RP_ok : ∀ k, k < 2 → parseFieldDescriptor (F_RP k).2.2.1 = some (ty0_RP k) := by decide +kernel
set_option maxRecDepth 20000 in
theorem fl_RP_0 : u_lay R_RP F_RP 0 ∈ tbG := tb_in 463 (by rfl) rfl
set_option maxRecDepth 20000 in
theorem fl_RP_1 : u_lay R_RP F_RP 1 ∈ tbG := tb_in 465 (by rfl) rfl
theorem i_RP : ∀ w ∈ u_ws R_RP F_RP 2, w ∈ tbG := by
  intro w hw
  obtain ⟨k, hk, rfl⟩ := List.mem_map.mp hw
  have hk := List.mem_range.mp hk
  match k, hk with
  | 0, _ => exact fl_RP_0
  | 1, _ => exact fl_RP_1
  | k + 2, h => exact absurd h (by omega)
def R_RD : String := "NestedStore$Delete"
def F_RD : u_T := fun k => match k with
  | _ => ("NestedStore$Delete", "k", "I", true)
def ty0_RD : Nat → FieldType := fun k => match k with
  | _ => .int
theorem n_RD : ∀ a, a < 1 → ∀ b, b < 1 → a ≠ b → (F_RD a).2.1 ≠ (F_RD b).2.1 := by decide +kernel
theorem t_RD_ok : ∀ k, k < 1 → parseFieldDescriptor (F_RD k).2.2.1 = some (ty0_RD k) := by decide +kernel
set_option maxRecDepth 20000 in
theorem fl_RD_0 : u_lay R_RD F_RD 0 ∈ tbG := tb_in 479 (by rfl) rfl
theorem i_RD : ∀ w ∈ u_ws R_RD F_RD 1, w ∈ tbG := by
  intro w hw
  obtain ⟨k, hk, rfl⟩ := List.mem_map.mp hw
  have hk := List.mem_range.mp hk
  match k, hk with
  | 0, _ => exact fl_RD_0
  | k + 1, h => exact absurd h (by omega)
def R_RS : String := "NestedStore$Scan"
def F_RS : u_T := fun k => match k with
  | 0 => ("NestedStore$Scan", "low", "I", true)
  | _ => ("NestedStore$Scan", "high", "I", true)
def ty0_RS : Nat → FieldType := fun k => match k with
  | 0 => .int
  | _ => .int
theorem n_RS : ∀ a, a < 2 → ∀ b, b < 2 → a ≠ b → (F_RS a).2.1 ≠ (F_RS b).2.1 := by decide +kernel
theorem t_RS_ok : ∀ k, k < 2 → parseFieldDescriptor (F_RS k).2.2.1 = some (ty0_RS k) := by decide +kernel
set_option maxRecDepth 20000 in
theorem fl_RS_0 : u_lay R_RS F_RS 0 ∈ tbG := tb_in 494 (by rfl) rfl
set_option maxRecDepth 20000 in
theorem fl_RS_1 : u_lay R_RS F_RS 1 ∈ tbG := tb_in 496 (by rfl) rfl
theorem i_RS : ∀ w ∈ u_ws R_RS F_RS 2, w ∈ tbG := by
  intro w hw
  obtain ⟨k, hk, rfl⟩ := List.mem_map.mp hw
  have hk := List.mem_range.mp hk
  match k, hk with
  | 0, _ => exact fl_RS_0
  | 1, _ => exact fl_RS_1
  | k + 2, h => exact absurd h (by omega)
def clN (c : Nat) : String := match c with
  | 1 => R_S
  | 2 => R_P
  | 3 => R_E
  | 4 => R_T
  | 5 => R_RG
  | 6 => R_RP
  | 7 => R_RD
  | 8 => R_RS
  | _ => ""
def clT (c : Nat) : u_T := match c with
  | 1 => F_S
  | 2 => F_P
  | 3 => F_E
  | 4 => F_T
  | 5 => F_RG
  | 6 => F_RP
  | 7 => F_RD
  | 8 => F_RS
  | _ => F_S
def clY (c : Nat) : Nat → FieldType := match c with
  | 1 => ty0_S
  | 2 => ty0_P
  | 3 => ty0_E
  | 4 => ty0_T
  | 5 => ty0_RG
  | 6 => ty0_RP
  | 7 => ty0_RD
  | 8 => ty0_RS
  | _ => ty0_S
def nF (c : Nat) : Nat := match c with
  | 1 => 14
  | 2 => 5
  | 3 => 11
  | 4 => 11
  | 5 => 1
  | 6 => 2
  | 7 => 1
  | 8 => 2
  | _ => 0
def elN (c : Nat) : String := match c with
  | 13 => R_P
  | 14 => R_E
  | 15 => R_T
  | _ => ""
def fTy (c k : Nat) : Nat := match c, k with
  | 1, 0 => 2
  | 1, 1 => 2
  | 1, 2 => 2
  | 1, 5 => 2
  | 1, 11 => 2
  | 2, 2 => 2
  | 2, 4 => 1
  | 3, 1 => 2
  | 3, 2 => 2
  | 3, 4 => 1
  | 3, 6 => 1
  | 3, 8 => 2
  | 3, 9 => 1
  | 3, 10 => 2
  | 4, 1 => 2
  | 4, 2 => 2
  | 4, 5 => 2
  | 4, 6 => 2
  | 4, 7 => 2
  | 4, 8 => 2
  | 4, 9 => 2
  | 4, 10 => 2
  | _, _ => 0
theorem cl_in : ∀ c, 1 ≤ c → c ≤ 8 → ∀ w ∈ u_ws (clN c) (clT c) (nF c), w ∈ tbG := by
  intro c h1 h2
  match c, h1, h2 with
  | 1, _, _ => exact i_S
  | 2, _, _ => exact i_P
  | 3, _, _ => exact i_E
  | 4, _, _ => exact i_T
  | 5, _, _ => exact i_RG
  | 6, _, _ => exact i_RP
  | 7, _, _ => exact i_RD
  | 8, _, _ => exact i_RS
  | 0, h, _ => exact absurd h (by decide)
  | c + 9, _, h => exact absurd h (by omega)
theorem cl_ty : ∀ c, 1 ≤ c → c ≤ 8 → ∀ k, k < nF c → parseFieldDescriptor (clT c k).2.2.1 = some (clY c k) := by
  intro c h1 h2
  match c, h1, h2 with
  | 1, _, _ => exact t_S_ok
  | 2, _, _ => exact t_P_ok
  | 3, _, _ => exact t_E_ok
  | 4, _, _ => exact t_T_ok
  | 5, _, _ => exact t_RG_ok
  | 6, _, _ => exact t_RP_ok
  | 7, _, _ => exact t_RD_ok
  | 8, _, _ => exact t_RS_ok
  | 0, h, _ => exact absurd h (by decide)
  | c + 9, _, h => exact absurd h (by omega)
theorem cl_nm : ∀ c, 1 ≤ c → c ≤ 8 → ∀ a, a < nF c → ∀ b, b < nF c → a ≠ b → (clT c a).2.1 ≠ (clT c b).2.1 := by
  intro c h1 h2
  match c, h1, h2 with
  | 1, _, _ => exact n_S
  | 2, _, _ => exact n_P
  | 3, _, _ => exact n_E
  | 4, _, _ => exact n_T
  | 5, _, _ => exact n_RG
  | 6, _, _ => exact n_RP
  | 7, _, _ => exact n_RD
  | 8, _, _ => exact n_RS
  | 0, h, _ => exact absurd h (by decide)
  | c + 9, _, h => exact absurd h (by omega)
theorem cl_own : ∀ c, 1 ≤ c → c ≤ 8 → ∀ k, (clT c k).1 = clN c := by
  intro c h1 h2 k
  match c, h1, h2 with
  | 1, _, _ => show (F_S k).1 = R_S; unfold F_S; split <;> rfl
  | 2, _, _ => show (F_P k).1 = R_P; unfold F_P; split <;> rfl
  | 3, _, _ => show (F_E k).1 = R_E; unfold F_E; split <;> rfl
  | 4, _, _ => show (F_T k).1 = R_T; unfold F_T; split <;> rfl
  | 5, _, _ => show (F_RG k).1 = R_RG; unfold F_RG; split <;> rfl
  | 6, _, _ => show (F_RP k).1 = R_RP; unfold F_RP; split <;> rfl
  | 7, _, _ => show (F_RD k).1 = R_RD; unfold F_RD; split <;> rfl
  | 8, _, _ => show (F_RS k).1 = R_RS; unfold F_RS; split <;> rfl
  | 0, h, _ => exact absurd h (by decide)
  | c + 9, _, h => exact absurd h (by omega)
theorem ty_i0 : ∀ c, c < 9 → ∀ k, k < nF c → fTy c k = 0 → clY c k = .int := by decide +kernel
theorem ty_z0 : ∀ c, c < 9 → ∀ k, k < nF c → fTy c k = 1 → clY c k = .boolean := by decide +kernel
theorem ty_r0 : ∀ c, c < 9 → ∀ k, k < nF c → fTy c k = 2 → (clY c k).isReference = true := by decide +kernel
theorem ty_i : ∀ c, 1 ≤ c → c ≤ 8 → ∀ k, k < nF c → fTy c k = 0 → clY c k = .int := fun c _ h => ty_i0 c (by omega)
theorem ty_z : ∀ c, 1 ≤ c → c ≤ 8 → ∀ k, k < nF c → fTy c k = 1 → clY c k = .boolean := fun c _ h => ty_z0 c (by omega)
theorem ty_r : ∀ c, 1 ≤ c → c ≤ 8 → ∀ k, k < nF c → fTy c k = 2 → True ∧ True ∧ (clY c k).isReference = true := fun c _ h k a b => ⟨trivial, trivial, ty_r0 c (by omega) k a b⟩
def nestW : List Cond := [(Cond.fieldLinkNest "NestedStore$Get" (39 : Nat) "NestedStore" "value" "I" "NestedStore"), (Cond.fieldLinkNest "NestedStore$Scan" (42 : Nat) "NestedStore" "value" "I" "NestedStore"), (Cond.methodLinkNest "NestedStore" (98 : Nat) ({ cls := "NestedStore$Entry", name := "<init>", desc := "()V" } : MethodName) "NestedStore"), (Cond.methodLinkNest "NestedStore" (272 : Nat) ({ cls := "NestedStore$Get", name := "<init>", desc := "(I)V" } : MethodName) "NestedStore"), (Cond.methodLinkNest "NestedStore$Delete" (15 : Nat) ({ cls := "NestedStore", name := "there", desc := "(I)Z" } : MethodName) "NestedStore"), (Cond.methodLinkNest "NestedStore$Delete" (19 : Nat) ({ cls := "NestedStore", name := "next", desc := "(I)I" } : MethodName) "NestedStore"), (Cond.methodLinkNest "NestedStore$Delete" (23 : Nat) ({ cls := "NestedStore", name := "seek", desc := "(LNestedStore$Transaction;IIZ)J" } : MethodName) "NestedStore"), (Cond.methodLinkNest "NestedStore$Get" (15 : Nat) ({ cls := "NestedStore", name := "there", desc := "(I)Z" } : MethodName) "NestedStore"), (Cond.methodLinkNest "NestedStore$Get" (19 : Nat) ({ cls := "NestedStore", name := "next", desc := "(I)I" } : MethodName) "NestedStore"), (Cond.methodLinkNest "NestedStore$Get" (23 : Nat) ({ cls := "NestedStore", name := "seek", desc := "(LNestedStore$Transaction;IIZ)J" } : MethodName) "NestedStore"), (Cond.methodLinkNest "NestedStore$Put" (18 : Nat) ({ cls := "NestedStore", name := "there", desc := "(I)Z" } : MethodName) "NestedStore"), (Cond.methodLinkNest "NestedStore$Put" (22 : Nat) ({ cls := "NestedStore", name := "next", desc := "(I)I" } : MethodName) "NestedStore"), (Cond.methodLinkNest "NestedStore$Put" (26 : Nat) ({ cls := "NestedStore", name := "seek", desc := "(LNestedStore$Transaction;IIZ)J" } : MethodName) "NestedStore"), (Cond.methodLinkNest "NestedStore$Scan" (18 : Nat) ({ cls := "NestedStore", name := "there", desc := "(I)Z" } : MethodName) "NestedStore"), (Cond.methodLinkNest "NestedStore$Scan" (22 : Nat) ({ cls := "NestedStore", name := "seek", desc := "(LNestedStore$Transaction;IIZ)J" } : MethodName) "NestedStore"), (Cond.methodLinkNest "NestedStore$Scan" (26 : Nat) ({ cls := "NestedStore", name := "next", desc := "(I)I" } : MethodName) "NestedStore"), (Cond.methodLinkNest "NestedStore$Delete" (27 : Nat) ({ cls := "NestedStore", name := "update", desc := "(LNestedStore$Transaction;IZI)Z" } : MethodName) "NestedStore"), (Cond.methodLinkNest "NestedStore$Get" (27 : Nat) ({ cls := "NestedStore", name := "touch", desc := "(I)LNestedStore$Page;" } : MethodName) "NestedStore"), (Cond.methodLinkNest "NestedStore$Get" (31 : Nat) ({ cls := "NestedStore", name := "at", desc := "(I)LNestedStore$Page;" } : MethodName) "NestedStore"), (Cond.methodLinkNest "NestedStore$Put" (30 : Nat) ({ cls := "NestedStore", name := "update", desc := "(LNestedStore$Transaction;IZI)Z" } : MethodName) "NestedStore"), (Cond.methodLinkNest "NestedStore$Scan" (30 : Nat) ({ cls := "NestedStore", name := "touch", desc := "(I)LNestedStore$Page;" } : MethodName) "NestedStore"), (Cond.methodLinkNest "NestedStore$Scan" (34 : Nat) ({ cls := "NestedStore", name := "at", desc := "(I)LNestedStore$Page;" } : MethodName) "NestedStore"), (Cond.methodLinkNest "NestedStore" (166 : Nat) ({ cls := "NestedStore$Transaction", name := "latest", desc := "(LNestedStore$Transaction;I)LNestedStore$Entry;" } : MethodName) "NestedStore"), (Cond.methodLinkNest "NestedStore" (279 : Nat) ({ cls := "NestedStore$Put", name := "<init>", desc := "(II)V" } : MethodName) "NestedStore"), (Cond.methodLinkNest "NestedStore" (284 : Nat) ({ cls := "NestedStore$Delete", name := "<init>", desc := "(I)V" } : MethodName) "NestedStore"), (Cond.methodLinkNest "NestedStore" (287 : Nat) ({ cls := "NestedStore$Scan", name := "<init>", desc := "(II)V" } : MethodName) "NestedStore")]
set_option maxRecDepth 20000 in
theorem nestW_in : ∀ w ∈ nestW, w ∈ lw_tbl := by
  intro w hw
  simp only [nestW, List.mem_cons, List.not_mem_nil, or_false] at hw
  rcases hw with rfl | rfl | rfl | rfl | rfl | rfl | rfl | rfl | rfl | rfl | rfl | rfl | rfl | rfl | rfl | rfl | rfl | rfl | rfl | rfl | rfl | rfl | rfl | rfl | rfl | rfl
  · exact tb_any 76 (by rfl)
  · exact tb_any 77 (by rfl)
  · exact tb_any 185 (by rfl)
  · exact tb_any 261 (by rfl)
  · exact tb_any 286 (by rfl)
  · exact tb_any 302 (by rfl)
  · exact tb_any 307 (by rfl)
  · exact tb_any 321 (by rfl)
  · exact tb_any 322 (by rfl)
  · exact tb_any 323 (by rfl)
  · exact tb_any 330 (by rfl)
  · exact tb_any 331 (by rfl)
  · exact tb_any 332 (by rfl)
  · exact tb_any 339 (by rfl)
  · exact tb_any 340 (by rfl)
  · exact tb_any 341 (by rfl)
  · exact tb_any 351 (by rfl)
  · exact tb_any 386 (by rfl)
  · exact tb_any 387 (by rfl)
  · exact tb_any 394 (by rfl)
  · exact tb_any 400 (by rfl)
  · exact tb_any 401 (by rfl)
  · exact tb_any 433 (by rfl)
  · exact tb_any 457 (by rfl)
  · exact tb_any 474 (by rfl)
  · exact tb_any 488 (by rfl)
theorem nest_shape : ∀ w ∈ nestW, (∃ a i x hh, w = Cond.methodLinkNest a i x hh) ∨ (∃ a i b n d hh, w = Cond.fieldLinkNest a i b n d hh) := by
  intro w hw
  simp only [nestW, List.mem_cons, List.not_mem_nil, or_false] at hw
  rcases hw with rfl | rfl | rfl | rfl | rfl | rfl | rfl | rfl | rfl | rfl | rfl | rfl | rfl | rfl | rfl | rfl | rfl | rfl | rfl | rfl | rfl | rfl | rfl | rfl | rfl | rfl
  · exact Or.inr ⟨_, _, _, _, _, _, rfl⟩
  · exact Or.inr ⟨_, _, _, _, _, _, rfl⟩
  · exact Or.inl ⟨_, _, _, _, rfl⟩
  · exact Or.inl ⟨_, _, _, _, rfl⟩
  · exact Or.inl ⟨_, _, _, _, rfl⟩
  · exact Or.inl ⟨_, _, _, _, rfl⟩
  · exact Or.inl ⟨_, _, _, _, rfl⟩
  · exact Or.inl ⟨_, _, _, _, rfl⟩
  · exact Or.inl ⟨_, _, _, _, rfl⟩
  · exact Or.inl ⟨_, _, _, _, rfl⟩
  · exact Or.inl ⟨_, _, _, _, rfl⟩
  · exact Or.inl ⟨_, _, _, _, rfl⟩
  · exact Or.inl ⟨_, _, _, _, rfl⟩
  · exact Or.inl ⟨_, _, _, _, rfl⟩
  · exact Or.inl ⟨_, _, _, _, rfl⟩
  · exact Or.inl ⟨_, _, _, _, rfl⟩
  · exact Or.inl ⟨_, _, _, _, rfl⟩
  · exact Or.inl ⟨_, _, _, _, rfl⟩
  · exact Or.inl ⟨_, _, _, _, rfl⟩
  · exact Or.inl ⟨_, _, _, _, rfl⟩
  · exact Or.inl ⟨_, _, _, _, rfl⟩
  · exact Or.inl ⟨_, _, _, _, rfl⟩
  · exact Or.inl ⟨_, _, _, _, rfl⟩
  · exact Or.inl ⟨_, _, _, _, rfl⟩
  · exact Or.inl ⟨_, _, _, _, rfl⟩
  · exact Or.inl ⟨_, _, _, _, rfl⟩
def x_ask : MethodName := ⟨"NestedStore$Request", "ask", "(LNestedStore;LNestedStore$Transaction;Z)J"⟩
def x_act : MethodName := ⟨"NestedStore$Request", "act", "(LNestedStore;LNestedStore$Transaction;)I"⟩
def fwT : List (String × MethodName × MethodName) := [(R_RG, x_ask, y_RG_ask), (R_RG, x_act, y_RG_act), (R_RP, x_ask, y_RP_ask), (R_RP, x_act, y_RP_act), (R_RD, x_ask, y_RD_ask), (R_RD, x_act, y_RD_act), (R_RS, x_ask, y_RS_ask), (R_RS, x_act, y_RS_act)]
/-! the store's heap as functions of kind, place and address -/
abbrev GSt : Type := (Nat → Int → Nat → Int) × (Nat → Int → Nat → Option Nat) × (Nat → Nat) × (Nat → Nat) × Nat
abbrev gI (g : GSt) : Nat → Int → Nat → Int := g.1
abbrev gR (g : GSt) : Nat → Int → Nat → Option Nat := g.2.1
abbrev gK (g : GSt) : Nat → Nat := g.2.2.1
abbrev gL (g : GSt) : Nat → Nat := g.2.2.2.1
abbrev gZ (g : GSt) : Nat := g.2.2.2.2
def uI (g : GSt) (c : Nat) (k : Int) (a : Nat) (z : Int) : GSt := (fun c' k' a' => if c' = c ∧ k' = k ∧ a' = a then z else gI g c' k' a', g.2)
def uR (g : GSt) (c : Nat) (k : Int) (a : Nat) (r : Option Nat) : GSt := (gI g, fun c' k' a' => if c' = c ∧ k' = k ∧ a' = a then r else gR g c' k' a', g.2.2)
def gnw (g : GSt) (c n : Nat) : GSt := (fun c' k' a' => if a' = gZ g then 0 else gI g c' k' a', fun c' k' a' => if a' = gZ g then none else gR g c' k' a', fun a' => if a' = gZ g then c else gK g a', fun a' => if a' = gZ g then n else gL g a', gZ g + 1)
abbrev GD : Type := (Nat → ClassId) × (Nat → Nat → Nat) × (Nat → Nat) × (Nat → Nat) × (Nat → Prop) × Nat × Nat
abbrev dCl (D : GD) : Nat → ClassId := D.1
abbrev dIS (D : GD) : Nat → Nat → Nat := D.2.1
abbrev dQ (D : GD) : Nat → Nat := D.2.2.1
abbrev dKd (D : GD) : Nat → Nat := D.2.2.2.1
abbrev dFr (D : GD) : Nat → Prop := D.2.2.2.2.1
abbrev dLo (D : GD) : Nat := D.2.2.2.2.2.1
abbrev dTp (D : GD) : Nat := D.2.2.2.2.2.2
def dA (D : GD) : Nat → Prop := fun q => ¬ dFr D q
def gV (g : GSt) (c k a : Nat) : Value := if fTy c k = 2 then va_rf (gR g c k a) else J (gI g c k a)
def aV (g : GSt) (c j a : Nat) : Value := if c ≤ 12 then J (gI g c j a) else va_rf (gR g c j a)
theorem aV_i {g : GSt} {c j a : Nat} (h : c ≤ 12) : aV g c j a = J (gI g c j a) := if_pos h
theorem aV_r {g : GSt} {c j a : Nat} (h : 12 < c) : aV g c j a = va_rf (gR g c j a) := if_neg (by omega)
def CellOk (D : GD) (g : GSt) (a : Nat) (H : Heap) : Prop := (∃ cell : Cell, H[a]? = some cell ∧ cell.slots.size ≤ 301) ∧ (gK g a ≤ 8 → t_OB a (dCl D (gK g a)) (nF (gK g a)) (dIS D (gK g a)) H (fun k => gV g (gK g a) k a)) ∧
  (8 < gK g a → H[a]? = some (arrV (dCl D (gK g a)) (gL g a) (fun j => aV g (gK g a) j a)))
def RelG (D : GD) (g : GSt) (H : Heap) : Prop := (H.size = gZ g ∧ gZ g ≤ dTp D ∧ dLo D ≤ gZ g) ∧ (∀ a, gK g a ≠ 0 → a < gZ g ∧ ¬ dFr D a ∧ CellOk D g a H) ∧ (∀ a, dLo D ≤ a → a < gZ g → gK g a ≠ 0) ∧
  (∀ c k a, InR (gI g c k a)) ∧ (∀ (c k a : Nat), fTy c k = 1 → gI g c k a = 0 ∨ gI g c k a = 1) ∧ (∀ k a, -128 ≤ gI g 12 k a ∧ gI g 12 k a ≤ 127)
def qNm (i : Nat) : String := match i with
  | 1 => "ACTIVE"
  | 2 => "WAITING"
  | 3 => "COMMITTED"
  | _ => "ABORTED"
def kNm (i : Nat) : String := match i with
  | 1 => "BEGIN"
  | 2 => "UPDATE"
  | 3 => "UNDO"
  | 4 => "COMMIT"
  | _ => "ABORTED"
def R_Q : String := "NestedStore$State"
def ConG (D : GD) (U : State) (H : Heap) : Prop :=
  (∀ i, 1 ≤ i → i ≤ 4 → va_Z "NestedStore$State" (qNm i) "LNestedStore$State;" (.ref (dQ D i)) (dA D) U H ∧ va_O "NestedStore$State" (dQ D i) (dA D) U H ∧ va_OF "java/lang/Enum" "ordinal" "I" (J i) (dQ D i) (dA D) U H) ∧
  (∀ i, 1 ≤ i → i ≤ 5 → va_Z "NestedStore$Kind" (kNm i) "LNestedStore$Kind;" (.ref (dKd D i)) (dA D) U H ∧ va_O "NestedStore$Kind" (dKd D i) (dA D) U H ∧ va_OF "java/lang/Enum" "ordinal" "I" (J i) (dKd D i) (dA D) U H) ∧
  (∀ i j, 1 ≤ i → i ≤ 4 → 1 ≤ j → j ≤ 4 → dQ D i = dQ D j → i = j) ∧ (∀ i j, 1 ≤ i → i ≤ 5 → 1 ≤ j → j ≤ 5 → dKd D i = dKd D j → i = j)
def KGt (D : GD) (U : State) : Prop :=
  (∀ c, 1 ≤ c → c ≤ 8 → u_Kn U (clN c) (clT c) (nF c) (dCl D c) (dIS D c)) ∧ (ArrOfT U (dCl D 11) .int ∧ va_RA U (dCl D 11) .int) ∧ (ArrOfT U (dCl D 12) .byte ∧ va_RA U (dCl D 12) .byte) ∧
  (∀ c, 13 ≤ c → c ≤ 15 → ArrOfT U (dCl D c) (.object (elN c)) ∧ va_RA U (dCl D c) (.object (elN c)) ∧ va_AO (elN c) U) ∧ (∀ w ∈ nestW, va_Nw w U) ∧ (∀ q ∈ fwT, va_Fw q.1 q.2.1 q.2.2 U) ∧ (∀ q, dLo D ≤ q → ¬ dFr D q)
def KG (D : GD) (U : State) : Prop := KGt D U ∧ ConG D U U.heap
theorem nest_warm {s U : State} (hW : s.WarmedH U.vm) : ∀ w ∈ nestW, va_Nw w s → va_Nw w U := by
  intro w hw hz
  rcases nest_shape w hw with ⟨a, i, x, hh, rfl⟩ | ⟨a, i, b, n, d, hh, rfl⟩
  · exact va_Nw.warmM hW hz
  · exact va_Nw.warmF hW hz
theorem fw_cls : ∀ q ∈ fwT, q.2.1.cls ≠ "java/lang/invoke/MethodHandle" ∧ q.2.1.cls ≠ "java/lang/invoke/VarHandle" := by decide +kernel
theorem KGt.warm {D : GD} {s U : State} (hW : s.WarmedH U.vm) (h : KGt D s) : KGt D U := by
  obtain ⟨h1, h2, h3, h4, h5, h6, h7⟩ := h
  exact ⟨fun c a b => u_Kn_moved hW.alike (h1 c a b), ⟨arrOfT_moved hW.alike h2.1, h2.2.moved hW.alike⟩, ⟨arrOfT_moved hW.alike h3.1, h3.2.moved hW.alike⟩, fun c a b => ⟨arrOfT_moved hW.alike (h4 c a b).1, (h4 c a b).2.1.moved hW.alike, (h4 c a b).2.2.moved hW.alike⟩, fun w hw => nest_warm hW w hw (h5 w hw), fun q hq => (h6 q hq).moved (fw_cls q hq) hW.alike, h7⟩
theorem ConG.moved {D : GD} {s U : State} {H H1 : Heap} (hvm : s.vm.Alike U.vm) (hq : ∀ a : Nat, a < H.size → ¬ dA D a → H1[a]? = H[a]?) (h : ConG D s H) : ConG D U H1 := by
  obtain ⟨h1, h2, h3⟩ := h
  exact ⟨fun i a b => ⟨((h1 i a b).1.moved hvm).kept hq, ((h1 i a b).2.1.moved hvm).kept hq, ((h1 i a b).2.2.moved hvm).kept hq⟩, fun i a b => ⟨((h2 i a b).1.moved hvm).kept hq, ((h2 i a b).2.1.moved hvm).kept hq, ((h2 i a b).2.2.moved hvm).kept hq⟩, h3⟩
def QG (D : GD) (Q : Option Value → GSt → Prop) : Array Value → State → Outcome → State → Prop := fun _ st oc t => (∃ (r : Option Value) (g1 : GSt), oc = .returned r ∧ Q r g1 ∧ RelG D g1 t.heap) ∧ va_F (dA D) st t
def rmG (D : GD) (lv : Nat) (g : GSt) : Room := { frames := lv, cells := dTp D - gZ g, slots := 301 * (dTp D - gZ g), locals := 40 * lv }
/-- a method of the store's classes, called with av where the heap holds g -/
def GCon (D : GD) (y : MethodName) (w : List Cond) (lv : Nat) (av : List Value) (g : GSt) (Q : Option Value → GSt → Prop) : Prop :=
  ∀ (l : Launch), Met l y w (rmG D lv g) (va_Pc av (fun U => RelG D g U.heap ∧ KG D U)) (QG D Q) (dTp D - gZ g) (301 * (dTp D - gZ g)) (dA D)
def COk (C : String) (y : MethodName) (b : ByteArray) (n na : Nat) : Prop :=
  Cond.code y b n none ∈ tbG ∧ Cond.instanceMethod y ∈ tbG ∧ Cond.initialized C ∈ tbG ∧ y.name = "<init>" ∧ (y.cls = C ∧ y.cls ≠ "java/lang/invoke/MethodHandle" ∧ y.cls ≠ "java/lang/invoke/VarHandle" ∧ (parseMethodDescriptor y.desc).map (fun d => d.parameters.length) = some na) ∧ n ≤ 21
def OkG (X : Cx) (D : GD) (C : String) (cc : ByteArray) (n : Nat) (rt : Option FieldType) (lv : Nat) (g0 : GSt) (Q : Option Value → GSt → Prop) : Prop :=
  OkC X C cc rt lv ∧ KG D (Cx.s X) ∧ Cx.A X = dA D ∧ Cx.Q X = MQ (Cx.below X) (QG D Q) (Cx.args X) (Cx.s X) (dTp D - gZ g0) (301 * (dTp D - gZ g0)) (dA D) ∧ ((Cx.s X).heap.size = gZ g0 ∧ dLo D ≤ gZ g0) ∧ Cx.nL X = n ∧ ((Cx.R X).cells = dTp D - gZ g0 ∧ (Cx.R X).slots = 301 * (dTp D - gZ g0))
theorem sum_le {l : List Nat} (h : ∀ x ∈ l, x ≤ 301) : l.sum ≤ 301 * l.length := by
  induction l with
  | nil => simp
  | cons a l ih =>
    have h1 := h a List.mem_cons_self
    have h2 := ih (fun x hx => h x (List.mem_cons_of_mem _ hx))
    simp only [List.sum_cons, List.length_cons]
    omega
theorem slN_le {b : Nat} {H : Heap} (h : ∀ (a : Nat) (cell : Cell), b ≤ a → H[a]? = some cell → cell.slots.size ≤ 301) : slN b H ≤ 301 * (H.size - b) := by
  unfold slN
  have := sum_le (l := (H.toList.drop b).map (fun c => c.slots.size)) (fun x hx => by
    obtain ⟨c, hc, rfl⟩ := List.mem_map.mp hx
    obtain ⟨i, hi⟩ := List.getElem?_of_mem hc
    rw [List.getElem?_drop] at hi
    exact h (b + i) c (by omega) (by rw [← Array.getElem?_toList]; exact hi))
  simpa using this
theorem RelG.sl {D : GD} {g : GSt} {H : Heap} (h : RelG D g H) {b : Nat} (hb : dLo D ≤ b) : slN b H ≤ 301 * (H.size - b) := by
  refine slN_le fun a cell ha hc => ?_
  have hlt : a < gZ g := by rw [← h.1.1]; exact (Array.getElem?_eq_some_iff.mp hc).1
  obtain ⟨cell', h1, h2⟩ := (h.2.1 a (h.2.2.1 a (by omega) hlt)).2.2.1
  rw [hc] at h1
  cases h1
  exact h2
theorem GCon.of {D : GD} {y : MethodName} {cc : ByteArray} {n : Nat} {rt : Option FieldType} {lv : Nat} {av : List Value} {g : GSt} {Q : Option Value → GSt → Prop} (hy : plainName y.cls = true) (hcat : ∀ v ∈ av, v.category = 1) (hn : av.length ≤ n)
    (k : ∀ (X : Cx), OkG X D y.cls cc n rt lv g Q → (Cx.meth X).name = y.name → V X (RelG D g) 0 (lseq 0 av) [] []) : GCon D y (wsOf y cc n rt) lv av g Q := by
  intro l
  refine Met.ofW (cc := cc) (maxL := n) (ret := rt) hy rfl ?_
  intro p e s m args below meth c s₁ B hml hv
  obtain ⟨rfl, hR, hK⟩ := hv
  have hts := atoms_spec (ws := wsOf y cc n rt) B.pre
  have hown : s.vm.findClass y.cls = some m.cls := findClass_of_methodNamed B.named
  obtain ⟨ls, he, hl⟩ := lok_entry (m := m) (n := n) hcat hn
  rw [he]
  have := k (p, l, e, (headSpec (wsOf y cc n rt) (rmG D lv g)).room, s, m, av.toArray, below, meth, c, MQ below (QG D Q) av.toArray s (dTp D - gZ g) (301 * (dTp D - gZ g)) (dA D), n, dA D)
    ⟨⟨⟨B.exec, B.bytes⟩, hown, fun w hw => hts w (List.mem_cons_of_mem _ hw), hml, B.notSynchronized, B.returns, Nat.le_refl _, Nat.le_refl _⟩, hK, rfl, rfl, ⟨hR.1.1, hR.1.2.2⟩, rfl, rfl, rfl⟩ (name_of_methodNamed B.named B.method).1 s.heap [] ls va_S.rf hR hl
  exact WX.exact (cells := 0) (slots := 0) this
section GRows
variable {X : Cx} {D : GD} {C : String} {g g0 : GSt} {cc : ByteArray} {n lv : Nat} {rt : Option FieldType} {Q : Option Value → GSt → Prop} {pc nx tgt a : Nat} {L L' : List (Nat × Value)} {G : List (Nat × Int64)} {st : List Value}
theorem OkG.ok (o : OkG X D C cc n rt lv g0 Q) : Ok X cc := o.1.1
theorem OkG.lt (o : OkG X D C cc n rt lv g0 Q) {i : Nat} (h : i < n) : i < Cx.nL X := by rw [o.2.2.2.2.2.1]; exact h
theorem OkG.enum (o : OkG X D C cc n rt lv g0 Q) : ConG D (Cx.s X) (Cx.s X).heap := o.2.1.2
theorem g_rng (k : (∀ c i b, InR (gI g c i b)) → V X (RelG D g) pc L G st) : V X (RelG D g) pc L G st := V.get (fun _ hR => hR.2.2.2.1) k
theorem g_get0 (o : OkG X D C cc n rt lv g0 Q) {i : Nat} (c k : Nat) (hc : 1 ≤ c ∧ c ≤ 8) (hk : k < nF c) (hf : Cond.fieldLink C i (clN c) (clT c k).2.1 (clT c k).2.2.1 ∈ tbG) (hK : gK g a = c) (d : dc cc pc (.getfield i) nx) (kk : V X (RelG D g) nx L G (gV g c k a :: st)) (hn : pc + 3 = nx) : V X (RelG D g) pc L G (.ref a :: st) := by
  subst hn
  intro H locs ls hS hR hl
  have d := d.1
  rw [Nat.add_sub_cancel_left] at d
  obtain ⟨⟨⟨hx, hb⟩, hown, hts, -⟩, hKG, -⟩ := o
  have hob := (hR.2.1 a (by rw [hK]; omega)).2.2.2.1 (by rw [hK]; exact hc.2)
  rw [hK] at hob
  obtain ⟨cell, q1, q2, q3, q4⟩ := hob
  obtain ⟨hSl, hfc, kC, hkC, hkind⟩ := hKG.1.1 c hc.1 hc.2
  obtain ⟨cf, kf, fi, f, hi, hsl⟩ := hSl k hk
  have hi' := hi
  rw [cl_own c hc.1 hc.2 k] at hi'
  refine W.getf hx hb hown (hts _ hf) hi' (u_facts hfc hkC (u_lays hts (cl_in c hc.1 hc.2) hk) hi).1 q1 (by rw [q3]; exact fun h => by cases h) (v := gV g c k a) ?_ rfl rfl d (kk H locs ls hS hR hl)
  rw [hsl, q4 k hk]
theorem g_geti (o : OkG X D C cc n rt lv g0 Q) {i : Nat} (c k : Nat) (kI : Int) (hkI : (k : Int) = kI) (hc : 1 ≤ c ∧ c ≤ 8) (hk : k < nF c) (hf : Cond.fieldLink C i (clN c) (clT c k).2.1 (clT c k).2.2.1 ∈ tbG) (hK : gK g a = c) (ht : fTy c k = 0) (d : dc cc pc (.getfield i) nx) (kk : InR (gI g c kI a) → V X (RelG D g) nx L G (J (gI g c kI a) :: st)) (hn : pc + 3 = nx := by rfl) : V X (RelG D g) pc L G (.ref a :: st) := by
  subst hkI
  exact V.get (fun _ hR => hR.2.2.2.1 c k a) fun hi => g_get0 o c k hc hk hf hK d (by rw [gV, if_neg (by rw [ht]; decide)]; exact kk hi) hn
theorem g_getz (o : OkG X D C cc n rt lv g0 Q) {i : Nat} (c k : Nat) (kI : Int) (hkI : (k : Int) = kI) (hc : 1 ≤ c ∧ c ≤ 8) (hk : k < nF c) (hf : Cond.fieldLink C i (clN c) (clT c k).2.1 (clT c k).2.2.1 ∈ tbG) (hK : gK g a = c) (ht : fTy c k = 1) (d : dc cc pc (.getfield i) nx) (kk : (gI g c kI a = 0 ∨ gI g c kI a = 1) → V X (RelG D g) nx L G (J (gI g c kI a) :: st)) (hn : pc + 3 = nx := by rfl) : V X (RelG D g) pc L G (.ref a :: st) := by
  subst hkI
  exact V.get (fun _ hR => hR.2.2.2.2.1 c k a ht) fun hi => g_get0 o c k hc hk hf hK d (by rw [gV, if_neg (by rw [ht]; decide)]; exact kk hi) hn
theorem g_getr (o : OkG X D C cc n rt lv g0 Q) {i : Nat} (c k : Nat) (kI : Int) (hkI : (k : Int) = kI) (hc : 1 ≤ c ∧ c ≤ 8) (hk : k < nF c) (hf : Cond.fieldLink C i (clN c) (clT c k).2.1 (clT c k).2.2.1 ∈ tbG) (hK : gK g a = c) (ht : fTy c k = 2) (d : dc cc pc (.getfield i) nx) (kk : V X (RelG D g) nx L G (va_rf (gR g c kI a) :: st)) (hn : pc + 3 = nx := by rfl) : V X (RelG D g) pc L G (.ref a :: st) := by
  subst hkI
  exact g_get0 o c k hc hk hf hK d (by rw [gV, if_pos ht]; exact kk) hn
theorem g_getrs (o : OkG X D C cc n rt lv g0 Q) {i : Nat} (c k : Nat) (kI : Int) {b : Nat} (hr : gR g c kI a = some b) (hkI : (k : Int) = kI) (hc : 1 ≤ c ∧ c ≤ 8) (hk : k < nF c) (hf : Cond.fieldLink C i (clN c) (clT c k).2.1 (clT c k).2.2.1 ∈ tbG) (hK : gK g a = c) (ht : fTy c k = 2) (d : dc cc pc (.getfield i) nx) (kk : V X (RelG D g) nx L G (.ref b :: st)) (hn : pc + 3 = nx := by rfl) : V X (RelG D g) pc L G (.ref a :: st) :=
  g_getr o c k kI hkI hc hk hf hK ht d (by rw [hr]; exact kk) hn
theorem g_getrn (o : OkG X D C cc n rt lv g0 Q) {i : Nat} (c k : Nat) (kI : Int) {r : Option Nat} (hr : gR g c kI a = r) (hkI : (k : Int) = kI) (hc : 1 ≤ c ∧ c ≤ 8) (hk : k < nF c) (hf : Cond.fieldLink C i (clN c) (clT c k).2.1 (clT c k).2.2.1 ∈ tbG) (hK : gK g a = c) (ht : fTy c k = 2) (d : dc cc pc (.getfield i) nx) (kk : V X (RelG D g) nx L G (va_rf r :: st)) (hn : pc + 3 = nx := by rfl) : V X (RelG D g) pc L G (.ref a :: st) :=
  g_getr o c k kI hkI hc hk hf hK ht d (by rw [hr]; exact kk) hn
/-- one cell of the heap has changed as g has -/
theorem RelG.put {g' : GSt} {H H' : Heap} (hR : RelG D g H) (hZ : gZ g' = gZ g) (hKd : gK g' = gK g) (hL : gL g' = gL g) (hI : ∀ c k b, b ≠ a → gI g' c k b = gI g c k b) (hRr : ∀ c k b, b ≠ a → gR g' c k b = gR g c k b) (hin : ∀ c k, InR (gI g' c k a)) (hz : ∀ (c k : Nat), fTy c k = 1 → gI g' c k a = 0 ∨ gI g' c k a = 1) (hby : ∀ k, -128 ≤ gI g' 12 k a ∧ gI g' 12 k a ≤ 127)
    (e2 : H'.size = H.size) (e3 : ∀ q, q ≠ a → H'[q]? = H[q]?) (hc : gK g a ≠ 0 → CellOk D g' a H') : RelG D g' H' := by
  obtain ⟨h1, h2, h3, h4, h5, h6⟩ := hR
  refine ⟨by rw [hZ, e2]; exact h1, fun b hb => ?_, fun b q1 q2 => by rw [hKd]; exact h3 b q1 (by rw [hZ] at q2; exact q2), fun c k b => ?_, fun c k b q => ?_, fun k b => ?_⟩
  · rw [hKd] at hb
    obtain ⟨q1, q2, q3⟩ := h2 b hb
    refine ⟨by rw [hZ]; exact q1, q2, ?_⟩
    by_cases e : b = a
    · subst e
      exact hc hb
    · obtain ⟨⟨cell, c1, c2⟩, c3, c4⟩ := q3
      refine ⟨⟨cell, by rw [e3 b e]; exact c1, c2⟩, fun q => ?_, fun q => ?_⟩
      · rw [hKd] at q ⊢
        refine t_OB.to ((c3 q).kept (e3 b e)) (fun k _ => ?_)
        unfold gV
        rw [hI _ _ _ e, hRr _ _ _ e]
      · rw [hKd] at q ⊢
        rw [e3 b e, c4 q, hL]
        congr 2
        funext j
        unfold aV
        rw [hI _ _ _ e, hRr _ _ _ e]
  · by_cases e : b = a
    · subst e; exact hin c k
    · rw [hI _ _ _ e]; exact h4 c k b
  · by_cases e : b = a
    · subst e; exact hz c k q
    · rw [hI _ _ _ e]; exact h5 c k b q
  · by_cases e : b = a
    · subst e; exact hby k
    · rw [hI _ _ _ e]; exact h6 k b
theorem g_apart (o : OkG X D C cc n rt lv g0 Q) {c : Nat} (hc : 1 ≤ c ∧ c ≤ 8) : ∀ x y, x < nF c → y < nF c → x ≠ y → (dIS D c) x ≠ (dIS D c) y := by
  obtain ⟨⟨-, hown, hts, -⟩, hK, -⟩ := o
  have hKv : va_K ((fun _ => dCl D c, fun _ => dIS D c) : va_G) [(clN c, clT c, nF c)] [] (Cx.s X) := ⟨fun j q hq => by
    match j, hq with
    | 0, hq => cases hq; exact hK.1.1 c hc.1 hc.2
    | j + 1, hq => simp at hq, fun k q h => by simp at h⟩
  exact va_apart (own := C) (ci := 0) hts (cl_in c hc.1 hc.2) (clY c) (cl_ty c hc.1 hc.2) (cl_nm c hc.1 hc.2) hKv rfl
/-- a store into a field: what is stored fits; g' is g with it -/
theorem g_put0 (o : OkG X D C cc n rt lv g0 Q) {i : Nat} (c k : Nat) (hc : 1 ≤ c ∧ c ≤ 8) (hk : k < nF c) (hf : Cond.fieldLink C i (clN c) (clT c k).2.1 (clT c k).2.2.1 ∈ tbG) (hK : gK g a = c) (hfin : (clT c k).2.2.2 = false ∨ ((clT c k).2.2.2 = true ∧ (Cx.meth X).name = "<init>" ∧ clN c = C)) {v : Value} (hn2 : narrow (clY c k) v = v) (hfit : fits (clY c k) v = true) (d : dc cc pc (.putfield i) nx) {g' : GSt} (hZ : gZ g' = gZ g) (hKd : gK g' = gK g) (hL : gL g' = gL g) (hI : ∀ c k b, b ≠ a → gI g' c k b = gI g c k b) (hRr : ∀ c k b, b ≠ a → gR g' c k b = gR g c k b)
    (hrel : ∀ H, RelG D g H → (∀ c k, InR (gI g' c k a)) ∧ (∀ (c k : Nat), fTy c k = 1 → gI g' c k a = 0 ∨ gI g' c k a = 1) ∧ (∀ k, -128 ≤ gI g' 12 k a ∧ gI g' 12 k a ≤ 127)) (hV : ∀ j, j < nF c → gV g' c j a = if j = k then v else gV g c j a) (kk : V X (RelG D g') nx L G st) (hn : pc + 3 = nx) : V X (RelG D g) pc L G (v :: .ref a :: st) := by
  subst hn
  intro H locs ls hS hR hl
  have d := d.1
  rw [Nat.add_sub_cancel_left] at d
  have hap := g_apart o hc
  obtain ⟨⟨⟨hx, hb⟩, hown, hts, -⟩, hKG, hA, -⟩ := o
  have hne : gK g a ≠ 0 := by rw [hK]; omega
  have hob := (hR.2.1 a hne).2.2.2.1 (by rw [hK]; exact hc.2)
  have hfr := (hR.2.1 a hne).2.1
  have hsz := (hR.2.1 a hne).2.2.1
  rw [hK] at hob
  obtain ⟨cell, q1, q2, q3, q4⟩ := hob
  obtain ⟨hSl, hfc, kC, hkC, hkind⟩ := hKG.1.1 c hc.1 hc.2
  obtain ⟨cf, kf, fi, f, hi, hsl⟩ := hSl k hk
  have hi' := hi
  rw [cl_own c hc.1 hc.2 k] at hi'
  have hst := (u_facts hfc hkC (u_lays hts (cl_in c hc.1 hc.2) hk) hi).1
  have hlay := hts _ (cl_in c hc.1 hc.2 _ (u_in_lay hk))
  unfold u_lay at hlay
  have go : ∀ H' : Heap, H'[a]? = some (cell.setSlot f.slot v) → H'.size = H.size → (∀ q, q ≠ a → H'[q]? = H[q]?) → WX X H' (locs ++ [⟨a, f.slot⟩]) (H.size - (Cx.s X).heap.size) (slN (Cx.s X).heap.size H) (F0 (Cx.m X) (pc + 3) ls st) := by
    intro H' e1 e2 e3
    rw [hsl] at e1 ⊢
    obtain ⟨r1, r2, r3⟩ := hrel H hR
    refine WX.exact (kk H' _ ls (hS.put e2 e3 (by rw [hA]; exact hfr)) (hR.put hZ hKd hL hI hRr r1 r2 r3 e2 e3 (fun _ => ⟨?_, fun _ => ?_, fun q => ?_⟩)) hl)
    · obtain ⟨cell2, c1, c2⟩ := hsz
      rw [q1] at c1
      cases c1
      refine ⟨_, e1, ?_⟩
      simpa [Cell.setSlot] using c2
    · rw [hKd, hK]
      refine t_OB.to (V := updV (fun k => gV g c k a) k v) ⟨_, e1, q2, q3, t_set q4 hap hk v⟩ (fun j hj => ?_)
      rw [hV j hj]
      rfl
    · rw [hKd, hK] at q
      omega
  rcases hfin with hfin | ⟨hfin, hnm, hcl⟩
  · rw [if_neg (by rw [hfin]; decide)] at hlay
    have h6 := u_store (v := v) hfc hkC hkind hlay hi (cl_ty c hc.1 hc.2 k hk) hn2 hfit
    exact W.putK hx hb (f := f) ⟨hown, hts _ hf, ⟨_, _, _, hi'⟩, hst⟩ (by rw [q2]; exact h6) q1 q3 (by rw [hsl]; exact k2_hasslot (q4 k hk)) rfl rfl d go
  · rw [if_pos hfin] at hlay
    have hcf : (Cx.m X).cls = cf := by
      obtain ⟨_, _, c', _, _, _, -, -, hf', -, -, -, hown2, -⟩ := Cond.laysFinal_spec hlay
      have e1 : c' = cf := by have := hi.symm.trans hf'; simp at this; exact this.1.symm
      rw [cl_own c hc.1 hc.2 k, hcl] at hown2
      rw [← e1]; exact Option.some.inj (hown.symm.trans hown2)
    have h6 := u_fits (v := v) hfc hkC hkind (Or.inr hlay) hi (cl_ty c hc.1 hc.2 k hk) hn2 hfit
    exact W.putFinK hx hb hown (hts _ hf) hi' hst hcf hnm (by rw [q2]; exact h6) q1 q3 (by rw [hsl]; exact k2_hasslot (q4 k hk)) rfl rfl d go
theorem uI_off {c c' : Nat} {k k' : Int} {b : Nat} {z : Int} (h : ¬ (c' = c ∧ k' = k ∧ b = a)) : gI (uI g c k a z) c' k' b = gI g c' k' b := if_neg h
theorem uI_on {c : Nat} {k : Int} {z : Int} : gI (uI g c k a z) c k a = z := if_pos ⟨rfl, rfl, rfl⟩
theorem uR_off {c c' : Nat} {k k' : Int} {b : Nat} {z : Option Nat} (h : ¬ (c' = c ∧ k' = k ∧ b = a)) : gR (uR g c k a z) c' k' b = gR g c' k' b := if_neg h
theorem uR_on {c : Nat} {k : Int} {z : Option Nat} : gR (uR g c k a z) c k a = z := if_pos ⟨rfl, rfl, rfl⟩
theorem uI_rel {c : Nat} {k : Int} {z : Int} (hz : InR z) (h1 : ∀ k' : Nat, (k' : Int) = k → fTy c k' = 1 → z = 0 ∨ z = 1) (h2 : c = 12 → -128 ≤ z ∧ z ≤ 127) {H : Heap} (hR : RelG D g H) : (∀ c' k', InR (gI (uI g c k a z) c' k' a)) ∧ (∀ (c' k' : Nat), fTy c' k' = 1 → gI (uI g c k a z) c' k' a = 0 ∨ gI (uI g c k a z) c' k' a = 1) ∧ (∀ k', -128 ≤ gI (uI g c k a z) 12 k' a ∧ gI (uI g c k a z) 12 k' a ≤ 127) := by
  refine ⟨fun c' k' => ?_, fun c' k' q => ?_, fun k' => ?_⟩
  · by_cases e : c' = c ∧ k' = k
    · obtain ⟨rfl, rfl⟩ := e
      rw [uI_on]; exact hz
    · rw [uI_off (fun q => e ⟨q.1, q.2.1⟩)]; exact hR.2.2.2.1 c' k' a
  · by_cases e : c' = c ∧ (k' : Int) = k
    · obtain ⟨rfl, e⟩ := e
      rw [e, uI_on]
      exact h1 k' e q
    · rw [uI_off (fun q => e ⟨q.1, q.2.1⟩)]; exact hR.2.2.2.2.1 c' k' a q
  · by_cases e : 12 = c ∧ k' = k
    · obtain ⟨rfl, rfl⟩ := e
      rw [uI_on]; exact h2 rfl
    · rw [uI_off (fun q => e ⟨q.1, q.2.1⟩)]; exact hR.2.2.2.2.2 k' a
theorem g_puti (o : OkG X D C cc n rt lv g0 Q) {i : Nat} {z : Int} (c k : Nat) (kI : Int) (hkI : (k : Int) = kI) (hc : 1 ≤ c ∧ c ≤ 8) (hk : k < nF c) (hf : Cond.fieldLink C i (clN c) (clT c k).2.1 (clT c k).2.2.1 ∈ tbG) (hK : gK g a = c) (ht : fTy c k = 0) (hfin : (clT c k).2.2.2 = false ∨ ((clT c k).2.2.2 = true ∧ (Cx.meth X).name = "<init>" ∧ clN c = C)) (hz : InR z) (d : dc cc pc (.putfield i) nx) (kk : V X (RelG D (uI g c kI a z)) nx L G st) (hn : pc + 3 = nx := by rfl) : V X (RelG D g) pc L G (J z :: .ref a :: st) := by
  subst hkI
  refine g_put0 o c k hc hk hf hK hfin (v := J z) (g' := uI g c k a z) (by rw [ty_i c hc.1 hc.2 k hk ht]; rfl) (by rw [ty_i c hc.1 hc.2 k hk ht]; rfl) d rfl rfl rfl (fun c' k' b hb => uI_off (fun q => hb q.2.2)) (fun _ _ _ _ => rfl) (fun H hR => uI_rel hz (fun k' e q => by rw [show k' = k from by omega, ht] at q; cases q) (fun q => by omega) hR) (fun j hj => ?_) kk hn
  unfold gV
  by_cases e : j = k
  · subst e
    rw [if_neg (by rw [ht]; decide), if_pos rfl, uI_on]
  · rw [if_neg e, uI_off (fun q => e (by omega))]
    rfl
theorem g_putz (o : OkG X D C cc n rt lv g0 Q) {i : Nat} {z : Int} (c k : Nat) (kI : Int) (hkI : (k : Int) = kI) (hc : 1 ≤ c ∧ c ≤ 8) (hk : k < nF c) (hf : Cond.fieldLink C i (clN c) (clT c k).2.1 (clT c k).2.2.1 ∈ tbG) (hK : gK g a = c) (ht : fTy c k = 1) (hfin : (clT c k).2.2.2 = false ∨ ((clT c k).2.2.2 = true ∧ (Cx.meth X).name = "<init>" ∧ clN c = C)) (hz : z = 0 ∨ z = 1) (d : dc cc pc (.putfield i) nx) (kk : V X (RelG D (uI g c kI a z)) nx L G st) (hn : pc + 3 = nx := by rfl) : V X (RelG D g) pc L G (J z :: .ref a :: st) := by
  subst hkI
  refine g_put0 o c k hc hk hf hK hfin (v := J z) (g' := uI g c k a z) (by rw [ty_z c hc.1 hc.2 k hk ht]; exact nar_z hz) (by rw [ty_z c hc.1 hc.2 k hk ht]; rcases hz with rfl | rfl <;> rfl) d rfl rfl rfl (fun c' k' b hb => uI_off (fun q => hb q.2.2)) (fun _ _ _ _ => rfl) (fun H hR => uI_rel (by rcases hz with rfl | rfl <;> decide) (fun _ _ _ => hz) (fun q => by omega) hR) (fun j hj => ?_) kk hn
  unfold gV
  by_cases e : j = k
  · subst e
    rw [if_neg (by rw [ht]; decide), if_pos rfl, uI_on]
  · rw [if_neg e, uI_off (fun q => e (by omega))]
    rfl
theorem ref_fit {ty : FieldType} (h : ty.isReference = true) (r : Option Nat) : narrow ty (va_rf r) = va_rf r ∧ fits ty (va_rf r) = true := by
  cases ty <;> first | (cases r <;> exact ⟨rfl, rfl⟩) | cases h
theorem g_putr (o : OkG X D C cc n rt lv g0 Q) {i : Nat} {r : Option Nat} (c k : Nat) (kI : Int) (hkI : (k : Int) = kI) (hc : 1 ≤ c ∧ c ≤ 8) (hk : k < nF c) (hf : Cond.fieldLink C i (clN c) (clT c k).2.1 (clT c k).2.2.1 ∈ tbG) (hK : gK g a = c) (ht : fTy c k = 2) (hfin : (clT c k).2.2.2 = false ∨ ((clT c k).2.2.2 = true ∧ (Cx.meth X).name = "<init>" ∧ clN c = C)) (d : dc cc pc (.putfield i) nx) (kk : V X (RelG D (uR g c kI a r)) nx L G st) (hn : pc + 3 = nx := by rfl) : V X (RelG D g) pc L G (va_rf r :: .ref a :: st) := by
  subst hkI
  have hrf := ref_fit (ty_r c hc.1 hc.2 k hk ht).2.2 r
  refine g_put0 o c k hc hk hf hK hfin (v := va_rf r) (g' := uR g c k a r) hrf.1 hrf.2 d rfl rfl rfl (fun _ _ _ _ => rfl) (fun c' k' b hb => uR_off (fun q => hb q.2.2)) (fun H hR => ⟨fun c' k' => hR.2.2.2.1 c' k' a, fun c' k' q => hR.2.2.2.2.1 c' k' a q, fun k' => hR.2.2.2.2.2 k' a⟩) (fun j hj => ?_) kk hn
  unfold gV
  by_cases e : j = k
  · subst e
    rw [if_pos ht, if_pos rfl, uR_on]
  · rw [if_neg e, uR_off (fun q => e (by omega))]
    rfl
theorem g_putrs (o : OkG X D C cc n rt lv g0 Q) {i b : Nat} (c k : Nat) (kI : Int) (hkI : (k : Int) = kI) (hc : 1 ≤ c ∧ c ≤ 8) (hk : k < nF c) (hf : Cond.fieldLink C i (clN c) (clT c k).2.1 (clT c k).2.2.1 ∈ tbG) (hK : gK g a = c) (ht : fTy c k = 2) (hfin : (clT c k).2.2.2 = false ∨ ((clT c k).2.2.2 = true ∧ (Cx.meth X).name = "<init>" ∧ clN c = C)) (d : dc cc pc (.putfield i) nx) (kk : V X (RelG D (uR g c kI a (some b))) nx L G st) (hn : pc + 3 = nx := by rfl) : V X (RelG D g) pc L G (.ref b :: .ref a :: st) :=
  g_putr (r := some b) o c k kI hkI hc hk hf hK ht hfin d kk hn
theorem g_putrn (o : OkG X D C cc n rt lv g0 Q) {i : Nat} (c k : Nat) (kI : Int) (hkI : (k : Int) = kI) (hc : 1 ≤ c ∧ c ≤ 8) (hk : k < nF c) (hf : Cond.fieldLink C i (clN c) (clT c k).2.1 (clT c k).2.2.1 ∈ tbG) (hK : gK g a = c) (ht : fTy c k = 2) (hfin : (clT c k).2.2.2 = false ∨ ((clT c k).2.2.2 = true ∧ (Cx.meth X).name = "<init>" ∧ clN c = C)) (d : dc cc pc (.putfield i) nx) (kk : V X (RelG D (uR g c kI a none)) nx L G st) (hn : pc + 3 = nx := by rfl) : V X (RelG D g) pc L G (.null :: .ref a :: st) :=
  g_putr (r := none) o c k kI hkI hc hk hf hK ht hfin d kk hn
theorem RelG.arr {H : Heap} (hR : RelG D g H) {c : Nat} (hK : gK g a = c) (hc : 8 < c) : H[a]? = some (arrV (dCl D c) (gL g a) (fun j => aV g c j a)) ∧ ¬ dFr D a ∧ gL g a ≤ 301 := by
  obtain ⟨q1, q2, ⟨cell, c1, c2⟩, c3, c4⟩ := hR.2.1 a (by rw [hK]; omega)
  rw [hK] at c4
  have h := c4 hc
  refine ⟨h, q2, ?_⟩
  rw [h] at c1
  cases c1
  rw [arrV_size] at c2
  exact c2
theorem g_iald (o : OkG X D C cc n rt lv g0 Q) {z : Int} (N : Int) (hK : gK g a = 11) (hN : (gL g a : Int) = N) (hz : 0 ≤ z ∧ z < N) (d : dc cc pc .iaload nx) (kk : InR (gI g 11 z a) → V X (RelG D g) nx L G (J (gI g 11 z a) :: st)) (hn : pc + 1 = nx := by rfl) : V X (RelG D g) pc L G (J z :: .ref a :: st) := by
  subst hn
  subst hN
  intro H locs ls hS hR hl
  have d := d.1
  rw [Nat.add_sub_cancel_left] at d
  obtain ⟨⟨⟨hx, hb⟩, hown, hts, -⟩, hKG, -⟩ := o
  obtain ⟨har, -, hl3⟩ := hR.arr hK (by decide)
  have hI : InR z := ⟨by omega, by omega⟩
  have hnat : (Int32.ofInt z).toNatClampNeg = z.toNat := i32_nat hI
  refine W.iald (v := J (gI g 11 z a)) hx hb har (hKG.1.2.1.1 _ _) (fun q => by cases q) (by rw [arrV_size, hnat, i32_0, i32_lt hI (by decide)]; omega) ?_ rfl rfl d (kk (hR.2.2.2.1 11 z a) H locs ls hS hR hl)
  rw [hnat, arrV_read _ _ (by omega)]
  unfold aV
  rw [if_pos (by decide), Int.toNat_of_nonneg hz.1]
theorem g_bald (o : OkG X D C cc n rt lv g0 Q) {z : Int} (N : Int) (hK : gK g a = 12) (hN : (gL g a : Int) = N) (hz : 0 ≤ z ∧ z < N) (d : dc cc pc .baload nx) (kk : (-128 ≤ gI g 12 z a ∧ gI g 12 z a ≤ 127) → V X (RelG D g) nx L G (J (gI g 12 z a) :: st)) (hn : pc + 1 = nx := by rfl) : V X (RelG D g) pc L G (J z :: .ref a :: st) := by
  subst hn
  subst hN
  intro H locs ls hS hR hl
  have d := d.1
  rw [Nat.add_sub_cancel_left] at d
  obtain ⟨⟨⟨hx, hb⟩, hown, hts, -⟩, hKG, -⟩ := o
  obtain ⟨har, -, hl3⟩ := hR.arr hK (by decide)
  have hI : InR z := ⟨by omega, by omega⟩
  have hnat : (Int32.ofInt z).toNatClampNeg = z.toNat := i32_nat hI
  refine W.bald (v := J (gI g 12 z a)) hx hb har (hKG.1.2.2.1.1 _ _) (fun q => by cases q) (by rw [arrV_size, hnat, i32_0, i32_lt hI (by decide)]; omega) ?_ rfl rfl d (kk (hR.2.2.2.2.2 z a) H locs ls hS hR hl)
  rw [hnat, arrV_read _ _ (by omega)]
  unfold aV
  rw [if_pos (by decide), Int.toNat_of_nonneg hz.1]
theorem g_aald (o : OkG X D C cc n rt lv g0 Q) {z : Int} (c : Nat) (N : Int) (hc : 13 ≤ c ∧ c ≤ 15) (hK : gK g a = c) (hN : (gL g a : Int) = N) (hz : 0 ≤ z ∧ z < N) (d : dc cc pc .aaload nx) (kk : V X (RelG D g) nx L G (va_rf (gR g c z a) :: st)) (hn : pc + 1 = nx := by rfl) : V X (RelG D g) pc L G (J z :: .ref a :: st) := by
  subst hn
  subst hN
  intro H locs ls hS hR hl
  have d := d.1
  rw [Nat.add_sub_cancel_left] at d
  obtain ⟨⟨⟨hx, hb⟩, hown, hts, -⟩, hKG, -⟩ := o
  obtain ⟨har, -, hl3⟩ := hR.arr hK (by omega)
  have hI : InR z := ⟨by omega, by omega⟩
  have hnat : (Int32.ofInt z).toNatClampNeg = z.toNat := i32_nat hI
  refine W.aald (v := va_rf (gR g c z a)) (ty := .object (elN c)) hx hb har ((hKG.1.2.2.2.1 c hc.1 hc.2).1 _ _) rfl (fun q => by cases q) (by rw [arrV_size, hnat, i32_0, i32_lt hI (by decide)]; omega) ?_ rfl rfl d (kk H locs ls hS hR hl)
  rw [hnat, arrV_read _ _ (by omega)]
  unfold aV
  rw [if_neg (by omega), Int.toNat_of_nonneg hz.1]
theorem g_aalds (o : OkG X D C cc n rt lv g0 Q) {z : Int} {b : Nat} (c : Nat) (N : Int) (hr : gR g c z a = some b) (hc : 13 ≤ c ∧ c ≤ 15) (hK : gK g a = c) (hN : (gL g a : Int) = N) (hz : 0 ≤ z ∧ z < N) (d : dc cc pc .aaload nx) (kk : V X (RelG D g) nx L G (.ref b :: st)) (hn : pc + 1 = nx := by rfl) : V X (RelG D g) pc L G (J z :: .ref a :: st) :=
  g_aald o c N hc hK hN hz d (by rw [hr]; exact kk) hn
theorem RelG.ast {H H' : Heap} (hR : RelG D g H) {c : Nat} (hK : gK g a = c) (hc : 8 < c) {g' : GSt} {z : Int} {v : Value} (hz : 0 ≤ z) (hZ : gZ g' = gZ g) (hKd : gK g' = gK g) (hL : gL g' = gL g) (hI : ∀ c k b, b ≠ a → gI g' c k b = gI g c k b) (hRr : ∀ c k b, b ≠ a → gR g' c k b = gR g c k b) (hrel : (∀ c k, InR (gI g' c k a)) ∧ (∀ (c k : Nat), fTy c k = 1 → gI g' c k a = 0 ∨ gI g' c k a = 1) ∧ (∀ k, -128 ≤ gI g' 12 k a ∧ gI g' 12 k a ≤ 127)) (hV : ∀ j : Nat, aV g' c j a = if j = z.toNat then v else aV g c j a)
    (e1 : H'[a]? = some ((arrV (dCl D c) (gL g a) (fun j => aV g c j a)).setSlot z.toNat v)) (e2 : H'.size = H.size) (e3 : ∀ q, q ≠ a → H'[q]? = H[q]?) : RelG D g' H' := by
  have h3 := (hR.arr hK hc).2.2
  rw [arrV_store] at e1
  refine hR.put hZ hKd hL hI hRr hrel.1 hrel.2.1 hrel.2.2 e2 e3 (fun _ => ⟨⟨_, e1, by rw [arrV_size]; exact h3⟩, fun q => by rw [hKd, hK] at q; omega, fun q => ?_⟩)
  rw [hKd, hK, hL, e1]
  congr 2
  funext j
  rw [hV j]
  rfl
theorem g_iast (o : OkG X D C cc n rt lv g0 Q) {z v : Int} (N : Int) (hK : gK g a = 11) (hN : (gL g a : Int) = N) (hz : 0 ≤ z ∧ z < N) (hv : InR v) (d : dc cc pc .iastore nx) (kk : V X (RelG D (uI g 11 z a v)) nx L G st) (hn : pc + 1 = nx := by rfl) : V X (RelG D g) pc L G (J v :: J z :: .ref a :: st) := by
  subst hn
  subst hN
  intro H locs ls hS hR hl
  have d := d.1
  rw [Nat.add_sub_cancel_left] at d
  obtain ⟨⟨⟨hx, hb⟩, hown, hts, -⟩, hKG, hA, -⟩ := o
  obtain ⟨har, hfr, hl3⟩ := hR.arr hK (by decide)
  have hI : InR z := ⟨by omega, by omega⟩
  have hnat : (Int32.ofInt z).toNatClampNeg = z.toNat := i32_nat hI
  refine W.iast hx hb har (hKG.1.2.1.1 _ _) (fun q => by cases q) (by rw [arrV_size, hnat, i32_0, i32_lt hI (by decide)]; omega) rfl rfl d fun H' e1 e2 e3 => ?_
  rw [hnat] at e1 ⊢
  refine WX.exact (kk H' _ ls (hS.put e2 e3 (by rw [hA]; exact hfr)) (hR.ast (g' := uI g 11 z a v) hK (by decide) hz.1 rfl rfl rfl (fun c' k' b hb => uI_off (fun q => hb q.2.2)) (fun _ _ _ _ => rfl) (uI_rel hv (fun k' _ q => by simp [fTy] at q) (fun q => by cases q) hR) (fun j => ?_) e1 e2 e3) hl)
  rw [aV_i (by decide), aV_i (by decide)]
  by_cases e : j = z.toNat
  · rw [if_pos e, show ((j : Nat) : Int) = z from by omega, uI_on]
    rfl
  · rw [if_neg e, uI_off (fun q => e (by omega))]
theorem nar_b {v : Int} (h : -128 ≤ v ∧ v ≤ 127) : narrow .byte (J v) = J v := by
  show Value.int (Int32.ofInt v).toInt8.toInt32 = _
  rw [i8_of h]
  rfl
theorem g_bast (o : OkG X D C cc n rt lv g0 Q) {z v : Int} (N : Int) (hK : gK g a = 12) (hN : (gL g a : Int) = N) (hz : 0 ≤ z ∧ z < N) (hv : -128 ≤ v ∧ v ≤ 127) (d : dc cc pc .bastore nx) (kk : V X (RelG D (uI g 12 z a v)) nx L G st) (hn : pc + 1 = nx := by rfl) : V X (RelG D g) pc L G (J v :: J z :: .ref a :: st) := by
  subst hn
  subst hN
  intro H locs ls hS hR hl
  have d := d.1
  rw [Nat.add_sub_cancel_left] at d
  obtain ⟨⟨⟨hx, hb⟩, hown, hts, -⟩, hKG, hA, -⟩ := o
  obtain ⟨har, hfr, hl3⟩ := hR.arr hK (by decide)
  have hI : InR z := ⟨by omega, by omega⟩
  have hnat : (Int32.ofInt z).toNatClampNeg = z.toNat := i32_nat hI
  refine W.bast hx hb har (hKG.1.2.2.1.1 _ _) (fun q => by cases q) (by rw [arrV_size, hnat, i32_0, i32_lt hI (by decide)]; omega) rfl rfl d fun H' e1 e2 e3 => ?_
  have e0 : narrow .byte (.int (Int32.ofInt v)) = J v := nar_b hv
  rw [hnat, e0] at e1
  rw [hnat]
  refine WX.exact (kk H' _ ls (hS.put e2 e3 (by rw [hA]; exact hfr)) (hR.ast (g' := uI g 12 z a v) hK (by decide) hz.1 rfl rfl rfl (fun c' k' b hb => uI_off (fun q => hb q.2.2)) (fun _ _ _ _ => rfl) (uI_rel ⟨by omega, by omega⟩ (fun k' _ q => by simp [fTy] at q) (fun _ => hv) hR) (fun j => ?_) e1 e2 e3) hl)
  rw [aV_i (by decide), aV_i (by decide)]
  by_cases e : j = z.toNat
  · rw [if_pos e, show ((j : Nat) : Int) = z from by omega, uI_on]
  · rw [if_neg e, uI_off (fun q => e (by omega))]
/-- the kind that an array of references holds -/
def elK (c : Nat) : Nat := match c with
  | 13 => 2
  | 14 => 3
  | _ => 4
theorem elK_ok : ∀ c, 13 ≤ c → c ≤ 15 → clN (elK c) = elN c ∧ 1 ≤ elK c ∧ elK c ≤ 8 := by
  intro c h1 h2
  rcases (show c = 13 ∨ c = 14 ∨ c = 15 from by omega) with rfl | rfl | rfl <;> exact ⟨rfl, by decide, by decide⟩
theorem g_aast (o : OkG X D C cc n rt lv g0 Q) {z : Int} {b : Nat} (c : Nat) (N : Int) (hc : 13 ≤ c ∧ c ≤ 15) (hK : gK g a = c) (hN : (gL g a : Int) = N) (hz : 0 ≤ z ∧ z < N) (hb2 : gK g b = elK c) (d : dc cc pc .aastore nx) (kk : V X (RelG D (uR g c z a (some b))) nx L G st) (hn : pc + 1 = nx := by rfl) : V X (RelG D g) pc L G (.ref b :: J z :: .ref a :: st) := by
  subst hn
  subst hN
  intro H locs ls hS hR hl
  have d := d.1
  rw [Nat.add_sub_cancel_left] at d
  obtain ⟨⟨⟨hx, hb⟩, hown, hts, -⟩, hKG, hA, -⟩ := o
  obtain ⟨har, hfr, hl3⟩ := hR.arr hK (by omega)
  have hek := elK_ok c hc.1 hc.2
  have hI : InR z := ⟨by omega, by omega⟩
  have hnat : (Int32.ofInt z).toNatClampNeg = z.toNat := i32_nat hI
  have hob := (hR.2.1 b (by rw [hb2]; omega)).2.2.2.1 (by rw [hb2]; exact hek.2.2)
  rw [hb2] at hob
  obtain ⟨cellV, v1, v2, v3, v4⟩ := hob
  have hcls := (hKG.1.1 (elK c) hek.2.1 hek.2.2).2
  rw [hek.1] at hcls
  obtain ⟨kA, comp, k1, k2, k3, -⟩ := (hKG.1.2.2.2.1 c hc.1 hc.2).2.1
  have hcomp : comp = dCl D (elK c) := Option.some.inj (k3.symm.trans hcls.1)
  subst hcomp
  obtain ⟨kC, hkC, -⟩ := hcls.2
  refine W.aast hx hb har (fun q h => by cases h) (fun h => by cases h) k1 k2 rfl hkC ⟨by rw [i32_0, i32_lt hI (by decide)]; omega, by rw [arrV_size, hnat]; omega⟩ v1 (fun q h => by rw [v3] at h; cases h) (by rw [v2]; exact hkC) (by rw [v2]; exact va_assign hcls) rfl rfl d fun H' e1 e2 e3 => ?_
  rw [hnat] at e1 ⊢
  refine WX.exact (kk H' _ ls (hS.put e2 e3 (by rw [hA]; exact hfr)) (hR.ast (g' := uR g c z a (some b)) hK (by omega) hz.1 rfl rfl rfl (fun _ _ _ _ => rfl) (fun c' k' b hb => uR_off (fun q => hb q.2.2)) ⟨fun c' k' => hR.2.2.2.1 c' k' a, fun c' k' q => hR.2.2.2.2.1 c' k' a q, fun k' => hR.2.2.2.2.2 k' a⟩ (fun j => ?_) e1 e2 e3) hl)
  rw [aV_r (by omega), aV_r (by omega)]
  by_cases e : j = z.toNat
  · rw [if_pos e, show ((j : Nat) : Int) = z from by omega, uR_on]
    rfl
  · rw [if_neg e, uR_off (fun q => e (by omega))]
theorem gnw_I {c m c' : Nat} {k : Int} {b : Nat} (h : b ≠ gZ g) : gI (gnw g c m) c' k b = gI g c' k b := if_neg h
theorem gnw_R {c m c' : Nat} {k : Int} {b : Nat} (h : b ≠ gZ g) : gR (gnw g c m) c' k b = gR g c' k b := if_neg h
theorem gnw_K {c m : Nat} {b : Nat} (h : b ≠ gZ g) : gK (gnw g c m) b = gK g b := if_neg h
theorem gnw_L {c m : Nat} {b : Nat} (h : b ≠ gZ g) : gL (gnw g c m) b = gL g b := if_neg h
theorem gnw_I0 {c m c' : Nat} {k : Int} : gI (gnw g c m) c' k (gZ g) = 0 := if_pos rfl
theorem gnw_R0 {c m c' : Nat} {k : Int} : gR (gnw g c m) c' k (gZ g) = none := if_pos rfl
theorem gnw_K0 {c m : Nat} : gK (gnw g c m) (gZ g) = c := if_pos rfl
theorem gnw_L0 {c m : Nat} : gL (gnw g c m) (gZ g) = m := if_pos rfl
/-- the heap has grown by one cell of ours -/
theorem RelG.new {H H' : Heap} (hR : RelG D g H) {c m : Nat} (hc0 : c ≠ 0) (hlo : ∀ q, dLo D ≤ q → ¬ dFr D q) (htp : gZ g + 1 ≤ dTp D) (z1 : H'.size = H.size + 1) (o1 : ∀ q, q < H.size → H'[q]? = H[q]?) (hcell : CellOk D (gnw g c m) (gZ g) H') : RelG D (gnw g c m) H' := by
  obtain ⟨h1, h2, h3, h4, h5, h6⟩ := hR
  have ek : ∀ b, b ≠ gZ g → gK (gnw g c m) b = gK g b := fun b hb => if_neg hb
  have ek0 : gK (gnw g c m) (gZ g) = c := if_pos rfl
  refine ⟨⟨by rw [z1, h1.1]; rfl, htp, by show dLo D ≤ gZ g + 1; omega⟩, fun b hb => ?_, fun b q1 q2 => ?_, fun c' k b => ?_, fun c' k b q => ?_, fun k b => ?_⟩
  · by_cases e : b = gZ g
    · subst e
      exact ⟨by show gZ g < gZ g + 1; omega, hlo _ h1.2.2, hcell⟩
    · rw [ek b e] at hb
      obtain ⟨q1, q2, ⟨cell, c1, c2⟩, c3, c4⟩ := h2 b hb
      have eo : H'[b]? = H[b]? := o1 b (by rw [h1.1]; exact q1)
      refine ⟨by show b < gZ g + 1; omega, q2, ⟨cell, by rw [eo]; exact c1, c2⟩, fun q => ?_, fun q => ?_⟩
      · rw [ek b e] at q ⊢
        refine t_OB.to ((c3 q).kept eo) (fun k _ => ?_)
        unfold gV
        rw [gnw_I e, gnw_R e]
      · rw [ek b e] at q ⊢
        rw [eo, c4 q, show gL (gnw g c m) b = gL g b from if_neg e]
        congr 2
        funext j
        unfold aV
        rw [gnw_I e, gnw_R e]
  · by_cases e : b = gZ g
    · subst e; rw [ek0]; exact hc0
    · rw [ek b e]
      exact h3 b q1 (by have : b < gZ g + 1 := q2; omega)
  · show InR (if b = gZ g then 0 else gI g c' k b)
    split
    · decide
    · exact h4 c' k b
  · show (if b = gZ g then 0 else gI g c' k b) = 0 ∨ (if b = gZ g then 0 else gI g c' k b) = 1
    split
    · exact Or.inl rfl
    · exact h5 c' k b q
  · show -128 ≤ (if b = gZ g then 0 else gI g 12 k b) ∧ (if b = gZ g then 0 else gI g 12 k b) ≤ 127
    split
    · decide
    · exact h6 k b
theorem g_room (o : OkG X D C cc n rt lv g0 Q) {H : Heap} (hR : RelG D g H) (hs : (Cx.s X).heap.size ≤ H.size) (htp : gZ g + 1 ≤ dTp D) : (H.size - (Cx.s X).heap.size) + 1 ≤ (Cx.R X).cells ∧ ∀ m, m ≤ 301 → slN (Cx.s X).heap.size H + m ≤ (Cx.R X).slots := by
  have h1 := o.2.2.2.2.1
  have h2 := o.2.2.2.2.2.2
  have h3 := hR.sl (b := (Cx.s X).heap.size) (by rw [h1.1]; exact h1.2)
  have h4 := hR.1.1
  rw [h2.1, h2.2]
  rw [h1.1] at hs h3 ⊢
  rw [h4] at hs h3 ⊢
  exact ⟨by omega, fun m hm => by omega⟩
theorem g_new (o : OkG X D C cc n rt lv g0 Q) {i : Nat} (c : Nat) (hc : 1 ≤ c ∧ c ≤ 8) (hcl : Cond.classLink C i (clN c) ∈ tbG) (hinst : Cond.instantiable (clN c) (nF c) ∈ tbG) (hini : Cond.initialized (clN c) ∈ tbG) (htp : gZ g + 1 ≤ dTp D) (d : dc cc pc (.new i) nx) (kk : V X (RelG D (gnw g c 0)) nx L G (.ref (gZ g) :: st)) (hn : pc + 3 = nx := by rfl) : V X (RelG D g) pc L G st := by
  subst hn
  intro H locs ls hS hR hl
  have d := d.1
  rw [Nat.add_sub_cancel_left] at d
  have hrm := g_room o hR hS.1 htp
  obtain ⟨⟨⟨hx, hb⟩, hown, hts, -⟩, hKG, hA, -⟩ := o
  have hnF : nF c ≤ 14 := by
    rcases (show c = 1 ∨ c = 2 ∨ c = 3 ∨ c = 4 ∨ c = 5 ∨ c = 6 ∨ c = 7 ∨ c = 8 from by omega) with rfl | rfl | rfl | rfl | rfl | rfl | rfl | rfl <;> decide
  have hKn := hKG.1.1 c hc.1 hc.2
  refine W.newc hx hb hown (hts _ hcl) (hts _ hinst) (hts _ hini) rfl d hrm.1 (hrm.2 _ (by omega)) fun cC kC f1 f2 f3 f4 => ?_
  cases hKn.2.1.symm.trans f1
  generalize hH1 : H.push ({ cls := dCl D c, slots := kC.instanceTypes.map defaultValue, vm := .none } : Cell) = H1
  have z1 : H1.size = H.size + 1 := by rw [← hH1, Array.size_push]
  have e1 : H1[H.size]? = some (blank (dCl D c) kC) := by rw [← hH1, Array.getElem?_push_size]; rfl
  have o1 : ∀ q : Nat, q < H.size → H1[q]? = H[q]? := fun q hq => by rw [← hH1, Array.getElem?_push, if_neg (Nat.ne_of_lt hq)]
  have hsz : H.size = gZ g := hR.1.1
  have hk0 : gK (gnw g c 0) (gZ g) = c := if_pos rfl
  rw [hsz] at e1 ⊢
  have hob := u_born (clY c) hts (cl_in c hc.1 hc.2) hKn f2 e1 (cl_ty c hc.1 hc.2)
  refine WX.exact (kk H1 locs ls ⟨Nat.le_trans hS.1 (by omega), fun x h1 h2 => (o1 x (Nat.lt_of_lt_of_le h1 hS.1)).trans (hS.2.1 x h1 h2), hS.2.2⟩ (hR.new (by omega) hKG.1.2.2.2.2.2.2 htp z1 o1 ⟨⟨_, e1, ?_⟩, fun q => ?_, fun q => ?_⟩) hl)
  · show (kC.instanceTypes.map defaultValue).size ≤ 301
    rw [Array.size_map, f4]; omega
  · rw [hk0] at q ⊢
    refine hob.to (fun k hk => ?_)
    unfold gV
    rw [show gI (gnw g c 0) c k (gZ g) = 0 from if_pos rfl, show gR (gnw g c 0) c k (gZ g) = none from if_pos rfl]
    have h3 : fTy c k = 0 ∨ fTy c k = 1 ∨ fTy c k = 2 := by unfold fTy; split <;> decide
    rcases h3 with h | h | h
    · rw [if_neg (by rw [h]; decide), ty_i c hc.1 hc.2 k hk h]; rfl
    · rw [if_neg (by rw [h]; decide), ty_z c hc.1 hc.2 k hk h]; rfl
    · rw [if_pos h]
      have := (ty_r c hc.1 hc.2 k hk h).2.2
      generalize clY c k = ty at this ⊢
      cases ty <;> first | rfl | cases this
  · rw [hk0] at q; omega
theorem g_newp (o : OkG X D C cc n rt lv g0 Q) {z : Int} {atype : ArrayType} (c m : Nat) (hc : (c = 11 ∧ newarray.typeOf atype = .int) ∨ (c = 12 ∧ newarray.typeOf atype = .byte)) (hz : z = (m : Int)) (hm : m ≤ 301) (har : Cond.arrayClass (newarray.typeOf atype) ∈ tbG) (htp : gZ g + 1 ≤ dTp D) (d : dc cc pc (.newarray atype) nx) (kk : V X (RelG D (gnw g c m)) nx L G (.ref (gZ g) :: st)) (hn : pc + 2 = nx := by rfl) : V X (RelG D g) pc L G (J z :: st) := by
  subst hn
  subst hz
  intro H locs ls hS hR hl
  have d := d.1
  rw [Nat.add_sub_cancel_left] at d
  have hrm := g_room o hR hS.1 htp
  obtain ⟨⟨⟨hx, hb⟩, hown, hts, -⟩, hKG, hA, -⟩ := o
  have hI : InR (m : Int) := ⟨by omega, by omega⟩
  have hnat : (Int32.ofInt (m : Int)).toNatClampNeg = m := by rw [i32_nat hI]; omega
  have hcb : componentBytes (newarray.typeOf atype) ≤ 8 := by rcases hc with ⟨-, h⟩ | ⟨-, h⟩ <;> rw [h] <;> decide
  refine va_newaK hx hb (hts _ har) rfl d rfl (by rw [i32_0, i32_lt hI (by decide)]; omega) hnat (Nat.le_trans (Nat.mul_le_mul hm hcb) (by decide)) hrm.1 (hrm.2 _ hm) rfl fun H1 cA e1 z1 o1 hAr hNm => ?_
  have hsz : H.size = gZ g := hR.1.1
  have hcA : cA = dCl D c := by
    rcases hc with ⟨rfl, h⟩ | ⟨rfl, h⟩
    · rw [h] at hNm
      exact Option.some.inj (hNm.symm.trans hKG.1.2.1.2)
    · rw [h] at hNm
      exact Option.some.inj (hNm.symm.trans hKG.1.2.2.1.2)
  subst hcA
  have hdv : defaultValue (newarray.typeOf atype) = J 0 := by rcases hc with ⟨-, h⟩ | ⟨-, h⟩ <;> rw [h] <;> rfl
  have hc12 : 8 < c ∧ c ≤ 12 := by omega
  have hk0 : gK (gnw g c m) (gZ g) = c := gnw_K0
  rw [hsz] at e1 ⊢
  refine WX.exact (kk H1 locs ls ⟨Nat.le_trans hS.1 (by omega), fun x h1 h2 => (o1 x (Nat.lt_of_lt_of_le h1 hS.1)).trans (hS.2.1 x h1 h2), hS.2.2⟩ (hR.new (by omega) hKG.1.2.2.2.2.2.2 htp (by omega) o1 ⟨⟨_, e1, by rw [arrV_size]; exact hm⟩, fun q => by rw [hk0] at q; omega, fun q => ?_⟩) hl)
  rw [hk0, gnw_L0, e1, hdv]
  congr 2
  funext j
  rw [aV_i hc12.2, gnw_I0]
theorem g_anew (o : OkG X D C cc n rt lv g0 Q) {z : Int} {i : Nat} (c m : Nat) (hc : 13 ≤ c ∧ c ≤ 15) (hz : z = (m : Int)) (hm : m ≤ 301) (hcl : Cond.classLink C i (elN c) ∈ tbG) (htp : gZ g + 1 ≤ dTp D) (d : dc cc pc (.anewarray i) nx) (kk : V X (RelG D (gnw g c m)) nx L G (.ref (gZ g) :: st)) (hn : pc + 3 = nx := by rfl) : V X (RelG D g) pc L G (J z :: st) := by
  subst hn
  subst hz
  intro H locs ls hS hR hl
  have d := d.1
  rw [Nat.add_sub_cancel_left] at d
  have hrm := g_room o hR hS.1 htp
  obtain ⟨⟨⟨hx, hb⟩, hown, hts, -⟩, hKG, hA, -⟩ := o
  have hI : InR (m : Int) := ⟨by omega, by omega⟩
  have hnat : (Int32.ofInt (m : Int)).toNatClampNeg = m := by rw [i32_nat hI]; omega
  have hcc := hKG.1.2.2.2.1 c hc.1 hc.2
  refine W.anew hx hb hown (hts _ hcl) (va_AO.use hcc.2.2) rfl d rfl (by rw [i32_0, i32_lt hI (by decide)]; omega) (by rw [hnat]; omega) hrm.1 (by rw [hnat]; exact hrm.2 _ hm) fun cA kA comp f1 f2 f3 f4 => ?_
  rw [hnat]
  generalize hH1 : H.push ({ cls := cA, slots := Array.replicate m .null, vm := .none } : Cell) = H1
  have z1 : H1.size = H.size + 1 := by rw [← hH1, Array.size_push]
  have e1 : H1[H.size]? = some (arrV cA m (fun _ => .null)) := by rw [← hH1, Array.getElem?_push_size, ← arrV_new]
  have o1 : ∀ q : Nat, q < H.size → H1[q]? = H[q]? := fun q hq => by rw [← hH1, Array.getElem?_push, if_neg (Nat.ne_of_lt hq)]
  have hsz : H.size = gZ g := hR.1.1
  have hcA : cA = dCl D c := by
    obtain ⟨kA', comp', k1, k2, k3, k4⟩ := hcc.2.1
    exact Option.some.inj (f1.symm.trans k4)
  subst hcA
  have hk0 : gK (gnw g c m) (gZ g) = c := gnw_K0
  rw [hsz] at e1 ⊢
  refine WX.exact (kk H1 locs ls ⟨Nat.le_trans hS.1 (by omega), fun x h1 h2 => (o1 x (Nat.lt_of_lt_of_le h1 hS.1)).trans (hS.2.1 x h1 h2), hS.2.2⟩ (hR.new (by omega) hKG.1.2.2.2.2.2.2 htp z1 o1 ⟨⟨_, e1, by rw [arrV_size]; exact hm⟩, fun q => by rw [hk0] at q; omega, fun q => ?_⟩) hl)
  rw [hk0, gnw_L0, e1]
  congr 2
  funext j
  rw [aV_r (by omega), gnw_R0]
  rfl
/-- a constant of State, of Kind -/
theorem g_getQ (o : OkG X D C cc n rt lv g0 Q) {i : Nat} {Rl : Heap → Prop} (j : Nat) (hj : 1 ≤ j ∧ j ≤ 4) (hf : Cond.fieldLink C i "NestedStore$State" (qNm j) "LNestedStore$State;" ∈ tbG) (d : dc cc pc (.getstatic i) nx) (kk : V X Rl nx L G (.ref (dQ D j) :: st)) (hn : pc + 3 = nx := by rfl) : V X Rl pc L G st := by
  subst hn
  intro H locs ls hS hR hl
  have d := d.1
  rw [Nat.add_sub_cancel_left] at d
  obtain ⟨⟨⟨hx, hb⟩, hown, hts, -⟩, hKG, hA, -⟩ := o
  have hS' := hS
  rw [hA] at hS'
  exact va_gets hx hb (hKG.2.1 j hj.1 hj.2).1 hS' hown (hts _ hf) (fun _ h => h) d (kk H locs ls hS hR hl)
theorem g_getK (o : OkG X D C cc n rt lv g0 Q) {i : Nat} {Rl : Heap → Prop} (j : Nat) (hj : 1 ≤ j ∧ j ≤ 5) (hf : Cond.fieldLink C i "NestedStore$Kind" (kNm j) "LNestedStore$Kind;" ∈ tbG) (d : dc cc pc (.getstatic i) nx) (kk : V X Rl nx L G (.ref (dKd D j) :: st)) (hn : pc + 3 = nx := by rfl) : V X Rl pc L G st := by
  subst hn
  intro H locs ls hS hR hl
  have d := d.1
  rw [Nat.add_sub_cancel_left] at d
  obtain ⟨⟨⟨hx, hb⟩, hown, hts, -⟩, hKG, hA, -⟩ := o
  have hS' := hS
  rw [hA] at hS'
  exact va_gets hx hb (hKG.2.2.1 j hj.1 hj.2).1 hS' hown (hts _ hf) (fun _ h => h) d (kk H locs ls hS hR hl)
/-- System.arraycopy of four ints -/
theorem g_copy4 (o : OkG X D C cc n rt lv g0 Q) {i b : Nat} (hKa : gK g a = 11) (hKb : gK g b = 11) (hLa : gL g a = 4) (hLb : gL g b = 4) (hlk : Cond.methodLink C i arraycopyName ∈ tbG) (hnat : Cond.native arraycopyName ∈ tbG) (hstat : Cond.static arraycopyName ∈ tbG) (hini : Cond.initialized "java/lang/System" ∈ tbG) (hlv : 1 ≤ lv) (hst : st = []) (d : dc cc pc (.invokestatic i) nx) (kk : V X (RelG D (uI (uI (uI (uI g 11 0 b (gI g 11 0 a)) 11 1 b (gI g 11 1 a)) 11 2 b (gI g 11 2 a)) 11 3 b (gI g 11 3 a))) nx L G st) (hn : pc + 3 = nx := by rfl) : V X (RelG D g) pc L G (J 4 :: J 0 :: .ref b :: J 0 :: .ref a :: st) := by
  subst hn
  subst hst
  intro H locs ls hS hR hl
  have d := d.1
  rw [Nat.add_sub_cancel_left] at d
  obtain ⟨⟨⟨hx, hb⟩, hown, hts, hml, hlk0, hrt, hfr, hlo⟩, hKG, hA, hQ, hsz0, hnL, -⟩ := o
  obtain ⟨ha1, ha2, -⟩ := hR.arr hKa (by decide)
  obtain ⟨hb1, hb2, -⟩ := hR.arr hKb (by decide)
  rw [hLa] at ha1
  rw [hLb] at hb1
  have eA : ∀ j : Nat, aV g 11 j a = J (gI g 11 j a) := fun j => aV_i (by decide)
  have hnw : nativeFrameWords "java/lang/System" "arraycopy" 5 ≤ 20 := by decide +kernel
  intro T hT Y
  obtain ⟨-, k0, hk0, cm0, hkk0⟩ := hKG.1.2.1.1 4 (fun j => aV g 11 j a)
  obtain ⟨-, k1, hk1, cm1, hkk1⟩ := hKG.1.2.1.1 4 (fun j => aV g 11 j b)
  obtain ⟨vm', Y', step⟩ := Y.arraycopy hx hown (hts _ hlk) (hts _ hnat) (hts _ hstat) (hts _ hini) (src := a) (dst := b) (cs := arrV (dCl D 11) 4 (fun j => aV g 11 j a)) (cd := arrV (dCl D 11) 4 (fun j => aV g 11 j b)) (srcPos := 0) (destPos := 0) (n := 4) (by rw [hT]; exact ha1) (by rw [hT]; exact hb1)
    (fun _ h => by cases h) (fun _ h => by cases h) (fun h => by cases h) (fun h => by cases h) hk0 hk1 hkk0 hkk1 (by simp [refKind]) (by decide) (by decide) (by decide)
    (by rw [arrV_size]; decide) (by rw [arrV_size]; decide)
    (fun vm₁ _ i hi => by
      have hi4 : i < 4 := hi
      have e : (arrV (dCl D 11) 4 (fun j => aV g 11 j a)).slots.getD ((0 : Int32).toNatClampNeg + i) .null = J (gI g 11 (i : Nat) a) := by
        rw [Array.getD_eq_getD_getElem?, show (0 : Int32).toNatClampNeg + i = i from Nat.zero_add i, arrV_read _ _ hi4, eA]
        rfl
      refine ⟨?_, ?_⟩
      · rw [e]; rfl
      · rw [e]; exact trivial)
    (g := F0 (Cx.m X) pc ls (J 4 :: J 0 :: .ref b :: J 0 :: .ref a :: [])) rfl (by rw [hl.1.1]; exact hml.symm) (rest := []) rfl (by rw [hb]; exact d) (by omega) (by show 2 * 0 + 0 + (nativeFrameWords "java/lang/System" "arraycopy" 5 + 11) ≤ _; omega)
  generalize hcp : copied (arrV (dCl D 11) 4 (fun j => aV g 11 j a)) (arrV (dCl D 11) 4 (fun j => aV g 11 j b)) 0 0 4 = cp at Y' step
  have ecp : cp = arrV (dCl D 11) 4 (fun j => J (if j < 4 then gI g 11 (j : Nat) a else gI g 11 (j : Nat) b)) := by
    have h := va_copied (n0 := 4) (n1 := 4) (sp := 0) (dp := 0) (n := 4) (fun z => .int z) (dCl D 11) (dCl D 11) (fun j => Int32.ofInt (gI g 11 (j : Nat) a)) (fun j => Int32.ofInt (gI g 11 (j : Nat) b)) (by decide)
    have e1 : (fun j => aV g 11 j a) = (fun j : Nat => Value.int (Int32.ofInt (gI g 11 (j : Nat) a))) := funext fun j => eA j
    have e2 : (fun j => aV g 11 j b) = (fun j : Nat => Value.int (Int32.ofInt (gI g 11 (j : Nat) b))) := funext fun j => aV_i (by decide)
    rw [← hcp, e1, e2]
    refine h.trans ?_
    congr 1
    funext j
    show Value.int (va_cpy _ _ _ _ _ j) = J _
    unfold va_cpy
    have z0 : (0 : Int32).toNatClampNeg = 0 := rfl
    have z4 : (4 : Int32).toNatClampNeg = 4 := rfl
    by_cases hj : j < 4
    · rw [if_pos ⟨Nat.zero_le _, by omega⟩, if_pos hj, show 0 + (j - 0) = j from by omega]
      rfl
    · rw [if_neg (by omega), if_neg hj]
      rfl
  have hlb : b < H.size := (Array.getElem?_eq_some_iff.mp hb1).1
  have hheap : ((T.setVm vm').setCell b cp).heap = H.setIfInBounds b cp := by rw [← hT]; rfl
  have oq : ∀ q : Nat, q ≠ b → (H.setIfInBounds b cp)[q]? = H[q]? := fun q hq => by simp [Array.getElem?_setIfInBounds, Ne.symm hq]
  have eb : (H.setIfInBounds b cp)[b]? = some cp := by simp [Array.getElem?_setIfInBounds, hlb]
  have esz : (H.setIfInBounds b cp).size = H.size := by simp
  generalize hg' : uI (uI (uI (uI g 11 0 b (gI g 11 0 a)) 11 1 b (gI g 11 1 a)) 11 2 b (gI g 11 2 a)) 11 3 b (gI g 11 3 a) = g' at kk
  have gv : ∀ c' k' b', gI g' c' k' b' = if c' = 11 ∧ b' = b ∧ 0 ≤ k' ∧ k' ≤ 3 then gI g 11 k' a else gI g c' k' b' := by
    intro c' k' b'
    rw [← hg']
    show (if c' = 11 ∧ k' = 3 ∧ b' = b then _ else if c' = 11 ∧ k' = 2 ∧ b' = b then _ else if c' = 11 ∧ k' = 1 ∧ b' = b then _ else if c' = 11 ∧ k' = 0 ∧ b' = b then _ else gI g c' k' b') = _
    by_cases h3 : c' = 11 ∧ k' = 3 ∧ b' = b
    · rw [if_pos h3, if_pos ⟨h3.1, h3.2.2, by omega, by omega⟩, h3.2.1]
    · rw [if_neg h3]
      by_cases h2 : c' = 11 ∧ k' = 2 ∧ b' = b
      · rw [if_pos h2, if_pos ⟨h2.1, h2.2.2, by omega, by omega⟩, h2.2.1]
      · rw [if_neg h2]
        by_cases h1 : c' = 11 ∧ k' = 1 ∧ b' = b
        · rw [if_pos h1, if_pos ⟨h1.1, h1.2.2, by omega, by omega⟩, h1.2.1]
        · rw [if_neg h1]
          by_cases h0 : c' = 11 ∧ k' = 0 ∧ b' = b
          · rw [if_pos h0, if_pos ⟨h0.1, h0.2.2, by omega, by omega⟩, h0.2.1]
          · rw [if_neg h0, if_neg (fun q => by omega)]
  have hR' : RelG D g' (H.setIfInBounds b cp) := by
    refine hR.put (a := b) (by rw [← hg']; rfl) (by rw [← hg']; rfl) (by rw [← hg']; rfl) (fun c' k' b' h => by rw [gv, if_neg (fun q => h q.2.1)]) (fun c' k' b' h => by rw [← hg']; rfl) (fun c' k' => ?_) (fun c' k' q => ?_) (fun k' => ?_) esz oq (fun _ => ⟨⟨cp, eb, by rw [ecp, arrV_size]; decide⟩, fun q => ?_, fun q => ?_⟩)
    · rw [gv]; split
      · exact hR.2.2.2.1 _ _ _
      · exact hR.2.2.2.1 _ _ _
    · rw [gv, if_neg (fun h => by rw [h.1] at q; simp [fTy] at q)]
      exact hR.2.2.2.2.1 c' k' b q
    · rw [gv, if_neg (fun h => by cases h.1)]
      exact hR.2.2.2.2.2 k' b
    · rw [show gK g' = gK g from by rw [← hg']; rfl, hKb] at q
      omega
    · rw [show gK g' = gK g from by rw [← hg']; rfl, show gL g' = gL g from by rw [← hg']; rfl, hKb, hLb, eb, ecp]
      congr 2
      funext j
      rw [aV_i (by decide), gv]
      by_cases hj : j < 4
      · rw [if_pos hj, if_pos ⟨rfl, rfl, by omega, by omega⟩]
      · rw [if_neg hj, if_neg (fun q => by omega)]
  have hA' : dA D b := hb2
  obtain ⟨t, a1, b1⟩ := WX.exact (kk (H.setIfInBounds b cp) _ ls ⟨by rw [esz]; exact hS.1, fun q g1 g2 => by
      rw [oq q (fun e => g2 (by rw [e, hA]; exact hb2))]
      exact hS.2.1 q g1 g2, fun q hq => by
      rcases List.mem_append.mp hq with h | h
      · exact hS.2.2 q h
      · obtain ⟨z, -, hz⟩ := List.mem_map.mp h
        rw [← hz, hA]
        exact hA'⟩ hR' hl) _ hheap Y'
  exact ⟨t, step t a1, b1⟩

/-! ends -/
theorem g_end (o : OkG X D C cc n rt lv g0 Q) {H : Heap} {locs : List Loc} (hS : va_S (Cx.A X) (Cx.s X).heap H locs) (hR : RelG D g H) : (H.size - (Cx.s X).heap.size) ≤ dTp D - gZ g0 ∧ slN (Cx.s X).heap.size H ≤ 301 * (dTp D - gZ g0) := by
  have h1 := o.2.2.2.2.1
  have h3 := hR.sl (b := (Cx.s X).heap.size) (by rw [h1.1]; exact h1.2)
  have h4 := hR.1.1
  have h5 := hR.1.2.1
  have hs := hS.1
  rw [h1.1] at hs h3 ⊢
  rw [h4] at hs h3 ⊢
  exact ⟨by omega, by omega⟩
theorem g_iret (o : OkG X D C cc n (some .int) lv g0 Q) {z : Int} (d : dc cc pc .ireturn nx) (hq : Q (some (J z)) g) (hn : pc + 1 = nx := by rfl) : V X (RelG D g) pc L G [J z] := by
  subst hn
  intro H locs ls hS hR hl
  have d := d.1
  rw [Nat.add_sub_cancel_left] at d
  have he := g_end o hS hR
  obtain ⟨⟨⟨hx, hb⟩, hown, hts, hml, hlk, hr, -⟩, hK, hA, hQ, -⟩ := o
  rw [hA] at hS
  unfold WX
  rw [hQ]
  exact W.widen he.1 he.2 (W.iret hx hb hr (fun t ht _ => ⟨⟨_, g, rfl, hq, by rw [ht]; exact hR⟩, hS.F ht⟩) hS.2.2 d hlk)
theorem g_zret (o : OkG X D C cc n (some .boolean) lv g0 Q) {z : Int} (hz : z = 0 ∨ z = 1) (d : dc cc pc .ireturn nx) (hq : Q (some (J z)) g) (hn : pc + 1 = nx := by rfl) : V X (RelG D g) pc L G [J z] := by
  subst hn
  intro H locs ls hS hR hl
  have d := d.1
  rw [Nat.add_sub_cancel_left] at d
  have he := g_end o hS hR
  obtain ⟨⟨⟨hx, hb⟩, hown, hts, hml, hlk, hr, -⟩, hK, hA, hQ, -⟩ := o
  rw [hA] at hS
  unfold WX
  rw [hQ]
  exact W.widen he.1 he.2 (W.zret hx hb hr (nar_z hz) (fun t ht _ => ⟨⟨_, g, rfl, hq, by rw [ht]; exact hR⟩, hS.F ht⟩) hS.2.2 d hlk)
theorem g_vret (o : OkG X D C cc n none lv g0 Q) (d : dc cc pc .return_ nx) (hq : Q none g) (hn : pc + 1 = nx := by rfl) : V X (RelG D g) pc L G [] := by
  subst hn
  intro H locs ls hS hR hl
  have d := d.1
  rw [Nat.add_sub_cancel_left] at d
  have he := g_end o hS hR
  obtain ⟨⟨⟨hx, hb⟩, hown, hts, hml, hlk, hr, -⟩, hK, hA, hQ, -⟩ := o
  rw [hA] at hS
  unfold WX
  rw [hQ]
  exact W.widen he.1 he.2 (W.vret hx hb hr (fun t ht _ => ⟨⟨_, g, rfl, hq, by rw [ht]; exact hR⟩, hS.F ht⟩) hS.2.2 d hlk)
theorem g_aret {E : String} (o : OkG X D C cc n (some (.object E)) lv g0 Q) {r : Option Nat} (d : dc cc pc .areturn nx) (hq : Q (some (va_rf r)) g) (hn : pc + 1 = nx := by rfl) : V X (RelG D g) pc L G [va_rf r] := by
  subst hn
  intro H locs ls hS hR hl
  have d := d.1
  rw [Nat.add_sub_cancel_left] at d
  have he := g_end o hS hR
  obtain ⟨⟨⟨hx, hb⟩, hown, hts, hml, hlk, hr, -⟩, hK, hA, hQ, -⟩ := o
  rw [hA] at hS
  unfold WX
  rw [hQ]
  exact W.widen he.1 he.2 (W.aret hx hb hr (Or.inl ⟨_, rfl⟩) (by cases r with
    | none => exact Or.inl rfl
    | some b => exact Or.inr ⟨b, rfl⟩) (fun t ht _ => ⟨⟨_, g, rfl, hq, by rw [ht]; exact hR⟩, hS.F ht⟩) hS.2.2 d hlk)
theorem g_lret (o : OkG X D C cc n (some .long) lv g0 Q) {w : Int64} (d : dc cc pc .lreturn nx) (hq : Q (some (.long w)) g) (hn : pc + 1 = nx := by rfl) : V X (RelG D g) pc L G [.long w] := by
  subst hn
  intro H locs ls hS hR hl
  have d := d.1
  rw [Nat.add_sub_cancel_left] at d
  have he := g_end o hS hR
  obtain ⟨⟨⟨hx, hb⟩, hown, hts, hml, hlk, hr, -⟩, hK, hA, hQ, -⟩ := o
  rw [hA] at hS
  unfold WX
  rw [hQ]
  exact W.widen he.1 he.2 (W.lret hx hb hr (fun t ht _ => ⟨⟨_, g, rfl, hq, by rw [ht]; exact hR⟩, hS.F ht⟩) hS.2.2 d hlk)
/-! calls -/
theorem g_pre (o : OkG X D C cc n rt lv g0 Q) {H : Heap} {locs : List Loc} {av : List Value} (hS : va_S (Cx.A X) (Cx.s X).heap H locs) (hR : RelG D g H) : FrameBlind (va_Pc av (fun U => RelG D g U.heap ∧ KG D U)) ∧ ∀ U : State, U.heap = H → (Cx.s X).WarmedH U.vm → va_Pc av (fun U => RelG D g U.heap ∧ KG D U) av.toArray U := by
  have hA := o.2.2.1
  refine ⟨fun v U gf mk q => ?_, fun U hU hW => ⟨rfl, by rw [hU]; exact hR, KGt.warm hW o.2.1.1, ?_⟩⟩
  · obtain ⟨q0, q1, q2, q3⟩ := q
    exact ⟨q0, q1, KGt.warm (s := U) (U := U.calling gf mk v) (State.WarmedH.refl U) q2, ConG.moved (Vm.Alike.refl U.vm) (fun _ _ _ => rfl) q3⟩
  · refine ConG.moved hW.alike (fun b h1 h2 => ?_) o.2.1.2
    rw [hU]
    exact hS.2.1 b h1 (by rw [hA]; exact h2)
theorem g_fit (o : OkG X D C cc n rt lv g0 Q) {H : Heap} {locs : List Loc} (hS : va_S (Cx.A X) (Cx.s X).heap H locs) (hR : RelG D g H) : (H.size - (Cx.s X).heap.size) + (dTp D - gZ g) ≤ (Cx.R X).cells ∧ slN (Cx.s X).heap.size H + 301 * (dTp D - gZ g) ≤ (Cx.R X).slots := by
  have h1 := o.2.2.2.2.1
  have h2 := o.2.2.2.2.2.2
  have h3 := hR.sl (b := (Cx.s X).heap.size) (by rw [h1.1]; exact h1.2)
  have h4 := hR.1.1
  have h5 := hR.1.2.1
  have hs := hS.1
  rw [h2.1, h2.2]
  rw [h1.1] at hs h3 ⊢
  rw [h4] at hs h3 ⊢
  exact ⟨by omega, by omega⟩
theorem g_after (o : OkG X D C cc n rt lv g0 Q) {Q' : Option Value → GSt → Prop} {st0 : List Value} {av : Array Value} {mc ms : Nat} (hrun : ∀ (H : Heap) (locs : List Loc) (ls : Array Slot), va_S (Cx.A X) (Cx.s X).heap H locs → RelG D g H → lok ls (Cx.nL X) L G → va_Run (Cx.p X) (Cx.l X) (Cx.e X) (Cx.R X) (Cx.s X) (Cx.m X) (Cx.args X) (Cx.below X) (Cx.meth X) (Cx.c X) H locs (H.size - (Cx.s X).heap.size) (slN (Cx.s X).heap.size H) mc ms (F0 (Cx.m X) pc ls st0) st (QG D Q' av) (dA D))
    (kk : ∀ r g1, Q' r g1 → V X (RelG D g1) (pc + 3) L G (r.toList ++ st)) : V X (RelG D g) pc L G st0 := by
  intro H locs ls hS hR hl
  have hA := o.2.2.1
  intro T hT Y
  obtain ⟨v, st₀, t, T', Ls, h0, Y', hL, e1, e2, ⟨⟨r, g1, hv, hp, hb'⟩, hz, hkk⟩, stp⟩ := hrun H locs ls hS hR hl T hT Y
  cases hv
  rw [h0] at hz hkk
  rw [hA] at hS
  have hS' : va_S (dA D) (Cx.s X).heap T'.heap (locs ++ Ls) := ⟨Nat.le_trans hS.1 (by rw [e1]; exact hz), fun q h1 h2 => by rw [e1, hkk q (Nat.lt_of_lt_of_le h1 hS.1) h2]; exact hS.2.1 q h1 h2, fun q hq => by
      rcases List.mem_append.mp hq with h | h
      · exact hS.2.2 q h
      · exact hL q h⟩
  obtain ⟨t2, a1, b1⟩ := WX.exact (kk _ g1 hp T'.heap (locs ++ Ls) ls (by rw [hA]; exact hS') (by rw [e1]; exact hb') hl) T' rfl Y'
  exact ⟨t2, stp t2 a1, b1⟩
theorem g_after5 (o : OkG X D C cc n rt lv g0 Q) {Q' : Option Value → GSt → Prop} {st0 : List Value} {av : Array Value} {mc ms : Nat} (hrun : ∀ (H : Heap) (locs : List Loc) (ls : Array Slot), va_S (Cx.A X) (Cx.s X).heap H locs → RelG D g H → lok ls (Cx.nL X) L G → va_Run5 (Cx.p X) (Cx.l X) (Cx.e X) (Cx.R X) (Cx.s X) (Cx.m X) (Cx.args X) (Cx.below X) (Cx.meth X) (Cx.c X) H locs (H.size - (Cx.s X).heap.size) (slN (Cx.s X).heap.size H) mc ms (F0 (Cx.m X) pc ls st0) st (QG D Q' av) (dA D))
    (kk : ∀ r g1, Q' r g1 → V X (RelG D g1) (pc + 5) L G (r.toList ++ st)) : V X (RelG D g) pc L G st0 := by
  intro H locs ls hS hR hl
  have hA := o.2.2.1
  intro T hT Y
  obtain ⟨v, st₀, t, T', Ls, h0, Y', hL, e1, e2, ⟨⟨r, g1, hv, hp, hb'⟩, hz, hkk⟩, stp⟩ := hrun H locs ls hS hR hl T hT Y
  cases hv
  rw [h0] at hz hkk
  rw [hA] at hS
  have hS' : va_S (dA D) (Cx.s X).heap T'.heap (locs ++ Ls) := ⟨Nat.le_trans hS.1 (by rw [e1]; exact hz), fun q h1 h2 => by rw [e1, hkk q (Nat.lt_of_lt_of_le h1 hS.1) h2]; exact hS.2.1 q h1 h2, fun q hq => by
      rcases List.mem_append.mp hq with h | h
      · exact hS.2.2 q h
      · exact hL q h⟩
  obtain ⟨t2, a1, b1⟩ := WX.exact (kk _ g1 hp T'.heap (locs ++ Ls) ls (by rw [hA]; exact hS') (by rw [e1]; exact hb') hl) T' rfl Y'
  exact ⟨t2, stp t2 a1, b1⟩
theorem g_recv (o : OkG X D C cc n rt lv g0 Q) {H : Heap} (hR : RelG D g H) {c b : Nat} (hc : 1 ≤ c ∧ c ≤ 8) (hK : gK g b = c) : ∃ cellB : Cell, H[b]? = some cellB ∧ cellB.vm.isStatics = false ∧ (Cx.s X).vm.findClass (clN c) = some cellB.cls := by
  have hob := (hR.2.1 b (by rw [hK]; omega)).2.2.2.1 (by rw [hK]; exact hc.2)
  rw [hK] at hob
  obtain ⟨cell, g1, g2, g3, -⟩ := hob
  exact ⟨cell, g1, by rw [g3]; rfl, by rw [g2]; exact (o.2.1.1.1 c hc.1 hc.2).2.1⟩
theorem good_v {C C' : String} {i : Nat} {y' : MethodName} {b' : ByteArray} {n' na : Nat} {rt' : Option FieldType} (q : MOk C' y' b' n' rt' na) (hlk : Cond.methodLink C i y' ∈ tbG) : GoodIn tbG (wsV C i C' y' (wsOf y' b' n' rt')) := by
  obtain ⟨q1, q2, q3, q4, q5, q6⟩ := q
  intro w hw
  rcases List.mem_append.mp hw with hw | hw
  · have : w ∈ tbG := by
      simp only [List.mem_cons, List.not_mem_nil, or_false] at hw
      rcases hw with rfl | rfl | rfl | rfl
      · exact hlk
      · exact q2
      · exact q3
      · exact q4
    exact ⟨this, tb_good _ this⟩
  · exact tbl_good q1 w hw
/-- invokevirtual, by a plain link -/
theorem g_cV (o : OkG X D C cc n rt lv g0 Q) {y' : MethodName} {b' : ByteArray} {n' na i lv' b : Nat} {rt' : Option FieldType} {av : List Value} {Q' : Option Value → GSt → Prop} {st0 : List Value} (c : Nat) (hc : 1 ≤ c ∧ c ≤ 8) (hK : gK g b = c) (hcon : GCon D y' (wsOf y' b' n' rt') lv' (.ref b :: av) g Q') (q : MOk (clN c) y' b' n' rt' na) (hlk : Cond.methodLink C i y' ∈ tbG) (d : dc cc pc (.invokevirtual i) nx) (hlv : lv' < lv) (hst : st0 = av.reverse ++ .ref b :: st) (hcat : (st.map fun v => v.category).sum ≤ 8) (hna : av.length = na)
    (kk : ∀ r g1, Q' r g1 → V X (RelG D g1) nx L G (r.toList ++ st)) (hn : pc + 3 = nx := by rfl) : V X (RelG D g) pc L G st0 := by
  subst hn
  have d := d.1
  rw [Nat.add_sub_cancel_left] at d
  refine g_after (av := (Value.ref b :: av).toArray) (mc := dTp D - gZ g) (ms := 301 * (dTp D - gZ g)) o (fun H locs ls hS hR hl => ?_) kk
  have hfit := g_fit o hS hR
  have hpre := g_pre (av := .ref b :: av) o hS hR
  have hrec := g_recv o hR hc hK
  obtain ⟨⟨⟨hx, hb⟩, hown, hts, hml, hlk1, hr, hfr, hlo⟩, -⟩ := o
  have q6 := q.2.2.2.2.2
  exact va_runV (As := av) (rest := st) (b := b) ⟨hx, hb, hml, hown, hts⟩ (hcon (Cx.l X)) (cwV (R := Cx.R X) na hts (good_v q hlk) rfl rfl rfl q.2.2.2.2.1 ⟨by show lv' + 1 ≤ _; omega, by show 8 + (n' + 11) + 40 * lv' ≤ _; omega⟩) ⟨hpre.1, hrec, hpre.2⟩ rfl hna hl.1.1 hst (cat_sum hcat) d hfit
/-- invokevirtual of a nest mate's private method -/
theorem g_cVN (o : OkG X D C cc n rt lv g0 Q) {y' : MethodName} {b' : ByteArray} {n' na i lv' b : Nat} {rt' : Option FieldType} {av : List Value} {Q' : Option Value → GSt → Prop} {st0 : List Value} (c : Nat) (hc : 1 ≤ c ∧ c ≤ 8) (hK : gK g b = c) (hcon : GCon D y' (wsOf y' b' n' rt') lv' (.ref b :: av) g Q') (q : MOk (clN c) y' b' n' rt' na) (hlk : Cond.methodLinkNest C i y' R_S ∈ nestW) (d : dc cc pc (.invokevirtual i) nx) (hlv : lv' < lv) (hst : st0 = av.reverse ++ .ref b :: st) (hcat : (st.map fun v => v.category).sum ≤ 8) (hna : av.length = na)
    (kk : ∀ r g1, Q' r g1 → V X (RelG D g1) nx L G (r.toList ++ st)) (hn : pc + 3 = nx := by rfl) : V X (RelG D g) pc L G st0 := by
  subst hn
  have d := d.1
  rw [Nat.add_sub_cancel_left] at d
  refine g_after (av := (Value.ref b :: av).toArray) (mc := dTp D - gZ g) (ms := 301 * (dTp D - gZ g)) o (fun H locs ls hS hR hl => ?_) kk
  have hfit := g_fit o hS hR
  have hpre := g_pre (av := .ref b :: av) o hS hR
  have hrec := g_recv o hR hc hK
  have hnw := o.2.1.1.2.2.2.2.1 _ hlk
  obtain ⟨⟨⟨hx, hb⟩, hown, hts, hml, hlk1, hr, hfr, hlo⟩, -⟩ := o
  obtain ⟨q1, q2, q3, q4, q5, q6⟩ := q
  exact va_runVN (As := av) (rest := st) (b := b) (C := clN c) ⟨hx, hb, hml, hown, hts⟩ (hcon (Cx.l X)) ⟨va_cnB (R := Cx.R X) na hts (tbl_good q1) rfl rfl rfl hnw (by rw [q5.1]; exact hts _ q4) q5.2 ⟨by show lv' + 1 ≤ _; omega, by show 8 + (n' + 11) + 40 * lv' ≤ _; omega⟩, hts _ q2, hts _ q3⟩ ⟨hpre.1, hrec, hpre.2⟩ rfl hna hl.1.1 hst (cat_sum hcat) d hfit
theorem g_cS (o : OkG X D C cc n rt lv g0 Q) {y' : MethodName} {b' : ByteArray} {n' na i lv' : Nat} {rt' : Option FieldType} {av : List Value} {Q' : Option Value → GSt → Prop} {st0 : List Value} (hcon : GCon D y' (wsOf y' b' n' rt') lv' av g Q') (q : SOk C y' b' n' rt' na) (hlk : Cond.methodLink C i y' ∈ tbG) (d : dc cc pc (.invokestatic i) nx) (hlv : lv' < lv) (hst : st0 = av.reverse ++ st) (hcat : (st.map fun v => v.category).sum ≤ 8) (hna : av.length = na)
    (kk : ∀ r g1, Q' r g1 → V X (RelG D g1) nx L G (r.toList ++ st)) (hn : pc + 3 = nx := by rfl) : V X (RelG D g) pc L G st0 := by
  subst hn
  have d := d.1
  rw [Nat.add_sub_cancel_left] at d
  refine g_after (av := av.toArray) (mc := dTp D - gZ g) (ms := 301 * (dTp D - gZ g)) o (fun H locs ls hS hR hl => ?_) kk
  have hfit := g_fit o hS hR
  have hpre := g_pre (av := av) o hS hR
  obtain ⟨⟨⟨hx, hb⟩, hown, hts, hml, hlk1, hr, hfr, hlo⟩, -⟩ := o
  obtain ⟨q1, q2, q4, q5, q6⟩ := q
  have hgood : GoodIn tbG (wsS C i y' (wsOf y' b' n' rt')) := by
    intro w hw
    rcases List.mem_append.mp hw with hw | hw
    · have : w ∈ tbG := by
        simp only [List.mem_cons, List.not_mem_nil, or_false] at hw
        rcases hw with rfl | rfl | rfl
        · exact hlk
        · exact q2
        · exact q4
      exact ⟨this, tb_good _ this⟩
    · exact tbl_good q1 w hw
  exact va_runS (As := av) (rest := st) ⟨hx, hb, hml, hown, hts⟩ (hcon (Cx.l X)) (cwS (R := Cx.R X) na hts hgood rfl rfl rfl q5 ⟨by show lv' + 1 ≤ _; omega, by show 8 + (n' + 11) + 40 * lv' ≤ _; omega⟩) ⟨hpre.1, hpre.2⟩ rfl hna hl.1.1 hst (cat_sum hcat) d hfit
theorem g_cSN (o : OkG X D C cc n rt lv g0 Q) {C' : String} {y' : MethodName} {b' : ByteArray} {n' na i lv' : Nat} {rt' : Option FieldType} {av : List Value} {Q' : Option Value → GSt → Prop} {st0 : List Value} (hcon : GCon D y' (wsOf y' b' n' rt') lv' av g Q') (q : SOk C' y' b' n' rt' na) (hlk : Cond.methodLinkNest C i y' R_S ∈ nestW) (d : dc cc pc (.invokestatic i) nx) (hlv : lv' < lv) (hst : st0 = av.reverse ++ st) (hcat : (st.map fun v => v.category).sum ≤ 8) (hna : av.length = na)
    (kk : ∀ r g1, Q' r g1 → V X (RelG D g1) nx L G (r.toList ++ st)) (hn : pc + 3 = nx := by rfl) : V X (RelG D g) pc L G st0 := by
  subst hn
  have d := d.1
  rw [Nat.add_sub_cancel_left] at d
  refine g_after (av := av.toArray) (mc := dTp D - gZ g) (ms := 301 * (dTp D - gZ g)) o (fun H locs ls hS hR hl => ?_) kk
  have hfit := g_fit o hS hR
  have hpre := g_pre (av := av) o hS hR
  have hnw := o.2.1.1.2.2.2.2.1 _ hlk
  obtain ⟨⟨⟨hx, hb⟩, hown, hts, hml, hlk1, hr, hfr, hlo⟩, -⟩ := o
  obtain ⟨q1, q2, q4, q5, q6⟩ := q
  exact va_runSN (As := av) (rest := st) ⟨hx, hb, hml, hown, hts⟩ (hcon (Cx.l X)) ⟨va_cnB (R := Cx.R X) na hts (tbl_good q1) rfl rfl rfl hnw (by rw [q5.1]; exact hts _ q4) q5.2 ⟨by show lv' + 1 ≤ _; omega, by show 8 + (n' + 11) + 40 * lv' ≤ _; omega⟩, hts _ q2, trivial⟩ ⟨hpre.1, hpre.2⟩ rfl hna hl.1.1 hst (cat_sum hcat) d hfit
theorem g_cI (o : OkG X D C cc n rt lv g0 Q) {C' : String} {y' : MethodName} {b' : ByteArray} {n' na i lv' b : Nat} {av : List Value} {Q' : Option Value → GSt → Prop} {st0 : List Value} (hcon : GCon D y' (wsOf y' b' n' none) lv' (.ref b :: av) g Q') (q : COk C' y' b' n' na) (hlk : Cond.methodLink C i y' ∈ tbG) (d : dc cc pc (.invokespecial i) nx) (hlv : lv' < lv) (hst : st0 = av.reverse ++ .ref b :: st) (hcat : (st.map fun v => v.category).sum ≤ 8) (hna : av.length = na)
    (kk : ∀ r g1, Q' r g1 → V X (RelG D g1) nx L G (r.toList ++ st)) (hn : pc + 3 = nx := by rfl) : V X (RelG D g) pc L G st0 := by
  subst hn
  have d := d.1
  rw [Nat.add_sub_cancel_left] at d
  refine g_after (av := (Value.ref b :: av).toArray) (mc := dTp D - gZ g) (ms := 301 * (dTp D - gZ g)) o (fun H locs ls hS hR hl => ?_) kk
  have hfit := g_fit o hS hR
  have hpre := g_pre (av := .ref b :: av) o hS hR
  obtain ⟨⟨⟨hx, hb⟩, hown, hts, hml, hlk1, hr, hfr, hlo⟩, -⟩ := o
  obtain ⟨q1, q2, q4, qn, q5, q6⟩ := q
  exact va_runI (As := av) (rest := st) (b := b) ⟨hx, hb, hml, hown, hts⟩ (hcon (Cx.l X)) (cwI (R := Cx.R X) na hts (tbl_good q1) rfl rfl rfl (by rw [q5.1]; exact hts _ q4) (hts _ hlk) (hts _ q2) qn q5.2 ⟨by show lv' + 1 ≤ _; omega, by show 8 + (n' + 11) + 40 * lv' ≤ _; omega⟩) ⟨hpre.1, hpre.2⟩ rfl hna hl.1.1 hst (cat_sum hcat) d hfit
theorem g_cIN (o : OkG X D C cc n rt lv g0 Q) {C' : String} {y' : MethodName} {b' : ByteArray} {n' na i lv' b : Nat} {av : List Value} {Q' : Option Value → GSt → Prop} {st0 : List Value} (hcon : GCon D y' (wsOf y' b' n' none) lv' (.ref b :: av) g Q') (q : COk C' y' b' n' na) (hlk : Cond.methodLinkNest C i y' R_S ∈ nestW) (d : dc cc pc (.invokespecial i) nx) (hlv : lv' < lv) (hst : st0 = av.reverse ++ .ref b :: st) (hcat : (st.map fun v => v.category).sum ≤ 8) (hna : av.length = na)
    (kk : ∀ r g1, Q' r g1 → V X (RelG D g1) nx L G (r.toList ++ st)) (hn : pc + 3 = nx := by rfl) : V X (RelG D g) pc L G st0 := by
  subst hn
  have d := d.1
  rw [Nat.add_sub_cancel_left] at d
  refine g_after (av := (Value.ref b :: av).toArray) (mc := dTp D - gZ g) (ms := 301 * (dTp D - gZ g)) o (fun H locs ls hS hR hl => ?_) kk
  have hfit := g_fit o hS hR
  have hpre := g_pre (av := .ref b :: av) o hS hR
  have hnw := o.2.1.1.2.2.2.2.1 _ hlk
  obtain ⟨⟨⟨hx, hb⟩, hown, hts, hml, hlk1, hr, hfr, hlo⟩, -⟩ := o
  obtain ⟨q1, q2, q4, qn, q5, q6⟩ := q
  exact va_runIN (As := av) (rest := st) (b := b) ⟨hx, hb, hml, hown, hts⟩ (hcon (Cx.l X)) ⟨va_cnB (R := Cx.R X) na hts (tbl_good q1) rfl rfl rfl hnw (by rw [q5.1]; exact hts _ q4) q5.2 ⟨by show lv' + 1 ≤ _; omega, by show 8 + (n' + 11) + 40 * lv' ≤ _; omega⟩, qn, hts _ q2⟩ ⟨hpre.1, hpre.2⟩ rfl hna hl.1.1 hst (cat_sum hcat) d hfit
/-- what an interface call's target owes -/
def FOk (C' : String) (x y : MethodName) (b : ByteArray) (n : Nat) (rt : Option FieldType) (na : Nat) : Prop :=
  Cond.code y b n rt ∈ tbG ∧ Cond.selects C' x y ∈ tbG ∧ Cond.instanceMethod y ∈ tbG ∧ Cond.initialized y.cls ∈ tbG ∧ (C', x, y) ∈ fwT ∧ (x.cls ≠ "java/lang/invoke/MethodHandle" ∧ x.cls ≠ "java/lang/invoke/VarHandle" ∧ (parseMethodDescriptor x.desc).map (fun d => d.parameters.length) = some na) ∧ n ≤ 21
theorem g_cF (o : OkG X D C cc n rt lv g0 Q) {x' y' : MethodName} {b' : ByteArray} {n' na i cnt lv' b : Nat} {rt' : Option FieldType} {av : List Value} {Q' : Option Value → GSt → Prop} {st0 : List Value} (c : Nat) (hc : 1 ≤ c ∧ c ≤ 8) (hK : gK g b = c) (hcon : GCon D y' (wsOf y' b' n' rt') lv' (.ref b :: av) g Q') (q : FOk (clN c) x' y' b' n' rt' na) (hlk : Cond.methodLink C i x' ∈ tbG) (d : dc cc pc (.invokeinterface i cnt) nx) (hlv : lv' < lv) (hst : st0 = av.reverse ++ .ref b :: st) (hcat : (st.map fun v => v.category).sum ≤ 8) (hna : av.length = na)
    (kk : ∀ r g1, Q' r g1 → V X (RelG D g1) nx L G (r.toList ++ st)) (hn : pc + 5 = nx := by rfl) : V X (RelG D g) pc L G st0 := by
  subst hn
  have d := d.1
  rw [Nat.add_sub_cancel_left] at d
  refine g_after5 (av := (Value.ref b :: av).toArray) (mc := dTp D - gZ g) (ms := 301 * (dTp D - gZ g)) o (fun H locs ls hS hR hl => ?_) kk
  have hfit := g_fit o hS hR
  have hpre := g_pre (av := .ref b :: av) o hS hR
  have hrec := g_recv o hR hc hK
  obtain ⟨q1, q2, q3, q4, q5, q6, q7⟩ := q
  have hfw := o.2.1.1.2.2.2.2.2.1 _ q5
  have hcat0 := (o.2.1.1.1 c hc.1 hc.2).2
  obtain ⟨⟨⟨hx, hb⟩, hown, hts, hml, hlk1, hr, hfr, hlo⟩, -⟩ := o
  have hgood : GoodIn tbG (va_wsF C i (clN c) x' y' (wsOf y' b' n' rt')) := by
    intro w hw
    rcases List.mem_append.mp hw with hw | hw
    · have : w ∈ tbG := by
        simp only [List.mem_cons, List.not_mem_nil, or_false] at hw
        rcases hw with rfl | rfl | rfl | rfl
        · exact hlk
        · exact q2
        · exact q3
        · exact q4
      exact ⟨this, tb_good _ this⟩
    · exact tbl_good q1 w hw
  exact va_runF (As := av) (rest := st) (b := b) hcat0 ⟨hx, hb, hml, hown, hts⟩ (hcon (Cx.l X)) (va_cwF (R := Cx.R X) na hts hgood rfl rfl rfl hfw q6 ⟨by show lv' + 1 ≤ _; omega, by show 8 + (n' + 11) + 40 * lv' ≤ _; omega⟩) ⟨hpre.1, hrec, hpre.2⟩ rfl hna hl.1.1 hst (cat_sum hcat) d hfit
/-- Object.<init> -/
theorem g_obj (o : OkG X D C cc n rt lv g0 Q) {i : Nat} {Rl : Heap → Prop} (hlk : Cond.methodLink C i objectInit ∈ tbG) (hin : Cond.instanceMethod objectInit ∈ tbG) (hcd : Cond.code objectInit ⟨#[0xb1]⟩ 1 none ∈ tbG) (d : dc cc pc (.invokespecial i) nx) (hlv : 1 ≤ lv) (hcat : (st.map fun v => v.category).sum ≤ 8) (kk : V X Rl nx L G st) (hn : pc + 3 = nx := by rfl) : V X Rl pc L G (.ref a :: st) := by
  subst hn
  intro H locs ls hS hR hl
  have d := d.1
  rw [Nat.add_sub_cancel_left] at d
  obtain ⟨⟨⟨hx, hb⟩, hown, hts, hml, hlk1, hr, hfr, hlo⟩, -⟩ := o
  refine W.objInit hx hb hown (hts _ hlk) (hts _ hin) (hts _ hcd) rfl (by rw [hml]; exact hl.1.1) rfl d (by omega) ?_ (kk H locs ls hS hR hl)
  have := cat_sum (l := st) hcat (m := Cx.m X) (pc := pc) (ls := ls) (st := .ref a :: st)
  omega
theorem cat_rf (r : Option Nat) : (va_rf r).category = 1 := by cases r <;> rfl

end GRows
set_option maxRecDepth 20000 in
theorem lf_P_13 : Cond.fieldLink R_P 13 (clN 2) (clT 2 0).2.1 (clT 2 0).2.2.1 ∈ tbG := tb_in 43 (by rfl) rfl
set_option maxRecDepth 20000 in
theorem lf_S_81 : Cond.fieldLink R_S 81 (clN 2) (clT 2 0).2.1 (clT 2 0).2.2.1 ∈ tbG := tb_in 44 (by rfl) rfl
set_option maxRecDepth 20000 in
theorem lf_P_17 : Cond.fieldLink R_P 17 (clN 2) (clT 2 1).2.1 (clT 2 1).2.2.1 ∈ tbG := tb_in 45 (by rfl) rfl
set_option maxRecDepth 20000 in
theorem lf_P_7 : Cond.fieldLink R_P 7 (clN 2) (clT 2 2).2.1 (clT 2 2).2.2.1 ∈ tbG := tb_in 46 (by rfl) rfl
set_option maxRecDepth 20000 in
theorem lf_P_20 : Cond.fieldLink R_P 20 (clN 2) (clT 2 3).2.1 (clT 2 3).2.2.1 ∈ tbG := tb_in 47 (by rfl) rfl
set_option maxRecDepth 20000 in
theorem lf_S_78 : Cond.fieldLink R_S 78 (clN 2) (clT 2 3).2.1 (clT 2 3).2.2.1 ∈ tbG := tb_in 48 (by rfl) rfl
set_option maxRecDepth 20000 in
theorem lf_P_33 : Cond.fieldLink R_P 33 (clN 2) (clT 2 4).2.1 (clT 2 4).2.2.1 ∈ tbG := tb_in 49 (by rfl) rfl
set_option maxRecDepth 20000 in
theorem lf_S_88 : Cond.fieldLink R_S 88 (clN 2) (clT 2 4).2.1 (clT 2 4).2.2.1 ∈ tbG := tb_in 50 (by rfl) rfl
set_option maxRecDepth 20000 in
theorem lf_S_11 : Cond.fieldLink R_S 11 (clN 1) (clT 1 0).2.1 (clT 1 0).2.2.1 ∈ tbG := tb_in 63 (by rfl) rfl
set_option maxRecDepth 20000 in
theorem lf_S_15 : Cond.fieldLink R_S 15 (clN 1) (clT 1 1).2.1 (clT 1 1).2.2.1 ∈ tbG := tb_in 64 (by rfl) rfl
set_option maxRecDepth 20000 in
theorem lf_S_18 : Cond.fieldLink R_S 18 (clN 1) (clT 1 2).2.1 (clT 1 2).2.2.1 ∈ tbG := tb_in 65 (by rfl) rfl
set_option maxRecDepth 20000 in
theorem lf_S_57 : Cond.fieldLink R_S 57 (clN 1) (clT 1 3).2.1 (clT 1 3).2.2.1 ∈ tbG := tb_in 66 (by rfl) rfl
set_option maxRecDepth 20000 in
theorem lf_S_43 : Cond.fieldLink R_S 43 (clN 1) (clT 1 4).2.1 (clT 1 4).2.2.1 ∈ tbG := tb_in 67 (by rfl) rfl
set_option maxRecDepth 20000 in
theorem lf_S_24 : Cond.fieldLink R_S 24 (clN 1) (clT 1 5).2.1 (clT 1 5).2.2.1 ∈ tbG := tb_in 68 (by rfl) rfl
set_option maxRecDepth 20000 in
theorem lf_S_95 : Cond.fieldLink R_S 95 (clN 1) (clT 1 6).2.1 (clT 1 6).2.2.1 ∈ tbG := tb_in 69 (by rfl) rfl
set_option maxRecDepth 20000 in
theorem lf_S_99 : Cond.fieldLink R_S 99 (clN 1) (clT 1 7).2.1 (clT 1 7).2.2.1 ∈ tbG := tb_in 70 (by rfl) rfl
set_option maxRecDepth 20000 in
theorem lf_S_75 : Cond.fieldLink R_S 75 (clN 1) (clT 1 8).2.1 (clT 1 8).2.2.1 ∈ tbG := tb_in 71 (by rfl) rfl
set_option maxRecDepth 20000 in
theorem lf_S_106 : Cond.fieldLink R_S 106 (clN 1) (clT 1 9).2.1 (clT 1 9).2.2.1 ∈ tbG := tb_in 72 (by rfl) rfl
set_option maxRecDepth 20000 in
theorem lf_S_109 : Cond.fieldLink R_S 109 (clN 1) (clT 1 10).2.1 (clT 1 10).2.2.1 ∈ tbG := tb_in 73 (by rfl) rfl
set_option maxRecDepth 20000 in
theorem lf_S_30 : Cond.fieldLink R_S 30 (clN 1) (clT 1 11).2.1 (clT 1 11).2.2.1 ∈ tbG := tb_in 74 (by rfl) rfl
set_option maxRecDepth 20000 in
theorem lf_S_50 : Cond.fieldLink R_S 50 (clN 1) (clT 1 12).2.1 (clT 1 12).2.2.1 ∈ tbG := tb_in 75 (by rfl) rfl
set_option maxRecDepth 20000 in
theorem lf_S_288 : Cond.fieldLink R_S 288 (clN 1) (clT 1 13).2.1 (clT 1 13).2.2.1 ∈ tbG := tb_in 78 (by rfl) rfl
set_option maxRecDepth 20000 in
theorem ls_S_244 : Cond.fieldLink R_S 244 "NestedStore$State" "ACTIVE" "LNestedStore$State;" ∈ tbG := tb_in 119 (by rfl) rfl
set_option maxRecDepth 20000 in
theorem ls_T_9 : Cond.fieldLink R_T 9 "NestedStore$State" "ACTIVE" "LNestedStore$State;" ∈ tbG := tb_in 134 (by rfl) rfl
set_option maxRecDepth 20000 in
theorem lf_T_24 : Cond.fieldLink R_T 24 (clN 4) (clT 4 0).2.1 (clT 4 0).2.2.1 ∈ tbG := tb_in 135 (by rfl) rfl
set_option maxRecDepth 20000 in
theorem lf_S_223 : Cond.fieldLink R_S 223 (clN 4) (clT 4 0).2.1 (clT 4 0).2.2.1 ∈ tbG := tb_in 136 (by rfl) rfl
set_option maxRecDepth 20000 in
theorem lf_T_28 : Cond.fieldLink R_T 28 (clN 4) (clT 4 1).2.1 (clT 4 1).2.2.1 ∈ tbG := tb_in 137 (by rfl) rfl
set_option maxRecDepth 20000 in
theorem lf_S_296 : Cond.fieldLink R_S 296 (clN 4) (clT 4 1).2.1 (clT 4 1).2.2.1 ∈ tbG := tb_in 138 (by rfl) rfl
set_option maxRecDepth 20000 in
theorem lf_T_35 : Cond.fieldLink R_T 35 (clN 4) (clT 4 2).2.1 (clT 4 2).2.2.1 ∈ tbG := tb_in 139 (by rfl) rfl
set_option maxRecDepth 20000 in
theorem lf_S_309 : Cond.fieldLink R_S 309 (clN 4) (clT 4 2).2.1 (clT 4 2).2.2.1 ∈ tbG := tb_in 140 (by rfl) rfl
set_option maxRecDepth 20000 in
theorem lf_T_38 : Cond.fieldLink R_T 38 (clN 4) (clT 4 3).2.1 (clT 4 3).2.2.1 ∈ tbG := tb_in 141 (by rfl) rfl
set_option maxRecDepth 20000 in
theorem lf_S_247 : Cond.fieldLink R_S 247 (clN 4) (clT 4 3).2.1 (clT 4 3).2.2.1 ∈ tbG := tb_in 142 (by rfl) rfl
set_option maxRecDepth 20000 in
theorem lf_T_32 : Cond.fieldLink R_T 32 (clN 4) (clT 4 4).2.1 (clT 4 4).2.2.1 ∈ tbG := tb_in 143 (by rfl) rfl
set_option maxRecDepth 20000 in
theorem lf_S_303 : Cond.fieldLink R_S 303 (clN 4) (clT 4 4).2.1 (clT 4 4).2.2.1 ∈ tbG := tb_in 144 (by rfl) rfl
set_option maxRecDepth 20000 in
theorem lf_T_15 : Cond.fieldLink R_T 15 (clN 4) (clT 4 5).2.1 (clT 4 5).2.2.1 ∈ tbG := tb_in 145 (by rfl) rfl
set_option maxRecDepth 20000 in
theorem lf_S_182 : Cond.fieldLink R_S 182 (clN 4) (clT 4 5).2.1 (clT 4 5).2.2.1 ∈ tbG := tb_in 146 (by rfl) rfl
set_option maxRecDepth 20000 in
theorem lf_S_198 : Cond.fieldLink R_S 198 (clN 4) (clT 4 6).2.1 (clT 4 6).2.2.1 ∈ tbG := tb_in 147 (by rfl) rfl
set_option maxRecDepth 20000 in
theorem lf_T_20 : Cond.fieldLink R_T 20 (clN 4) (clT 4 7).2.1 (clT 4 7).2.2.1 ∈ tbG := tb_in 148 (by rfl) rfl
set_option maxRecDepth 20000 in
theorem lf_S_174 : Cond.fieldLink R_S 174 (clN 4) (clT 4 7).2.1 (clT 4 7).2.2.1 ∈ tbG := tb_in 149 (by rfl) rfl
set_option maxRecDepth 20000 in
theorem lf_T_51 : Cond.fieldLink R_T 51 (clN 4) (clT 4 8).2.1 (clT 4 8).2.2.1 ∈ tbG := tb_in 150 (by rfl) rfl
set_option maxRecDepth 20000 in
theorem lf_S_143 : Cond.fieldLink R_S 143 (clN 4) (clT 4 8).2.1 (clT 4 8).2.2.1 ∈ tbG := tb_in 151 (by rfl) rfl
set_option maxRecDepth 20000 in
theorem lf_T_41 : Cond.fieldLink R_T 41 (clN 4) (clT 4 9).2.1 (clT 4 9).2.2.1 ∈ tbG := tb_in 152 (by rfl) rfl
set_option maxRecDepth 20000 in
theorem lf_T_44 : Cond.fieldLink R_T 44 (clN 4) (clT 4 10).2.1 (clT 4 10).2.2.1 ∈ tbG := tb_in 153 (by rfl) rfl
set_option maxRecDepth 20000 in
theorem ls_S_256 : Cond.fieldLink R_S 256 "NestedStore$Kind" "BEGIN" "LNestedStore$Kind;" ∈ tbG := tb_in 178 (by rfl) rfl
set_option maxRecDepth 20000 in
theorem lf_E_7 : Cond.fieldLink R_E 7 (clN 3) (clT 3 0).2.1 (clT 3 0).2.2.1 ∈ tbG := tb_in 189 (by rfl) rfl
set_option maxRecDepth 20000 in
theorem lf_T_64 : Cond.fieldLink R_T 64 (clN 3) (clT 3 0).2.1 (clT 3 0).2.2.1 ∈ tbG := tb_in 190 (by rfl) rfl
set_option maxRecDepth 20000 in
theorem lf_S_150 : Cond.fieldLink R_S 150 (clN 3) (clT 3 0).2.1 (clT 3 0).2.2.1 ∈ tbG := tb_in 191 (by rfl) rfl
set_option maxRecDepth 20000 in
theorem lf_E_13 : Cond.fieldLink R_E 13 (clN 3) (clT 3 1).2.1 (clT 3 1).2.2.1 ∈ tbG := tb_in 192 (by rfl) rfl
set_option maxRecDepth 20000 in
theorem lf_S_315 : Cond.fieldLink R_S 315 (clN 3) (clT 3 1).2.1 (clT 3 1).2.2.1 ∈ tbG := tb_in 193 (by rfl) rfl
set_option maxRecDepth 20000 in
theorem lf_E_17 : Cond.fieldLink R_E 17 (clN 3) (clT 3 2).2.1 (clT 3 2).2.2.1 ∈ tbG := tb_in 194 (by rfl) rfl
set_option maxRecDepth 20000 in
theorem lf_S_318 : Cond.fieldLink R_S 318 (clN 3) (clT 3 2).2.1 (clT 3 2).2.2.1 ∈ tbG := tb_in 195 (by rfl) rfl
set_option maxRecDepth 20000 in
theorem lf_E_21 : Cond.fieldLink R_E 21 (clN 3) (clT 3 3).2.1 (clT 3 3).2.2.1 ∈ tbG := tb_in 196 (by rfl) rfl
set_option maxRecDepth 20000 in
theorem lf_S_154 : Cond.fieldLink R_S 154 (clN 3) (clT 3 3).2.1 (clT 3 3).2.2.1 ∈ tbG := tb_in 197 (by rfl) rfl
set_option maxRecDepth 20000 in
theorem lf_E_24 : Cond.fieldLink R_E 24 (clN 3) (clT 3 4).2.1 (clT 3 4).2.2.1 ∈ tbG := tb_in 198 (by rfl) rfl
set_option maxRecDepth 20000 in
theorem lf_S_128 : Cond.fieldLink R_S 128 (clN 3) (clT 3 4).2.1 (clT 3 4).2.2.1 ∈ tbG := tb_in 199 (by rfl) rfl
set_option maxRecDepth 20000 in
theorem lf_E_28 : Cond.fieldLink R_E 28 (clN 3) (clT 3 5).2.1 (clT 3 5).2.2.1 ∈ tbG := tb_in 200 (by rfl) rfl
set_option maxRecDepth 20000 in
theorem lf_S_134 : Cond.fieldLink R_S 134 (clN 3) (clT 3 5).2.1 (clT 3 5).2.2.1 ∈ tbG := tb_in 201 (by rfl) rfl
set_option maxRecDepth 20000 in
theorem lf_E_31 : Cond.fieldLink R_E 31 (clN 3) (clT 3 6).2.1 (clT 3 6).2.2.1 ∈ tbG := tb_in 202 (by rfl) rfl
set_option maxRecDepth 20000 in
theorem lf_S_137 : Cond.fieldLink R_S 137 (clN 3) (clT 3 6).2.1 (clT 3 6).2.2.1 ∈ tbG := tb_in 203 (by rfl) rfl
set_option maxRecDepth 20000 in
theorem lf_E_34 : Cond.fieldLink R_E 34 (clN 3) (clT 3 7).2.1 (clT 3 7).2.2.1 ∈ tbG := tb_in 204 (by rfl) rfl
set_option maxRecDepth 20000 in
theorem lf_S_140 : Cond.fieldLink R_S 140 (clN 3) (clT 3 7).2.1 (clT 3 7).2.2.1 ∈ tbG := tb_in 205 (by rfl) rfl
set_option maxRecDepth 20000 in
theorem lf_E_37 : Cond.fieldLink R_E 37 (clN 3) (clT 3 8).2.1 (clT 3 8).2.2.1 ∈ tbG := tb_in 206 (by rfl) rfl
set_option maxRecDepth 20000 in
theorem lf_S_160 : Cond.fieldLink R_S 160 (clN 3) (clT 3 8).2.1 (clT 3 8).2.2.1 ∈ tbG := tb_in 207 (by rfl) rfl
set_option maxRecDepth 20000 in
theorem lf_E_41 : Cond.fieldLink R_E 41 (clN 3) (clT 3 9).2.1 (clT 3 9).2.2.1 ∈ tbG := tb_in 208 (by rfl) rfl
set_option maxRecDepth 20000 in
theorem lf_T_55 : Cond.fieldLink R_T 55 (clN 3) (clT 3 9).2.1 (clT 3 9).2.2.1 ∈ tbG := tb_in 209 (by rfl) rfl
set_option maxRecDepth 20000 in
theorem lf_S_163 : Cond.fieldLink R_S 163 (clN 3) (clT 3 9).2.1 (clT 3 9).2.2.1 ∈ tbG := tb_in 210 (by rfl) rfl
set_option maxRecDepth 20000 in
theorem lf_E_44 : Cond.fieldLink R_E 44 (clN 3) (clT 3 10).2.1 (clT 3 10).2.2.1 ∈ tbG := tb_in 211 (by rfl) rfl
set_option maxRecDepth 20000 in
theorem lf_T_61 : Cond.fieldLink R_T 61 (clN 3) (clT 3 10).2.1 (clT 3 10).2.2.1 ∈ tbG := tb_in 212 (by rfl) rfl
set_option maxRecDepth 20000 in
theorem lf_S_147 : Cond.fieldLink R_S 147 (clN 3) (clT 3 10).2.1 (clT 3 10).2.2.1 ∈ tbG := tb_in 213 (by rfl) rfl
set_option maxRecDepth 20000 in
theorem ls_Q_7 : Cond.fieldLink R_Q 7 "NestedStore$State" "ACTIVE" "LNestedStore$State;" ∈ tbG := tb_in 256 (by rfl) rfl
set_option maxRecDepth 20000 in
theorem ls_Q_10 : Cond.fieldLink R_Q 10 "NestedStore$State" "WAITING" "LNestedStore$State;" ∈ tbG := tb_in 257 (by rfl) rfl
set_option maxRecDepth 20000 in
theorem lf_RG_9 : Cond.fieldLink R_RG 9 (clN 5) (clT 5 0).2.1 (clT 5 0).2.2.1 ∈ tbG := tb_in 268 (by rfl) rfl
set_option maxRecDepth 20000 in
theorem ls_S_118 : Cond.fieldLink R_S 118 "NestedStore$Kind" "UPDATE" "LNestedStore$Kind;" ∈ tbG := tb_in 370 (by rfl) rfl
set_option maxRecDepth 20000 in
theorem ls_S_195 : Cond.fieldLink R_S 195 "NestedStore$State" "WAITING" "LNestedStore$State;" ∈ tbG := tb_in 403 (by rfl) rfl
set_option maxRecDepth 20000 in
theorem ls_S_157 : Cond.fieldLink R_S 157 "NestedStore$Kind" "UNDO" "LNestedStore$Kind;" ∈ tbG := tb_in 441 (by rfl) rfl
set_option maxRecDepth 20000 in
theorem ls_S_232 : Cond.fieldLink R_S 232 "NestedStore$Kind" "ABORTED" "LNestedStore$Kind;" ∈ tbG := tb_in 443 (by rfl) rfl
set_option maxRecDepth 20000 in
theorem ls_S_235 : Cond.fieldLink R_S 235 "NestedStore$State" "ABORTED" "LNestedStore$State;" ∈ tbG := tb_in 445 (by rfl) rfl
set_option maxRecDepth 20000 in
theorem lf_RP_9 : Cond.fieldLink R_RP 9 (clN 6) (clT 6 0).2.1 (clT 6 0).2.2.1 ∈ tbG := tb_in 461 (by rfl) rfl
set_option maxRecDepth 20000 in
theorem lf_RP_15 : Cond.fieldLink R_RP 15 (clN 6) (clT 6 1).2.1 (clT 6 1).2.2.1 ∈ tbG := tb_in 462 (by rfl) rfl
set_option maxRecDepth 20000 in
theorem lf_RD_9 : Cond.fieldLink R_RD 9 (clN 7) (clT 7 0).2.1 (clT 7 0).2.2.1 ∈ tbG := tb_in 478 (by rfl) rfl
set_option maxRecDepth 20000 in
theorem lf_RS_9 : Cond.fieldLink R_RS 9 (clN 8) (clT 8 0).2.1 (clT 8 0).2.2.1 ∈ tbG := tb_in 492 (by rfl) rfl
set_option maxRecDepth 20000 in
theorem lf_RS_15 : Cond.fieldLink R_RS 15 (clN 8) (clT 8 1).2.1 (clT 8 1).2.2.1 ∈ tbG := tb_in 493 (by rfl) rfl
set_option maxRecDepth 20000 in
theorem ls_S_290 : Cond.fieldLink R_S 290 "NestedStore$Kind" "COMMIT" "LNestedStore$Kind;" ∈ tbG := tb_in 511 (by rfl) rfl
set_option maxRecDepth 20000 in
theorem ls_S_293 : Cond.fieldLink R_S 293 "NestedStore$State" "COMMITTED" "LNestedStore$State;" ∈ tbG := tb_in 513 (by rfl) rfl
set_option maxRecDepth 20000 in
theorem in_S : Cond.initialized "NestedStore" ∈ tbG := tb_in 1 (by rfl) rfl
set_option maxRecDepth 20000 in
theorem in_P : Cond.initialized "NestedStore$Page" ∈ tbG := tb_in 3 (by rfl) rfl
set_option maxRecDepth 20000 in
theorem in_E : Cond.initialized "NestedStore$Entry" ∈ tbG := tb_in 9 (by rfl) rfl
set_option maxRecDepth 20000 in
theorem in_T : Cond.initialized "NestedStore$Transaction" ∈ tbG := tb_in 7 (by rfl) rfl
set_option maxRecDepth 20000 in
theorem in_RG : Cond.initialized "NestedStore$Get" ∈ tbG := tb_in 11 (by rfl) rfl
set_option maxRecDepth 20000 in
theorem in_RP : Cond.initialized "NestedStore$Put" ∈ tbG := tb_in 15 (by rfl) rfl
set_option maxRecDepth 20000 in
theorem in_RD : Cond.initialized "NestedStore$Delete" ∈ tbG := tb_in 16 (by rfl) rfl
set_option maxRecDepth 20000 in
theorem in_RS : Cond.initialized "NestedStore$Scan" ∈ tbG := tb_in 17 (by rfl) rfl
set_option maxRecDepth 20000 in
theorem in_Math : Cond.initialized "java/lang/Math" ∈ tbG := tb_in 2 (by rfl) rfl
set_option maxRecDepth 20000 in
theorem in_System : Cond.initialized "java/lang/System" ∈ tbG := tb_in 12 (by rfl) rfl
set_option maxRecDepth 20000 in
theorem in_Long : Cond.initialized "java/lang/Long" ∈ tbG := tb_in 13 (by rfl) rfl
set_option maxRecDepth 20000 in
theorem in_Integer : Cond.initialized "java/lang/Integer" ∈ tbG := tb_in 14 (by rfl) rfl
set_option maxRecDepth 20000 in
theorem in_Record : Cond.initialized "java/lang/Record" ∈ tbG := tb_in 10 (by rfl) rfl
set_option maxRecDepth 20000 in
theorem in_Enum : Cond.initialized "java/lang/Enum" ∈ tbG := tb_in 5 (by rfl) rfl
set_option maxRecDepth 20000 in
theorem in_Q : Cond.initialized "NestedStore$State" ∈ tbG := tb_in 6 (by rfl) rfl
set_option maxRecDepth 20000 in
theorem q_S_init : COk R_S y_S_init b_S_init 3 1 := ⟨k_S_init, tb_in 21 (by rfl) rfl, in_S, rfl, ⟨by decide +kernel, by decide +kernel, by decide +kernel, by decide +kernel⟩, by decide⟩
set_option maxRecDepth 20000 in
theorem q_S_outside : SOk R_S y_S_outside b_S_outside 3 (some .boolean) 3 := ⟨k_S_outside, tb_in 117 (by rfl) rfl, in_S, ⟨by decide +kernel, by decide +kernel, by decide +kernel, by decide +kernel⟩, by decide⟩
set_option maxRecDepth 20000 in
theorem q_S_find : MOk R_S y_S_find b_S_find 2 (some (.object "NestedStore$Transaction")) 1 := ⟨k_S_find, tb_in 114 (by rfl) rfl, tb_sel 0 (by rfl) rfl, in_S, ⟨by decide +kernel, by decide +kernel, by decide +kernel, by decide +kernel⟩, by decide⟩
set_option maxRecDepth 20000 in
theorem q_S_place : MOk R_S y_S_place b_S_place 3 (some .int) 1 := ⟨k_S_place, tb_in 296 (by rfl) rfl, tb_sel 7 (by rfl) rfl, in_S, ⟨by decide +kernel, by decide +kernel, by decide +kernel, by decide +kernel⟩, by decide⟩
set_option maxRecDepth 20000 in
theorem q_S_at : MOk R_S y_S_at b_S_at 2 (some (.object "NestedStore$Page")) 1 := ⟨k_S_at, tb_in 292 (by rfl) rfl, tb_sel 6 (by rfl) rfl, in_S, ⟨by decide +kernel, by decide +kernel, by decide +kernel, by decide +kernel⟩, by decide⟩
set_option maxRecDepth 20000 in
theorem q_S_there : MOk R_S y_S_there b_S_there 2 (some .boolean) 1 := ⟨k_S_there, tb_in 288 (by rfl) rfl, tb_sel 5 (by rfl) rfl, in_S, ⟨by decide +kernel, by decide +kernel, by decide +kernel, by decide +kernel⟩, by decide⟩
set_option maxRecDepth 20000 in
theorem q_S_next : MOk R_S y_S_next b_S_next 3 (some .int) 1 := ⟨k_S_next, tb_in 304 (by rfl) rfl, tb_sel 8 (by rfl) rfl, in_S, ⟨by decide +kernel, by decide +kernel, by decide +kernel, by decide +kernel⟩, by decide⟩
set_option maxRecDepth 20000 in
theorem q_S_bring : MOk R_S y_S_bring b_S_bring 2 none 1 := ⟨k_S_bring, tb_in 361 (by rfl) rfl, tb_sel 12 (by rfl) rfl, in_S, ⟨by decide +kernel, by decide +kernel, by decide +kernel, by decide +kernel⟩, by decide⟩
set_option maxRecDepth 20000 in
theorem q_S_touch : MOk R_S y_S_touch b_S_touch 4 (some (.object "NestedStore$Page")) 1 := ⟨k_S_touch, tb_in 357 (by rfl) rfl, tb_sel 11 (by rfl) rfl, in_S, ⟨by decide +kernel, by decide +kernel, by decide +kernel, by decide +kernel⟩, by decide⟩
set_option maxRecDepth 20000 in
theorem q_S_note : MOk R_S y_S_note b_S_note 5 (some (.object "NestedStore$Entry")) 3 := ⟨k_S_note, tb_in 182 (by rfl) rfl, tb_sel 3 (by rfl) rfl, in_S, ⟨by decide +kernel, by decide +kernel, by decide +kernel, by decide +kernel⟩, by decide⟩
set_option maxRecDepth 20000 in
theorem q_S_last : MOk R_S y_S_last b_S_last 1 (some .int) 0 := ⟨k_S_last, tb_in 128 (by rfl) rfl, tb_sel 2 (by rfl) rfl, in_S, ⟨by decide +kernel, by decide +kernel, by decide +kernel, by decide +kernel⟩, by decide⟩
set_option maxRecDepth 20000 in
theorem q_S_lacks : MOk R_S y_S_lacks b_S_lacks 2 (some .boolean) 1 := ⟨k_S_lacks, tb_in 123 (by rfl) rfl, tb_sel 1 (by rfl) rfl, in_S, ⟨by decide +kernel, by decide +kernel, by decide +kernel, by decide +kernel⟩, by decide⟩
set_option maxRecDepth 20000 in
theorem q_S_update : MOk R_S y_S_update b_S_update 7 (some .boolean) 4 := ⟨k_S_update, tb_in 353 (by rfl) rfl, tb_sel 10 (by rfl) rfl, in_S, ⟨by decide +kernel, by decide +kernel, by decide +kernel, by decide +kernel⟩, by decide⟩
set_option maxRecDepth 20000 in
theorem q_S_undo : MOk R_S y_S_undo b_S_undo 5 none 2 := ⟨k_S_undo, tb_in 439 (by rfl) rfl, tb_sel 18 (by rfl) rfl, in_S, ⟨by decide +kernel, by decide +kernel, by decide +kernel, by decide +kernel⟩, by decide⟩
set_option maxRecDepth 20000 in
theorem q_S_back : MOk R_S y_S_back b_S_back 5 (some .int) 2 := ⟨k_S_back, tb_in 431 (by rfl) rfl, tb_sel 17 (by rfl) rfl, in_S, ⟨by decide +kernel, by decide +kernel, by decide +kernel, by decide +kernel⟩, by decide⟩
set_option maxRecDepth 20000 in
theorem q_S_seek : MOk R_S y_S_seek b_S_seek 9 (some .long) 4 := ⟨k_S_seek, tb_in 309 (by rfl) rfl, tb_sel 9 (by rfl) rfl, in_S, ⟨by decide +kernel, by decide +kernel, by decide +kernel, by decide +kernel⟩, by decide⟩
set_option maxRecDepth 20000 in
theorem q_S_leads : MOk R_S y_S_leads b_S_leads 4 (some .long) 1 := ⟨k_S_leads, tb_in 414 (by rfl) rfl, tb_sel 15 (by rfl) rfl, in_S, ⟨by decide +kernel, by decide +kernel, by decide +kernel, by decide +kernel⟩, by decide⟩
set_option maxRecDepth 20000 in
theorem q_S_reach : MOk R_S y_S_reach b_S_reach 8 (some .long) 1 := ⟨k_S_reach, tb_in 410 (by rfl) rfl, tb_sel 14 (by rfl) rfl, in_S, ⟨by decide +kernel, by decide +kernel, by decide +kernel, by decide +kernel⟩, by decide⟩
set_option maxRecDepth 20000 in
theorem q_S_circles : MOk R_S y_S_circles b_S_circles 8 none 1 := ⟨k_S_circles, tb_in 406 (by rfl) rfl, tb_sel 13 (by rfl) rfl, in_S, ⟨by decide +kernel, by decide +kernel, by decide +kernel, by decide +kernel⟩, by decide⟩
set_option maxRecDepth 20000 in
theorem q_S_fall : MOk R_S y_S_fall b_S_fall 5 (some .int) 1 := ⟨k_S_fall, tb_in 427 (by rfl) rfl, tb_sel 16 (by rfl) rfl, in_S, ⟨by decide +kernel, by decide +kernel, by decide +kernel, by decide +kernel⟩, by decide⟩
set_option maxRecDepth 20000 in
theorem q_S_begin : MOk R_S y_S_begin b_S_begin 4 (some .int) 1 := ⟨k_S_begin, tb_in 109 (by rfl) rfl, tb_in 110 (by rfl) rfl, in_S, ⟨by decide +kernel, by decide +kernel, by decide +kernel, by decide +kernel⟩, by decide⟩
set_option maxRecDepth 20000 in
theorem q_S_bar : SOk R_S y_S_bar b_S_bar 1 (some .int) 1 := ⟨k_S_bar, tb_in 246 (by rfl) rfl, in_S, ⟨by decide +kernel, by decide +kernel, by decide +kernel, by decide +kernel⟩, by decide⟩
set_option maxRecDepth 20000 in
theorem q_S_make : MOk R_S y_S_make b_S_make 3 (some .int) 2 := ⟨k_S_make, tb_in 274 (by rfl) rfl, tb_sel 4 (by rfl) rfl, in_S, ⟨by decide +kernel, by decide +kernel, by decide +kernel, by decide +kernel⟩, by decide⟩
set_option maxRecDepth 20000 in
theorem q_S_get : MOk R_S y_S_get b_S_get 5 (some .int) 2 := ⟨k_S_get, tb_in 242 (by rfl) rfl, tb_in 243 (by rfl) rfl, in_S, ⟨by decide +kernel, by decide +kernel, by decide +kernel, by decide +kernel⟩, by decide⟩
set_option maxRecDepth 20000 in
theorem q_S_put : MOk R_S y_S_put b_S_put 6 (some .int) 3 := ⟨k_S_put, tb_in 452 (by rfl) rfl, tb_in 453 (by rfl) rfl, in_S, ⟨by decide +kernel, by decide +kernel, by decide +kernel, by decide +kernel⟩, by decide⟩
set_option maxRecDepth 20000 in
theorem q_S_delete : MOk R_S y_S_delete b_S_delete 5 (some .int) 2 := ⟨k_S_delete, tb_in 469 (by rfl) rfl, tb_in 470 (by rfl) rfl, in_S, ⟨by decide +kernel, by decide +kernel, by decide +kernel, by decide +kernel⟩, by decide⟩
set_option maxRecDepth 20000 in
theorem q_S_scan : MOk R_S y_S_scan b_S_scan 6 (some .int) 3 := ⟨k_S_scan, tb_in 483 (by rfl) rfl, tb_in 484 (by rfl) rfl, in_S, ⟨by decide +kernel, by decide +kernel, by decide +kernel, by decide +kernel⟩, by decide⟩
set_option maxRecDepth 20000 in
theorem q_S_resume : MOk R_S y_S_resume b_S_resume 3 (some .int) 1 := ⟨k_S_resume, tb_in 500 (by rfl) rfl, tb_in 501 (by rfl) rfl, in_S, ⟨by decide +kernel, by decide +kernel, by decide +kernel, by decide +kernel⟩, by decide⟩
set_option maxRecDepth 20000 in
theorem q_S_value : MOk R_S y_S_value b_S_value 1 (some .int) 0 := ⟨k_S_value, tb_in 504 (by rfl) rfl, tb_in 505 (by rfl) rfl, in_S, ⟨by decide +kernel, by decide +kernel, by decide +kernel, by decide +kernel⟩, by decide⟩
set_option maxRecDepth 20000 in
theorem q_S_commit : MOk R_S y_S_commit b_S_commit 5 (some .int) 1 := ⟨k_S_commit, tb_in 508 (by rfl) rfl, tb_in 509 (by rfl) rfl, in_S, ⟨by decide +kernel, by decide +kernel, by decide +kernel, by decide +kernel⟩, by decide⟩
set_option maxRecDepth 20000 in
theorem q_S_abort : MOk R_S y_S_abort b_S_abort 3 (some .int) 1 := ⟨k_S_abort, tb_in 521 (by rfl) rfl, tb_in 522 (by rfl) rfl, in_S, ⟨by decide +kernel, by decide +kernel, by decide +kernel, by decide +kernel⟩, by decide⟩
set_option maxRecDepth 20000 in
theorem q_S_save : MOk R_S y_S_save b_S_save 3 (some .int) 1 := ⟨k_S_save, tb_in 525 (by rfl) rfl, tb_in 526 (by rfl) rfl, in_S, ⟨by decide +kernel, by decide +kernel, by decide +kernel, by decide +kernel⟩, by decide⟩
set_option maxRecDepth 20000 in
theorem q_S_rollback : MOk R_S y_S_rollback b_S_rollback 5 (some .int) 2 := ⟨k_S_rollback, tb_in 529 (by rfl) rfl, tb_in 530 (by rfl) rfl, in_S, ⟨by decide +kernel, by decide +kernel, by decide +kernel, by decide +kernel⟩, by decide⟩
set_option maxRecDepth 20000 in
theorem q_S_write : MOk R_S y_S_write b_S_write 2 (some .boolean) 1 := ⟨k_S_write, tb_in 533 (by rfl) rfl, tb_in 534 (by rfl) rfl, in_S, ⟨by decide +kernel, by decide +kernel, by decide +kernel, by decide +kernel⟩, by decide⟩
set_option maxRecDepth 20000 in
theorem q_S_archive : MOk R_S y_S_archive b_S_archive 3 (some .int) 0 := ⟨k_S_archive, tb_in 537 (by rfl) rfl, tb_in 538 (by rfl) rfl, in_S, ⟨by decide +kernel, by decide +kernel, by decide +kernel, by decide +kernel⟩, by decide⟩
set_option maxRecDepth 20000 in
theorem q_S_crash : MOk R_S y_S_crash b_S_crash 5 (some .int) 1 := ⟨k_S_crash, tb_in 542 (by rfl) rfl, tb_in 543 (by rfl) rfl, in_S, ⟨by decide +kernel, by decide +kernel, by decide +kernel, by decide +kernel⟩, by decide⟩
set_option maxRecDepth 20000 in
theorem q_S_redo : MOk R_S y_S_redo b_S_redo 4 none 0 := ⟨k_S_redo, tb_in 547 (by rfl) rfl, tb_sel 19 (by rfl) rfl, in_S, ⟨by decide +kernel, by decide +kernel, by decide +kernel, by decide +kernel⟩, by decide⟩
set_option maxRecDepth 20000 in
theorem q_S_state : MOk R_S y_S_state b_S_state 3 (some .int) 1 := ⟨k_S_state, tb_in 550 (by rfl) rfl, tb_in 551 (by rfl) rfl, in_S, ⟨by decide +kernel, by decide +kernel, by decide +kernel, by decide +kernel⟩, by decide⟩
set_option maxRecDepth 20000 in
theorem q_S_parent : MOk R_S y_S_parent b_S_parent 3 (some .int) 1 := ⟨k_S_parent, tb_in 560 (by rfl) rfl, tb_in 561 (by rfl) rfl, in_S, ⟨by decide +kernel, by decide +kernel, by decide +kernel, by decide +kernel⟩, by decide⟩
set_option maxRecDepth 20000 in
theorem q_S_lock : MOk R_S y_S_lock b_S_lock 4 (some .int) 2 := ⟨k_S_lock, tb_in 564 (by rfl) rfl, tb_in 565 (by rfl) rfl, in_S, ⟨by decide +kernel, by decide +kernel, by decide +kernel, by decide +kernel⟩, by decide⟩
set_option maxRecDepth 20000 in
theorem q_S_waits : MOk R_S y_S_waits b_S_waits 4 (some .boolean) 2 := ⟨k_S_waits, tb_in 568 (by rfl) rfl, tb_in 569 (by rfl) rfl, in_S, ⟨by decide +kernel, by decide +kernel, by decide +kernel, by decide +kernel⟩, by decide⟩
set_option maxRecDepth 20000 in
theorem q_S_entry : MOk R_S y_S_entry b_S_entry 5 (some .int) 2 := ⟨k_S_entry, tb_in 572 (by rfl) rfl, tb_in 573 (by rfl) rfl, in_S, ⟨by decide +kernel, by decide +kernel, by decide +kernel, by decide +kernel⟩, by decide⟩
set_option maxRecDepth 20000 in
theorem q_S_log : MOk R_S y_S_log b_S_log 2 (some .int) 1 := ⟨k_S_log, tb_in 579 (by rfl) rfl, tb_in 580 (by rfl) rfl, in_S, ⟨by decide +kernel, by decide +kernel, by decide +kernel, by decide +kernel⟩, by decide⟩
set_option maxRecDepth 20000 in
theorem q_S_key : MOk R_S y_S_key b_S_key 3 (some .int) 2 := ⟨k_S_key, tb_in 583 (by rfl) rfl, tb_in 584 (by rfl) rfl, in_S, ⟨by decide +kernel, by decide +kernel, by decide +kernel, by decide +kernel⟩, by decide⟩
set_option maxRecDepth 20000 in
theorem q_S_frame : MOk R_S y_S_frame b_S_frame 3 (some .int) 1 := ⟨k_S_frame, tb_in 587 (by rfl) rfl, tb_in 588 (by rfl) rfl, in_S, ⟨by decide +kernel, by decide +kernel, by decide +kernel, by decide +kernel⟩, by decide⟩
set_option maxRecDepth 20000 in
theorem q_S_page : MOk R_S y_S_page b_S_page 2 (some .int) 1 := ⟨k_S_page, tb_in 591 (by rfl) rfl, tb_in 592 (by rfl) rfl, in_S, ⟨by decide +kernel, by decide +kernel, by decide +kernel, by decide +kernel⟩, by decide⟩
set_option maxRecDepth 20000 in
theorem q_RD_init : COk R_RD y_RD_init b_RD_init 2 1 := ⟨k_RD_init, tb_in 475 (by rfl) rfl, in_RD, rfl, ⟨by decide +kernel, by decide +kernel, by decide +kernel, by decide +kernel⟩, by decide⟩
set_option maxRecDepth 20000 in
theorem q_E_init : COk R_E y_E_init b_E_init 1 0 := ⟨k_E_init, tb_in 186 (by rfl) rfl, in_E, rfl, ⟨by decide +kernel, by decide +kernel, by decide +kernel, by decide +kernel⟩, by decide⟩
set_option maxRecDepth 20000 in
theorem q_E_set : MOk R_E y_E_set b_E_set 5 none 4 := ⟨k_E_set, tb_in 238 (by rfl) rfl, tb_in 239 (by rfl) rfl, in_E, ⟨by decide +kernel, by decide +kernel, by decide +kernel, by decide +kernel⟩, by decide⟩
set_option maxRecDepth 20000 in
theorem q_RG_init : COk R_RG y_RG_init b_RG_init 2 1 := ⟨k_RG_init, tb_in 262 (by rfl) rfl, in_RG, rfl, ⟨by decide +kernel, by decide +kernel, by decide +kernel, by decide +kernel⟩, by decide⟩
set_option maxRecDepth 20000 in
theorem q_P_init : COk R_P y_P_init b_P_init 2 1 := ⟨k_P_init, tb_in 40 (by rfl) rfl, in_P, rfl, ⟨by decide +kernel, by decide +kernel, by decide +kernel, by decide +kernel⟩, by decide⟩
set_option maxRecDepth 20000 in
theorem q_P_copy : MOk R_P y_P_copy b_P_copy 2 none 1 := ⟨k_P_copy, tb_in 364 (by rfl) rfl, tb_in 365 (by rfl) rfl, in_P, ⟨by decide +kernel, by decide +kernel, by decide +kernel, by decide +kernel⟩, by decide⟩
set_option maxRecDepth 20000 in
theorem q_P_has : MOk R_P y_P_has b_P_has 2 (some .boolean) 1 := ⟨k_P_has, tb_in 299 (by rfl) rfl, tb_in 300 (by rfl) rfl, in_P, ⟨by decide +kernel, by decide +kernel, by decide +kernel, by decide +kernel⟩, by decide⟩
set_option maxRecDepth 20000 in
theorem q_P_value : MOk R_P y_P_value b_P_value 2 (some .int) 1 := ⟨k_P_value, tb_in 373 (by rfl) rfl, tb_in 374 (by rfl) rfl, in_P, ⟨by decide +kernel, by decide +kernel, by decide +kernel, by decide +kernel⟩, by decide⟩
set_option maxRecDepth 20000 in
theorem q_P_set : MOk R_P y_P_set b_P_set 6 none 4 := ⟨k_P_set, tb_in 378 (by rfl) rfl, tb_in 379 (by rfl) rfl, in_P, ⟨by decide +kernel, by decide +kernel, by decide +kernel, by decide +kernel⟩, by decide⟩
set_option maxRecDepth 20000 in
theorem q_RP_init : COk R_RP y_RP_init b_RP_init 3 2 := ⟨k_RP_init, tb_in 458 (by rfl) rfl, in_RP, rfl, ⟨by decide +kernel, by decide +kernel, by decide +kernel, by decide +kernel⟩, by decide⟩
set_option maxRecDepth 20000 in
theorem q_RS_init : COk R_RS y_RS_init b_RS_init 3 2 := ⟨k_RS_init, tb_in 489 (by rfl) rfl, in_RS, rfl, ⟨by decide +kernel, by decide +kernel, by decide +kernel, by decide +kernel⟩, by decide⟩
set_option maxRecDepth 20000 in
theorem q_Q_live : MOk R_Q y_Q_live b_Q_live 1 (some .boolean) 0 := ⟨k_Q_live, tb_in 253 (by rfl) rfl, tb_in 254 (by rfl) rfl, in_Q, ⟨by decide +kernel, by decide +kernel, by decide +kernel, by decide +kernel⟩, by decide⟩
set_option maxRecDepth 20000 in
theorem q_T_init : COk R_T y_T_init b_T_init 4 3 := ⟨k_T_init, tb_in 131 (by rfl) rfl, in_T, rfl, ⟨by decide +kernel, by decide +kernel, by decide +kernel, by decide +kernel⟩, by decide⟩
set_option maxRecDepth 20000 in
theorem q_T_under : MOk R_T y_T_under b_T_under 3 (some .boolean) 1 := ⟨k_T_under, tb_in 312 (by rfl) rfl, tb_in 313 (by rfl) rfl, in_T, ⟨by decide +kernel, by decide +kernel, by decide +kernel, by decide +kernel⟩, by decide⟩
set_option maxRecDepth 20000 in
theorem q_T_liveChildren : MOk R_T y_T_liveChildren b_T_liveChildren 4 (some .long) 0 := ⟨k_T_liveChildren, tb_in 249 (by rfl) rfl, tb_in 250 (by rfl) rfl, in_T, ⟨by decide +kernel, by decide +kernel, by decide +kernel, by decide +kernel⟩, by decide⟩
set_option maxRecDepth 20000 in
theorem q_T_latest : SOk R_T y_T_latest b_T_latest 5 (some (.object "NestedStore$Entry")) 2 := ⟨k_T_latest, tb_in 434 (by rfl) rfl, in_T, ⟨by decide +kernel, by decide +kernel, by decide +kernel, by decide +kernel⟩, by decide⟩
set_option maxRecDepth 20000 in
theorem q_T_unlock : MOk R_T y_T_unlock b_T_unlock 2 none 0 := ⟨k_T_unlock, tb_in 448 (by rfl) rfl, tb_in 449 (by rfl) rfl, in_T, ⟨by decide +kernel, by decide +kernel, by decide +kernel, by decide +kernel⟩, by decide⟩
set_option maxRecDepth 20000 in
theorem q_T_inherit : MOk R_T y_T_inherit b_T_inherit 3 none 1 := ⟨k_T_inherit, tb_in 516 (by rfl) rfl, tb_in 517 (by rfl) rfl, in_T, ⟨by decide +kernel, by decide +kernel, by decide +kernel, by decide +kernel⟩, by decide⟩
set_option maxRecDepth 20000 in
theorem lm_S_47 : Cond.methodLink R_S 47 y_P_init ∈ tbG := tb_in 39 (by rfl) rfl
set_option maxRecDepth 20000 in
theorem lm_S_240 : Cond.methodLink R_S 240 y_S_find ∈ tbG := tb_in 112 (by rfl) rfl
set_option maxRecDepth 20000 in
theorem lm_S_53 : Cond.methodLink R_S 53 y_S_outside ∈ tbG := tb_in 116 (by rfl) rfl
set_option maxRecDepth 20000 in
theorem lm_S_112 : Cond.methodLink R_S 112 y_S_lacks ∈ tbG := tb_in 121 (by rfl) rfl
set_option maxRecDepth 20000 in
theorem lm_S_250 : Cond.methodLink R_S 250 y_S_last ∈ tbG := tb_in 126 (by rfl) rfl
set_option maxRecDepth 20000 in
theorem lm_S_253 : Cond.methodLink R_S 253 y_T_init ∈ tbG := tb_in 130 (by rfl) rfl
set_option maxRecDepth 20000 in
theorem lm_S_124 : Cond.methodLink R_S 124 y_S_note ∈ tbG := tb_in 180 (by rfl) rfl
set_option maxRecDepth 20000 in
theorem ln_S_98 : Cond.methodLinkNest R_S 98 y_E_init R_S ∈ nestW := List.mem_of_getElem? (i := 2) (by rfl)
set_option maxRecDepth 20000 in
theorem lm_S_102 : Cond.methodLink R_S 102 y_E_set ∈ tbG := tb_in 237 (by rfl) rfl
set_option maxRecDepth 20000 in
theorem lm_S_267 : Cond.methodLink R_S 267 y_S_bar ∈ tbG := tb_in 245 (by rfl) rfl
set_option maxRecDepth 20000 in
theorem lm_S_191 : Cond.methodLink R_S 191 y_T_liveChildren ∈ tbG := tb_in 248 (by rfl) rfl
set_option maxRecDepth 20000 in
theorem lm_T_47 : Cond.methodLink R_T 47 y_Q_live ∈ tbG := tb_in 252 (by rfl) rfl
set_option maxRecDepth 20000 in
theorem ln_S_272 : Cond.methodLinkNest R_S 272 y_RG_init R_S ∈ nestW := List.mem_of_getElem? (i := 3) (by rfl)
set_option maxRecDepth 20000 in
theorem lm_S_273 : Cond.methodLink R_S 273 y_S_make ∈ tbG := tb_in 272 (by rfl) rfl
set_option maxRecDepth 20000 in
theorem ln_RD_15 : Cond.methodLinkNest R_RD 15 y_S_there R_S ∈ nestW := List.mem_of_getElem? (i := 4) (by rfl)
set_option maxRecDepth 20000 in
theorem lm_S_64 : Cond.methodLink R_S 64 y_S_at ∈ tbG := tb_in 290 (by rfl) rfl
set_option maxRecDepth 20000 in
theorem lm_S_60 : Cond.methodLink R_S 60 y_S_place ∈ tbG := tb_in 294 (by rfl) rfl
set_option maxRecDepth 20000 in
theorem lm_S_68 : Cond.methodLink R_S 68 y_P_has ∈ tbG := tb_in 298 (by rfl) rfl
set_option maxRecDepth 20000 in
theorem ln_RD_19 : Cond.methodLinkNest R_RD 19 y_S_next R_S ∈ nestW := List.mem_of_getElem? (i := 5) (by rfl)
set_option maxRecDepth 20000 in
theorem lm_S_72 : Cond.methodLink R_S 72 y_S_there ∈ tbG := tb_in 306 (by rfl) rfl
set_option maxRecDepth 20000 in
theorem ln_RD_23 : Cond.methodLinkNest R_RD 23 y_S_seek R_S ∈ nestW := List.mem_of_getElem? (i := 6) (by rfl)
set_option maxRecDepth 20000 in
theorem lm_S_178 : Cond.methodLink R_S 178 y_T_under ∈ tbG := tb_in 311 (by rfl) rfl
set_option maxRecDepth 20000 in
theorem ln_RG_15 : Cond.methodLinkNest R_RG 15 y_S_there R_S ∈ nestW := List.mem_of_getElem? (i := 7) (by rfl)
set_option maxRecDepth 20000 in
theorem ln_RG_19 : Cond.methodLinkNest R_RG 19 y_S_next R_S ∈ nestW := List.mem_of_getElem? (i := 8) (by rfl)
set_option maxRecDepth 20000 in
theorem ln_RG_23 : Cond.methodLinkNest R_RG 23 y_S_seek R_S ∈ nestW := List.mem_of_getElem? (i := 9) (by rfl)
set_option maxRecDepth 20000 in
theorem ln_RP_18 : Cond.methodLinkNest R_RP 18 y_S_there R_S ∈ nestW := List.mem_of_getElem? (i := 10) (by rfl)
set_option maxRecDepth 20000 in
theorem ln_RP_22 : Cond.methodLinkNest R_RP 22 y_S_next R_S ∈ nestW := List.mem_of_getElem? (i := 11) (by rfl)
set_option maxRecDepth 20000 in
theorem ln_RP_26 : Cond.methodLinkNest R_RP 26 y_S_seek R_S ∈ nestW := List.mem_of_getElem? (i := 12) (by rfl)
set_option maxRecDepth 20000 in
theorem ln_RS_18 : Cond.methodLinkNest R_RS 18 y_S_there R_S ∈ nestW := List.mem_of_getElem? (i := 13) (by rfl)
set_option maxRecDepth 20000 in
theorem ln_RS_22 : Cond.methodLinkNest R_RS 22 y_S_seek R_S ∈ nestW := List.mem_of_getElem? (i := 14) (by rfl)
set_option maxRecDepth 20000 in
theorem ln_RS_26 : Cond.methodLinkNest R_RS 26 y_S_next R_S ∈ nestW := List.mem_of_getElem? (i := 15) (by rfl)
set_option maxRecDepth 20000 in
theorem ln_RD_27 : Cond.methodLinkNest R_RD 27 y_S_update R_S ∈ nestW := List.mem_of_getElem? (i := 16) (by rfl)
set_option maxRecDepth 20000 in
theorem lm_S_115 : Cond.methodLink R_S 115 y_S_touch ∈ tbG := tb_in 355 (by rfl) rfl
set_option maxRecDepth 20000 in
theorem lm_S_92 : Cond.methodLink R_S 92 y_S_bring ∈ tbG := tb_in 359 (by rfl) rfl
set_option maxRecDepth 20000 in
theorem lm_S_84 : Cond.methodLink R_S 84 y_P_copy ∈ tbG := tb_in 363 (by rfl) rfl
set_option maxRecDepth 20000 in
theorem lm_S_131 : Cond.methodLink R_S 131 y_P_value ∈ tbG := tb_in 372 (by rfl) rfl
set_option maxRecDepth 20000 in
theorem lm_P_29 : Cond.methodLink R_P 29 y_P_has ∈ tbG := tb_in 376 (by rfl) rfl
set_option maxRecDepth 20000 in
theorem lm_S_151 : Cond.methodLink R_S 151 y_P_set ∈ tbG := tb_in 377 (by rfl) rfl
set_option maxRecDepth 20000 in
theorem ln_RG_27 : Cond.methodLinkNest R_RG 27 y_S_touch R_S ∈ nestW := List.mem_of_getElem? (i := 17) (by rfl)
set_option maxRecDepth 20000 in
theorem ln_RG_31 : Cond.methodLinkNest R_RG 31 y_S_at R_S ∈ nestW := List.mem_of_getElem? (i := 18) (by rfl)
set_option maxRecDepth 20000 in
theorem lm_RG_34 : Cond.methodLink R_RG 34 y_P_value ∈ tbG := tb_in 388 (by rfl) rfl
set_option maxRecDepth 20000 in
theorem ln_RP_30 : Cond.methodLinkNest R_RP 30 y_S_update R_S ∈ nestW := List.mem_of_getElem? (i := 19) (by rfl)
set_option maxRecDepth 20000 in
theorem ln_RS_30 : Cond.methodLinkNest R_RS 30 y_S_touch R_S ∈ nestW := List.mem_of_getElem? (i := 20) (by rfl)
set_option maxRecDepth 20000 in
theorem ln_RS_34 : Cond.methodLinkNest R_RS 34 y_S_at R_S ∈ nestW := List.mem_of_getElem? (i := 21) (by rfl)
set_option maxRecDepth 20000 in
theorem lm_RS_37 : Cond.methodLink R_RS 37 y_P_value ∈ tbG := tb_in 402 (by rfl) rfl
set_option maxRecDepth 20000 in
theorem lm_S_263 : Cond.methodLink R_S 263 y_S_circles ∈ tbG := tb_in 404 (by rfl) rfl
set_option maxRecDepth 20000 in
theorem lm_S_220 : Cond.methodLink R_S 220 y_S_reach ∈ tbG := tb_in 408 (by rfl) rfl
set_option maxRecDepth 20000 in
theorem lm_S_208 : Cond.methodLink R_S 208 y_S_leads ∈ tbG := tb_in 412 (by rfl) rfl
set_option maxRecDepth 20000 in
theorem lm_S_186 : Cond.methodLink R_S 186 y_Q_live ∈ tbG := tb_in 416 (by rfl) rfl
set_option maxRecDepth 20000 in
theorem lm_S_224 : Cond.methodLink R_S 224 y_S_fall ∈ tbG := tb_in 425 (by rfl) rfl
set_option maxRecDepth 20000 in
theorem lm_S_228 : Cond.methodLink R_S 228 y_S_back ∈ tbG := tb_in 429 (by rfl) rfl
set_option maxRecDepth 20000 in
theorem ln_S_166 : Cond.methodLinkNest R_S 166 y_T_latest R_S ∈ nestW := List.mem_of_getElem? (i := 22) (by rfl)
set_option maxRecDepth 20000 in
theorem lm_T_67 : Cond.methodLink R_T 67 y_T_latest ∈ tbG := tb_in 436 (by rfl) rfl
set_option maxRecDepth 20000 in
theorem lm_S_170 : Cond.methodLink R_S 170 y_S_undo ∈ tbG := tb_in 437 (by rfl) rfl
set_option maxRecDepth 20000 in
theorem lm_S_237 : Cond.methodLink R_S 237 y_T_unlock ∈ tbG := tb_in 447 (by rfl) rfl
set_option maxRecDepth 20000 in
theorem ln_S_279 : Cond.methodLinkNest R_S 279 y_RP_init R_S ∈ nestW := List.mem_of_getElem? (i := 23) (by rfl)
set_option maxRecDepth 20000 in
theorem ln_S_284 : Cond.methodLinkNest R_S 284 y_RD_init R_S ∈ nestW := List.mem_of_getElem? (i := 24) (by rfl)
set_option maxRecDepth 20000 in
theorem ln_S_287 : Cond.methodLinkNest R_S 287 y_RS_init R_S ∈ nestW := List.mem_of_getElem? (i := 25) (by rfl)
set_option maxRecDepth 20000 in
theorem lm_S_300 : Cond.methodLink R_S 300 y_T_inherit ∈ tbG := tb_in 515 (by rfl) rfl
set_option maxRecDepth 20000 in
theorem lm_S_306 : Cond.methodLink R_S 306 y_S_write ∈ tbG := tb_in 540 (by rfl) rfl
set_option maxRecDepth 20000 in
theorem lm_S_312 : Cond.methodLink R_S 312 y_S_redo ∈ tbG := tb_in 545 (by rfl) rfl
