/-! what the model's state becomes: pages and the log -/
/-- keys a .. b - 1 from the frames to the disk -/
def cpd (M : MSt) (a b : Int) (f : Nat) (i : Int) : Int := if f = 1 ∧ a ≤ i ∧ i < b then M 4 i else if f = 2 ∧ a ≤ i ∧ i < b then M 5 i else M f i
/-- and back -/
def cpu (M : MSt) (a b : Int) (f : Nat) (i : Int) : Int := if f = 4 ∧ a ≤ i ∧ i < b then M 1 i else if f = 5 ∧ a ≤ i ∧ i < b then M 2 i else M f i
theorem cpd_0 (M : MSt) (a : Int) : cpd M a a = M := by
  funext f i
  unfold cpd
  rw [if_neg (by omega), if_neg (by omega)]
theorem cpd_s (M : MSt) {a b : Int} (h : a ≤ b) : up (up (cpd M a b) 1 b (M 4 b)) 2 b (M 5 b) = cpd M a (b + 1) := by
  funext f i
  grind [up, cpd]
theorem cpu_0 (M : MSt) (a : Int) : cpu M a a = M := by
  funext f i
  unfold cpu
  rw [if_neg (by omega), if_neg (by omega)]
theorem cpu_s (M : MSt) {a b : Int} (h : a ≤ b) : up (up (cpu M a b) 4 b (M 1 b)) 5 b (M 2 b) = cpu M a (b + 1) := by
  funext f i
  grind [up, cpu]
noncomputable def usd (M : MSt) : Int := cnt (fun q => M 7 q = 1) 8
/-- the page touched least lately, of the first n -/
def oldN (M : MSt) : Nat → Int
  | 0 => -1
  | n + 1 => if M 7 (n : Int) = 1 ∧ (oldN M n < 0 ∨ M 9 (n : Int) < M 9 (oldN M n)) then (n : Int) else oldN M n
def old (M : MSt) (b : Int) : Int := oldN M b.toNat
theorem old_0 (M : MSt) : old M 0 = -1 := rfl
theorem old_s {M : MSt} {b : Int} (h : 0 ≤ b) : old M (b + 1) = if M 7 b = 1 ∧ (old M b < 0 ∨ M 9 b < M 9 (old M b)) then b else old M b := by
  obtain ⟨n, rfl⟩ := Int.eq_ofNat_of_zero_le h
  show oldN M (Int.toNat ((n : Int) + 1)) = _
  rw [show Int.toNat ((n : Int) + 1) = n + 1 from by omega]
  show _ = if _ then _ else _
  unfold old
  rw [show Int.toNat (n : Int) = n from by omega]
  rfl
theorem oldN_bd {M : MSt} (n : Nat) : -1 ≤ oldN M n ∧ oldN M n < (n : Int) ∧ (oldN M n < 0 ↔ cntN (fun q => M 7 q = 1) n = 0) ∧ (0 ≤ oldN M n → M 7 (oldN M n) = 1) := by
  induction n with
  | zero => exact ⟨by show (-1 : Int) ≤ -1; decide, by show (-1 : Int) < 0; decide, ⟨fun _ => rfl, fun _ => by show (-1 : Int) < 0; decide⟩, fun h => absurd h (by show ¬ (0 : Int) ≤ -1; decide)⟩
  | succ n ih =>
    obtain ⟨h1, h2, h3, h4⟩ := ih
    have hc := cntN_bd (P := fun q => M 7 q = 1) n
    unfold oldN cntN
    by_cases h : M 7 (n : Int) = 1
    · rw [b01_t (P := M 7 (n : Int) = 1) h]
      split
      · exact ⟨by omega, by omega, ⟨fun _ => by omega, fun _ => by omega⟩, fun _ => h⟩
      · exact ⟨by omega, by omega, ⟨fun _ => by omega, fun _ => by omega⟩, h4⟩
    · rw [b01_f (P := M 7 (n : Int) = 1) h, if_neg (fun q => h q.1)]
      exact ⟨by omega, by omega, ⟨fun _ => by omega, fun _ => by omega⟩, h4⟩
theorem old_bd {M : MSt} {b : Int} (h : 0 ≤ b) : -1 ≤ old M b ∧ old M b < b ∧ (old M b < 0 ↔ cnt (fun q => M 7 q = 1) b = 0) ∧ (0 ≤ old M b → M 7 (old M b) = 1) := by
  obtain ⟨n, rfl⟩ := Int.eq_ofNat_of_zero_le h
  exact oldN_bd n
def wrt (M : MSt) (p : Int) : MSt := up (up (cpd (up M 13 0 (if M 13 0 < M 6 p then M 6 p else M 13 0)) (4 * p) (4 * p + 4)) 3 p (M 6 p)) 8 p 0
def evc (M : MSt) (q : Int) : MSt := up (if M 8 q = 1 then wrt M q else M) 7 q 0
def ldp (M : MSt) (p : Int) : MSt := up (up (up (cpu M (4 * p) (4 * p + 4)) 6 p (M 3 p)) 8 p 0) 7 p 1
def clk (M : MSt) (f : Nat) (i : Int) : Int := up M 10 0 (M 10 0 + 1) f i
def tch0 (M : MSt) (p : Int) [Decidable (usd M = M 0 0)] : MSt := if M 7 p = 1 then clk M else ldp (if usd M = M 0 0 then evc (clk M) (old M 8) else clk M) p
noncomputable def tch (M : MSt) (p : Int) : MSt := up (@tch0 M p (Classical.propDecidable _)) 9 p (M 10 0 + 1)
def bcm (M : MSt) (k now v num : Int) : MSt := up (up (up (up M 4 k now) 5 k (if now = 0 then 0 else v)) 6 (k / 4) num) 8 (k / 4) 1
def app (M : MSt) (w t a : Int) : MSt := up (up (up (up (up (up (up (up (up M 14 (M 12 0) w) 15 (M 12 0) t) 16 (M 12 0) a) 17 (M 12 0) 0) 18 (M 12 0) 0) 19 (M 12 0) 0) 20 (M 12 0) 0) 21 (M 12 0) 0) 12 0 (M 12 0 + 1)
noncomputable def s_upd (M : MSt) (t k now v : Int) : MSt :=
  bcm (up (up (up (up (tch (app M 2 t k) (k / 4)) 18 (M 12 0) ((tch (app M 2 t k) (k / 4)) 4 k)) 19 (M 12 0) ((tch (app M 2 t k) (k / 4)) 5 k)) 20 (M 12 0) now) 21 (M 12 0) (if now = 0 then 0 else v)) k now v (M 11 0 + M 12 0 + 1)
noncomputable def s_und (M : MSt) (t u : Int) : MSt :=
  bcm (tch (up (up (up (app M 3 t (M 16 u)) 17 (M 12 0) (M 11 0 + u + 1)) 20 (M 12 0) (M 18 u)) 21 (M 12 0) (M 19 u)) (M 16 u / 4)) (M 16 u) (M 18 u) (M 19 u) (M 11 0 + M 12 0 + 1)
def PgOk (M : MSt) : Prop := (0 ≤ M 10 0 ∧ M 10 0 ≤ 1000000) ∧ (1 ≤ M 0 0 ∧ M 0 0 ≤ 8)

