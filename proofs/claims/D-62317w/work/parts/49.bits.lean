/-! sets of bits -/
def lb (w : Int64) (u : Int) : Prop := (0 ≤ u ∧ u < 64) ∧ w.toBitVec.getLsbD u.toNat = true
theorem lb_or (a b : Int64) (u : Int) : lb (a ||| b) u ↔ lb a u ∨ lb b u := by
  unfold lb
  rw [Int64.toBitVec_or, BitVec.getLsbD_or, Bool.or_eq_true]
  exact ⟨fun ⟨x, y⟩ => by rcases y with y | y; exact Or.inl ⟨x, y⟩; exact Or.inr ⟨x, y⟩, fun z => by rcases z with ⟨x, y⟩ | ⟨x, y⟩; exact ⟨x, Or.inl y⟩; exact ⟨x, Or.inr y⟩⟩
theorem lb_and (a b : Int64) (u : Int) : lb (a &&& b) u ↔ lb a u ∧ lb b u := by
  unfold lb
  rw [Int64.toBitVec_and, BitVec.getLsbD_and, Bool.and_eq_true]
  exact ⟨fun ⟨x, y, z⟩ => ⟨⟨x, y⟩, ⟨x, z⟩⟩, fun ⟨⟨x, y⟩, ⟨_, z⟩⟩ => ⟨x, y, z⟩⟩
theorem lb_not (a : Int64) (u : Int) : lb (a ^^^ (-1)) u ↔ (0 ≤ u ∧ u < 64) ∧ ¬ lb a u := by
  unfold lb
  rw [Int64.toBitVec_xor, BitVec.getLsbD_xor, show (-1 : Int64).toBitVec = BitVec.allOnes 64 from rfl, BitVec.getLsbD_allOnes]
  constructor
  · rintro ⟨x, y⟩
    refine ⟨x, fun z => ?_⟩
    rw [z.2, decide_eq_true (show u.toNat < 64 from by omega)] at y
    exact absurd y (by decide)
  · rintro ⟨x, y⟩
    refine ⟨x, ?_⟩
    rw [decide_eq_true (show u.toNat < 64 from by omega)]
    cases e : a.toBitVec.getLsbD u.toNat
    · rfl
    · exact absurd ⟨x, e⟩ y
theorem lb_ext {a b : Int64} (h : ∀ u, lb a u ↔ lb b u) : a = b := by
  apply Int64.toBitVec_inj.mp
  apply BitVec.eq_of_getLsbD_eq
  intro i hi
  have := h (i : Int)
  unfold lb at this
  rw [show ((i : Int)).toNat = i from by omega] at this
  have hr : (0 : Int) ≤ i ∧ (i : Int) < 64 := by omega
  cases e : a.toBitVec.getLsbD i <;> cases e2 : b.toBitVec.getLsbD i
  · rfl
  · exact absurd (this.mpr ⟨hr, e2⟩).2 (by rw [e]; decide)
  · exact absurd (this.mp ⟨hr, e⟩).2 (by rw [e2]; decide)
  · rfl
theorem lb_0 (u : Int) : ¬ lb 0 u := by
  unfold lb
  rw [show (0 : Int64).toBitVec = 0#64 from rfl, BitVec.getLsbD_zero]
  simp
theorem lb_z {a : Int64} : a = 0 ↔ ∀ u, ¬ lb a u := by
  constructor
  · rintro rfl; exact lb_0
  · intro h; exact lb_ext fun u => ⟨fun z => absurd z (h u), fun z => absurd z (lb_0 u)⟩
theorem sh_0 : ∀ t : Nat, t < 64 → ((1 : Int64) <<< ((Int32.ofInt (t : Int)).toInt64 &&& 63)).toBitVec = BitVec.twoPow 64 t := by decide +kernel
theorem lb_sh {t : Int} (h : 0 ≤ t ∧ t < 64) (u : Int) : lb ((1 : Int64) <<< ((Int32.ofInt t).toInt64 &&& 63)) u ↔ u = t := by
  have e := sh_0 t.toNat (by omega)
  rw [show ((t.toNat : Nat) : Int) = t from by omega] at e
  unfold lb
  rw [e, BitVec.getLsbD_twoPow]
  constructor
  · rintro ⟨x, y⟩
    simp only [Bool.and_eq_true, decide_eq_true_eq] at y
    omega
  · rintro rfl
    refine ⟨h, ?_⟩
    simp
    omega
theorem lb_1 (u : Int) : lb 1 u ↔ u = 0 := by
  unfold lb
  rw [show (1 : Int64).toBitVec = BitVec.twoPow 64 0 from rfl, BitVec.getLsbD_twoPow]
  constructor
  · rintro ⟨x, y⟩
    simp only [Bool.and_eq_true, decide_eq_true_eq] at y
    omega
  · rintro rfl
    exact ⟨by omega, rfl⟩
theorem sr_0 : ∀ t : Nat, t < 64 → (((Int32.ofInt (t : Int)).toInt64 &&& 63).toBitVec.smod 64#64).toNat = t := by decide +kernel
theorem lb_sr0 {a : Int64} {t : Int} (h : 0 ≤ t ∧ t < 64) : lb (a >>> ((Int32.ofInt t).toInt64 &&& 63)) 0 ↔ lb a t := by
  have e := sr_0 t.toNat (by omega)
  rw [show ((t.toNat : Nat) : Int) = t from by omega] at e
  unfold lb
  rw [Int64.toBitVec_shiftRight, BitVec.sshiftRight', show (64 : BitVec 64) = 64#64 from rfl, e, BitVec.getLsbD_sshiftRight]
  constructor
  · rintro ⟨x, y⟩
    refine ⟨h, ?_⟩
    simp at y
    rw [if_pos (by omega)] at y
    exact y
  · rintro ⟨x, y⟩
    refine ⟨by omega, ?_⟩
    simp
    rw [if_pos (by omega)]
    exact y
theorem lb_sr {a : Int64} {t : Int} (h : 0 ≤ t ∧ t < 64) : (a >>> ((Int32.ofInt t).toInt64 &&& 63)) &&& 1 = 1 ↔ lb a t := by
  rw [← lb_sr0 h]
  constructor
  · intro e
    have := (lb_and (a >>> ((Int32.ofInt t).toInt64 &&& 63)) 1 0)
    rw [e] at this
    exact (this.mp ((lb_1 0).mpr rfl)).1
  · intro e
    refine lb_ext fun u => ?_
    rw [lb_and, lb_1]
    exact ⟨fun z => z.2, fun z => ⟨by rw [z]; exact e, z⟩⟩
def cmI (a b : Int64) : Int := if a > b then 1 else if a = b then 0 else -1
theorem lcm_e (a b : Int64) : lg_cmp a b = Int32.ofInt (cmI a b) := by
  unfold lg_cmp cmI
  split
  · rfl
  · split <;> rfl
theorem cmI_0 {a b : Int64} : cmI a b = 0 ↔ a = b := by
  unfold cmI
  by_cases h : a > b
  · rw [if_pos h]
    exact ⟨fun z => absurd z (by decide), fun z => by subst z; exact absurd h (Int64.lt_irrefl)⟩
  · rw [if_neg h]
    by_cases e : a = b
    · rw [if_pos e]; exact ⟨fun _ => e, fun _ => rfl⟩
    · rw [if_neg e]; exact ⟨fun z => absurd z (by decide), fun z => absurd z e⟩
theorem cmI_r (a b : Int64) : InR (cmI a b) := by
  unfold cmI
  split
  · decide
  · split <;> decide

