/-! bits of a page -/
def bt (th k : Int) : Prop := Nat.testBit th.toNat (k % 4).toNat = true
def sb (th k now : Int) : Int := if now = 0 then ((th.toNat &&& (15 - 2 ^ (k % 4).toNat) : Nat) : Int) else ((th.toNat ||| 2 ^ (k % 4).toNat : Nat) : Int)
theorem has_0 : ∀ th : Nat, th < 16 → ∀ k : Nat, k < 32 → (Int32.ofInt (th : Int) >>> ((Int32.ofInt (k : Int) &&& Int32.ofInt 3) &&& 31)) &&& Int32.ofInt 1 = Int32.ofInt (if Nat.testBit th (k % 4) = true then 1 else 0) := by decide +kernel
theorem bt_nat (th k : Nat) : bt th k ↔ Nat.testBit th (k % 4) = true := by
  unfold bt
  rw [show ((th : Int)).toNat = th from by omega, show (((k : Int)) % 4).toNat = k % 4 from by omega]
theorem has_e {th k : Int} (ht : 0 ≤ th ∧ th < 16) (hk : 0 ≤ k ∧ k ≤ 31) : (Int32.ofInt th >>> ((Int32.ofInt k &&& Int32.ofInt 3) &&& 31)) &&& Int32.ofInt 1 = Int32.ofInt (b01 (bt th k)) := by
  have h := has_0 th.toNat (by omega) k.toNat (by omega)
  have hb := bt_nat th.toNat k.toNat
  rw [show ((th.toNat : Nat) : Int) = th from by omega, show ((k.toNat : Nat) : Int) = k from by omega] at h hb
  rw [h]
  by_cases q : Nat.testBit th.toNat (k.toNat % 4) = true
  · rw [if_pos q, b01_t (hb.mpr q)]
  · rw [if_neg q, b01_f (fun z => q (hb.mp z))]
theorem and3_0 : ∀ k : Nat, k < 32 → Int32.ofInt (k : Int) &&& Int32.ofInt 3 = Int32.ofInt (((k % 4 : Nat) : Int)) := by decide +kernel
theorem and3 {k : Int} (hk : 0 ≤ k ∧ k ≤ 31) : Int32.ofInt k &&& Int32.ofInt 3 = Int32.ofInt (k % 4) := by
  have h := and3_0 k.toNat (by omega)
  rw [show ((k.toNat : Nat) : Int) = k from by omega, show ((k.toNat % 4 : Nat) : Int) = k % 4 from by omega] at h
  exact h
theorem bit_0 : ∀ k : Nat, k < 32 → Int32.ofInt 1 <<< ((Int32.ofInt (k : Int) &&& Int32.ofInt 3) &&& 31) = Int32.ofInt ((2 ^ (k % 4) : Nat) : Int) := by decide +kernel
theorem bit_e {k : Int} (hk : 0 ≤ k ∧ k ≤ 31) : Int32.ofInt 1 <<< ((Int32.ofInt k &&& Int32.ofInt 3) &&& 31) = Int32.ofInt ((2 ^ (k % 4).toNat : Nat) : Int) := by
  have h := bit_0 k.toNat (by omega)
  rw [show ((k.toNat : Nat) : Int) = k from by omega] at h
  rw [h, show (k % 4).toNat = k.toNat % 4 from by omega]
theorem set_0 : ∀ th : Nat, th < 16 → ∀ k : Nat, k < 4 → Int32.ofInt (th : Int) ||| Int32.ofInt ((2 ^ k : Nat) : Int) = Int32.ofInt ((th ||| 2 ^ k : Nat) : Int) ∧ Int32.ofInt (th : Int) &&& (Int32.ofInt ((2 ^ k : Nat) : Int) ^^^ Int32.ofInt (-1)) = Int32.ofInt ((th &&& (15 - 2 ^ k) : Nat) : Int) := by decide +kernel
theorem set_or {th k : Int} (ht : 0 ≤ th ∧ th < 16) : Int32.ofInt th ||| Int32.ofInt ((2 ^ (k % 4).toNat : Nat) : Int) = Int32.ofInt (sb th k 1) := by
  have h := (set_0 th.toNat (by omega) (k % 4).toNat (by omega)).1
  rw [show ((th.toNat : Nat) : Int) = th from by omega] at h
  rw [h, sb, if_neg (by decide)]
theorem set_and {th k : Int} (ht : 0 ≤ th ∧ th < 16) : Int32.ofInt th &&& (Int32.ofInt ((2 ^ (k % 4).toNat : Nat) : Int) ^^^ Int32.ofInt (-1)) = Int32.ofInt (sb th k 0) := by
  have h := (set_0 th.toNat (by omega) (k % 4).toNat (by omega)).2
  rw [show ((th.toNat : Nat) : Int) = th from by omega] at h
  rw [h, sb, if_pos rfl]
theorem sb_0 : ∀ th : Nat, th < 16 → ∀ k : Nat, k < 4 → (th &&& (15 - 2 ^ k)) < 16 ∧ (th ||| 2 ^ k) < 16 ∧ ∀ j : Nat, j < 4 → (Nat.testBit (th &&& (15 - 2 ^ k)) j = if j = k then false else Nat.testBit th j) ∧ (Nat.testBit (th ||| 2 ^ k) j = if j = k then true else Nat.testBit th j) := by decide +kernel
theorem sb_bd {th k now : Int} (ht : 0 ≤ th ∧ th < 16) (hk : 0 ≤ k) : 0 ≤ sb th k now ∧ sb th k now < 16 := by
  have h := sb_0 th.toNat (by omega) (k % 4).toNat (by omega)
  unfold sb
  split
  · have := h.1; omega
  · have := h.2.1; omega
theorem sb_bt {th k now j : Int} (ht : 0 ≤ th ∧ th < 16) (hk : 0 ≤ k) (hj : 0 ≤ j) (hn : now = 0 ∨ now = 1) : bt (sb th k now) j ↔ if j % 4 = k % 4 then now = 1 else bt th j := by
  have h := (sb_0 th.toNat (by omega) (k % 4).toNat (by omega)).2.2 (j % 4).toNat (by omega)
  have e : (j % 4).toNat = (k % 4).toNat ↔ j % 4 = k % 4 := by omega
  unfold bt sb
  rcases hn with rfl | rfl
  · rw [if_pos rfl, show ∀ n : Nat, ((n : Int)).toNat = n from fun n => by omega, h.1]
    by_cases q : j % 4 = k % 4
    · rw [if_pos q, if_pos (e.mpr q)]; simp
    · rw [if_neg q, if_neg (fun z => q (e.mp z))]
  · rw [if_neg (by decide), show ∀ n : Nat, ((n : Int)).toNat = n from fun n => by omega, h.2]
    by_cases q : j % 4 = k % 4
    · rw [if_pos q, if_pos (e.mpr q)]; simp
    · rw [if_neg q, if_neg (fun z => q (e.mp z))]
/-! where a page is -/
def plN (N : MSt) (p : Int) : Nat → Int → Int
  | 0, _ => -1
  | n + 1, i => if N 10 i = p then i else plN N p n (i + 1)
def pl (N : MSt) (p : Int) : Int := plN N p (N 1 0).toNat 0
theorem plN_sp {N : MSt} {p : Int} : ∀ (n : Nat) (i : Int), (plN N p n i = -1 ∧ ∀ j, i ≤ j → j < i + n → N 10 j ≠ p) ∨ (i ≤ plN N p n i ∧ plN N p n i < i + n ∧ N 10 (plN N p n i) = p) := by
  intro n
  induction n with
  | zero => exact fun i => Or.inl ⟨rfl, fun j a b => by omega⟩
  | succ n ih =>
    intro i
    unfold plN
    by_cases h : N 10 i = p
    · rw [if_pos h]
      exact Or.inr ⟨by omega, by omega, h⟩
    · rw [if_neg h]
      rcases ih (i + 1) with ⟨a, b⟩ | ⟨a, b, c⟩
      · refine Or.inl ⟨a, fun j q1 q2 => ?_⟩
        by_cases e : j = i
        · rw [e]; exact h
        · exact b j (by omega) (by omega)
      · exact Or.inr ⟨by omega, by omega, c⟩
theorem pl_sp {N : MSt} {p : Int} (h : 0 ≤ N 1 0) : (pl N p = -1 ∧ ∀ j, 0 ≤ j → j < N 1 0 → N 10 j ≠ p) ∨ (0 ≤ pl N p ∧ pl N p < N 1 0 ∧ N 10 (pl N p) = p) := by
  rcases plN_sp (N := N) (p := p) (N 1 0).toNat 0 with ⟨a, b⟩ | ⟨a, b, c⟩
  · exact Or.inl ⟨a, fun j q1 q2 => b j q1 (by omega)⟩
  · exact Or.inr ⟨a, by unfold pl; omega, c⟩
def PgV (th vals ls : Int → Int) (mt mv ml : Int → Int) (p : Int) : Prop := (0 ≤ th p ∧ th p < 16) ∧ ls p = ml p ∧ ∀ k, 4 * p ≤ k → k < 4 * p + 4 → mt k = b01 (bt (th p) k) ∧ mv k = if mt k = 1 then vals k else 0
def SimP (N M : MSt) : Prop :=
  (N 1 0 = usd M ∧ N 2 0 = M 0 0 ∧ N 5 0 = M 13 0) ∧
  (∀ i, 0 ≤ i → i < N 1 0 → (0 ≤ N 10 i ∧ N 10 i < 8) ∧ M 7 (N 10 i) = 1) ∧
  (∀ i j, 0 ≤ i → i < j → j < N 1 0 → M 9 (N 10 i) < M 9 (N 10 j)) ∧
  (∀ p, 0 ≤ p → p < 8 → (M 7 p = 0 ∨ M 7 p = 1) ∧ (M 7 p = 1 → (∃ i, 0 ≤ i ∧ i < N 1 0 ∧ N 10 i = p) ∧ M 9 p ≤ M 10 0)) ∧
  (∀ p, 0 ≤ p → p < 8 → PgV (N 11) (N 14) (N 12) (M 1) (M 2) (M 3) p) ∧
  (∀ p, 0 ≤ p → p < 8 → M 7 p = 1 → PgV (N 15) (N 18) (N 16) (M 4) (M 5) (M 6) p ∧ N 17 p = M 8 p)
theorem SimP.fr {N M : MSt} (h : SimP N M) : 0 ≤ N 1 0 ∧ N 1 0 ≤ 8 := by
  rw [h.1.1]
  exact cnt_bd (by omega)
theorem SimP.pl {N M : MSt} (h : SimP N M) {p : Int} (h0 : 0 ≤ p) (h1 : p < 8) : (pl N p = -1 ∧ M 7 p = 0) ∨ ((0 ≤ pl N p ∧ pl N p < N 1 0 ∧ N 10 (pl N p) = p) ∧ M 7 p = 1) := by
  rcases pl_sp (p := p) h.fr.1 with ⟨a, b⟩ | ⟨a, b, c⟩
  · rcases (h.2.2.2.1 p h0 h1).1 with q | q
    · exact Or.inl ⟨a, q⟩
    · obtain ⟨i, q1, q2, q3⟩ := ((h.2.2.2.1 p h0 h1).2 q).1
      exact absurd q3 (b i q1 q2)
  · have := (h.2.1 _ a b).2
    rw [c] at this
    exact Or.inr ⟨⟨a, b, c⟩, this⟩
theorem SimP.thD {N M : MSt} (h : SimP N M) {k : Int} (h0 : 0 ≤ k ∧ k ≤ 31) (hf : M 7 (k / 4) = 0) : thr M k = b01 (bt (N 11 (k / 4)) k) := by
  unfold thr
  rw [if_neg (by omega)]
  exact ((h.2.2.2.2.1 (k / 4) (by omega) (by omega)).2.2 k (by omega) (by omega)).1
theorem SimP.thR {N M : MSt} (h : SimP N M) {k : Int} (h0 : 0 ≤ k ∧ k ≤ 31) (hf : M 7 (k / 4) = 1) : thr M k = b01 (bt (N 15 (k / 4)) k) := by
  unfold thr
  rw [if_pos hf]
  exact ((h.2.2.2.2.2 (k / 4) (by omega) (by omega) hf).1.2.2 k (by omega) (by omega)).1
theorem thr_01 {N M : MSt} (h : SimP N M) {k : Int} (h0 : 0 ≤ k ∧ k ≤ 31) : thr M k = 0 ∨ thr M k = 1 := by
  rcases (h.2.2.2.1 (k / 4) (by omega) (by omega)).1 with q | q
  · rw [h.thD h0 q]; exact b01_or _
  · rw [h.thR h0 q]; exact b01_or _

