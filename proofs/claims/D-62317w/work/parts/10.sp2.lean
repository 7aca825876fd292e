/-! which fields a touch may change -/
def pgF (f : Nat) : Bool := f == 13 || f == 1 || f == 2 || f == 3 || f == 4 || f == 5 || f == 6 || f == 7 || f == 8 || f == 9 || f == 10
theorem wrt_o {M : MSt} {p i : Int} {f : Nat} (h : pgF f = false) : wrt M p f i = M f i := by
  simp only [pgF, Bool.or_eq_false_iff, beq_eq_false_iff_ne, ne_eq] at h
  unfold wrt
  grind [up, cpd]
theorem evc_o {M : MSt} {p i : Int} {f : Nat} (h : pgF f = false) : evc M p f i = M f i := by
  have hw := wrt_o (M := M) (p := p) (i := i) h
  simp only [pgF, Bool.or_eq_false_iff, beq_eq_false_iff_ne, ne_eq] at h
  unfold evc
  grind [up]
theorem ldp_o {M : MSt} {p i : Int} {f : Nat} (h : pgF f = false) : ldp M p f i = M f i := by
  simp only [pgF, Bool.or_eq_false_iff, beq_eq_false_iff_ne, ne_eq] at h
  unfold ldp
  grind [up, cpu]
theorem clk_o {M : MSt} {i : Int} {f : Nat} (h : pgF f = false) : clk M f i = M f i := by
  simp only [pgF, Bool.or_eq_false_iff, beq_eq_false_iff_ne, ne_eq] at h
  unfold clk
  grind [up]
theorem tch_o {M : MSt} {p i : Int} {f : Nat} (h : pgF f = false) : tch M p f i = M f i := by
  have h1 := clk_o (M := M) (i := i) h
  have h2 := evc_o (M := clk M) (p := old M 8) (i := i) h
  have h3 := ldp_o (M := clk M) (p := p) (i := i) h
  have h4 := ldp_o (M := evc (clk M) (old M 8)) (p := p) (i := i) h
  simp only [pgF, Bool.or_eq_false_iff, beq_eq_false_iff_ne, ne_eq] at h
  unfold tch tch0
  unfold up
  rw [if_neg (fun q => by omega)]
  split
  · exact h1
  · split
    · rw [h4, h2, h1]
    · rw [h3, h1]
theorem tch_frames (M : MSt) (p : Int) : tch M p 0 = M 0 := funext fun _ => tch_o rfl
theorem tch_base (M : MSt) (p : Int) : tch M p 11 = M 11 := funext fun _ => tch_o rfl
theorem tch_records (M : MSt) (p : Int) : tch M p 12 = M 12 := funext fun _ => tch_o rfl
theorem tch_kind (M : MSt) (p : Int) : tch M p 14 = M 14 := funext fun _ => tch_o rfl
theorem tch_by (M : MSt) (p : Int) : tch M p 15 = M 15 := funext fun _ => tch_o rfl
theorem tch_about (M : MSt) (p : Int) : tch M p 16 = M 16 := funext fun _ => tch_o rfl
theorem tch_of (M : MSt) (p : Int) : tch M p 17 = M 17 := funext fun _ => tch_o rfl
theorem tch_wasThere (M : MSt) (p : Int) : tch M p 18 = M 18 := funext fun _ => tch_o rfl
theorem tch_wasValue (M : MSt) (p : Int) : tch M p 19 = M 19 := funext fun _ => tch_o rfl
theorem tch_isThere (M : MSt) (p : Int) : tch M p 20 = M 20 := funext fun _ => tch_o rfl
theorem tch_isValue (M : MSt) (p : Int) : tch M p 21 = M 21 := funext fun _ => tch_o rfl
theorem tch_many (M : MSt) (p : Int) : tch M p 22 = M 22 := funext fun _ => tch_o rfl
theorem tch_state (M : MSt) (p : Int) : tch M p 23 = M 23 := funext fun _ => tch_o rfl
theorem tch_parent (M : MSt) (p : Int) : tch M p 24 = M 24 := funext fun _ => tch_o rfl
theorem tch_began (M : MSt) (p : Int) : tch M p 25 = M 25 := funext fun _ => tch_o rfl
theorem tch_locks (M : MSt) (p : Int) : tch M p 26 = M 26 := funext fun _ => tch_o rfl
theorem tch_asks (M : MSt) (p : Int) : tch M p 27 = M 27 := funext fun _ => tch_o rfl
theorem tch_first (M : MSt) (p : Int) : tch M p 28 = M 28 := funext fun _ => tch_o rfl
theorem tch_second (M : MSt) (p : Int) : tch M p 29 = M 29 := funext fun _ => tch_o rfl
theorem tch_wanted (M : MSt) (p : Int) : tch M p 30 = M 30 := funext fun _ => tch_o rfl
theorem tch_item (M : MSt) (p : Int) : tch M p 31 = M 31 := funext fun _ => tch_o rfl
theorem tch_mode (M : MSt) (p : Int) : tch M p 32 = M 32 := funext fun _ => tch_o rfl
theorem tch_lacks (M : MSt) (p : Int) : tch M p 33 = M 33 := funext fun _ => tch_o rfl
theorem tch_lackMode (M : MSt) (p : Int) : tch M p 34 = M 34 := funext fun _ => tch_o rfl
theorem tch_ahead (M : MSt) (p : Int) : tch M p 35 = M 35 := funext fun _ => tch_o rfl
theorem tch_back (M : MSt) (p : Int) : tch M p 36 = M 36 := funext fun _ => tch_o rfl
theorem tch_falls (M : MSt) (p : Int) : tch M p 37 = M 37 := funext fun _ => tch_o rfl
theorem tch_latest (M : MSt) (p : Int) : tch M p 38 = M 38 := funext fun _ => tch_o rfl

