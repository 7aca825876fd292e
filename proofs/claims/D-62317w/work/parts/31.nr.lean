theorem Vld.n99 {N : MSt} {tg : Nat} {v : Int} (h : Vld N tg v) : tg ≠ 99 := fun e => by rw [e] at h; exact h
section NRows
variable {X : Cx} {D : GD} {A : ASt} {N : MSt} {C : String} {g0 : GSt} {cc : ByteArray} {n lv : Nat} {rt : Option FieldType} {Q : Option Value → GSt → Prop} {pc nx tgt : Nat} {L L' : List (Nat × Value)} {G : List (Nat × Int64)} {st : List Value}
theorem n_in (k : ∀ g, Flat D A N g → V X (RelG D g) pc L G st) : V X (RelN D A N) pc L G st := fun H locs ls hS ⟨g, hR, hF⟩ hl => k g hF H locs ls hS hR hl
theorem n_out {g : GSt} (h : Flat D A N g) (k : V X (RelN D A N) pc L G st) : V X (RelG D g) pc L G st := V.mono (fun _ hR => ⟨g, hR, h⟩) k
theorem n_get {P : Prop} (h : ∀ g H, RelG D g H → Flat D A N g → P) (k : P → V X (RelN D A N) pc L G st) : V X (RelN D A N) pc L G st := V.get (fun H ⟨g, hR, hF⟩ => h g H hR hF) k
theorem n_cnt (k : ((0 ≤ N 50 0 ∧ N 50 0 ≤ 301) ∧ (0 ≤ N 51 0 ∧ N 51 0 ≤ 60)) → V X (RelN D A N) pc L G st) : V X (RelN D A N) pc L G st := n_get (fun _ _ _ hF => ⟨hF.2.2.2.2.2.1.1, hF.2.2.2.2.2.1.2.1⟩) k
theorem n_geti (o : OkG X D C cc n rt lv g0 Q) {i : Nat} {v : Int} (f : Nat) {tg : Nat} (hT : fTg f = tg) (ht : fTy (tK tg) (fSl f) = 0) (hr : fRt f = 0) (hf : Cond.fieldLink C i (clN (tK tg)) (clT (tK tg) (fSl f)).2.1 (clT (tK tg) (fSl f)).2.2.1 ∈ tbG) (hv : Vld N tg v) (d : dc cc pc (.getfield i) nx) (kk : InR (N f v) → V X (RelN D A N) nx L G (J (N f v) :: st)) (hn : pc + 3 = nx := by rfl) : V X (RelN D A N) pc L G (rq A tg v :: st) := by
  subst hT
  refine n_in fun g hF => ?_
  have h9 := hv.n99
  have tb := tb_tg f h9
  have e := (hF.2.2.2.2.2.2.1 f v h9 hv).1 hr
  rw [rq_s hv.nn]
  refine g_geti o (tK (fTg f)) (fSl f) (fSl f) rfl ⟨tb.2.2.2.2.2.2.2.2.1, tb.2.2.2.2.2.2.2.1⟩ tb.2.2.2.2.2.2.2.2.2.1 hf (hF.2.2.1 _ v tb.1 hv).1 ht d (fun hi => ?_) hn
  rw [e] at hi ⊢
  exact n_out hF (kk hi)
theorem n_getz (o : OkG X D C cc n rt lv g0 Q) {i : Nat} {v : Int} (f : Nat) {tg : Nat} (hT : fTg f = tg) (ht : fTy (tK tg) (fSl f) = 1) (hr : fRt f = 0) (hf : Cond.fieldLink C i (clN (tK tg)) (clT (tK tg) (fSl f)).2.1 (clT (tK tg) (fSl f)).2.2.1 ∈ tbG) (hv : Vld N tg v) (d : dc cc pc (.getfield i) nx) (kk : (N f v = 0 ∨ N f v = 1) → V X (RelN D A N) nx L G (J (N f v) :: st)) (hn : pc + 3 = nx := by rfl) : V X (RelN D A N) pc L G (rq A tg v :: st) := by
  subst hT
  refine n_in fun g hF => ?_
  have h9 := hv.n99
  have tb := tb_tg f h9
  have e := (hF.2.2.2.2.2.2.1 f v h9 hv).1 hr
  rw [rq_s hv.nn]
  refine g_getz o (tK (fTg f)) (fSl f) (fSl f) rfl ⟨tb.2.2.2.2.2.2.2.2.1, tb.2.2.2.2.2.2.2.1⟩ tb.2.2.2.2.2.2.2.2.2.1 hf (hF.2.2.1 _ v tb.1 hv).1 ht d (fun hi => ?_) hn
  rw [e] at hi ⊢
  exact n_out hF (kk hi)
theorem n_getr (o : OkG X D C cc n rt lv g0 Q) {i : Nat} {v : Int} (f tg' : Nat) {tg : Nat} (hT : fTg f = tg) (ht : fTy (tK tg) (fSl f) = 2) (hr : fRt f = tg') (hr0 : fRt f ≠ 0) (hf : Cond.fieldLink C i (clN (tK tg)) (clT (tK tg) (fSl f)).2.1 (clT (tK tg) (fSl f)).2.2.1 ∈ tbG) (hv : Vld N tg v) (d : dc cc pc (.getfield i) nx) (kk : Rok N tg' (N f v) → V X (RelN D A N) nx L G (rq A tg' (N f v) :: st)) (hn : pc + 3 = nx := by rfl) : V X (RelN D A N) pc L G (rq A tg v :: st) := by
  subst hT
  subst hr
  refine n_in fun g hF => ?_
  have h9 := hv.n99
  have tb := tb_tg f h9
  have e := (hF.2.2.2.2.2.2.1 f v h9 hv).2 hr0
  rw [rq_s hv.nn]
  refine g_getr o (tK (fTg f)) (fSl f) (fSl f) rfl ⟨tb.2.2.2.2.2.2.2.2.1, tb.2.2.2.2.2.2.2.1⟩ tb.2.2.2.2.2.2.2.2.2.1 hf (hF.2.2.1 _ v tb.1 hv).1 ht d ?_ hn
  rw [e.1]
  exact n_out hF (kk e.2)
/-- a reference that never changes -/
theorem n_gets (o : OkG X D C cc n rt lv g0 Q) {i : Nat} {v : Int} (c k tg' : Nat) (v' : Int) {tg : Nat} (hT : tK tg = c) (h13 : tg < 13) (hc : 1 ≤ c ∧ c ≤ 8) (hk : k < nF c) (ht : fTy c k = 2) (hv' : 0 ≤ v') (hs : ∀ g, FlS A N g → gR g c (k : Int) (A tg v) = some (A tg' v')) (hf : Cond.fieldLink C i (clN c) (clT c k).2.1 (clT c k).2.2.1 ∈ tbG) (hv : Vld N tg v) (d : dc cc pc (.getfield i) nx) (kk : V X (RelN D A N) nx L G (rq A tg' v' :: st)) (hn : pc + 3 = nx := by rfl) : V X (RelN D A N) pc L G (rq A tg v :: st) := by
  refine n_in fun g hF => ?_
  rw [rq_s hv.nn]
  refine g_getrs o c k k (hs g hF.1) rfl hc hk hf ((hF.2.2.1 _ v h13 hv).1.trans hT) ht d ?_ hn
  rw [← rq_s (A := A) (tg := tg') hv']
  exact n_out hF kk
/-- a number that never changes -/
theorem n_getn (o : OkG X D C cc n rt lv g0 Q) {i : Nat} {v : Int} (c k : Nat) {tg : Nat} {w : Int} (hT : tK tg = c) (h13 : tg < 13) (hc : 1 ≤ c ∧ c ≤ 8) (hk : k < nF c) (ht : fTy c k = 0) (hs : ∀ g, FlS A N g → gI g c (k : Int) (A tg v) = w) (hf : Cond.fieldLink C i (clN c) (clT c k).2.1 (clT c k).2.2.1 ∈ tbG) (hv : Vld N tg v) (d : dc cc pc (.getfield i) nx) (kk : V X (RelN D A N) nx L G (J w :: st)) (hn : pc + 3 = nx := by rfl) : V X (RelN D A N) pc L G (rq A tg v :: st) := by
  refine n_in fun g hF => ?_
  rw [rq_s hv.nn]
  refine g_geti o c k k rfl hc hk hf ((hF.2.2.1 _ v h13 hv).1.trans hT) ht d (fun _ => ?_) hn
  rw [hs g hF.1]
  exact n_out hF kk
theorem n_puti (o : OkG X D C cc n rt lv g0 Q) {i : Nat} {v z : Int} (f : Nat) {tg : Nat} (hT : fTg f = tg) (ht : fTy (tK tg) (fSl f) = 0) (hr : fRt f = 0) (hfin : (clT (tK tg) (fSl f)).2.2.2 = false) (hf : Cond.fieldLink C i (clN (tK tg)) (clT (tK tg) (fSl f)).2.1 (clT (tK tg) (fSl f)).2.2.1 ∈ tbG) (hv : Vld N tg v) (hz : InR z) (d : dc cc pc (.putfield i) nx) (kk : V X (RelN D A (up N f v z)) nx L G st) (hn : pc + 3 = nx := by rfl) : V X (RelN D A N) pc L G (J z :: rq A tg v :: st) := by
  subst hT
  refine n_in fun g hF => ?_
  have h9 := hv.n99
  have tb := tb_tg f h9
  rw [rq_s hv.nn]
  exact g_puti o (tK (fTg f)) (fSl f) (fSl f) rfl ⟨tb.2.2.2.2.2.2.2.2.1, tb.2.2.2.2.2.2.2.1⟩ tb.2.2.2.2.2.2.2.2.2.1 hf (hF.2.2.1 _ v tb.1 hv).1 ht (Or.inl hfin) hz d (n_out (hF.setI h9 hr hv) kk) hn
theorem n_putz (o : OkG X D C cc n rt lv g0 Q) {i : Nat} {v z : Int} (f : Nat) {tg : Nat} (hT : fTg f = tg) (ht : fTy (tK tg) (fSl f) = 1) (hr : fRt f = 0) (hfin : (clT (tK tg) (fSl f)).2.2.2 = false) (hf : Cond.fieldLink C i (clN (tK tg)) (clT (tK tg) (fSl f)).2.1 (clT (tK tg) (fSl f)).2.2.1 ∈ tbG) (hv : Vld N tg v) (hz : z = 0 ∨ z = 1) (d : dc cc pc (.putfield i) nx) (kk : V X (RelN D A (up N f v z)) nx L G st) (hn : pc + 3 = nx := by rfl) : V X (RelN D A N) pc L G (J z :: rq A tg v :: st) := by
  subst hT
  refine n_in fun g hF => ?_
  have h9 := hv.n99
  have tb := tb_tg f h9
  rw [rq_s hv.nn]
  exact g_putz o (tK (fTg f)) (fSl f) (fSl f) rfl ⟨tb.2.2.2.2.2.2.2.2.1, tb.2.2.2.2.2.2.2.1⟩ tb.2.2.2.2.2.2.2.2.2.1 hf (hF.2.2.1 _ v tb.1 hv).1 ht (Or.inl hfin) hz d (n_out (hF.setI h9 hr hv) kk) hn
theorem n_putr (o : OkG X D C cc n rt lv g0 Q) {i : Nat} {v z : Int} (f tg' : Nat) {tg : Nat} (hT : fTg f = tg) (ht : fTy (tK tg) (fSl f) = 2) (hr : fRt f = tg') (hr0 : fRt f ≠ 0) (hfin : (clT (tK tg) (fSl f)).2.2.2 = false) (hf : Cond.fieldLink C i (clN (tK tg)) (clT (tK tg) (fSl f)).2.1 (clT (tK tg) (fSl f)).2.2.1 ∈ tbG) (hv : Vld N tg v) (hz : Rok N tg' z) (d : dc cc pc (.putfield i) nx) (kk : V X (RelN D A (up N f v z)) nx L G st) (hn : pc + 3 = nx := by rfl) : V X (RelN D A N) pc L G (rq A tg' z :: rq A tg v :: st) := by
  subst hT
  subst hr
  refine n_in fun g hF => ?_
  have h9 := hv.n99
  have tb := tb_tg f h9
  rw [rq_s hv.nn]
  exact g_putr o (tK (fTg f)) (fSl f) (fSl f) rfl ⟨tb.2.2.2.2.2.2.2.2.1, tb.2.2.2.2.2.2.2.1⟩ tb.2.2.2.2.2.2.2.2.2.1 hf (hF.2.2.1 _ v tb.1 hv).1 ht (Or.inl hfin) d (n_out (hF.setR h9 hr0 hv hz) kk) hn
theorem n_null (o : Ok X cc) {Rl : Heap → Prop} (A : ASt) (tg : Nat) (d : dc cc pc .aconst_null nx) (kk : V X Rl nx L G (rq A tg (-1) :: st)) (hn : pc + 1 = nx := by rfl) : V X Rl pc L G st :=
  v_null o d (by rw [rq_n (by omega)] at kk; exact kk) hn
/-! arrays -/
theorem n_iald (o : OkG X D C cc n rt lv g0 Q) {v z w : Int} (f m : Nat) {tg : Nat} (hT : aTg f = tg) (hk : tK tg = 11) (hm : aLn f = m) (hw : (m : Int) * v + z = w) (hv : Vld N tg v) (hz : 0 ≤ z ∧ z < (m : Int)) (d : dc cc pc .iaload nx) (kk : InR (N f w) → V X (RelN D A N) nx L G (J (N f w) :: st)) (hn : pc + 1 = nx := by rfl) : V X (RelN D A N) pc L G (J z :: rq A tg v :: st) := by
  subst hT
  subst hm
  subst hw
  refine n_in fun g hF => ?_
  have h9 := hv.n99
  have tb := tb_at f h9
  have e := hF.2.2.2.2.2.2.2 f v z h9 hv hz.1 hz.2
  have hK := hF.2.2.1 _ v tb.1 hv
  rw [rq_s hv.nn]
  refine g_iald o (aLn f) (hK.1.trans hk) (by rw [hK.2, tb.2.2.2.2.2.2.2.2.1]) hz d (fun hi => ?_) hn
  rw [← hk, e] at hi ⊢
  exact n_out hF (kk hi)
theorem n_oald (o : OkG X D C cc n rt lv g0 Q) {z : Int} (hz : 0 ≤ z ∧ z < 8) (d : dc cc pc .iaload nx) (kk : InR (N 10 z) → V X (RelN D A N) nx L G (J (N 10 z) :: st)) (hn : pc + 1 = nx := by rfl) : V X (RelN D A N) pc L G (J z :: rq A 3 0 :: st) :=
  n_iald o 10 8 rfl rfl rfl (by omega) rfl hz d kk hn
theorem n_vald (o : OkG X D C cc n rt lv g0 Q) {v z : Int} (f : Nat) {tg : Nat} (hT : aTg f = tg) (hk : tK tg = 11) (hm : aLn f = 4) (hv : Vld N tg v) (hz : 0 ≤ z ∧ z < 4) (d : dc cc pc .iaload nx) (kk : InR (N f (4 * v + z)) → V X (RelN D A N) nx L G (J (N f (4 * v + z)) :: st)) (hn : pc + 1 = nx := by rfl) : V X (RelN D A N) pc L G (J z :: rq A tg v :: st) :=
  n_iald o f 4 hT hk hm rfl hv hz d kk hn
theorem n_lald (o : OkG X D C cc n rt lv g0 Q) {v z : Int} (hv : Vld N 12 v) (hz : 0 ≤ z ∧ z < 33) (d : dc cc pc .baload nx) (kk : (-128 ≤ N 39 (33 * v + z) ∧ N 39 (33 * v + z) ≤ 127) → V X (RelN D A N) nx L G (J (N 39 (33 * v + z)) :: st)) (hn : pc + 1 = nx := by rfl) : V X (RelN D A N) pc L G (J z :: rq A 12 v :: st) := by
  refine n_in fun g hF => ?_
  have e := hF.2.2.2.2.2.2.2 39 v z (by decide) hv hz.1 hz.2
  have hK := hF.2.2.1 12 v (by decide) hv
  rw [rq_s hv.nn]
  refine g_bald o 33 hK.1 (by rw [hK.2]; rfl) hz d (fun hi => ?_) hn
  have e : gI g 12 z (A 12 v) = N 39 (33 * v + z) := e
  rw [e] at hi ⊢
  exact n_out hF (kk hi)
theorem n_iast (o : OkG X D C cc n rt lv g0 Q) {v z w x : Int} (f m : Nat) {tg : Nat} (hT : aTg f = tg) (hk : tK tg = 11) (hm : aLn f = m) (hw : (m : Int) * v + z = w) (hv : Vld N tg v) (hz : 0 ≤ z ∧ z < (m : Int)) (hx : InR x) (d : dc cc pc .iastore nx) (kk : V X (RelN D A (up N f w x)) nx L G st) (hn : pc + 1 = nx := by rfl) : V X (RelN D A N) pc L G (J x :: J z :: rq A tg v :: st) := by
  subst hT
  subst hm
  subst hw
  refine n_in fun g hF => ?_
  have h9 := hv.n99
  have tb := tb_at f h9
  have hK := hF.2.2.1 _ v tb.1 hv
  rw [rq_s hv.nn]
  refine g_iast o (aLn f) (hK.1.trans hk) (by rw [hK.2, tb.2.2.2.2.2.2.2.2.1]) hz hx d ?_ hn
  have q := hF.setA (x := x) h9 hv hz
  rw [hk] at q
  exact n_out q kk
theorem n_oast (o : OkG X D C cc n rt lv g0 Q) {z x : Int} (hz : 0 ≤ z ∧ z < 8) (hx : InR x) (d : dc cc pc .iastore nx) (kk : V X (RelN D A (up N 10 z x)) nx L G st) (hn : pc + 1 = nx := by rfl) : V X (RelN D A N) pc L G (J x :: J z :: rq A 3 0 :: st) :=
  n_iast o 10 8 rfl rfl rfl (by omega) rfl hz hx d kk hn
theorem n_vast (o : OkG X D C cc n rt lv g0 Q) {v z x : Int} (f : Nat) {tg : Nat} (hT : aTg f = tg) (hk : tK tg = 11) (hm : aLn f = 4) (hv : Vld N tg v) (hz : 0 ≤ z ∧ z < 4) (hx : InR x) (d : dc cc pc .iastore nx) (kk : V X (RelN D A (up N f (4 * v + z) x)) nx L G st) (hn : pc + 1 = nx := by rfl) : V X (RelN D A N) pc L G (J x :: J z :: rq A tg v :: st) :=
  n_iast o f 4 hT hk hm rfl hv hz hx d kk hn
theorem n_last (o : OkG X D C cc n rt lv g0 Q) {v z x : Int} (hv : Vld N 12 v) (hz : 0 ≤ z ∧ z < 33) (hx : -128 ≤ x ∧ x ≤ 127) (d : dc cc pc .bastore nx) (kk : V X (RelN D A (up N 39 (33 * v + z) x)) nx L G st) (hn : pc + 1 = nx := by rfl) : V X (RelN D A N) pc L G (J x :: J z :: rq A 12 v :: st) := by
  refine n_in fun g hF => ?_
  have hK := hF.2.2.1 12 v (by decide) hv
  rw [rq_s hv.nn]
  exact g_bast o 33 hK.1 (by rw [hK.2]; rfl) hz hx d (n_out (hF.setA (f := 39) (x := x) (by decide) hv hz) kk) hn
theorem n_aald (o : OkG X D C cc n rt lv g0 Q) {z w : Int} (c m tg tg' : Nat) (hc : 13 ≤ c ∧ c ≤ 15) (hT : tK tg = c) (h13 : tg < 13) (hL : tL tg = m) (hv : Vld N tg 0) (hs : ∀ g, FlS A N g → gR g c z (A tg 0) = rfv A tg' w) (hz : 0 ≤ z ∧ z < (m : Int)) (d : dc cc pc .aaload nx) (kk : V X (RelN D A N) nx L G (rq A tg' w :: st)) (hn : pc + 1 = nx := by rfl) : V X (RelN D A N) pc L G (J z :: rq A tg 0 :: st) := by
  refine n_in fun g hF => ?_
  have hK := hF.2.2.1 tg 0 h13 hv
  rw [rq_s (by omega)]
  refine g_aald o c m hc (hK.1.trans hT) (by rw [hK.2, hL]) hz d ?_ hn
  rw [hs g hF.1]
  exact n_out hF kk
theorem n_aD (o : OkG X D C cc n rt lv g0 Q) {z : Int} (hz : 0 ≤ z ∧ z < 8) (d : dc cc pc .aaload nx) (kk : V X (RelN D A N) nx L G (rq A 6 z :: st)) (hn : pc + 1 = nx := by rfl) : V X (RelN D A N) pc L G (J z :: rq A 1 0 :: st) :=
  n_aald o 13 8 1 6 (by decide) rfl (by decide) rfl rfl (fun g h => by rw [rfv_s hz.1]; exact (h.2.1 z hz.1 hz.2).1) hz d kk hn
theorem n_aR (o : OkG X D C cc n rt lv g0 Q) {z : Int} (hz : 0 ≤ z ∧ z < 8) (d : dc cc pc .aaload nx) (kk : V X (RelN D A N) nx L G (rq A 8 z :: st)) (hn : pc + 1 = nx := by rfl) : V X (RelN D A N) pc L G (J z :: rq A 2 0 :: st) :=
  n_aald o 13 8 2 8 (by decide) rfl (by decide) rfl rfl (fun g h => by rw [rfv_s hz.1]; exact (h.2.1 z hz.1 hz.2).2.1) hz d kk hn
theorem n_aE (o : OkG X D C cc n rt lv g0 Q) {z : Int} (hz : 0 ≤ z ∧ z < 301) (hz2 : z < N 50 0) (d : dc cc pc .aaload nx) (kk : V X (RelN D A N) nx L G (rq A 10 z :: st)) (hn : pc + 1 = nx := by rfl) : V X (RelN D A N) pc L G (J z :: rq A 4 0 :: st) :=
  n_aald o 14 301 4 10 (by decide) rfl (by decide) rfl rfl (fun g h => by rw [rfv_s hz.1, h.2.2.1 z hz.1 hz.2, if_pos hz2]) hz d kk hn
theorem n_aT (o : OkG X D C cc n rt lv g0 Q) {z : Int} (hz : 0 ≤ z ∧ z < 60) (hz2 : z < N 51 0) (d : dc cc pc .aaload nx) (kk : V X (RelN D A N) nx L G (rq A 11 z :: st)) (hn : pc + 1 = nx := by rfl) : V X (RelN D A N) pc L G (J z :: rq A 5 0 :: st) :=
  n_aald o 15 60 5 11 (by decide) rfl (by decide) rfl rfl (fun g h => by rw [rfv_s hz.1, h.2.2.2.1 z hz.1 hz.2, if_pos hz2]) hz d kk hn
/-! branches on references -/
theorem n_ifnull (o : Ok X cc) {Rl : Heap → Prop} {tg : Nat} {v : Int} (d : dj cc pc .ifnull tgt nx) (kt : v < 0 → V X Rl tgt L G st) (kf : 0 ≤ v → V X Rl nx L G st) : V X Rl pc L G (rq A tg v :: st) := by
  by_cases h : v < 0
  · exact v_ifnull o d (fun _ => kt h) (fun a e => by rw [rfv_n h] at e; cases e)
  · exact v_ifnull o d (fun e => by rw [rfv_s (by omega)] at e; cases e) (fun a e => kf (by omega))
theorem n_ifnonnull (o : Ok X cc) {Rl : Heap → Prop} {tg : Nat} {v : Int} (d : dj cc pc .ifnonnull tgt nx) (kt : 0 ≤ v → V X Rl tgt L G st) (kf : v < 0 → V X Rl nx L G st) : V X Rl pc L G (rq A tg v :: st) := by
  by_cases h : v < 0
  · exact v_ifnonnull o d (fun a e => by rw [rfv_n h] at e; cases e) (fun _ => kf h)
  · exact v_ifnonnull o d (fun a e => kt (by omega)) (fun e => by rw [rfv_s (by omega)] at e; cases e)
/-- references of one tag are alike only if their places are -/
def RInj (A : ASt) (N : MSt) (tg : Nat) : Prop := ∀ u v : Int, Rok N tg u → Rok N tg v → (rfv A tg u = rfv A tg v ↔ u = v)
theorem RInj.of {tg : Nat} (h : ∀ u v, Vld N tg u → Vld N tg v → A tg u = A tg v → u = v) : RInj A N tg := by
  intro u v hu hv
  refine ⟨fun e => ?_, fun e => by rw [e]⟩
  rcases hu with rfl | hu
  · rcases hv with rfl | hv
    · rfl
    · rw [rfv_n (by omega), rfv_s hv.nn] at e; cases e
  · rcases hv with rfl | hv
    · rw [rfv_n (v := -1) (by omega), rfv_s hu.nn] at e; cases e
    · rw [rfv_s hu.nn, rfv_s hv.nn] at e
      exact h u v hu hv (Option.some.inj e)
theorem n_injT (k : RInj A N 11 → V X (RelN D A N) pc L G st) : V X (RelN D A N) pc L G st := n_get (fun g H _ hF => RInj.of fun u v a b e => (hF.2.2.2.1 11 11 u v (by decide) (by decide) a b e).2) k
theorem n_injQ (o : OkG X D C cc n rt lv g0 Q) (k : RInj A N 20 → V X (RelN D A N) pc L G st) : V X (RelN D A N) pc L G st := n_get (fun g H _ hF => RInj.of fun u v a b e => by
  have a : 1 ≤ u ∧ u < 5 := a
  have b : 1 ≤ v ∧ v < 5 := b
  rw [hF.2.2.2.2.1.1 u a.1 a.2, hF.2.2.2.2.1.1 v b.1 b.2] at e
  have := o.2.1.2.2.2.1 u.toNat v.toNat (by omega) (by omega) (by omega) (by omega) e
  omega) k
theorem n_injK (o : OkG X D C cc n rt lv g0 Q) (k : RInj A N 21 → V X (RelN D A N) pc L G st) : V X (RelN D A N) pc L G st := n_get (fun g H _ hF => RInj.of fun u v a b e => by
  have a : 1 ≤ u ∧ u < 6 := a
  have b : 1 ≤ v ∧ v < 6 := b
  rw [hF.2.2.2.2.1.2 u a.1 a.2, hF.2.2.2.2.1.2 v b.1 b.2] at e
  have := o.2.1.2.2.2.2 u.toNat v.toNat (by omega) (by omega) (by omega) (by omega) e
  omega) k
theorem n_acmp_eq (o : Ok X cc) {Rl : Heap → Prop} {tg : Nat} {u v : Int} (hj : RInj A N tg) (hu : Rok N tg u) (hv : Rok N tg v) (d : dj cc pc (.if_acmp .eq) tgt nx) (kt : u = v → V X Rl tgt L G st) (kf : u ≠ v → V X Rl nx L G st) : V X Rl pc L G (rq A tg v :: rq A tg u :: st) :=
  v_acmp_eq o d (fun e => kt ((hj u v hu hv).mp e)) (fun e => kf (fun q => e ((hj u v hu hv).mpr q)))
theorem n_acmp_ne (o : Ok X cc) {Rl : Heap → Prop} {tg : Nat} {u v : Int} (hj : RInj A N tg) (hu : Rok N tg u) (hv : Rok N tg v) (d : dj cc pc (.if_acmp .ne) tgt nx) (kt : u ≠ v → V X Rl tgt L G st) (kf : u = v → V X Rl nx L G st) : V X Rl pc L G (rq A tg v :: rq A tg u :: st) :=
  v_acmp_ne o d (fun e => kt (fun q => e ((hj u v hu hv).mpr q))) (fun e => kf ((hj u v hu hv).mp e))
theorem n_getQ (o : OkG X D C cc n rt lv g0 Q) {i : Nat} (j : Nat) (hj : 1 ≤ j ∧ j ≤ 4) (hf : Cond.fieldLink C i "NestedStore$State" (qNm j) "LNestedStore$State;" ∈ tbG) (d : dc cc pc (.getstatic i) nx) (kk : V X (RelN D A N) nx L G (rq A 20 j :: st)) (hn : pc + 3 = nx := by rfl) : V X (RelN D A N) pc L G st := by
  refine n_get (fun g H _ hF => hF.2.2.2.2.1.1 j (by omega) (by omega)) fun e => g_getQ o j hj hf d ?_ hn
  rw [rq_s (by omega), e] at kk
  exact kk
theorem n_getK (o : OkG X D C cc n rt lv g0 Q) {i : Nat} (j : Nat) (hj : 1 ≤ j ∧ j ≤ 5) (hf : Cond.fieldLink C i "NestedStore$Kind" (kNm j) "LNestedStore$Kind;" ∈ tbG) (d : dc cc pc (.getstatic i) nx) (kk : V X (RelN D A N) nx L G (rq A 21 j :: st)) (hn : pc + 3 = nx := by rfl) : V X (RelN D A N) pc L G st := by
  refine n_get (fun g H _ hF => hF.2.2.2.2.1.2 j (by omega) (by omega)) fun e => g_getK o j hj hf d ?_ hn
  rw [rq_s (by omega), e] at kk
  exact kk
end NRows
/-! contracts -/
theorem NCon.of {D : GD} {y : MethodName} {cc : ByteArray} {n : Nat} {rt : Option FieldType} {lv : Nat} {av : List Value} {A : ASt} {N : MSt} {Q : Option Value → ASt → MSt → Prop} (hy : plainName y.cls = true) (hcat : ∀ v ∈ av, v.category = 1) (hn : av.length ≤ n)
    (k : ∀ (X : Cx) (g0 : GSt), OkG X D y.cls cc n rt lv g0 (QN D Q) → V X (RelN D A N) 0 (lseq 0 av) [] []) : NCon D y (wsOf y cc n rt) lv av A N Q :=
  fun g hF => GCon.of hy hcat hn (fun X o _ => n_out hF (k X g o))
abbrev NX (D : GD) (y : MethodName) (w : List Cond) (lv : Nat) (av : List Value) (A : ASt) (N : MSt) (R : Value → ASt → MSt → Prop) : Prop := NCon D y w lv av A N (fun r A1 N1 => ∃ x, r = some x ∧ R x A1 N1)
abbrev NU (D : GD) (y : MethodName) (w : List Cond) (lv : Nat) (av : List Value) (A : ASt) (N : MSt) (R : ASt → MSt → Prop) : Prop := NCon D y w lv av A N (fun r A1 N1 => r = none ∧ R A1 N1)
abbrev NF (D : GD) (y : MethodName) (w : List Cond) (lv : Nat) (av : List Value) (A : ASt) (N : MSt) (x : Value) (N' : MSt) : Prop := NX D y w lv av A N (fun x1 A1 N1 => x1 = x ∧ A1 = A ∧ N1 = N')
abbrev NE (D : GD) (y : MethodName) (w : List Cond) (lv : Nat) (av : List Value) (A : ASt) (N : MSt) (N' : MSt) : Prop := NU D y w lv av A N (fun A1 N1 => A1 = A ∧ N1 = N')
section NRows2
variable {X : Cx} {D : GD} {A : ASt} {N : MSt} {C : String} {g0 : GSt} {cc : ByteArray} {n lv : Nat} {rt : Option FieldType} {Q : Option Value → GSt → Prop} {pc nx tgt : Nat} {L L' : List (Nat × Value)} {G : List (Nat × Int64)} {st : List Value}
theorem n_x {R : Value → ASt → MSt → Prop} (kk : ∀ x A1 N1, R x A1 N1 → V X (RelN D A1 N1) nx L G (x :: st)) : ∀ r A1 N1, (∃ x, r = some x ∧ R x A1 N1) → V X (RelN D A1 N1) nx L G (r.toList ++ st) := by
  rintro _ A1 N1 ⟨x, rfl, h⟩
  exact kk x A1 N1 h
theorem n_u {R : ASt → MSt → Prop} (kk : ∀ A1 N1, R A1 N1 → V X (RelN D A1 N1) nx L G st) : ∀ (r : Option Value) A1 N1, (r = none ∧ R A1 N1) → V X (RelN D A1 N1) nx L G (r.toList ++ st) := by
  rintro _ A1 N1 ⟨rfl, h⟩
  exact kk A1 N1 h
theorem n_f {x : Value} {N' : MSt} (kk : V X (RelN D A N') nx L G (x :: st)) : ∀ r A1 N1, (∃ x1, r = some x1 ∧ x1 = x ∧ A1 = A ∧ N1 = N') → V X (RelN D A1 N1) nx L G (r.toList ++ st) := by
  rintro _ _ _ ⟨_, rfl, rfl, rfl, rfl⟩
  exact kk
theorem n_e {N' : MSt} (kk : V X (RelN D A N') nx L G st) : ∀ (r : Option Value) A1 N1, (r = none ∧ A1 = A ∧ N1 = N') → V X (RelN D A1 N1) nx L G (r.toList ++ st) := by
  rintro _ _ _ ⟨rfl, rfl, rfl⟩
  exact kk
theorem n_qn {Q' : Option Value → ASt → MSt → Prop} (kk : ∀ r A1 N1, Q' r A1 N1 → V X (RelN D A1 N1) nx L G (r.toList ++ st)) : ∀ r g1, QN D Q' r g1 → V X (RelG D g1) nx L G (r.toList ++ st) := by
  rintro r g1 ⟨A1, N1, hF, h⟩
  exact n_out hF (kk r A1 N1 h)
theorem n_cV (o : OkG X D C cc n rt lv g0 Q) {y' : MethodName} {b' : ByteArray} {n' na i lv' : Nat} {v : Int} {rt' : Option FieldType} {av : List Value} {Q' : Option Value → ASt → MSt → Prop} {st0 : List Value} (c : Nat) {tg : Nat} (hT : tK tg = c) (h13 : tg < 13) (hc : 1 ≤ c ∧ c ≤ 8) (hv : Vld N tg v) (hcon : NCon D y' (wsOf y' b' n' rt') lv' (rq A tg v :: av) A N Q') (q : MOk (clN c) y' b' n' rt' na) (hlk : Cond.methodLink C i y' ∈ tbG) (d : dc cc pc (.invokevirtual i) nx) (hlv : lv' < lv) (hst : st0 = av.reverse ++ rq A tg v :: st) (hcat : (st.map fun v => v.category).sum ≤ 8) (hna : av.length = na)
    (kk : ∀ r A1 N1, Q' r A1 N1 → V X (RelN D A1 N1) nx L G (r.toList ++ st)) (hn : pc + 3 = nx := by rfl) : V X (RelN D A N) pc L G st0 := by
  refine n_in fun g hF => ?_
  have hcon := hcon g hF
  rw [rq_s hv.nn] at hcon hst
  exact g_cV o c hc ((hF.2.2.1 tg v h13 hv).1.trans hT) hcon q hlk d hlv hst hcat hna (n_qn kk) hn
theorem n_cVN (o : OkG X D C cc n rt lv g0 Q) {y' : MethodName} {b' : ByteArray} {n' na i lv' : Nat} {v : Int} {rt' : Option FieldType} {av : List Value} {Q' : Option Value → ASt → MSt → Prop} {st0 : List Value} (c : Nat) {tg : Nat} (hT : tK tg = c) (h13 : tg < 13) (hc : 1 ≤ c ∧ c ≤ 8) (hv : Vld N tg v) (hcon : NCon D y' (wsOf y' b' n' rt') lv' (rq A tg v :: av) A N Q') (q : MOk (clN c) y' b' n' rt' na) (hlk : Cond.methodLinkNest C i y' R_S ∈ nestW) (d : dc cc pc (.invokevirtual i) nx) (hlv : lv' < lv) (hst : st0 = av.reverse ++ rq A tg v :: st) (hcat : (st.map fun v => v.category).sum ≤ 8) (hna : av.length = na)
    (kk : ∀ r A1 N1, Q' r A1 N1 → V X (RelN D A1 N1) nx L G (r.toList ++ st)) (hn : pc + 3 = nx := by rfl) : V X (RelN D A N) pc L G st0 := by
  refine n_in fun g hF => ?_
  have hcon := hcon g hF
  rw [rq_s hv.nn] at hcon hst
  exact g_cVN o c hc ((hF.2.2.1 tg v h13 hv).1.trans hT) hcon q hlk d hlv hst hcat hna (n_qn kk) hn
theorem n_cS (o : OkG X D C cc n rt lv g0 Q) {y' : MethodName} {b' : ByteArray} {n' na i lv' : Nat} {rt' : Option FieldType} {av : List Value} {Q' : Option Value → ASt → MSt → Prop} {st0 : List Value} (hcon : NCon D y' (wsOf y' b' n' rt') lv' av A N Q') (q : SOk C y' b' n' rt' na) (hlk : Cond.methodLink C i y' ∈ tbG) (d : dc cc pc (.invokestatic i) nx) (hlv : lv' < lv) (hst : st0 = av.reverse ++ st) (hcat : (st.map fun v => v.category).sum ≤ 8) (hna : av.length = na)
    (kk : ∀ r A1 N1, Q' r A1 N1 → V X (RelN D A1 N1) nx L G (r.toList ++ st)) (hn : pc + 3 = nx := by rfl) : V X (RelN D A N) pc L G st0 :=
  n_in fun g hF => g_cS o (hcon g hF) q hlk d hlv hst hcat hna (n_qn kk) hn
theorem n_cSN (o : OkG X D C cc n rt lv g0 Q) {C' : String} {y' : MethodName} {b' : ByteArray} {n' na i lv' : Nat} {rt' : Option FieldType} {av : List Value} {Q' : Option Value → ASt → MSt → Prop} {st0 : List Value} (hcon : NCon D y' (wsOf y' b' n' rt') lv' av A N Q') (q : SOk C' y' b' n' rt' na) (hlk : Cond.methodLinkNest C i y' R_S ∈ nestW) (d : dc cc pc (.invokestatic i) nx) (hlv : lv' < lv) (hst : st0 = av.reverse ++ st) (hcat : (st.map fun v => v.category).sum ≤ 8) (hna : av.length = na)
    (kk : ∀ r A1 N1, Q' r A1 N1 → V X (RelN D A1 N1) nx L G (r.toList ++ st)) (hn : pc + 3 = nx := by rfl) : V X (RelN D A N) pc L G st0 :=
  n_in fun g hF => g_cSN o (hcon g hF) q hlk d hlv hst hcat hna (n_qn kk) hn
/-! ends -/
theorem n_iret {R : Value → ASt → MSt → Prop} (o : OkG X D C cc n (some .int) lv g0 (QN D (fun r A1 N1 => ∃ x, r = some x ∧ R x A1 N1))) {z : Int} (d : dc cc pc .ireturn nx) (hq : R (J z) A N) (hn : pc + 1 = nx := by rfl) : V X (RelN D A N) pc L G [J z] := n_in fun g hF => g_iret o d ⟨A, N, hF, _, rfl, hq⟩ hn
theorem n_zret {R : Value → ASt → MSt → Prop} (o : OkG X D C cc n (some .boolean) lv g0 (QN D (fun r A1 N1 => ∃ x, r = some x ∧ R x A1 N1))) {z : Int} (hz : z = 0 ∨ z = 1) (d : dc cc pc .ireturn nx) (hq : R (J z) A N) (hn : pc + 1 = nx := by rfl) : V X (RelN D A N) pc L G [J z] := n_in fun g hF => g_zret o hz d ⟨A, N, hF, _, rfl, hq⟩ hn
theorem n_vret {R : ASt → MSt → Prop} (o : OkG X D C cc n none lv g0 (QN D (fun r A1 N1 => r = none ∧ R A1 N1))) (d : dc cc pc .return_ nx) (hq : R A N) (hn : pc + 1 = nx := by rfl) : V X (RelN D A N) pc L G [] := n_in fun g hF => g_vret o d ⟨A, N, hF, rfl, hq⟩ hn
theorem n_aret {E : String} {R : Value → ASt → MSt → Prop} (o : OkG X D C cc n (some (.object E)) lv g0 (QN D (fun r A1 N1 => ∃ x, r = some x ∧ R x A1 N1))) {tg : Nat} {v : Int} (d : dc cc pc .areturn nx) (hq : R (rq A tg v) A N) (hn : pc + 1 = nx := by rfl) : V X (RelN D A N) pc L G [rq A tg v] := n_in fun g hF => g_aret o d ⟨A, N, hF, _, rfl, hq⟩ hn
theorem n_lret {R : Value → ASt → MSt → Prop} (o : OkG X D C cc n (some .long) lv g0 (QN D (fun r A1 N1 => ∃ x, r = some x ∧ R x A1 N1))) {w : Int64} (d : dc cc pc .lreturn nx) (hq : R (.long w) A N) (hn : pc + 1 = nx := by rfl) : V X (RelN D A N) pc L G [.long w] := n_in fun g hF => g_lret o d ⟨A, N, hF, _, rfl, hq⟩ hn
end NRows2
