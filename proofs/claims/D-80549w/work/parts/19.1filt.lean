set_option maxRecDepth 100000
/-! The filter's errors. -/
def Bq (x A : Rat) : Prop := -A ≤ x ∧ x ≤ A
theorem Bq.to {x A B : Rat} (h : Bq x A) (hab : A ≤ B) : Bq x B := by unfold Bq at *; constructor <;> grind
theorem Bq.add {x y A B : Rat} (h : Bq x A) (k : Bq y B) : Bq (x + y) (A + B) := by unfold Bq at *; constructor <;> grind
theorem Bq.sub {x y A B : Rat} (h : Bq x A) (k : Bq y B) : Bq (x - y) (A + B) := by unfold Bq at *; constructor <;> grind
theorem Bq.mul {x y A B : Rat} (h : Bq x A) (k : Bq y B) : Bq (x * y) (A * B) := by
  obtain ⟨h1, h2⟩ := h
  obtain ⟨k1, k2⟩ := k
  have a1 : 0 ≤ A - x := by grind
  have a2 : 0 ≤ A + x := by grind
  have b1 : 0 ≤ B - y := by grind
  have b2 : 0 ≤ B + y := by grind
  have e1 := Rat.mul_nonneg a1 b2
  have e2 := Rat.mul_nonneg a2 b1
  have e3 := Rat.mul_nonneg a1 b1
  have e4 := Rat.mul_nonneg a2 b2
  unfold Bq
  constructor <;> grind
theorem Rel.bd {v x A : Rat} (h : Rel v x) (k : Bq x A) : Bq (v - x) (A * pw (-24)) := by
  obtain ⟨d, d1, d2, d3⟩ := h
  have e : v - x = x * d := by rw [d3]; grind
  rw [e]
  exact k.mul ⟨d1, d2⟩
/-- v is near x, by U as the unit -/
def Ap (U v x A E : Rat) : Prop := Bq v (A * U) ∧ Bq (v - x) (E * U)
theorem Ap.sub {U v w x y r A B E F C G : Rat} (h1 : Ap U v x A E) (h2 : Ap U w y B F) (hr : Rel r (v - w)) (hU : 0 ≤ U) (n3 : (A + B) * pw (-24) + (E + F) ≤ G) (n4 : (A + B) * (1 + pw (-24)) ≤ C) : Ap U r (x - y) C G := by
  obtain ⟨p1, p2⟩ := h1
  obtain ⟨q1, q2⟩ := h2
  have s := p1.sub q1
  have t := hr.bd s
  have m3 := Rat.mul_le_mul_of_nonneg_right n3 hU
  have m4 := Rat.mul_le_mul_of_nonneg_right n4 hU
  constructor
  · have e := t.add s
    have e1 : r - (v - w) + (v - w) = r := by grind
    rw [e1] at e
    exact e.to (by grind)
  · have e := t.add (p2.sub q2)
    have e1 : r - (v - w) + (v - x - (w - y)) = r - (x - y) := by grind
    rw [e1] at e
    exact e.to (by grind)
theorem Ap.add {U v w x y r A B E F C G : Rat} (h1 : Ap U v x A E) (h2 : Ap U w y B F) (hr : Rel r (v + w)) (hU : 0 ≤ U) (n3 : (A + B) * pw (-24) + (E + F) ≤ G) (n4 : (A + B) * (1 + pw (-24)) ≤ C) : Ap U r (x + y) C G := by
  obtain ⟨p1, p2⟩ := h1
  obtain ⟨q1, q2⟩ := h2
  have s := p1.add q1
  have t := hr.bd s
  have m3 := Rat.mul_le_mul_of_nonneg_right n3 hU
  have m4 := Rat.mul_le_mul_of_nonneg_right n4 hU
  constructor
  · have e := t.add s
    have e1 : r - (v + w) + (v + w) = r := by grind
    rw [e1] at e
    exact e.to (by grind)
  · have e := t.add (p2.add q2)
    have e1 : r - (v + w) + (v - x + (w - y)) = r - (x + y) := by grind
    rw [e1] at e
    exact e.to (by grind)
theorem Ap.mul {U W v w x y r A B E F C G : Rat} (h1 : Ap U v x A E) (h2 : Ap W w y B F) (hr : Rel r (v * w)) (hU : 0 ≤ U) (hW : 0 ≤ W) (n3 : A * F + (B + F) * E + A * B * pw (-24) ≤ G) (n4 : A * B * (1 + pw (-24)) ≤ C) : Ap (U * W) r (x * y) C G := by
  obtain ⟨p1, p2⟩ := h1
  obtain ⟨q1, q2⟩ := h2
  have hUW := Rat.mul_nonneg hU hW
  have s := p1.mul q1
  have t := hr.bd s
  have hy : Bq y ((B + F) * W) := by
    have := q1.sub q2
    have e1 : w - (w - y) = y := by grind
    rw [e1] at this
    exact this.to (by grind)
  have m3 := Rat.mul_le_mul_of_nonneg_right n3 hUW
  have m4 := Rat.mul_le_mul_of_nonneg_right n4 hUW
  constructor
  · have e := t.add s
    have e1 : r - v * w + v * w = r := by grind
    rw [e1] at e
    exact e.to (by grind)
  · have e := t.add ((p1.mul q2).add (hy.mul p2))
    have e1 : r - v * w + (v * (w - y) + y * (v - x)) = r - x * y := by grind
    rw [e1] at e
    exact e.to (by grind)
theorem Bq.rng {x A : Rat} (h : Bq x A) (k : A < pw 127) : x < pw 127 ∧ -pw 127 < x := by unfold Bq at h; constructor <;> grind
theorem sub_Ap {a b : UInt32} {U v w x y A B E F C G M : Rat} {k : Int} (ha : FV a v k) (hb : FV b w k) (h1 : Ap U v x A E) (h2 : Ap U w y B F) (hk : -126 ≤ k) (hU : 0 ≤ U) (hM : U ≤ M) (n1 : 0 ≤ A + B) (n2 : (A + B) * M < pw 127) (n3 : (A + B) * pw (-24) + (E + F) ≤ G) (n4 : (A + B) * (1 + pw (-24)) ≤ C) : ∃ r, FV (FP.fsub a b) r k ∧ Ap U r (x - y) C G := by
  have s := h1.1.sub h2.1
  have g := Rat.mul_le_mul_of_nonneg_left hM n1
  have rg := s.rng (by grind)
  obtain ⟨r, r1, r2⟩ := fsub_FV ha hb hk rg.1 rg.2
  exact ⟨r, r1, h1.sub h2 r2 hU n3 n4⟩
theorem add_Ap {a b : UInt32} {U v w x y A B E F C G M : Rat} {k : Int} (ha : FV a v k) (hb : FV b w k) (h1 : Ap U v x A E) (h2 : Ap U w y B F) (hk : -126 ≤ k) (hU : 0 ≤ U) (hM : U ≤ M) (n1 : 0 ≤ A + B) (n2 : (A + B) * M < pw 127) (n3 : (A + B) * pw (-24) + (E + F) ≤ G) (n4 : (A + B) * (1 + pw (-24)) ≤ C) : ∃ r, FV (FP.fadd a b) r k ∧ Ap U r (x + y) C G := by
  have s := h1.1.add h2.1
  have g := Rat.mul_le_mul_of_nonneg_left hM n1
  have rg := s.rng (by grind)
  obtain ⟨r, r1, r2⟩ := fadd_FV ha hb hk rg.1 rg.2
  exact ⟨r, r1, h1.add h2 r2 hU n3 n4⟩
theorem mul_Ap {a b : UInt32} {U W v w x y A B E F C G M : Rat} {k j : Int} (ha : FV a v k) (hb : FV b w j) (h1 : Ap U v x A E) (h2 : Ap W w y B F) (hk : -126 ≤ k + j) (hU : 0 ≤ U) (hW : 0 ≤ W) (hM : U * W ≤ M) (n1 : 0 ≤ A * B) (n2 : A * B * M < pw 127) (n3 : A * F + (B + F) * E + A * B * pw (-24) ≤ G) (n4 : A * B * (1 + pw (-24)) ≤ C) : ∃ r, FV (FP.fmul a b) r (k + j) ∧ Ap (U * W) r (x * y) C G := by
  have s := h1.1.mul h2.1
  have g := Rat.mul_le_mul_of_nonneg_left hM n1
  have rg := s.rng (by grind)
  obtain ⟨r, r1, r2⟩ := fmul_FV ha hb hk rg.1 rg.2
  exact ⟨r, r1, h1.mul h2 r2 hU hW n3 n4⟩
/-! coordinates and sizes -/
theorem Rel.coord {c x S : Rat} (h : Rel c x) (hc : Bq c S) : Ap S c x 1 (1001 / 1000 * pw (-24)) := by
  have h0 := h
  obtain ⟨d, d1, d2, d3⟩ := h
  obtain ⟨c1, c2⟩ := hc
  have hu : pw (-24) = 1 / 16777216 := by decide +kernel
  have hS : 0 ≤ S := by grind
  have hx : Bq x (1001 / 1000 * S) := by
    rcases Rat.le_total (a := 0) (b := x) with g | g
    · have e1 := Rat.mul_le_mul_of_nonneg_left d1 g
      have e2 := Rat.mul_le_mul_of_nonneg_left d2 g
      rw [hu] at e1 e2
      unfold Bq
      constructor <;> grind
    · have g' : 0 ≤ -x := by grind
      have e1 := Rat.mul_le_mul_of_nonneg_left d1 g'
      have e2 := Rat.mul_le_mul_of_nonneg_left d2 g'
      rw [hu] at e1 e2
      unfold Bq
      constructor <;> grind
  refine ⟨⟨by grind, by grind⟩, ?_⟩
  exact (h0.bd hx).to (by grind)
theorem aq_le {v S : Rat} (h : aq v ≤ S) : Bq v S := by unfold aq at h; unfold Bq; split at h <;> constructor <;> grind
theorem mq_l (v w : Rat) : v ≤ mq v w := by unfold mq; split <;> grind
theorem mq_r (v w : Rat) : w ≤ mq v w := by unfold mq; split <;> grind
theorem mq_le {v w B : Rat} (h : v ≤ B) (k : w ≤ B) : mq v w ≤ B := by unfold mq; split <;> assumption
theorem mq_assoc (a b c : Rat) : mq a (mq b c) = mq (mq a b) c := by unfold mq; split <;> split <;> (try split) <;> grind
theorem fF_z {x : Int32} (hx : x.toInt.natAbs ≤ 9600) {v : Rat} (h : Rel v ((x.toInt : Rat) * (1 / 12))) : fF x = 0 ∨ ¬ v = 0 := by
  by_cases h0 : x.toInt = 0
  · left
    have : x = 0 := Int32.toInt_inj.mp (by rw [h0]; rfl)
    rw [this]; decide +kernel
  · right
    intro hv
    obtain ⟨d, d1, d2, d3⟩ := h
    rw [hv] at d3
    have hu : pw (-24) = 1 / 16777216 := by decide +kernel
    rw [hu] at d1 d2
    have e : (x.toInt : Rat) * (1 / 12) * (1 + d) = 0 := by grind
    have hd : (0 : Rat) < 1 + d := by grind
    have hX : ¬ (x.toInt : Rat) = 0 := fun q => h0 (Rat.intCast_inj.mp q)
    rcases Rat.mul_eq_zero.mp e with z | z
    · grind
    · grind
/-- a point's floats -/
theorem pt_F {p : P2} (hp : OkP p) : ∃ cx cy, (FV (fF p.1) cx (-27) ∧ FV (fF p.2) cy (-27)) ∧ (Rel cx ((p.1.toInt : Rat) * (1 / 12)) ∧ Rel cy ((p.2.toInt : Rat) * (1 / 12))) ∧ (aq cx ≤ 1024 ∧ aq cy ≤ 1024) ∧
    (FV (fSz p) (mq (aq cx) (aq cy)) (-27) ∧ (fSz p).toNat < 2139095040) ∧ mP p = fSz p := by
  have bx := hp.x.2
  have by' := hp.y.2
  obtain ⟨cx, x1, x2⟩ := fF_FV bx
  obtain ⟨cy, y1, y2⟩ := fF_FV by'
  have sm : ∀ (x : Int32) (c : Rat), x.toInt.natAbs ≤ 9600 → Rel c ((x.toInt : Rat) * (1 / 12)) → aq c ≤ 1024 := fun x c hx hr => by
    have g1 : (x.toInt : Rat) ≤ ((9600 : Int) : Rat) := Rat.intCast_le_intCast.mpr (by omega)
    have g2 : ((-9600 : Int) : Rat) ≤ (x.toInt : Rat) := Rat.intCast_le_intCast.mpr (by omega)
    have g1' : (x.toInt : Rat) ≤ 9600 := g1
    have g2' : -9600 ≤ (x.toInt : Rat) := g2
    have hb : Bq ((x.toInt : Rat) * (1 / 12)) 800 := by unfold Bq; constructor <;> grind
    have e := hr.bd hb
    have hu : pw (-24) = 1 / 16777216 := by decide +kernel
    rw [hu] at e
    unfold Bq at e hb
    unfold aq; split <;> grind
  obtain ⟨ax, nx1⟩ := fAbs_FV x1
  obtain ⟨ay, ny1⟩ := fAbs_FV y1
  obtain ⟨mx, nx2⟩ := mSz_FV x1
  obtain ⟨my, ny2⟩ := mSz_FV y1
  have ex : mSz (fF p.1) = fAbs (fF p.1) := mx.inj ax (nx2 (fF_z bx x2)) nx1
  have ey : mSz (fF p.2) = fAbs (fF p.2) := my.inj ay (ny2 (fF_z by' y2)) ny1
  have M := fMax_FV ax ay nx1 ny1
  have N := mGr_FV ax ay nx1 ny1
  refine ⟨cx, cy, ⟨x1, y1⟩, ⟨x2, y2⟩, ⟨sm _ _ bx x2, sm _ _ by' y2⟩, M, ?_⟩
  unfold mP fSz
  rw [ex, ey]
  exact N.1.inj M.1 N.2 M.2
theorem Rel.lo {v x : Rat} (h : Rel v x) (hx : 0 ≤ x) : x * (1 - pw (-24)) ≤ v := by
  obtain ⟨d, d1, d2, d3⟩ := h
  have := Rat.mul_le_mul_of_nonneg_left d1 hx
  grind
theorem Rel.hi {v x : Rat} (h : Rel v x) (hx : 0 ≤ x) : v ≤ x * (1 + pw (-24)) := by
  obtain ⟨d, d1, d2, d3⟩ := h
  have := Rat.mul_le_mul_of_nonneg_left d2 hx
  grind
/-- the filter's two bounds -/
theorem fB3_F {s : UInt32} {S : Rat} (h : FV s S (-27)) (h0 : 0 ≤ S) (h1 : S ≤ 1024) : vf_n32 (FP.fmul s s) ∧ ∃ b, FV (fB3 s) b (-72) ∧ 999 / 1000 * pw (-18) * (S * S) ≤ b := by
  have hSS := Rat.mul_nonneg h0 h0
  have hS2 : S * S ≤ 1048576 := by
    have e := Bq.mul (x := S) (y := S) (A := 1024) (B := 1024) ⟨by grind, h1⟩ ⟨by grind, h1⟩
    unfold Bq at e; grind
  have big : (2097152 : Rat) < pw 127 := by decide +kernel
  have hu : pw (-24) = 1 / 16777216 := by decide +kernel
  obtain ⟨b1, f1, r1⟩ := fmul_FV h h (by omega) (by grind) (by grind)
  have lo1 := r1.lo hSS
  have hi1 := r1.hi hSS
  rw [hu] at lo1 hi1
  have hc : FV 914358272 (pw (-18)) (-18) := ⟨false, 8388608, -41, by decide +kernel, by decide +kernel, 1, by decide +kernel⟩
  have p18 : pw (-18) = 1 / 262144 := by decide +kernel
  have hb1 : 0 ≤ b1 := by grind
  have hx : 0 ≤ b1 * pw (-18) := Rat.mul_nonneg hb1 (pw_nn _)
  obtain ⟨b, f2, r2⟩ := fmul_FV f1 hc (by omega) (by rw [p18]; grind) (by rw [p18]; grind)
  have lo2 := r2.lo hx
  rw [hu, p18] at lo2
  refine ⟨f1.nn, b, f2, ?_⟩
  rw [p18]
  grind
theorem fB4_F {s : UInt32} {S : Rat} (h : FV s S (-27)) (h0 : 0 ≤ S) (h1 : S ≤ 1024) : (vf_n32 (FP.fmul s s) ∧ vf_n32 (FP.fmul (FP.fmul s s) (FP.fmul s s))) ∧ ∃ b, FV (fB4 s) b (-120) ∧ 999 / 1000 * pw (-12) * (S * S * (S * S)) ≤ b := by
  have hSS := Rat.mul_nonneg h0 h0
  have hS2 : S * S ≤ 1048576 := by
    have e := Bq.mul (x := S) (y := S) (A := 1024) (B := 1024) ⟨by grind, h1⟩ ⟨by grind, h1⟩
    unfold Bq at e; grind
  have hS4 : S * S * (S * S) ≤ 1099511627776 := by
    have e := Bq.mul (x := S * S) (y := S * S) (A := 1048576) (B := 1048576) ⟨by grind, hS2⟩ ⟨by grind, hS2⟩
    unfold Bq at e; grind
  have hSSSS := Rat.mul_nonneg hSS hSS
  have big : (4398046511104 : Rat) < pw 127 := by decide +kernel
  have hu : pw (-24) = 1 / 16777216 := by decide +kernel
  obtain ⟨b1, f1, r1⟩ := fmul_FV h h (by omega) (by grind) (by grind)
  have lo1 := r1.lo hSS
  have hi1 := r1.hi hSS
  rw [hu] at lo1 hi1
  have hb1 : 0 ≤ b1 := by grind
  have hb11 := Rat.mul_nonneg hb1 hb1
  -- the square of b1
  have q1 : (S * S * (16777215 / 16777216)) * (S * S * (16777215 / 16777216)) ≤ b1 * b1 := by
    have g0 : 0 ≤ S * S * (16777215 / 16777216) := by grind
    have g1 : S * S * (16777215 / 16777216) ≤ b1 := by grind
    have g2 := Rat.mul_le_mul_of_nonneg_left g1 g0
    have g3 := Rat.mul_le_mul_of_nonneg_right g1 hb1
    grind
  have q2 : b1 * b1 ≤ 2199023255552 := by
    have g1 : b1 ≤ 1048577 := by grind
    have e := Bq.mul (x := b1) (y := b1) (A := 1048577) (B := 1048577) ⟨by grind, g1⟩ ⟨by grind, g1⟩
    unfold Bq at e; grind
  obtain ⟨b2, f2, r2⟩ := fmul_FV f1 f1 (by omega) (by grind) (by grind)
  have lo2 := r2.lo hb11
  have hi2 := r2.hi hb11
  rw [hu] at lo2 hi2
  have hb2 : 0 ≤ b2 := by grind
  have hc : FV 964689920 (pw (-12)) (-12) := ⟨false, 8388608, -35, by decide +kernel, by decide +kernel, 1, by decide +kernel⟩
  have p12 : pw (-12) = 1 / 4096 := by decide +kernel
  have hx : 0 ≤ b2 * pw (-12) := Rat.mul_nonneg hb2 (pw_nn _)
  obtain ⟨b, f3, r3⟩ := fmul_FV f2 hc (by omega) (by rw [p12]; grind) (by rw [p12]; grind)
  have lo3 := r3.lo hx
  rw [hu, p12] at lo3
  refine ⟨⟨f1.nn, f2.nn⟩, b, f3, ?_⟩
  rw [p12]
  grind
/-- what is decided has the sign of what it is near to -/
theorem dec_law {V B : UInt32} {v b T E K U : Rat} {k j : Int} (hV : FV V v k) (hB : FV B b j) (hE : Bq (v - T) (E * U)) (hU : 0 ≤ U) (hb : K * U ≤ b) (hk : E ≤ K) (hE0 : 0 ≤ E) :
    fGt (mSz V) B = (!decide (j_dec V B = 0)) ∧ (j_dec V B = 0 ∨ (j_dec V B = 1 ∧ 0 < T) ∨ (j_dec V B = -1 ∧ T < 0)) := by
  have h1 := (fAbs_FV hV).1.gt hB
  have h2 := (mSz_FV hV).1.gt hB
  have h3 := hV.gt (zero_FV k)
  have m := Rat.mul_le_mul_of_nonneg_right hk hU
  have m0 := Rat.mul_nonneg hE0 hU
  unfold j_dec
  rw [h1, h2, h3]
  by_cases c : b < aq v
  · rw [decide_eq_true c, if_pos rfl]
    unfold aq at c
    unfold Bq at hE
    by_cases c2 : 0 < v
    · rw [decide_eq_true c2, if_pos rfl]
      refine ⟨by decide, Or.inr (Or.inl ⟨rfl, ?_⟩)⟩
      rw [if_neg (by grind)] at c
      grind
    · rw [decide_eq_false c2, if_neg (by decide)]
      refine ⟨by decide, Or.inr (Or.inr ⟨rfl, ?_⟩)⟩
      by_cases c3 : v < 0
      · rw [if_pos c3] at c; grind
      · rw [if_neg c3] at c; grind
  · rw [decide_eq_false c, if_neg (by decide)]
    exact ⟨by decide, Or.inl rfl⟩
