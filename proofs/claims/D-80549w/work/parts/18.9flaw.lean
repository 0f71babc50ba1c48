set_option maxRecDepth 100000
/-! The filter: its words, and that what it decides is so. -/
def fAbs (a : UInt32) : UInt32 := a &&& 0x7fffffff
def fMax (a b : UInt32) : UInt32 := Native.java_lang_Math.nans.pick32 true a b
def fGt (a b : UInt32) : Bool := decide (FP.fcmp a b = some .gt)
def fLt (a b : UInt32) : Bool := decide (FP.fcmp a b = some .lt)
def fSz (p : P2) : UInt32 := fMax (fAbs (fF p.1)) (fAbs (fF p.2))
def jS3 (p q r : P2) : UInt32 := fMax (fSz p) (fMax (fSz q) (fSz r))
def jS4 (a b c d : P2) : UInt32 := fMax (fMax (fSz a) (fSz b)) (fMax (fSz c) (fSz d))
def fV3 (p q r : P2) : UInt32 := FP.fsub (FP.fmul (FP.fsub (fF q.1) (fF p.1)) (FP.fsub (fF r.2) (fF p.2))) (FP.fmul (FP.fsub (fF q.2) (fF p.2)) (FP.fsub (fF r.1) (fF p.1)))
def fVV (xa ya xb yb xc yc : UInt32) : UInt32 := FP.fadd (FP.fadd (FP.fmul (FP.fadd (FP.fmul xa xa) (FP.fmul ya ya)) (FP.fsub (FP.fmul xb yc) (FP.fmul yb xc))) (FP.fmul (FP.fadd (FP.fmul xb xb) (FP.fmul yb yb)) (FP.fsub (FP.fmul xc ya) (FP.fmul yc xa)))) (FP.fmul (FP.fadd (FP.fmul xc xc) (FP.fmul yc yc)) (FP.fsub (FP.fmul xa yb) (FP.fmul ya xb)))
def fV4 (a b c d : P2) : UInt32 := fVV (FP.fsub (fF a.1) (fF d.1)) (FP.fsub (fF a.2) (fF d.2)) (FP.fsub (fF b.1) (fF d.1)) (FP.fsub (fF b.2) (fF d.2)) (FP.fsub (fF c.1) (fF d.1)) (FP.fsub (fF c.2) (fF d.2))
def fB3 (s : UInt32) : UInt32 := FP.fmul (FP.fmul s s) 914358272
def fB4 (s : UInt32) : UInt32 := FP.fmul (FP.fmul (FP.fmul s s) (FP.fmul s s)) 964689920
def j_dec (v b : UInt32) : Int32 := if fGt (fAbs v) b then (if fGt v 0 then 1 else -1) else 0
def j_ft (p q r : P2) : Int32 := j_dec (fV3 p q r) (fB3 (jS3 p q r))
def j_fr (a b c d : P2) : Int32 := j_dec (fV4 a b c d) (fB4 (jS4 a b c d))
def mSz (a : UInt32) : UInt32 := if fLt a 0 then FP.fneg a else a
def mGr (a b : UInt32) : UInt32 := if fGt a b then a else b
def mP (p : P2) : UInt32 := mGr (mSz (fF p.1)) (mSz (fF p.2))
def mS3 (p q r : P2) : UInt32 := mGr (mGr (mP p) (mP q)) (mP r)
def m_ft (p q r : P2) : Bool := fGt (mSz (fV3 p q r)) (fB3 (mS3 p q r))
def m_fr (a b c d : P2) : Bool := fGt (mSz (fV4 a b c d)) (fB4 (mGr (mS3 a b c) (mP d)))
/-! values -/
def aq (v : Rat) : Rat := if v < 0 then -v else v
theorem aq_nn (v : Rat) : 0 ≤ aq v := by unfold aq; split <;> grind
def mq (v w : Rat) : Rat := if v < w then w else v
theorem fl_dec {a : UInt32} {s : Bool} {c : Nat} {q : Int} (h : FP.Core.decode FP.Core.b32 a.toNat = .fin s c q) : a.toNat / 8388608 % 256 ≠ 255 ∧ s = (a.toNat / 8388608 / 256 % 2 == 1) ∧ ((a.toNat / 8388608 % 256 = 0 ∧ c = a.toNat % 8388608 ∧ q = -149) ∨ (a.toNat / 8388608 % 256 ≠ 0 ∧ c = 8388608 + a.toNat % 8388608 ∧ q = -149 + (((a.toNat / 8388608 % 256 : Nat) : Int) - 1))) := by
  unfold FP.Core.decode FP.Core.fieldE FP.Core.fieldT FP.Core.fieldS at h
  rw [b32_tails, b32_exps, b32_qmin] at h
  by_cases h1 : a.toNat / 8388608 % 256 = 256 - 1
  · rw [if_pos h1] at h
    split at h <;> cases h
  · rw [if_neg h1] at h
    refine ⟨h1, ?_⟩
    by_cases h2 : a.toNat / 8388608 % 256 = 0
    · rw [if_pos h2] at h
      cases h
      exact ⟨rfl, Or.inl ⟨h2, rfl, rfl⟩⟩
    · rw [if_neg h2] at h
      cases h
      exact ⟨rfl, Or.inr ⟨h2, rfl, rfl⟩⟩
theorem fl_mk {n : Nat} {c : Nat} {q : Int} (h : n / 8388608 % 256 ≠ 255) (k : (n / 8388608 % 256 = 0 ∧ c = n % 8388608 ∧ q = -149) ∨ (n / 8388608 % 256 ≠ 0 ∧ c = 8388608 + n % 8388608 ∧ q = -149 + (((n / 8388608 % 256 : Nat) : Int) - 1))) : FP.Core.decode FP.Core.b32 n = .fin (n / 8388608 / 256 % 2 == 1) c q := by
  unfold FP.Core.decode FP.Core.fieldE FP.Core.fieldT FP.Core.fieldS
  rw [b32_tails, b32_exps, b32_qmin, if_neg h]
  rcases k with ⟨k1, rfl, rfl⟩ | ⟨k1, rfl, rfl⟩
  · rw [if_pos k1]
  · rw [if_neg k1]
theorem aq_sg (s : Bool) (c : Nat) (q : Int) : aq (((FP.Core.signed s c : Int) : Rat) * pw q) = (c : Rat) * pw q := by
  have h1 : 0 ≤ (c : Rat) * pw q := by
    have := Rat.mul_le_mul_of_nonneg_right (Rat.natCast_nonneg (a := c)) (pw_nn q)
    rw [Rat.zero_mul] at this; exact this
  rw [sg_Q]
  unfold aq
  cases s with
  | false => simp only [Bool.false_eq_true, ↓reduceIte]; rw [if_neg (by grind)]
  | true => simp only [↓reduceIte]; split <;> grind
theorem fAbs_nat (a : UInt32) : (fAbs a).toNat = a.toNat % 2147483648 := by
  unfold fAbs
  rw [UInt32.toNat_and]
  show a.toNat &&& 2 ^ 31 - 1 = a.toNat % 2 ^ 31
  exact Nat.and_two_pow_sub_one_eq_mod _ _
theorem FV.low {a : UInt32} {v : Rat} {k : Int} (h : FV a v k) : a.toNat / 8388608 % 256 ≠ 255 := by
  obtain ⟨s, c, q, d, -⟩ := h
  exact (fl_dec d).1
theorem mul_aq {v : Rat} {n k : Int} (h : v = (n : Rat) * pw k) : ∃ m : Int, aq v = (m : Rat) * pw k := by
  unfold aq
  split
  · exact ⟨-n, by rw [h, Rat.intCast_neg, Rat.neg_mul]⟩
  · exact ⟨n, h⟩
theorem fAbs_FV {a : UInt32} {v : Rat} {k : Int} (h : FV a v k) : FV (fAbs a) (aq v) k ∧ (fAbs a).toNat < 2139095040 := by
  have hl := h.low
  obtain ⟨s, c, q, d, hv, n, hn⟩ := h
  obtain ⟨-, -, d3⟩ := fl_dec d
  have e := fAbs_nat a
  have hlt := a.toNat_lt
  constructor
  · refine ⟨false, c, q, ?_, ?_, mul_aq hn⟩
    · have := fl_mk (n := (fAbs a).toNat) (c := c) (q := q) (by omega) (by
        rcases d3 with ⟨k1, k2, k3⟩ | ⟨k1, k2, k3⟩
        · exact Or.inl ⟨by omega, by omega, k3⟩
        · refine Or.inr ⟨by omega, by omega, ?_⟩
          rw [k3]; congr 3; omega)
      rw [this]
      have e2 : (fAbs a).toNat / 8388608 / 256 % 2 = 0 := by omega
      rw [e2]; rfl
    · rw [hv, aq_sg, sg_Q]; rfl
  · omega
theorem zero_FV (k : Int) : FV 0 0 k := ⟨false, 0, -149, by decide +kernel, by rw [sg_Q]; simp, 0, by simp⟩
theorem FV.gt {a b : UInt32} {v w : Rat} {k j : Int} (ha : FV a v k) (hb : FV b w j) : fGt a b = decide (w < v) := by
  unfold fGt
  rw [ha.cmp hb]
  apply Bool.eq_iff_iff.mpr
  rw [decide_eq_true_eq, decide_eq_true_eq]
  by_cases h1 : v < w
  · rw [if_pos h1]; constructor
    · intro h; cases h
    · intro h; grind
  · rw [if_neg h1]
    by_cases h2 : v = w
    · rw [if_pos h2]; constructor
      · intro h; cases h
      · intro h; grind
    · rw [if_neg h2]; constructor
      · intro _; grind
      · intro _; rfl
theorem FV.ltB {a b : UInt32} {v w : Rat} {k j : Int} (ha : FV a v k) (hb : FV b w j) : fLt a b = decide (v < w) := by
  unfold fLt
  rw [ha.cmp hb]
  apply Bool.eq_iff_iff.mpr
  rw [decide_eq_true_eq, decide_eq_true_eq]
  by_cases h1 : v < w
  · rw [if_pos h1]; exact ⟨fun _ => h1, fun _ => rfl⟩
  · rw [if_neg h1]
    by_cases h2 : v = w
    · rw [if_pos h2]; exact ⟨fun h => (by cases h), fun h => absurd h h1⟩
    · rw [if_neg h2]; exact ⟨fun h => (by cases h), fun h => absurd h h1⟩
theorem fMax_FV {a b : UInt32} {v w : Rat} {k : Int} (ha : FV a v k) (hb : FV b w k) (na : a.toNat < 2139095040) (nb : b.toNat < 2139095040) : FV (fMax a b) (mq v w) k ∧ (fMax a b).toNat < 2139095040 := by
  have hs : (a >>> 31 == 1) = false := by
    have h1 : (a >>> 31).toNat = a.toNat / 2147483648 := by
      rw [UInt32.toNat_shiftRight]
      show a.toNat >>> (31 % 32) = _
      rw [Nat.shiftRight_eq_div_pow]
    have h2 : (a >>> 31).toNat = 0 := by omega
    cases hb : (a >>> 31 == 1) with
    | false => rfl
    | true =>
      have := eq_of_beq hb
      rw [this] at h2
      exact absurd h2 (by decide)
  unfold fMax Native.java_lang_Math.nans.pick32
  rw [ha.cmp hb, hs]
  unfold mq
  by_cases h1 : v < w
  · rw [if_pos h1, if_pos h1]; exact ⟨hb, nb⟩
  · rw [if_neg h1, if_neg h1]
    by_cases h2 : v = w
    · rw [if_pos h2]; exact ⟨ha, na⟩
    · rw [if_neg h2]; exact ⟨ha, na⟩
theorem mGr_FV {a b : UInt32} {v w : Rat} {k : Int} (ha : FV a v k) (hb : FV b w k) (na : a.toNat < 2139095040) (nb : b.toNat < 2139095040) : FV (mGr a b) (mq v w) k ∧ (mGr a b).toNat < 2139095040 := by
  unfold mGr
  rw [ha.gt hb]
  unfold mq
  by_cases h : w < v
  · rw [decide_eq_true h, if_pos rfl, if_neg (by grind)]; exact ⟨ha, na⟩
  · rw [decide_eq_false h, if_neg (by decide)]
    by_cases h2 : v < w
    · rw [if_pos h2]; exact ⟨hb, nb⟩
    · have : v = w := by grind
      rw [if_neg h2, this]; exact ⟨hb, nb⟩
/-- floats without a sign: the value tells the bits -/
theorem FV.inj {a b : UInt32} {v : Rat} {k j : Int} (ha : FV a v k) (hb : FV b v j) (na : a.toNat < 2139095040) (nb : b.toNat < 2139095040) : a = b := by
  obtain ⟨s, c, q, d1, d2, -⟩ := ha
  obtain ⟨t, d, r, f1, f2, -⟩ := hb
  obtain ⟨-, s1, d3⟩ := fl_dec d1
  obtain ⟨-, t1, f3⟩ := fl_dec f1
  have es : s = false := by
    rw [s1, show a.toNat / 8388608 / 256 % 2 = 0 by omega]; rfl
  have et : t = false := by
    rw [t1, show b.toNat / 8388608 / 256 % 2 = 0 by omega]; rfl
  rw [es, sg_Q] at d2
  rw [et, sg_Q] at f2
  simp only [Bool.false_eq_true, ↓reduceIte] at d2 f2
  have key : ∀ (c d : Nat) (q r : Int), (c : Rat) * pw q = (d : Rat) * pw r → q ≤ r → c < 16777216 → -149 ≤ q → (r = -149 ∨ 8388608 ≤ d) → q = r ∧ c = d := fun c d q r h hqr hc hq hd => by
    obtain ⟨m, hm⟩ := Int.eq_ofNat_of_zero_le (show 0 ≤ r - q by omega)
    have e1 : pw r = pw (m : Int) * pw q := by rw [← pw_add]; congr 1; omega
    have e2 : (c : Rat) * pw q = ((d * 2 ^ m : Nat) : Rat) * pw q := by rw [h, e1, Rat.natCast_mul, ← pw_nat, Rat.mul_assoc]
    have g1 := Rat.le_of_mul_le_mul_right (Std.le_of_eq e2) (pw_pos q)
    have g2 := Rat.le_of_mul_le_mul_right (Std.le_of_eq e2.symm) (pw_pos q)
    have e3 : c = d * 2 ^ m := by
      have := Rat.natCast_le_natCast.mp g1
      have := Rat.natCast_le_natCast.mp g2
      omega
    rcases Nat.eq_zero_or_pos m with h0 | h0
    · subst h0
      exact ⟨by omega, by rw [e3]; simp⟩
    · exfalso
      have hd' : 8388608 ≤ d := by omega
      have h2 : 2 ≤ 2 ^ m := by
        have := Nat.pow_le_pow_right (n := 2) (by omega) h0
        simpa using this
      have h3 := Nat.mul_le_mul hd' h2
      omega
  have bits : ∀ (x : Nat) (c : Nat) (q : Int), x < 2139095040 → ((x / 8388608 % 256 = 0 ∧ c = x % 8388608 ∧ q = -149) ∨ (x / 8388608 % 256 ≠ 0 ∧ c = 8388608 + x % 8388608 ∧ q = -149 + (((x / 8388608 % 256 : Nat) : Int) - 1))) → (c < 16777216 ∧ -149 ≤ q ∧ (q = -149 ∨ 8388608 ≤ c)) ∧ (x : Int) = (if c < 8388608 then (c : Int) else (q + 149) * 8388608 + c) := fun x c q hx h => by
    rcases h with ⟨h1, h2, h3⟩ | ⟨h1, h2, h3⟩
    · refine ⟨⟨by omega, by omega, by omega⟩, ?_⟩
      rw [if_pos (by omega)]; omega
    · refine ⟨⟨by omega, by omega, by omega⟩, ?_⟩
      rw [if_neg (by omega)]; omega
  obtain ⟨⟨b1, b2, b3⟩, b4⟩ := bits _ _ _ na d3
  obtain ⟨⟨c1, c2, c3⟩, c4⟩ := bits _ _ _ nb f3
  have heq : q = r ∧ c = d := by
    rcases Int.le_total q r with h | h
    · exact key c d q r (d2.symm.trans f2) h b1 b2 c3
    · have := key d c r q (f2.symm.trans d2) h c1 c2 b3
      exact ⟨this.1.symm, this.2.symm⟩
  obtain ⟨rfl, rfl⟩ := heq
  have hh : (a.toNat : Int) = (b.toNat : Int) := by rw [b4, c4]
  exact UInt32.toNat_inj.mp (by omega)
theorem fneg_nat (a : UInt32) (h : 2147483648 ≤ a.toNat) : (FP.fneg a).toNat = a.toNat - 2147483648 := by
  unfold FP.fneg
  rw [UInt32.toNat_xor]
  show a.toNat ^^^ 2147483648 = _
  have h1 : (a.toNat ^^^ 2147483648) % 2 ^ 31 = a.toNat % 2 ^ 31 := by
    rw [Nat.xor_mod_two_pow]; simp
  have h2 : (a.toNat ^^^ 2147483648) / 2 ^ 31 = 0 := by
    rw [Nat.xor_div_two_pow]
    have := a.toNat_lt
    rw [show a.toNat / 2 ^ 31 = 1 by omega]
    decide
  have := a.toNat_lt
  omega
theorem mSz_FV {a : UInt32} {v : Rat} {k : Int} (h : FV a v k) : FV (mSz a) (aq v) k ∧ ((a = 0 ∨ ¬ v = 0) → (mSz a).toNat < 2139095040) := by
  have hl := h.low
  have h0 := h
  obtain ⟨s, c, q, d, hv, n, hn⟩ := h
  obtain ⟨-, d2, d3⟩ := fl_dec d
  have hlt := a.toNat_lt
  have hc : 0 ≤ (c : Rat) * pw q := by
    have := Rat.mul_le_mul_of_nonneg_right (Rat.natCast_nonneg (a := c)) (pw_nn q)
    rw [Rat.zero_mul] at this; exact this
  unfold mSz
  rw [h0.ltB (zero_FV k)]
  by_cases hneg : v < 0
  · rw [decide_eq_true hneg, if_pos rfl]
    have hs : s = true := by
      cases s with
      | true => rfl
      | false => rw [hv, sg_Q] at hneg; simp only [Bool.false_eq_true, ↓reduceIte] at hneg; grind
    have hb : a.toNat / 8388608 / 256 % 2 = 1 := by rw [hs] at d2; exact eq_of_beq d2.symm
    have e := fneg_nat a (by omega)
    constructor
    · refine ⟨false, c, q, ?_, ?_, mul_aq hn⟩
      · have := fl_mk (n := (FP.fneg a).toNat) (c := c) (q := q) (by omega) (by
          rcases d3 with ⟨k1, k2, k3⟩ | ⟨k1, k2, k3⟩
          · exact Or.inl ⟨by omega, by omega, k3⟩
          · refine Or.inr ⟨by omega, by omega, ?_⟩
            rw [k3]; congr 3; omega)
        rw [this]
        have e2 : (FP.fneg a).toNat / 8388608 / 256 % 2 = 0 := by omega
        rw [e2]; rfl
      · rw [hv, aq_sg, sg_Q]; rfl
    · intro _; omega
  · rw [decide_eq_false hneg, if_neg (by decide)]
    have ea : aq v = v := by unfold aq; rw [if_neg hneg]
    rw [ea]
    refine ⟨h0, fun hz => ?_⟩
    rcases hz with hz | hz
    · rw [hz]; decide
    · have hs : s = false := by
        cases s with
        | false => rfl
        | true => rw [hv, sg_Q] at hneg hz; simp only [↓reduceIte] at hneg hz; grind
      have hb : a.toNat / 8388608 / 256 % 2 ≠ 1 := fun hb => by rw [hb, hs] at d2; cases d2
      omega
/-! coordinates -/
theorem i2f_FV {x : Int32} (hx : x.toInt.natAbs ≤ 9600) : FV (FP.i2f x) (x.toInt : Rat) 0 := by
  have p0 : pw 0 = 1 := Rat.zpow_zero 2
  obtain ⟨v, v1, v2⟩ := rnd_fin (s := decide (x.toInt < 0)) (c := x.toInt.natAbs) (q := 0) (k := 0) (x := ((x.toInt.natAbs : Nat) : Rat)) (n := x.toInt.natAbs) (by rw [p0, Rat.mul_one]) (by
    have h1 : ((x.toInt.natAbs : Nat) : Rat) ≤ ((9600 : Nat) : Rat) := Rat.natCast_le_natCast.mpr hx
    have h2 : ((9600 : Nat) : Rat) < pw 127 := by
      rw [show (127 : Int) = ((127 : Nat) : Int) from rfl, pw_nat]; exact Rat.natCast_lt_natCast.mpr (by decide)
    grind) (by omega) (by rw [p0, Rat.mul_one])
  have e1 : (if decide (x.toInt < 0) = true then -((x.toInt.natAbs : Nat) : Rat) else ((x.toInt.natAbs : Nat) : Rat)) = (x.toInt : Rat) := by
    by_cases h : x.toInt < 0
    · rw [decide_eq_true h, if_pos rfl, ← Rat.intCast_natCast, ← Rat.intCast_neg]; congr 1; omega
    · rw [decide_eq_false h, if_neg (by decide), ← Rat.intCast_natCast]; congr 1; omega
  rw [e1] at v2
  have e2 : v = (x.toInt : Rat) := by
    obtain ⟨s, c, q, -, -, n, hn⟩ := v1
    obtain ⟨d, d1, d2, d3⟩ := v2
    rw [p0, Rat.mul_one] at hn
    have hu : pw (-24) * 9601 < 1 := by decide +kernel
    have hX1 : (x.toInt : Rat) ≤ 9600 := Rat.intCast_le_intCast.mpr (show x.toInt ≤ 9600 by omega)
    have hX2 : -9600 ≤ (x.toInt : Rat) := by
      have := Rat.intCast_le_intCast.mpr (show -9600 ≤ x.toInt by omega)
      exact this
    have hb : (x.toInt : Rat) * d < 1 ∧ -1 < (x.toInt : Rat) * d := by
      rcases Int.le_total 0 x.toInt with h | h
      · have g0 : 0 ≤ (x.toInt : Rat) := Rat.intCast_nonneg.mpr h
        have g1 := Rat.mul_le_mul_of_nonneg_left d2 g0
        have g2 := Rat.mul_le_mul_of_nonneg_left d1 g0
        have g3 := Rat.mul_le_mul_of_nonneg_right hX1 (pw_nn (-24))
        constructor <;> grind
      · have g0 : 0 ≤ -(x.toInt : Rat) := by have := Rat.intCast_nonpos.mpr h; grind
        have g1 := Rat.mul_le_mul_of_nonneg_left d2 g0
        have g2 := Rat.mul_le_mul_of_nonneg_left d1 g0
        have g3 := Rat.mul_le_mul_of_nonneg_right hX2 (pw_nn (-24))
        constructor <;> grind
    have f1 : ((n - x.toInt : Int) : Rat) < ((1 : Int) : Rat) := by rw [Rat.intCast_sub]; show _ < (1 : Rat); grind
    have f2 : ((-1 : Int) : Rat) < ((n - x.toInt : Int) : Rat) := by rw [Rat.intCast_sub]; show (-1 : Rat) < _; grind
    have f3 := Rat.intCast_lt_intCast.mp f1
    have f4 := Rat.intCast_lt_intCast.mp f2
    rw [hn]; congr 1; omega
  rw [← e2]; exact v1
theorem fF_FV {x : Int32} (hx : x.toInt.natAbs ≤ 9600) : ∃ v, FV (fF x) v (-27) ∧ Rel v ((x.toInt : Rat) * (1 / 12)) := by
  obtain ⟨s, c, q, d1, d2, -⟩ := i2f_FV hx
  have h12 : FP.Core.decode FP.Core.b32 (1094713344 : UInt32).toNat = .fin false 12582912 (-20) := by decide +kernel
  show ∃ v, FV (UInt32.ofNat (FP.Core.encode FP.Core.b32 (FP.Core.quotient FP.Core.b32 (FP.Core.decode FP.Core.b32 (FP.i2f x).toNat) (FP.Core.decode FP.Core.b32 (1094713344 : UInt32).toNat)))) v (-27) ∧ _
  rw [d1, h12]
  simp only [FP.Core.quotient]
  rw [if_neg (by decide)]
  have hsf : (s != false) = s := by cases s <;> rfl
  rw [hsf]
  have hcq : (c : Rat) * pw q = aq (x.toInt : Rat) := by rw [d2, aq_sg]
  have e12 : ((12582912 : Nat) : Rat) * pw (-20) = 12 := by decide +kernel
  have hxq : (aq (x.toInt : Rat) * (1 / 12)) * ((12582912 : Nat) : Rat) = (c : Rat) * pw (q - -20) := by
    have e3 : pw (q - -20) = pw q * pw 20 := by rw [← pw_add]; congr 1
    have e4 : pw (-20) * pw 20 = 1 := by rw [← pw_add]; exact Rat.zpow_zero 2
    rw [e3, ← Rat.mul_assoc, hcq]
    have e5 : ((12582912 : Nat) : Rat) = 12 * pw 20 := by
      rw [← e12, Rat.mul_assoc, e4, Rat.mul_one]
    rw [e5]; grind
  have hsx : (if s = true then -(aq (x.toInt : Rat) * (1 / 12)) else aq (x.toInt : Rat) * (1 / 12)) = (x.toInt : Rat) * (1 / 12) := by
    rw [← hcq, d2, sg_Q]; cases s <;> simp <;> grind
  rcases Nat.eq_zero_or_pos c with h0 | h0
  · subst h0
    have hz : aq (x.toInt : Rat) * (1 / 12) = 0 := by
      rw [← hcq]
      have : ((0 : Nat) : Rat) = 0 := rfl
      rw [this]; grind
    have := rnd_Q (s := s) (num := 0) (den := 12582912) (e := q - -20) (k := -27) (x := aq (x.toInt : Rat) * (1 / 12)) (n := 0) (by omega) hxq (by rw [hz]; exact pw_pos _) (Or.inl rfl) (by
      rw [hz]
      have : ((0 : Nat) : Rat) = 0 := rfl
      rw [this, Rat.zero_mul])
    rw [hsx] at this
    exact this
  · have hx0 : x.toInt ≠ 0 := fun h => by
      rw [h] at hcq
      have e0 : aq ((0 : Int) : Rat) = 0 := by decide +kernel
      rw [e0] at hcq
      have hc : (c : Rat) ≤ 0 := Rat.le_of_mul_le_mul_right (c := pw q) (by rw [hcq, Rat.zero_mul]; exact Rat.le_refl) (pw_pos q)
      have : c ≤ 0 := Rat.natCast_le_natCast.mp hc
      omega
    have ha1 : 1 ≤ aq (x.toInt : Rat) := by
      unfold aq
      rcases (show x.toInt < 0 ∨ 0 < x.toInt by omega) with h | h
      · have g : (x.toInt : Rat) ≤ ((-1 : Int) : Rat) := Rat.intCast_le_intCast.mpr (by omega)
        have g' : (x.toInt : Rat) ≤ -1 := g
        rw [if_pos (by grind)]; grind
      · have g : ((1 : Int) : Rat) ≤ (x.toInt : Rat) := Rat.intCast_le_intCast.mpr (by omega)
        have g' : (1 : Rat) ≤ (x.toInt : Rat) := g
        rw [if_neg (by grind)]; exact g'
    have ha2 : aq (x.toInt : Rat) ≤ 9600 := by
      have g1 : (x.toInt : Rat) ≤ ((9600 : Int) : Rat) := Rat.intCast_le_intCast.mpr (by omega)
      have g2 : ((-9600 : Int) : Rat) ≤ (x.toInt : Rat) := Rat.intCast_le_intCast.mpr (by omega)
      have g1' : (x.toInt : Rat) ≤ 9600 := g1
      have g2' : -9600 ≤ (x.toInt : Rat) := g2
      unfold aq; split <;> grind
    have p4 : pw (-4) ≤ aq (x.toInt : Rat) * (1 / 12) := by
      have : pw (-4) * 12 ≤ 1 := by decide +kernel
      grind
    obtain ⟨c', q', d, hr, ⟨r1, r2, r3, r4⟩, hd, -, hlow⟩ := rr_Q (s := s) (n := 0) (k := 0) h0 (by decide) hxq (by
      have := pw_le (show (-126 : Int) ≤ -4 by omega)
      grind) (by
      have : (9600 : Rat) < pw 127 := by decide +kernel
      grind)
    have hq := hlow (-4) p4
    rw [hr]
    obtain ⟨m, hm⟩ := Int.eq_ofNat_of_zero_le (show 0 ≤ q' + 27 by omega)
    have hpq : pw q' = pw (m : Int) * pw (-27) := by rw [← pw_add]; congr 1; omega
    refine ⟨((FP.Core.signed s c' : Int) : Rat) * pw q', FV.mk' (n := FP.Core.signed s c' * ((2 ^ m : Nat) : Int)) r1 r3 r4 (Or.inr r2) rfl (by
      rw [hpq, Rat.intCast_mul, Rat.intCast_natCast, ← pw_nat, Rat.mul_assoc]), d, hd.1, hd.2.1, ?_⟩
    rw [← hsx, sg_Q]
    have h3 := hd.2.2
    cases s <;> simp <;> grind
