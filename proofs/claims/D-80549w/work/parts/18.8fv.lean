set_option maxRecDepth 100000
/-! Floats as numbers: what their bits say, sums, products, quotients, comparisons. -/
theorem fl_fields {sn e t : Nat} (hs : sn ≤ 1) (he : e < 256) (ht : t < 8388608) : ((sn * 256 + e) * 8388608 + t) % 8388608 = t ∧ ((sn * 256 + e) * 8388608 + t) / 8388608 % 256 = e ∧ ((sn * 256 + e) * 8388608 + t) / 8388608 / 256 % 2 = sn ∧ (sn * 256 + e) * 8388608 + t < 4294967296 := by omega
theorem fl_toNat {n : Nat} (h : n < 4294967296) : (UInt32.ofNat n).toNat = n := by
  rw [UInt32.toNat_ofNat']; exact Nat.mod_eq_of_lt h
theorem dec_enc {s : Bool} {c : Nat} {q : Int} (h1 : c < 16777216) (h2 : -149 ≤ q) (h3 : q ≤ 104) (h4 : q = -149 ∨ 8388608 ≤ c) : FP.Core.encode FP.Core.b32 (.fin s c q) < 4294967296 ∧ FP.Core.decode FP.Core.b32 (FP.Core.encode FP.Core.b32 (.fin s c q)) = .fin s c q := by
  have hs : s.toNat ≤ 1 := by cases s <;> decide
  by_cases hc : c < 8388608
  · have hq : q = -149 := by omega
    have he : FP.Core.encode FP.Core.b32 (.fin s c q) = (s.toNat * 256 + 0) * 8388608 + c := by
      simp only [FP.Core.encode, FP.Core.assemble, b32_tails, b32_exps]
      rw [if_pos hc]
    obtain ⟨f1, f2, f3, f4⟩ := fl_fields (sn := s.toNat) (e := 0) (t := c) hs (by omega) hc
    rw [he]
    refine ⟨f4, ?_⟩
    unfold FP.Core.decode FP.Core.fieldE FP.Core.fieldT FP.Core.fieldS
    rw [b32_tails, b32_exps, b32_qmin, f1, f2, f3, if_neg (by decide), if_pos rfl, hq]
    cases s <;> rfl
  · obtain ⟨m, hm⟩ := Int.eq_ofNat_of_zero_le (show 0 ≤ q + 149 by omega)
    have he : FP.Core.encode FP.Core.b32 (.fin s c q) = (s.toNat * 256 + (m + 1)) * 8388608 + (c - 8388608) := by
      simp only [FP.Core.encode, FP.Core.assemble, b32_tails, b32_exps, b32_qmin]
      rw [if_neg hc, show (q - -149).toNat = m by omega]
    obtain ⟨f1, f2, f3, f4⟩ := fl_fields (sn := s.toNat) (e := m + 1) (t := c - 8388608) hs (by omega) (by omega)
    rw [he]
    refine ⟨f4, ?_⟩
    unfold FP.Core.decode FP.Core.fieldE FP.Core.fieldT FP.Core.fieldS
    rw [b32_tails, b32_exps, b32_qmin, f1, f2, f3, if_neg (by omega), if_neg (by omega)]
    have e1 : 8388608 + (c - 8388608) = c := by omega
    have e2 : -149 + (((m + 1 : Nat) : Int) - 1) = q := by omega
    rw [e1, e2]
    cases s <;> rfl
/-- a float that is the number v, a multiple of 2^k -/
def FV (a : UInt32) (v : Rat) (k : Int) : Prop := ∃ (s : Bool) (c : Nat) (q : Int), FP.Core.decode FP.Core.b32 a.toNat = .fin s c q ∧ v = ((FP.Core.signed s c : Int) : Rat) * pw q ∧ ∃ n : Int, v = (n : Rat) * pw k
theorem FV.mk' {s : Bool} {c : Nat} {q k n : Int} {v : Rat} (h1 : c < 16777216) (h2 : -149 ≤ q) (h3 : q ≤ 104) (h4 : q = -149 ∨ 8388608 ≤ c) (hv : v = ((FP.Core.signed s c : Int) : Rat) * pw q) (hn : v = (n : Rat) * pw k) : FV (UInt32.ofNat (FP.Core.encode FP.Core.b32 (.fin s c q))) v k := by
  obtain ⟨e1, e2⟩ := dec_enc (s := s) h1 h2 h3 h4
  exact ⟨s, c, q, by rw [fl_toNat e1]; exact e2, hv, n, hn⟩
/-- near: with a relative error of one half of the last digit -/
def Rel (v x : Rat) : Prop := ∃ d : Rat, -pw (-24) ≤ d ∧ d ≤ pw (-24) ∧ v = x + x * d
theorem sg_Q (s : Bool) (c : Nat) : ((FP.Core.signed s c : Int) : Rat) = if s = true then -(c : Rat) else (c : Rat) := by
  cases s <;> simp [FP.Core.signed, Rat.intCast_neg, Rat.intCast_natCast]
/-- the rounding of a magnitude with a sign -/
theorem rnd_Q {s : Bool} {num den : Nat} {e k : Int} {x : Rat} {n : Nat} (hd : 0 < den) (hx : x * (den : Rat) = (num : Rat) * pw e) (h2 : x < pw 127) (hk : num = 0 ∨ pw (-126) ≤ x) (hn : x = (n : Rat) * pw k) :
    ∃ v, FV (UInt32.ofNat (FP.Core.encode FP.Core.b32 (FP.Core.roundRatio FP.Core.b32 s num den e))) v k ∧ Rel v (if s = true then -x else x) := by
  have hdQ : (0 : Rat) < (den : Rat) := Rat.natCast_pos.mpr hd
  rcases Nat.eq_zero_or_pos num with h0 | h0
  · subst h0
    have hx0 : x = 0 := by
      have e0 : ((0 : Nat) : Rat) = 0 := rfl
      rw [e0, Rat.zero_mul] at hx
      have g1 := Rat.le_of_mul_le_mul_right (show x * (den : Rat) ≤ 0 * (den : Rat) by rw [hx, Rat.zero_mul]; exact Rat.le_refl) hdQ
      have g2 := Rat.le_of_mul_le_mul_right (show 0 * (den : Rat) ≤ x * (den : Rat) by rw [hx, Rat.zero_mul]; exact Rat.le_refl) hdQ
      grind
    have hr : FP.Core.roundRatio FP.Core.b32 s 0 den e = .fin s 0 (-149) := by unfold FP.Core.roundRatio; rw [if_pos rfl, b32_qmin]
    rw [hr]
    refine ⟨0, FV.mk' (n := 0) (by omega) (by omega) (by omega) (Or.inl rfl) ?_ ?_, 0, ?_, ?_, ?_⟩
    · rw [sg_Q]; cases s <;> simp [Rat.zero_mul]
    · simp [Rat.zero_mul]
    · have := pw_pos (-24); grind
    · exact pw_nn _
    · rw [hx0]; cases s <;> simp <;> grind
  · have h1 : pw (-126) ≤ x := by
      rcases hk with h | h
      · omega
      · exact h
    obtain ⟨c, q, d, hr, ⟨r1, r2, r3, r4⟩, ⟨d1, d2, d3⟩, hm, -⟩ := rr_Q (s := s) (n := n) (k := k) h0 hd hx h1 h2
    obtain ⟨m, hm⟩ := hm hn
    rw [hr]
    cases s with
    | false =>
      refine ⟨(c : Rat) * pw q, FV.mk' (n := (m : Int)) r1 r3 r4 (Or.inr r2) (by rw [sg_Q]; rfl) (by rw [hm]; rfl), d, d1, d2, ?_⟩
      exact d3
    | true =>
      refine ⟨-((c : Rat) * pw q), FV.mk' (n := -(m : Int)) r1 r3 r4 (Or.inr r2) (by rw [sg_Q]; simp only [↓reduceIte]; grind) (by rw [hm, Rat.intCast_neg, Rat.intCast_natCast]; grind), d, d1, d2, ?_⟩
      simp only [↓reduceIte]
      grind
/-- a multiple that is not zero is no less than one -/
theorem mul_ge {x : Rat} {n : Nat} {k : Int} (hx : x = (n : Rat) * pw k) (hk : -126 ≤ k) : n = 0 ∨ pw (-126) ≤ x := by
  rcases Nat.eq_zero_or_pos n with h | h
  · exact Or.inl h
  · right
    have h1 : (1 : Rat) ≤ (n : Rat) := Rat.natCast_le_natCast.mpr h
    have h2 := Rat.mul_le_mul_of_nonneg_right h1 (pw_nn k)
    rw [Rat.one_mul, ← hx] at h2
    have h3 := pw_le hk
    grind
/-- the rounding of a datum c * 2^q with a sign, that is a multiple of 2^k -/
theorem rnd_fin {s : Bool} {c n : Nat} {q k : Int} {x : Rat} (hx : x = (c : Rat) * pw q) (h2 : x < pw 127) (hk : -126 ≤ k) (hn : x = (n : Rat) * pw k) :
    ∃ v, FV (UInt32.ofNat (FP.Core.encode FP.Core.b32 (FP.Core.round FP.Core.b32 (.fin s c q)))) v k ∧ Rel v (if s = true then -x else x) := by
  have h1 : ((1 : Nat) : Rat) = 1 := rfl
  refine rnd_Q (s := s) (n := n) (den := 1) (by omega) (by rw [h1, Rat.mul_one]; exact hx) h2 ?_ hn
  rcases mul_ge hn hk with h | h
  · left
    subst h
    have h0 : ((0 : Nat) : Rat) = 0 := rfl
    rw [h0, Rat.zero_mul] at hn
    rw [hn] at hx
    have hp := pw_pos q
    have hc : (c : Rat) ≤ 0 := Rat.le_of_mul_le_mul_right (c := pw q) (by rw [← hx, Rat.zero_mul]; exact Rat.le_refl) hp
    have : c ≤ 0 := Rat.natCast_le_natCast.mp hc
    omega
  · exact Or.inr h
theorem abs_mul_k {V : Int} {v : Rat} {k n : Int} {e : Int} (hV : v = (V : Rat) * pw e) (hn : v = (n : Rat) * pw k) : ((V.natAbs : Nat) : Rat) * pw e = ((n.natAbs : Nat) : Rat) * pw k := by
  have hp := pw_pos e
  have hp' := pw_pos k
  have key : ∀ (z : Int) (r : Rat), 0 < r → ((z.natAbs : Nat) : Rat) * r = if 0 ≤ (z : Rat) * r then (z : Rat) * r else -((z : Rat) * r) := fun z r hr => by
    rcases Int.le_total 0 z with h | h
    · have e1 : ((z.natAbs : Nat) : Rat) = (z : Rat) := by rw [← Rat.intCast_natCast, Int.natAbs_of_nonneg h]
      have e2 : 0 ≤ (z : Rat) := Rat.intCast_nonneg.mpr h
      have e3 : 0 ≤ (z : Rat) * r := by have := Rat.mul_le_mul_of_nonneg_right e2 (Std.le_of_lt hr); rw [Rat.zero_mul] at this; exact this
      rw [if_pos e3, e1]
    · have e1 : ((z.natAbs : Nat) : Rat) = -(z : Rat) := by rw [← Rat.intCast_natCast, ← Rat.intCast_neg]; congr 1; omega
      have e2 : (z : Rat) ≤ 0 := Rat.intCast_nonpos.mpr h
      have e3 : (z : Rat) * r ≤ 0 := by have := Rat.mul_le_mul_of_nonneg_right e2 (Std.le_of_lt hr); rw [Rat.zero_mul] at this; exact this
      rw [e1]
      split <;> grind
  rw [key V _ hp, key n _ hp', ← hV, ← hn]
theorem units_S (s : Bool) (c : Nat) {q e : Int} (h : e ≤ q) : ((FP.Core.signed s (FP.Core.inUnits c q e) : Int) : Rat) * pw e = ((FP.Core.signed s c : Int) : Rat) * pw q := by
  obtain ⟨m, hm⟩ := Int.eq_ofNat_of_zero_le (show 0 ≤ q - e by omega)
  have e1 : FP.Core.inUnits c q e = c * 2 ^ m := by unfold FP.Core.inUnits; rw [show (q - e).toNat = m by omega]
  have e2 : pw q = pw (m : Int) * pw e := by rw [← pw_add]; congr 1; omega
  rw [e1, sg_Q, sg_Q, Rat.natCast_mul, ← pw_nat, e2]
  cases s <;> simp <;> grind
theorem fadd_FV {a b : UInt32} {v w : Rat} {k : Int} (ha : FV a v k) (hb : FV b w k) (hk : -126 ≤ k) (h1 : v + w < pw 127) (h2 : -pw 127 < v + w) : ∃ r, FV (FP.fadd a b) r k ∧ Rel r (v + w) := by
  obtain ⟨s, c, q, d1, d2, n, d3⟩ := ha
  obtain ⟨t, d, r, f1, f2, m, f3⟩ := hb
  show ∃ r, FV (UInt32.ofNat (FP.Core.encode FP.Core.b32 (FP.Core.round FP.Core.b32 (FP.Core.exactSum (FP.Core.decode FP.Core.b32 a.toNat) (FP.Core.decode FP.Core.b32 b.toNat))))) r k ∧ _
  rw [d1, f1]
  simp only [FP.Core.exactSum]
  have hV : v + w = ((FP.Core.sumUnits s c q t d r (min q r) : Int) : Rat) * pw (min q r) := by
    unfold FP.Core.sumUnits
    rw [Rat.intCast_add, Rat.add_mul, units_S s c (Int.min_le_left q r), units_S t d (Int.min_le_right q r), ← d2, ← f2]
  have hn : v + w = ((n + m : Int) : Rat) * pw k := by rw [Rat.intCast_add, Rat.add_mul, ← d3, ← f3]
  generalize FP.Core.sumUnits s c q t d r (min q r) = V at hV ⊢
  generalize min q r = e at hV ⊢
  have hN := abs_mul_k hV hn
  have hx : ((V.natAbs : Nat) : Rat) * pw e = if V < 0 then -(v + w) else v + w := by
    rw [hV]
    split
    · next h => rw [← Rat.intCast_natCast, ← Rat.neg_mul, ← Rat.intCast_neg]; congr 2; omega
    · next h => rw [← Rat.intCast_natCast]; congr 2; omega
  obtain ⟨z, z1, z2⟩ := rnd_fin (s := FP.Core.sumSign s t V) (c := V.natAbs) (q := e) (x := ((V.natAbs : Nat) : Rat) * pw e) (n := (n + m).natAbs) rfl (by rw [hx]; split <;> grind) hk hN
  refine ⟨z, z1, ?_⟩
  have e9 : (if FP.Core.sumSign s t V = true then -(((V.natAbs : Nat) : Rat) * pw e) else ((V.natAbs : Nat) : Rat) * pw e) = v + w := by
    rw [hx]
    unfold FP.Core.sumSign
    by_cases h0 : V = 0
    · subst h0
      have : v + w = 0 := by rw [hV]; simp [Rat.zero_mul]
      rw [this]; simp
    · rw [if_neg h0]
      by_cases h : V < 0
      · simp only [h, decide_true, ↓reduceIte]; grind
      · simp only [h, decide_false, Bool.false_eq_true, ↓reduceIte]
  rw [e9] at z2
  exact z2
theorem fsub_FV {a b : UInt32} {v w : Rat} {k : Int} (ha : FV a v k) (hb : FV b w k) (hk : -126 ≤ k) (h1 : v - w < pw 127) (h2 : -pw 127 < v - w) : ∃ r, FV (FP.fsub a b) r k ∧ Rel r (v - w) := by
  obtain ⟨s, c, q, d1, d2, n, d3⟩ := ha
  obtain ⟨t, d, r, f1, f2, m, f3⟩ := hb
  show ∃ r, FV (UInt32.ofNat (FP.Core.encode FP.Core.b32 (FP.Core.round FP.Core.b32 (FP.Core.exactSum (FP.Core.decode FP.Core.b32 a.toNat) (FP.Core.negate (FP.Core.decode FP.Core.b32 b.toNat)))))) r k ∧ _
  rw [d1, f1]
  simp only [FP.Core.exactSum, FP.Core.negate]
  have hV : v - w = ((FP.Core.sumUnits s c q (!t) d r (min q r) : Int) : Rat) * pw (min q r) := by
    unfold FP.Core.sumUnits
    rw [Rat.intCast_add, Rat.add_mul, units_S s c (Int.min_le_left q r), units_S (!t) d (Int.min_le_right q r), ← d2]
    have : ((FP.Core.signed (!t) d : Int) : Rat) * pw r = -w := by rw [f2, sg_Q, sg_Q]; cases t <;> simp <;> grind
    rw [this]; grind
  have hn : v - w = ((n - m : Int) : Rat) * pw k := by rw [Rat.intCast_sub]; grind
  generalize FP.Core.sumUnits s c q (!t) d r (min q r) = V at hV ⊢
  generalize min q r = e at hV ⊢
  have hN := abs_mul_k hV hn
  have hx : ((V.natAbs : Nat) : Rat) * pw e = if V < 0 then -(v - w) else v - w := by
    rw [hV]
    split
    · next h => rw [← Rat.intCast_natCast, ← Rat.neg_mul, ← Rat.intCast_neg]; congr 2; omega
    · next h => rw [← Rat.intCast_natCast]; congr 2; omega
  obtain ⟨z, z1, z2⟩ := rnd_fin (s := FP.Core.sumSign s (!t) V) (c := V.natAbs) (q := e) (x := ((V.natAbs : Nat) : Rat) * pw e) (n := (n - m).natAbs) rfl (by rw [hx]; split <;> grind) hk hN
  refine ⟨z, z1, ?_⟩
  have e9 : (if FP.Core.sumSign s (!t) V = true then -(((V.natAbs : Nat) : Rat) * pw e) else ((V.natAbs : Nat) : Rat) * pw e) = v - w := by
    rw [hx]
    unfold FP.Core.sumSign
    by_cases h0 : V = 0
    · subst h0
      have : v - w = 0 := by rw [hV]; simp [Rat.zero_mul]
      rw [this]; simp
    · rw [if_neg h0]
      by_cases h : V < 0
      · simp only [h, decide_true, ↓reduceIte]; grind
      · simp only [h, decide_false, Bool.false_eq_true, ↓reduceIte]
  rw [e9] at z2
  exact z2
theorem fmul_FV {a b : UInt32} {v w : Rat} {k j : Int} (ha : FV a v k) (hb : FV b w j) (hk : -126 ≤ k + j) (h1 : v * w < pw 127) (h2 : -pw 127 < v * w) : ∃ r, FV (FP.fmul a b) r (k + j) ∧ Rel r (v * w) := by
  obtain ⟨s, c, q, d1, d2, n, d3⟩ := ha
  obtain ⟨t, d, r, f1, f2, m, f3⟩ := hb
  show ∃ r, FV (UInt32.ofNat (FP.Core.encode FP.Core.b32 (FP.Core.round FP.Core.b32 (FP.Core.exactProduct (FP.Core.decode FP.Core.b32 a.toNat) (FP.Core.decode FP.Core.b32 b.toNat))))) r (k + j) ∧ _
  rw [d1, f1]
  simp only [FP.Core.exactProduct]
  have e9 : (if (s != t) = true then -(((c * d : Nat) : Rat) * pw (q + r)) else ((c * d : Nat) : Rat) * pw (q + r)) = v * w := by
    rw [d2, f2, sg_Q, sg_Q, Rat.natCast_mul, pw_add]
    cases s <;> cases t <;> simp <;> grind
  have hx : ((c * d : Nat) : Rat) * pw (q + r) = ((n * m).natAbs : Nat) * pw (k + j) := by
    have hV : v * w = ((FP.Core.signed (s != t) (c * d) : Int) : Rat) * pw (q + r) := by rw [← e9, sg_Q]; cases (s != t) <;> simp <;> grind
    have hn : v * w = ((n * m : Int) : Rat) * pw (k + j) := by rw [Rat.intCast_mul, pw_add, d3, f3]; grind
    have := abs_mul_k hV hn
    have h3 : (FP.Core.signed (s != t) (c * d)).natAbs = c * d := by unfold FP.Core.signed; split <;> omega
    rw [h3] at this
    exact this
  obtain ⟨z, z1, z2⟩ := rnd_fin (s := (s != t)) (c := c * d) (q := q + r) (x := ((c * d : Nat) : Rat) * pw (q + r)) (n := (n * m).natAbs) rfl (by
    have : ((c * d : Nat) : Rat) * pw (q + r) = if (s != t) = true then -(v * w) else v * w := by rw [← e9]; cases (s != t) <;> simp
    rw [this]; split <;> grind) hk hx
  rw [e9] at z2
  exact ⟨z, z1, z2⟩
theorem FV.cmp {a b : UInt32} {v w : Rat} {k j : Int} (ha : FV a v k) (hb : FV b w j) : FP.fcmp a b = some (if v < w then .lt else if v = w then .eq else .gt) := by
  obtain ⟨s, c, q, d1, d2, -⟩ := ha
  obtain ⟨t, d, r, f1, f2, -⟩ := hb
  show FP.Core.order (FP.Core.decode FP.Core.b32 a.toNat) (FP.Core.decode FP.Core.b32 b.toNat) = _
  rw [d1, f1]
  simp only [FP.Core.order]
  have h1 := units_S s c (Int.min_le_left q r)
  have h2 := units_S t d (Int.min_le_right q r)
  rw [← d2] at h1
  rw [← f2] at h2
  generalize FP.Core.signed s (FP.Core.inUnits c q (min q r)) = V at h1 ⊢
  generalize FP.Core.signed t (FP.Core.inUnits d r (min q r)) = W at h2 ⊢
  have hp := pw_pos (min q r)
  have i1 : v < w ↔ V < W := by
    rw [← h1, ← h2, Rat.mul_lt_mul_right hp, Rat.intCast_lt_intCast]
  have i2 : v = w ↔ V = W := by
    rw [← h1, ← h2]
    constructor
    · intro h
      have g1 := Rat.le_of_mul_le_mul_right (Std.le_of_eq h) hp
      have g2 := Rat.le_of_mul_le_mul_right (Std.le_of_eq h.symm) hp
      exact Rat.intCast_inj.mp (by grind)
    · intro h; rw [h]
  simp only [i1, i2]
  congr 1
theorem FV.nn {a : UInt32} {v : Rat} {k : Int} (ha : FV a v k) : vf_n32 a := by
  obtain ⟨s, c, q, d1, -⟩ := ha
  have hE : a.toNat / 8388608 % 256 ≠ 255 := fun h => by
    unfold FP.Core.decode FP.Core.fieldE at d1
    rw [b32_tails, b32_exps, h, if_pos rfl] at d1
    split at d1 <;> cases d1
  unfold vf_n32
  rw [UInt32.le_iff_toNat_le, UInt32.toNat_and]
  show a.toNat &&& 2 ^ 31 - 1 ≤ 2139095040
  rw [Nat.and_two_pow_sub_one_eq_mod]
  have := a.toNat_lt
  omega
