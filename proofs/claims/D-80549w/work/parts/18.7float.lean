set_option maxRecDepth 100000
/-! Floats: their values as rationals, the error of a rounding. -/
abbrev pw (z : Int) : Rat := (2 : Rat) ^ z
theorem pw_add (a b : Int) : pw (a + b) = pw a * pw b := Rat.zpow_add (by decide) a b
theorem pw_pos (a : Int) : 0 < pw a := Rat.zpow_pos (by decide)
theorem pw_nn (a : Int) : 0 ≤ pw a := Rat.zpow_nonneg (by decide)
theorem pw_nat (n : Nat) : pw (n : Int) = ((2 ^ n : Nat) : Rat) := by
  show (2 : Rat) ^ (n : Int) = _
  rw [Rat.zpow_natCast, Rat.natCast_pow]; rfl
theorem pw_ge1 (n : Nat) : (1 : Rat) ≤ pw (n : Int) := by
  rw [pw_nat]
  have h : 1 ≤ 2 ^ n := Nat.one_le_two_pow
  have := Rat.natCast_le_natCast.mpr h
  exact this
theorem pw_le {a b : Int} (h : a ≤ b) : pw a ≤ pw b := by
  obtain ⟨n, hn⟩ := Int.eq_ofNat_of_zero_le (show 0 ≤ b - a by omega)
  have e : b = a + (n : Int) := by omega
  rw [e, pw_add]
  have := Rat.mul_le_mul_of_nonneg_left (pw_ge1 n) (pw_nn a)
  rw [Rat.mul_one] at this
  exact this
theorem lt_of_pw {a b : Int} (h : pw a < pw b) : a < b := by
  rcases (show a < b ∨ b ≤ a by omega) with q | q
  · exact q
  · have := pw_le q; grind
theorem log2_Q {n : Nat} (h : 0 < n) : pw (n.log2 : Int) ≤ (n : Rat) ∧ (n : Rat) < pw ((n.log2 : Int) + 1) := by
  have h0 : n ≠ 0 := by omega
  constructor
  · rw [pw_nat]; exact Rat.natCast_le_natCast.mpr (Nat.log2_self_le h0)
  · have e : ((n.log2 : Int) + 1) = ((n.log2 + 1 : Nat) : Int) := by omega
    rw [e, pw_nat]; exact Rat.natCast_lt_natCast.mpr Nat.lt_log2_self
theorem lead_Q {num den : Nat} (hn : 0 < num) (hd : 0 < den) : pw (FP.Core.leading num den) * (den : Rat) ≤ (num : Rat) ∧ (num : Rat) < pw (FP.Core.leading num den + 1) * (den : Rat) := by
  obtain ⟨n1, n2⟩ := log2_Q hn
  obtain ⟨d1, d2⟩ := log2_Q hd
  have hk : ∀ k : Int, (den * 2 ^ k.toNat ≤ num * 2 ^ (-k).toNat) ↔ pw k * (den : Rat) ≤ (num : Rat) := fun k => by
    rcases Int.le_total 0 k with h | h
    · obtain ⟨m, rfl⟩ := Int.eq_ofNat_of_zero_le h
      have e1 : ((m : Int)).toNat = m := rfl
      have e2 : (-(m : Int)).toNat = 0 := by omega
      rw [e1, e2, pw_nat, ← Rat.natCast_mul, Rat.natCast_le_natCast, Nat.pow_zero, Nat.mul_one, Nat.mul_comm]
    · obtain ⟨m, hm⟩ := Int.eq_ofNat_of_zero_le (show 0 ≤ -k by omega)
      have e1 : k.toNat = 0 := by omega
      have e2 : (-k).toNat = m := by omega
      have e3 : pw k * pw (m : Int) = 1 := by rw [← pw_add, show k + (m : Int) = 0 by omega]; exact Rat.zpow_zero 2
      rw [e1, e2, Nat.pow_zero, Nat.mul_one, ← Rat.natCast_le_natCast, Rat.natCast_mul, ← pw_nat]
      constructor
      · intro g
        have := Rat.mul_le_mul_of_nonneg_left g (pw_nn k)
        have e4 : pw k * ((num : Rat) * pw (m : Int)) = num := by
          rw [Rat.mul_comm (num : Rat), ← Rat.mul_assoc, e3, Rat.one_mul]
        rw [e4] at this; exact this
      · intro g
        have := Rat.mul_le_mul_of_nonneg_right g (pw_nn (m : Int))
        have e4 : pw k * (den : Rat) * pw (m : Int) = den := by
          rw [Rat.mul_comm, ← Rat.mul_assoc, Rat.mul_comm (pw (m : Int)), e3, Rat.one_mul]
        rw [e4] at this; exact this
  unfold FP.Core.leading
  simp only
  have up : (num : Rat) < pw ((num.log2 : Int) - (den.log2 : Int) + 1) * (den : Rat) := by
    have e : pw ((num.log2 : Int) - (den.log2 : Int) + 1) * pw (den.log2 : Int) = pw ((num.log2 : Int) + 1) := by rw [← pw_add]; congr 1; omega
    have := Rat.mul_le_mul_of_nonneg_left d1 (pw_nn ((num.log2 : Int) - (den.log2 : Int) + 1))
    rw [e] at this
    grind
  have lo : pw ((num.log2 : Int) - (den.log2 : Int) - 1) * (den : Rat) ≤ (num : Rat) := by
    have e : pw ((num.log2 : Int) - (den.log2 : Int) - 1) * pw ((den.log2 : Int) + 1) = pw (num.log2 : Int) := by rw [← pw_add]; congr 1; omega
    have := Rat.mul_le_mul_of_nonneg_left (Std.le_of_lt d2) (pw_nn ((num.log2 : Int) - (den.log2 : Int) - 1))
    rw [e] at this
    grind
  split
  · next h => exact ⟨(hk _).mp h, up⟩
  · next h =>
    refine ⟨lo, ?_⟩
    have h2 : ¬ pw ((num.log2 : Int) - (den.log2 : Int)) * (den : Rat) ≤ (num : Rat) := fun g => h ((hk _).mpr g)
    rw [show (num.log2 : Int) - (den.log2 : Int) - 1 + 1 = (num.log2 : Int) - (den.log2 : Int) by omega]
    grind
theorem near_N (A B : Nat) (hB : 0 < B) : 2 * A ≤ 2 * (FP.Core.nearest A B * B) + B ∧ 2 * (FP.Core.nearest A B * B) ≤ 2 * A + B := by
  have h1 := Nat.div_add_mod A B
  have h2 := Nat.mod_lt A hB
  unfold FP.Core.nearest
  rw [Nat.mul_comm] at h1
  generalize A / B = k at h1 ⊢
  generalize A % B = r at h1 h2 ⊢
  have e : (k + 1) * B = k * B + B := Nat.succ_mul k B
  split
  · omega
  · split
    · rw [e]; omega
    · have hk : k % 2 = 0 ∨ k % 2 = 1 := by omega
      rcases hk with z | z
      · rw [z, Nat.add_zero]; omega
      · rw [z, e]; omega
theorem near_exact (M B : Nat) (hB : 0 < B) : FP.Core.nearest (M * B) B = M := by
  unfold FP.Core.nearest
  rw [Nat.mul_mod_left, Nat.mul_div_cancel M hB, if_pos (by omega)]
theorem b32_p : FP.Core.b32.p = 24 := rfl
theorem b32_qmin : FP.Core.b32.qmin = -149 := by decide
theorem b32_qmax : FP.Core.b32.qmax = 104 := by decide
theorem b32_tails : FP.Core.b32.tails = 8388608 := by decide
theorem b32_exps : FP.Core.b32.exps = 256 := by decide
theorem units_Q {num den : Nat} {e : Int} (q : Int) {x : Rat} (hx : x * (den : Rat) = (num : Rat) * pw e) : (FP.Core.unitsNum num e q : Rat) * pw q = x * (FP.Core.unitsDen den e q : Rat) := by
  unfold FP.Core.unitsNum FP.Core.unitsDen
  rw [Rat.natCast_mul, Rat.natCast_mul]
  rcases Int.le_total q e with h | h
  · obtain ⟨m, hm⟩ := Int.eq_ofNat_of_zero_le (show 0 ≤ e - q by omega)
    have e1 : (e - q).toNat = m := by omega
    have e2 : (q - e).toNat = 0 := by omega
    have e3 : pw e = pw (m : Int) * pw q := by rw [← pw_add]; congr 1; omega
    rw [e1, e2, ← pw_nat, Nat.pow_zero]
    have : ((1 : Nat) : Rat) = 1 := rfl
    rw [this, Rat.mul_one, hx, e3, Rat.mul_assoc]
  · obtain ⟨m, hm⟩ := Int.eq_ofNat_of_zero_le (show 0 ≤ q - e by omega)
    have e1 : (q - e).toNat = m := by omega
    have e2 : (e - q).toNat = 0 := by omega
    have e3 : pw q = pw e * pw (m : Int) := by rw [← pw_add]; congr 1; omega
    rw [e1, e2, Nat.pow_zero, ← pw_nat]
    have : ((1 : Nat) : Rat) = 1 := rfl
    rw [this, Rat.mul_one, e3, ← Rat.mul_assoc, ← Rat.mul_assoc, hx]
/-- a rounding in the normal range -/
theorem rr_Q {s : Bool} {num den : Nat} {e k : Int} {x : Rat} {n : Nat} (hn : 0 < num) (hd : 0 < den) (hx : x * (den : Rat) = (num : Rat) * pw e) (h1 : pw (-126) ≤ x) (h2 : x < pw 127) :
    ∃ (c : Nat) (q : Int) (d : Rat), FP.Core.roundRatio FP.Core.b32 s num den e = .fin s c q ∧ (c < 16777216 ∧ 8388608 ≤ c ∧ -149 ≤ q ∧ q ≤ 104) ∧ (-pw (-24) ≤ d ∧ d ≤ pw (-24) ∧ (c : Rat) * pw q = x + x * d) ∧ (x = (n : Rat) * pw k → ∃ m : Nat, (c : Rat) * pw q = (m : Rat) * pw k) ∧ (∀ z : Int, pw z ≤ x → z - 23 ≤ q) := by
  obtain ⟨l1, l2⟩ := lead_Q hn hd
  generalize hL : FP.Core.leading num den = L at l1 l2
  have hdQ : (0 : Rat) < (den : Rat) := Rat.natCast_pos.mpr hd
  have a1 : pw (L + e) ≤ x := by
    have := Rat.mul_le_mul_of_nonneg_right l1 (pw_nn e)
    rw [← hx, Rat.mul_assoc, Rat.mul_comm (den : Rat), ← Rat.mul_assoc, ← pw_add] at this
    exact Rat.le_of_mul_le_mul_right this hdQ
  have a2 : x < pw (L + e + 1) := by
    have := Rat.mul_lt_mul_of_pos_right l2 (pw_pos e)
    rw [← hx, Rat.mul_assoc, Rat.mul_comm (den : Rat), ← Rat.mul_assoc, ← pw_add] at this
    have g := Rat.lt_of_mul_lt_mul_right this (Std.le_of_lt hdQ)
    rw [show L + e + 1 = L + 1 + e by omega]; exact g
  have b1 : -126 < L + e + 1 := lt_of_pw (by grind)
  have b2 : L + e < 127 := lt_of_pw (by grind)
  have hq : FP.Core.quantum FP.Core.b32 num den e = L + e - 23 := by
    unfold FP.Core.quantum
    rw [hL, b32_qmin, b32_p]
    omega
  generalize hqq : L + e - 23 = q at hq
  have hu := units_Q q hx
  have hudN : 0 < FP.Core.unitsDen den e q := Nat.mul_pos hd (Nat.two_pow_pos _)
  generalize hun : FP.Core.unitsNum num e q = un at hu
  generalize hud : FP.Core.unitsDen den e q = ud at hu hudN
  have hudQ : (0 : Rat) < (ud : Rat) := Rat.natCast_pos.mpr hudN
  have c1 : 8388608 * ud ≤ un := by
    have e1 : pw (L + e) = 8388608 * pw q := by
      rw [show L + e = ((23 : Nat) : Int) + q by omega, pw_add, pw_nat]; rfl
    rw [e1] at a1
    have := Rat.mul_le_mul_of_nonneg_right a1 (Std.le_of_lt hudQ)
    rw [← hu, Rat.mul_assoc, Rat.mul_comm (pw q), ← Rat.mul_assoc] at this
    have g := Rat.le_of_mul_le_mul_right this (pw_pos q)
    have e2 : (8388608 : Rat) * (ud : Rat) = ((8388608 * ud : Nat) : Rat) := by rw [Rat.natCast_mul]; rfl
    rw [e2] at g
    exact Rat.natCast_le_natCast.mp g
  have c2 : un < 16777216 * ud := by
    have e1 : pw (L + e + 1) = 16777216 * pw q := by
      rw [show L + e + 1 = ((24 : Nat) : Int) + q by omega, pw_add, pw_nat]; rfl
    rw [e1] at a2
    have := Rat.mul_lt_mul_of_pos_right a2 hudQ
    rw [← hu, Rat.mul_assoc, Rat.mul_comm (pw q), ← Rat.mul_assoc] at this
    have g := Rat.lt_of_mul_lt_mul_right this (pw_nn q)
    have e2 : (16777216 : Rat) * (ud : Rat) = ((16777216 * ud : Nat) : Rat) := by rw [Rat.natCast_mul]; rfl
    rw [e2] at g
    exact Rat.natCast_lt_natCast.mp g
  obtain ⟨n1, n2⟩ := near_N un ud hudN
  generalize hc : FP.Core.nearest un ud = c at n1 n2
  have d1 : 8388608 ≤ c := by
    rcases Nat.lt_or_ge c 8388608 with z | z
    · have : (c + 1) * ud ≤ 8388608 * ud := Nat.mul_le_mul_right ud z
      rw [Nat.succ_mul] at this
      omega
    · exact z
  have d2 : c ≤ 16777216 := by
    rcases Nat.lt_or_ge 16777216 c with z | z
    · have : (16777216 + 1) * ud ≤ c * ud := Nat.mul_le_mul_right ud z
      omega
    · exact z
  have hxpos : 0 < x := by have := pw_pos (-126); grind
  -- the error
  have e0 : ((c : Rat) * pw q - x) * (ud : Rat) = ((c : Rat) * (ud : Rat) - (un : Rat)) * pw q := by grind
  have n1' : 2 * (un : Rat) ≤ 2 * ((c : Rat) * (ud : Rat)) + (ud : Rat) := by
    have := Rat.natCast_le_natCast.mpr n1
    simp only [Rat.natCast_add, Rat.natCast_mul] at this
    exact this
  have n2' : 2 * ((c : Rat) * (ud : Rat)) ≤ 2 * (un : Rat) + (ud : Rat) := by
    have := Rat.natCast_le_natCast.mpr n2
    simp only [Rat.natCast_add, Rat.natCast_mul] at this
    exact this
  have hq24 : pw q ≤ 2 * (x * pw (-24)) := by
    have e1 : pw q = 2 * (pw (L + e) * pw (-24)) := by
      have : (2 : Rat) = pw 1 := (Rat.zpow_one 2).symm
      rw [this, ← pw_add, ← pw_add]; congr 1; omega
    rw [e1]
    have := Rat.mul_le_mul_of_nonneg_right a1 (pw_nn (-24))
    grind
  have er1 : (c : Rat) * pw q - x ≤ x * pw (-24) := by
    have f1 : ((c : Rat) * (ud : Rat) - (un : Rat)) * pw q ≤ ((ud : Rat) * (1 / 2)) * pw q := Rat.mul_le_mul_of_nonneg_right (by grind) (pw_nn q)
    rw [← e0] at f1
    have f2 : ((c : Rat) * pw q - x) * (ud : Rat) ≤ (pw q * (1 / 2)) * (ud : Rat) := by grind
    have f3 := Rat.le_of_mul_le_mul_right f2 hudQ
    grind
  have er2 : -(x * pw (-24)) ≤ (c : Rat) * pw q - x := by
    have f1 : (-((ud : Rat) * (1 / 2))) * pw q ≤ ((c : Rat) * (ud : Rat) - (un : Rat)) * pw q := Rat.mul_le_mul_of_nonneg_right (by grind) (pw_nn q)
    rw [← e0] at f1
    have f2 : (-(pw q * (1 / 2))) * (ud : Rat) ≤ ((c : Rat) * pw q - x) * (ud : Rat) := by grind
    have f3 := Rat.le_of_mul_le_mul_right f2 hudQ
    grind
  have hdd : ∃ d : Rat, -pw (-24) ≤ d ∧ d ≤ pw (-24) ∧ (c : Rat) * pw q = x + x * d := by
    have hx0 : x ≠ 0 := by grind
    have hxi : x⁻¹ * x = 1 := Rat.inv_mul_cancel x hx0
    refine ⟨((c : Rat) * pw q - x) * x⁻¹, ?_, ?_, ?_⟩
    · have g : (-pw (-24)) * x ≤ (((c : Rat) * pw q - x) * x⁻¹) * x := by rw [Rat.mul_assoc, hxi, Rat.mul_one]; grind
      exact Rat.le_of_mul_le_mul_right g hxpos
    · have g : (((c : Rat) * pw q - x) * x⁻¹) * x ≤ pw (-24) * x := by rw [Rat.mul_assoc, hxi, Rat.mul_one]; grind
      exact Rat.le_of_mul_le_mul_right g hxpos
    · rw [Rat.mul_comm x, Rat.mul_assoc, hxi, Rat.mul_one]; grind
  have hmul : x = (n : Rat) * pw k → ∃ m : Nat, (c : Rat) * pw q = (m : Rat) * pw k := fun hk => by
    rcases Int.le_total k q with z | z
    · obtain ⟨m, hm⟩ := Int.eq_ofNat_of_zero_le (show 0 ≤ q - k by omega)
      refine ⟨c * 2 ^ m, ?_⟩
      rw [Rat.natCast_mul, ← pw_nat, Rat.mul_assoc, ← pw_add]; congr 2; omega
    · obtain ⟨m, hm⟩ := Int.eq_ofNat_of_zero_le (show 0 ≤ k - q by omega)
      have e1 : pw k = pw (m : Int) * pw q := by rw [← pw_add]; congr 1; omega
      have e2 : (un : Rat) = ((n * 2 ^ m * ud : Nat) : Rat) := by
        have : (un : Rat) * pw q = ((n : Rat) * pw (m : Int) * (ud : Rat)) * pw q := by rw [hu, hk, e1]; grind
        rw [Rat.natCast_mul, Rat.natCast_mul, ← pw_nat]
        have g1 := Rat.le_of_mul_le_mul_right (Std.le_of_eq this) (pw_pos q)
        have g2 := Rat.le_of_mul_le_mul_right (Std.le_of_eq this.symm) (pw_pos q)
        grind
      have e3 : un = n * 2 ^ m * ud := Rat.natCast_inj.mp e2
      have e4 : c = n * 2 ^ m := by rw [← hc, e3]; exact near_exact _ _ hudN
      refine ⟨n, ?_⟩
      rw [e4, Rat.natCast_mul, ← pw_nat, Rat.mul_assoc, ← e1]
  have hlow : ∀ z : Int, pw z ≤ x → z - 23 ≤ q := fun z hz => by
    have : z < L + e + 1 := lt_of_pw (by grind)
    omega
  have hset : FP.Core.roundRatio FP.Core.b32 s num den e = if c < 16777216 then .fin s c q else .fin s 8388608 (q + 1) := by
    unfold FP.Core.roundRatio FP.Core.roundAt FP.Core.settle FP.Core.bound
    rw [if_neg (by omega), hq, hun, hud, hc, b32_qmax, b32_tails, b32_p]
    have q1 : q ≤ 104 := by omega
    have q2 : q + 1 ≤ 104 := by omega
    rw [if_pos q1, if_pos q2]
  by_cases hlt : c < 16777216
  · rw [if_pos hlt] at hset
    obtain ⟨d, g⟩ := hdd
    exact ⟨c, q, d, hset, ⟨hlt, d1, by omega, by omega⟩, g, hmul, hlow⟩
  · rw [if_neg hlt] at hset
    have hc2 : c = 16777216 := by omega
    have e5 : (c : Rat) * pw q = ((8388608 : Nat) : Rat) * pw (q + 1) := by
      rw [hc2, pw_add]
      have : pw 1 = 2 := Rat.zpow_one 2
      rw [this]
      have h3 : ((16777216 : Nat) : Rat) = ((8388608 : Nat) : Rat) * 2 := by
        show ((8388608 * 2 : Nat) : Rat) = _
        rw [Rat.natCast_mul]; rfl
      rw [h3]; grind
    obtain ⟨d, g1, g2, g3⟩ := hdd
    refine ⟨8388608, q + 1, d, hset, ⟨by omega, by omega, by omega, by omega⟩, ⟨g1, g2, by rw [← e5]; exact g3⟩, fun hk => ?_, fun z hz => by have := hlow z hz; omega⟩
    rw [← e5]; exact hmul hk
