set_option maxRecDepth 100000
/-! Whole numbers: the words of the class and its reference in integers. -/
def BJ (x : Int32) (v : Int) (B : Nat) : Prop := x.toInt = v ∧ v.natAbs ≤ B
def BL (x : Int64) (v : Int) (B : Nat) : Prop := x.toInt = v ∧ v.natAbs ≤ B
theorem nab_mul {a b : Int} {A B : Nat} (ha : a.natAbs ≤ A) (hb : b.natAbs ≤ B) : (a * b).natAbs ≤ A * B := by
  rw [Int.natAbs_mul]; exact Nat.mul_le_mul ha hb
theorem BJ.sub {x y : Int32} {v w : Int} {A B : Nat} (h : BJ x v A) (k : BJ y w B) (hb : A + B < 2147483648) : BJ (x - y) (v - w) (A + B) := by
  obtain ⟨rfl, h2⟩ := h
  obtain ⟨rfl, k2⟩ := k
  exact ⟨i32_sub (by omega) (by omega), by omega⟩
theorem BJ.w {x : Int32} {v : Int} {A : Nat} (h : BJ x v A) : BL x.toInt64 v A := ⟨by rw [Int32.toInt_toInt64]; exact h.1, h.2⟩
theorem BL.add {x y : Int64} {v w : Int} {A B : Nat} (h : BL x v A) (k : BL y w B) (hb : A + B < 9223372036854775808) : BL (x + y) (v + w) (A + B) := by
  obtain ⟨rfl, h2⟩ := h
  obtain ⟨rfl, k2⟩ := k
  exact ⟨i64_add (by omega) (by omega), by omega⟩
theorem BL.sub {x y : Int64} {v w : Int} {A B : Nat} (h : BL x v A) (k : BL y w B) (hb : A + B < 9223372036854775808) : BL (x - y) (v - w) (A + B) := by
  obtain ⟨rfl, h2⟩ := h
  obtain ⟨rfl, k2⟩ := k
  exact ⟨i64_sub (by omega) (by omega), by omega⟩
theorem BL.mul {x y : Int64} {v w : Int} {A B : Nat} (h : BL x v A) (k : BL y w B) (hb : A * B < 9223372036854775808) : BL (x * y) (v * w) (A * B) := by
  obtain ⟨rfl, h2⟩ := h
  obtain ⟨rfl, k2⟩ := k
  have h3 := nab_mul h2 k2
  generalize hm : x.toInt * y.toInt = z at h3
  have h4 : z.natAbs < 9223372036854775808 := Nat.lt_of_le_of_lt h3 hb
  exact ⟨by rw [← hm]; exact i64_mul (by rw [hm]; omega) (by rw [hm]; omega), h3⟩
theorem BL.to {x : Int64} {v : Int} {A B : Nat} (h : BL x v A) (hb : A ≤ B) : BL x v B := ⟨h.1, Nat.le_trans h.2 hb⟩
theorem OkP.x {p : P2} (h : OkP p) : BJ p.1 p.1.toInt 9600 := ⟨rfl, by have := h.1; have := h.2.1; omega⟩
theorem OkP.y {p : P2} (h : OkP p) : BJ p.2 p.2.toInt 9600 := ⟨rfl, by have := h.2.2.1; have := h.2.2.2; omega⟩
def sgI (v : Int) : Int32 := if v ≤ 0 then (if 0 ≤ v then 0 else -1) else 1
theorem BL.le0 {x : Int64} {v : Int} {B : Nat} (h : BL x v B) : x ≤ 0 ↔ v ≤ 0 := by
  obtain ⟨rfl, -⟩ := h
  rw [Int64.le_iff_toInt_le]; rfl
theorem BL.ge0 {x : Int64} {v : Int} {B : Nat} (h : BL x v B) : 0 ≤ x ↔ 0 ≤ v := by
  obtain ⟨rfl, -⟩ := h
  rw [Int64.le_iff_toInt_le]; rfl
theorem BL.lt0 {x : Int64} {v : Int} {B : Nat} (h : BL x v B) : x < 0 ↔ v < 0 := by
  obtain ⟨rfl, -⟩ := h
  rw [Int64.lt_iff_toInt_lt]; rfl
theorem BL.eq0 {x : Int64} {v : Int} {B : Nat} (h : BL x v B) : x = 0 ↔ v = 0 := by
  obtain ⟨rfl, -⟩ := h
  rw [← Int64.toInt_inj]; rfl
theorem BL.eq {x y : Int64} {v w : Int} {A B : Nat} (h : BL x v A) (k : BL y w B) : x = y ↔ v = w := by
  obtain ⟨rfl, -⟩ := h
  obtain ⟨rfl, -⟩ := k
  rw [← Int64.toInt_inj]
theorem BL.lt {x y : Int64} {v w : Int} {A B : Nat} (h : BL x v A) (k : BL y w B) : x < y ↔ v < w := by
  obtain ⟨rfl, -⟩ := h
  obtain ⟨rfl, -⟩ := k
  rw [Int64.lt_iff_toInt_lt]
theorem BL.le {x y : Int64} {v w : Int} {A B : Nat} (h : BL x v A) (k : BL y w B) : x ≤ y ↔ v ≤ w := by
  obtain ⟨rfl, -⟩ := h
  obtain ⟨rfl, -⟩ := k
  rw [Int64.le_iff_toInt_le]
theorem BL.sign {x : Int64} {v : Int} {B : Nat} (h : BL x v B) : s_sign x = sgI v := by
  simp only [s_sign, sgI, h.le0, h.ge0]
def tI (p q r : P2) : Int := (q.1.toInt - p.1.toInt) * (r.2.toInt - p.2.toInt) - (q.2.toInt - p.2.toInt) * (r.1.toInt - p.1.toInt)
def aI (o p q : P2) : Int := (p.1.toInt - o.1.toInt) * (q.1.toInt - o.1.toInt) + (p.2.toInt - o.2.toInt) * (q.2.toInt - o.2.toInt)
def gI (xa ya xb yb xc yc : Int) : Int := (xa * xa + ya * ya) * (xb * yc - yb * xc) + (xb * xb + yb * yb) * (xc * ya - yc * xa) + (xc * xc + yc * yc) * (xa * yb - ya * xb)
def ringI (a b c d : P2) : Int := gI (a.1.toInt - d.1.toInt) (a.2.toInt - d.2.toInt) (b.1.toInt - d.1.toInt) (b.2.toInt - d.2.toInt) (c.1.toInt - d.1.toInt) (c.2.toInt - d.2.toInt)
theorem turn_I {p q r : P2} (hp : OkP p) (hq : OkP q) (hr : OkP r) : s_turn p q r = sgI (tI p q r) :=
  BL.sign ((((hq.x.sub hp.x (by decide)).w.mul (hr.y.sub hp.y (by decide)).w (by decide)).sub ((hq.y.sub hp.y (by decide)).w.mul (hr.x.sub hp.x (by decide)).w (by decide)) (by decide)))
theorem along_I {o p q : P2} (ho : OkP o) (hp : OkP p) (hq : OkP q) : BL (s_along o p q) (aI o p q) 737280000 :=
  ((hp.x.sub ho.x (by decide)).w.mul (hq.x.sub ho.x (by decide)).w (by decide)).add ((hp.y.sub ho.y (by decide)).w.mul (hq.y.sub ho.y (by decide)).w (by decide)) (by decide)
theorem far_I {o p : P2} (ho : OkP o) (hp : OkP p) : BL (s_far o p) (aI o p p) 737280000 := along_I ho hp hp
theorem ringV_I {xa ya xb yb xc yc : Int64} {va wa vb wb vc wc : Int} (h1 : BL xa va 19200) (h2 : BL ya wa 19200) (h3 : BL xb vb 19200) (h4 : BL yb wb 19200) (h5 : BL xc vc 19200) (h6 : BL yc wc 19200) : BL (s_ringV xa ya xb yb xc yc) (gI va wa vb wb vc wc) 1700000000000000000 :=
  BL.to ((((((h1.mul h1 (by decide)).add (h2.mul h2 (by decide)) (by decide)).mul ((h3.mul h6 (by decide)).sub (h4.mul h5 (by decide)) (by decide)) (by decide))).add (((h3.mul h3 (by decide)).add (h4.mul h4 (by decide)) (by decide)).mul ((h5.mul h2 (by decide)).sub (h6.mul h1 (by decide)) (by decide)) (by decide)) (by decide)).add (((h5.mul h5 (by decide)).add (h6.mul h6 (by decide)) (by decide)).mul ((h1.mul h4 (by decide)).sub (h2.mul h3 (by decide)) (by decide)) (by decide)) (by decide)) (by decide)
theorem ring_I {a b c d : P2} (ha : OkP a) (hb : OkP b) (hc : OkP c) (hd : OkP d) : s_ring a b c d = sgI (ringI a b c d) :=
  BL.sign (ringV_I (ha.x.sub hd.x (by decide)).w (ha.y.sub hd.y (by decide)).w (hb.x.sub hd.x (by decide)).w (hb.y.sub hd.y (by decide)).w (hc.x.sub hd.x (by decide)).w (hc.y.sub hd.y (by decide)).w)
/-- signs -/
theorem sg_pos {v : Int} (h : 0 < v) : sgI v = 1 := by unfold sgI; rw [if_neg (by omega)]
theorem sg_neg {v : Int} (h : v < 0) : sgI v = -1 := by unfold sgI; rw [if_pos (by omega), if_neg (by omega)]
theorem sg_0 : sgI 0 = 0 := rfl
theorem sg_cases (v : Int) : (v < 0 ∧ sgI v = -1) ∨ (v = 0 ∧ sgI v = 0) ∨ (0 < v ∧ sgI v = 1) := by
  rcases Int.lt_trichotomy v 0 with h | h | h
  · exact Or.inl ⟨h, sg_neg h⟩
  · exact Or.inr (Or.inl ⟨h, by rw [h]; rfl⟩)
  · exact Or.inr (Or.inr ⟨h, sg_pos h⟩)
theorem sg_eq0 {v : Int} : sgI v = 0 ↔ v = 0 := by
  rcases sg_cases v with ⟨h, e⟩ | ⟨h, e⟩ | ⟨h, e⟩ <;> rw [e]
  · exact ⟨fun q => absurd q (by decide), fun q => by omega⟩
  · exact ⟨fun _ => h, fun _ => rfl⟩
  · exact ⟨fun q => absurd q (by decide), fun q => by omega⟩
theorem sg_le0 {v : Int} : sgI v ≤ 0 ↔ v ≤ 0 := by
  rcases sg_cases v with ⟨h, e⟩ | ⟨h, e⟩ | ⟨h, e⟩ <;> rw [e]
  · exact ⟨fun _ => by omega, fun _ => by decide⟩
  · exact ⟨fun _ => by omega, fun _ => by decide⟩
  · exact ⟨fun q => absurd q (by decide), fun q => by omega⟩
theorem sg_ge0 {v : Int} : 0 ≤ sgI v ↔ 0 ≤ v := by
  rcases sg_cases v with ⟨h, e⟩ | ⟨h, e⟩ | ⟨h, e⟩ <;> rw [e]
  · exact ⟨fun q => absurd q (by decide), fun q => by omega⟩
  · exact ⟨fun _ => by omega, fun _ => by decide⟩
  · exact ⟨fun _ => by omega, fun _ => by decide⟩
theorem sg_1 {v : Int} : sgI v = 1 ↔ 0 < v := by
  rcases sg_cases v with ⟨h, e⟩ | ⟨h, e⟩ | ⟨h, e⟩ <;> rw [e]
  · exact ⟨fun q => absurd q (by decide), fun q => by omega⟩
  · exact ⟨fun q => absurd q (by decide), fun q => by omega⟩
  · exact ⟨fun _ => h, fun _ => rfl⟩
theorem sg_m1 {v : Int} : sgI v = -1 ↔ v < 0 := by
  rcases sg_cases v with ⟨h, e⟩ | ⟨h, e⟩ | ⟨h, e⟩ <;> rw [e]
  · exact ⟨fun _ => h, fun _ => rfl⟩
  · exact ⟨fun q => absurd q (by decide), fun q => by omega⟩
  · exact ⟨fun q => absurd q (by decide), fun q => by omega⟩
theorem sg_mul {v w : Int} : sgI v * sgI w < 0 ↔ (v < 0 ∧ 0 < w) ∨ (0 < v ∧ w < 0) := by
  rcases sg_cases v with ⟨h, e⟩ | ⟨h, e⟩ | ⟨h, e⟩ <;> rcases sg_cases w with ⟨k, f⟩ | ⟨k, f⟩ | ⟨k, f⟩ <;> rw [e, f] <;> first
    | exact ⟨fun q => absurd q (by decide), fun q => by omega⟩
    | exact ⟨fun _ => by omega, fun _ => by decide⟩
theorem sg_mul0 {v w : Int} : sgI v * sgI w = 0 ↔ v = 0 ∨ w = 0 := by
  rcases sg_cases v with ⟨h, e⟩ | ⟨h, e⟩ | ⟨h, e⟩ <;> rcases sg_cases w with ⟨k, f⟩ | ⟨k, f⟩ | ⟨k, f⟩ <;> rw [e, f] <;> first
    | exact ⟨fun q => absurd q (by decide), fun q => by omega⟩
    | exact ⟨fun _ => by omega, fun _ => by decide⟩
theorem sg_inj {v w : Int} : sgI v = sgI w ↔ ((v < 0 ∧ w < 0) ∨ (v = 0 ∧ w = 0) ∨ (0 < v ∧ 0 < w)) := by
  rcases sg_cases v with ⟨h, e⟩ | ⟨h, e⟩ | ⟨h, e⟩ <;> rcases sg_cases w with ⟨k, f⟩ | ⟨k, f⟩ | ⟨k, f⟩ <;> rw [e, f] <;> first
    | exact ⟨fun q => absurd q (by decide), fun q => by omega⟩
    | exact ⟨fun _ => by omega, fun _ => rfl⟩
theorem eq_I (p q : P2) : s_eq p q = true ↔ (p.1.toInt = q.1.toInt ∧ p.2.toInt = q.2.toInt) := by
  simp only [s_eq, Bool.and_eq_true, decide_eq_true_eq, Int32.toInt_inj]
theorem eq_comm (p q : P2) : s_eq p q = s_eq q p := by
  rw [Bool.eq_iff_iff, eq_I, eq_I]; omega
/-- squares -/
theorem sq_nn (x : Int) : 0 ≤ x * x := by
  rcases Int.le_total 0 x with h | h
  · exact Int.mul_nonneg h h
  · exact Int.mul_nonneg_of_nonpos_of_nonpos h h
theorem sq_0 {x : Int} (h : x * x = 0) : x = 0 := by rcases Int.mul_eq_zero.mp h with h | h <;> exact h
theorem sq2_0 {x y : Int} (h : x * x + y * y = 0) : x = 0 ∧ y = 0 := by
  have h1 := sq_nn x
  have h2 := sq_nn y
  exact ⟨sq_0 (by omega), sq_0 (by omega)⟩
theorem cd_0 {a b c d : Int} (h1 : a * d - b * c = 0) (h2 : a * c + b * d = 0) : (a = 0 ∧ b = 0) ∨ (c = 0 ∧ d = 0) := by
  have h : (a * a + b * b) * (c * c + d * d) = 0 := by
    have e : (a * a + b * b) * (c * c + d * d) = (a * d - b * c) * (a * d - b * c) + (a * c + b * d) * (a * c + b * d) := by grind
    rw [e, h1, h2]; rfl
  rcases Int.mul_eq_zero.mp h with h | h
  · exact Or.inl (sq2_0 h)
  · exact Or.inr (sq2_0 h)
