set_option maxRecDepth 100000
/-! The filter of a turn and of a ring. -/
theorem diff_F {a b : UInt32} {S c d x y : Rat} (ha : FV a c (-27)) (hb : FV b d (-27)) (h1 : Ap S c x 1 (1001 / 1000 * pw (-24))) (h2 : Ap S d y 1 (1001 / 1000 * pw (-24))) (h0 : 0 ≤ S) (hS : S ≤ 1024) : ∃ r, FV (FP.fsub a b) r (-27) ∧ Ap S r (x - y) (2001 / 1000) (4003 / 1000 * pw (-24)) :=
  sub_Ap (M := 1024) ha hb h1 h2 (by omega) h0 hS (by decide +kernel) (by decide +kernel) (by decide +kernel) (by decide +kernel)
theorem prod_F {a b : UInt32} {S c d x y : Rat} (ha : FV a c (-27)) (hb : FV b d (-27)) (h1 : Ap S c x (2001 / 1000) (4003 / 1000 * pw (-24))) (h2 : Ap S d y (2001 / 1000) (4003 / 1000 * pw (-24))) (h0 : 0 ≤ S) (hSS : S * S ≤ 1048576) : ∃ r, FV (FP.fmul a b) r (-54) ∧ Ap (S * S) r (x * y) (4005 / 1000) (2003 / 100 * pw (-24)) :=
  mul_Ap (M := 1048576) ha hb h1 h2 (by omega) h0 h0 hSS (by decide +kernel) (by decide +kernel) (by decide +kernel) (by decide +kernel)
theorem dif2_F {a b : UInt32} {U c d x y : Rat} (ha : FV a c (-54)) (hb : FV b d (-54)) (h1 : Ap U c x (4005 / 1000) (2003 / 100 * pw (-24))) (h2 : Ap U d y (4005 / 1000) (2003 / 100 * pw (-24))) (h0 : 0 ≤ U) (hU : U ≤ 1048576) : ∃ r, FV (FP.fsub a b) r (-54) ∧ Ap U r (x - y) (8011 / 1000) (481 / 10 * pw (-24)) :=
  sub_Ap (M := 1048576) ha hb h1 h2 (by omega) h0 hU (by decide +kernel) (by decide +kernel) (by decide +kernel) (by decide +kernel)
theorem sum2_F {a b : UInt32} {U c d x y : Rat} (ha : FV a c (-54)) (hb : FV b d (-54)) (h1 : Ap U c x (4005 / 1000) (2003 / 100 * pw (-24))) (h2 : Ap U d y (4005 / 1000) (2003 / 100 * pw (-24))) (h0 : 0 ≤ U) (hU : U ≤ 1048576) : ∃ r, FV (FP.fadd a b) r (-54) ∧ Ap U r (x + y) (8011 / 1000) (481 / 10 * pw (-24)) :=
  add_Ap (M := 1048576) ha hb h1 h2 (by omega) h0 hU (by decide +kernel) (by decide +kernel) (by decide +kernel) (by decide +kernel)
theorem pro4_F {a b : UInt32} {U c d x y : Rat} (ha : FV a c (-54)) (hb : FV b d (-54)) (h1 : Ap U c x (8011 / 1000) (481 / 10 * pw (-24))) (h2 : Ap U d y (8011 / 1000) (481 / 10 * pw (-24))) (h0 : 0 ≤ U) (hU : U * U ≤ 1099511627776) : ∃ r, FV (FP.fmul a b) r (-108) ∧ Ap (U * U) r (x * y) (642 / 10) (835 * pw (-24)) :=
  mul_Ap (M := 1099511627776) ha hb h1 h2 (by omega) h0 h0 hU (by decide +kernel) (by decide +kernel) (by decide +kernel) (by decide +kernel)
theorem sum4_F {a b : UInt32} {U c d x y : Rat} (ha : FV a c (-108)) (hb : FV b d (-108)) (h1 : Ap U c x (642 / 10) (835 * pw (-24))) (h2 : Ap U d y (642 / 10) (835 * pw (-24))) (h0 : 0 ≤ U) (hU : U ≤ 1099511627776) : ∃ r, FV (FP.fadd a b) r (-108) ∧ Ap U r (x + y) (1285 / 10) (1799 * pw (-24)) :=
  add_Ap (M := 1099511627776) ha hb h1 h2 (by omega) h0 hU (by decide +kernel) (by decide +kernel) (by decide +kernel) (by decide +kernel)
theorem sum5_F {a b : UInt32} {U c d x y : Rat} (ha : FV a c (-108)) (hb : FV b d (-108)) (h1 : Ap U c x (1285 / 10) (1799 * pw (-24))) (h2 : Ap U d y (642 / 10) (835 * pw (-24))) (h0 : 0 ≤ U) (hU : U ≤ 1099511627776) : ∃ r, FV (FP.fadd a b) r (-108) ∧ Ap U r (x + y) (1928 / 10) (2827 * pw (-24)) :=
  add_Ap (M := 1099511627776) ha hb h1 h2 (by omega) h0 hU (by decide +kernel) (by decide +kernel) (by decide +kernel) (by decide +kernel)
theorem sq_bd {S : Rat} (h0 : 0 ≤ S) (h1 : S ≤ 1024) : S * S ≤ 1048576 := by
  have e := Bq.mul (x := S) (y := S) (A := 1024) (B := 1024) ⟨by grind, h1⟩ ⟨by grind, h1⟩
  unfold Bq at e; grind
theorem sq_bd2 {S : Rat} (h0 : 0 ≤ S) (h1 : S ≤ 1048576) : S * S ≤ 1099511627776 := by
  have e := Bq.mul (x := S) (y := S) (A := 1048576) (B := 1048576) ⟨by grind, h1⟩ ⟨by grind, h1⟩
  unfold Bq at e; grind
theorem sgn_Q {T : Rat} {t : Int} {K : Rat} (hK : 0 < K) (h : T = (t : Rat) * K) : (0 < T → 0 < t) ∧ (T < 0 → t < 0) := by
  constructor
  · intro g
    rw [h] at g
    have : (0 : Rat) * K < (t : Rat) * K := by rw [Rat.zero_mul]; exact g
    have g2 := Rat.lt_of_mul_lt_mul_right this (by grind)
    exact Rat.intCast_pos.mp g2
  · intro g
    rw [h] at g
    have : (t : Rat) * K < (0 : Rat) * K := by rw [Rat.zero_mul]; exact g
    have g2 := Rat.lt_of_mul_lt_mul_right this (by grind)
    exact Rat.intCast_neg_iff.mp g2
theorem ft_F {p q r : P2} (hp : OkP p) (hq : OkP q) (hr : OkP r) :
    (vf_n32 (FP.fsub (fF q.1) (fF p.1)) ∧ vf_n32 (FP.fsub (fF r.2) (fF p.2)) ∧ vf_n32 (FP.fsub (fF q.2) (fF p.2)) ∧ vf_n32 (FP.fsub (fF r.1) (fF p.1)) ∧ vf_n32 (FP.fmul (FP.fsub (fF q.1) (fF p.1)) (FP.fsub (fF r.2) (fF p.2))) ∧ vf_n32 (FP.fmul (FP.fsub (fF q.2) (fF p.2)) (FP.fsub (fF r.1) (fF p.1))) ∧ vf_n32 (fV3 p q r)) ∧
    (vf_n32 (FP.fmul (jS3 p q r) (jS3 p q r)) ∧ vf_n32 (fB3 (jS3 p q r))) ∧ (mS3 p q r = jS3 p q r ∧ vf_n32 (jS3 p q r)) ∧ m_ft p q r = (!decide (j_ft p q r = 0)) ∧ (j_ft p q r = 0 ∨ j_ft p q r = s_turn p q r) := by
  obtain ⟨px, py, ⟨p1, p2⟩, ⟨p3, p4⟩, ⟨p5, p6⟩, ⟨p7, p8⟩, p9⟩ := pt_F hp
  obtain ⟨qx, qy, ⟨q1, q2⟩, ⟨q3, q4⟩, ⟨q5, q6⟩, ⟨q7, q8⟩, q9⟩ := pt_F hq
  obtain ⟨rx, ry, ⟨r1, r2⟩, ⟨r3, r4⟩, ⟨r5, r6⟩, ⟨r7, r8⟩, r9⟩ := pt_F hr
  obtain ⟨a1, a2⟩ := fMax_FV q7 r7 q8 r8
  obtain ⟨s1, s2⟩ := fMax_FV p7 a1 p8 a2
  obtain ⟨b1, b2⟩ := mGr_FV p7 q7 p8 q8
  obtain ⟨t1, t2⟩ := mGr_FV b1 r7 b2 r8
  have es : mS3 p q r = jS3 p q r := by
    unfold mS3 jS3
    rw [p9, q9, r9]
    rw [← mq_assoc] at t1
    exact t1.inj s1 t2 s2
  have hS1 : mq (mq (aq px) (aq py)) (mq (mq (aq qx) (aq qy)) (mq (aq rx) (aq ry))) ≤ 1024 := mq_le (mq_le p5 p6) (mq_le (mq_le q5 q6) (mq_le r5 r6))
  have k1 : aq px ≤ mq (mq (aq px) (aq py)) (mq (mq (aq qx) (aq qy)) (mq (aq rx) (aq ry))) := by have := mq_l (aq px) (aq py); have := mq_l (mq (aq px) (aq py)) (mq (mq (aq qx) (aq qy)) (mq (aq rx) (aq ry))); grind
  have k2 : aq py ≤ mq (mq (aq px) (aq py)) (mq (mq (aq qx) (aq qy)) (mq (aq rx) (aq ry))) := by have := mq_r (aq px) (aq py); have := mq_l (mq (aq px) (aq py)) (mq (mq (aq qx) (aq qy)) (mq (aq rx) (aq ry))); grind
  have k0 := mq_r (mq (aq px) (aq py)) (mq (mq (aq qx) (aq qy)) (mq (aq rx) (aq ry)))
  have k3 : aq qx ≤ mq (mq (aq px) (aq py)) (mq (mq (aq qx) (aq qy)) (mq (aq rx) (aq ry))) := by have := mq_l (aq qx) (aq qy); have := mq_l (mq (aq qx) (aq qy)) (mq (aq rx) (aq ry)); grind
  have k4 : aq qy ≤ mq (mq (aq px) (aq py)) (mq (mq (aq qx) (aq qy)) (mq (aq rx) (aq ry))) := by have := mq_r (aq qx) (aq qy); have := mq_l (mq (aq qx) (aq qy)) (mq (aq rx) (aq ry)); grind
  have k5 : aq rx ≤ mq (mq (aq px) (aq py)) (mq (mq (aq qx) (aq qy)) (mq (aq rx) (aq ry))) := by have := mq_l (aq rx) (aq ry); have := mq_r (mq (aq qx) (aq qy)) (mq (aq rx) (aq ry)); grind
  have k6 : aq ry ≤ mq (mq (aq px) (aq py)) (mq (mq (aq qx) (aq qy)) (mq (aq rx) (aq ry))) := by have := mq_r (aq rx) (aq ry); have := mq_r (mq (aq qx) (aq qy)) (mq (aq rx) (aq ry)); grind
  have hS0 : 0 ≤ mq (mq (aq px) (aq py)) (mq (mq (aq qx) (aq qy)) (mq (aq rx) (aq ry))) := by have := aq_nn px; grind
  change FV (jS3 p q r) _ (-27) at s1
  generalize mq (mq (aq px) (aq py)) (mq (mq (aq qx) (aq qy)) (mq (aq rx) (aq ry))) = S at *
  have cpx := p3.coord (aq_le k1)
  have cpy := p4.coord (aq_le k2)
  have cqx := q3.coord (aq_le k3)
  have cqy := q4.coord (aq_le k4)
  have crx := r3.coord (aq_le k5)
  have cry := r4.coord (aq_le k6)
  obtain ⟨d1, g1, e1⟩ := diff_F q1 p1 cqx cpx hS0 hS1
  obtain ⟨d2, g2, e2⟩ := diff_F r2 p2 cry cpy hS0 hS1
  obtain ⟨d3, g3, e3⟩ := diff_F q2 p2 cqy cpy hS0 hS1
  obtain ⟨d4, g4, e4⟩ := diff_F r1 p1 crx cpx hS0 hS1
  have hSS := Rat.mul_nonneg hS0 hS0
  have hS2 := sq_bd hS0 hS1
  obtain ⟨m1, g5, e5⟩ := prod_F g1 g2 e1 e2 hS0 hS2
  obtain ⟨m2, g6, e6⟩ := prod_F g3 g4 e3 e4 hS0 hS2
  obtain ⟨v, g7, e7⟩ := dif2_F g5 g6 e5 e6 hSS hS2
  obtain ⟨n1, b, g8, lo⟩ := fB3_F s1 hS0 hS1
  have D := dec_law (V := fV3 p q r) (B := fB3 (jS3 p q r)) g7 g8 e7.2 hSS lo (by decide +kernel) (by decide +kernel)
  have hT : (q.1.toInt : Rat) * (1 / 12) - (p.1.toInt : Rat) * (1 / 12) = ((q.1.toInt - p.1.toInt : Int) : Rat) * (1 / 12) := by rw [Rat.intCast_sub]; grind
  refine ⟨⟨g1.nn, g2.nn, g3.nn, g4.nn, g5.nn, g6.nn, g7.nn⟩, ⟨n1, g8.nn⟩, ⟨es, s1.nn⟩, ?_, ?_⟩
  · unfold m_ft j_ft
    rw [es]; exact D.1
  · unfold j_ft
    rcases D.2 with h | ⟨h, h2⟩ | ⟨h, h2⟩
    · exact Or.inl h
    · right
      rw [h, turn_I hp hq hr]
      refine (sg_pos ((sgn_Q (K := 1 / 144) (by decide +kernel) ?_).1 h2)).symm
      unfold tI
      simp only [Rat.intCast_sub, Rat.intCast_mul]
      grind
    · right
      rw [h, turn_I hp hq hr]
      refine (sg_neg ((sgn_Q (K := 1 / 144) (by decide +kernel) ?_).2 h2)).symm
      unfold tI
      simp only [Rat.intCast_sub, Rat.intCast_mul]
      grind
