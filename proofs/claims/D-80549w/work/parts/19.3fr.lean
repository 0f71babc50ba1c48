set_option maxRecDepth 100000
/-! The ring's filter. -/
def nnSq (x y : UInt32) : Prop := vf_n32 (FP.fmul x x) ∧ vf_n32 (FP.fmul y y) ∧ vf_n32 (FP.fadd (FP.fmul x x) (FP.fmul y y))
def nnCr (x y z w : UInt32) : Prop := vf_n32 (FP.fmul x w) ∧ vf_n32 (FP.fmul y z) ∧ vf_n32 (FP.fsub (FP.fmul x w) (FP.fmul y z))
theorem sq_F {a b : UInt32} {S c d x y : Rat} (ha : FV a c (-27)) (hb : FV b d (-27)) (h1 : Ap S c x (2001 / 1000) (4003 / 1000 * pw (-24))) (h2 : Ap S d y (2001 / 1000) (4003 / 1000 * pw (-24))) (h0 : 0 ≤ S) (hS : S ≤ 1024) :
    nnSq a b ∧ ∃ r, FV (FP.fadd (FP.fmul a a) (FP.fmul b b)) r (-54) ∧ Ap (S * S) r (x * x + y * y) (8011 / 1000) (481 / 10 * pw (-24)) := by
  have hSS := Rat.mul_nonneg h0 h0
  have hS2 := sq_bd h0 hS
  obtain ⟨m1, g1, e1⟩ := prod_F ha ha h1 h1 h0 hS2
  obtain ⟨m2, g2, e2⟩ := prod_F hb hb h2 h2 h0 hS2
  obtain ⟨r, g3, e3⟩ := sum2_F g1 g2 e1 e2 hSS hS2
  exact ⟨⟨g1.nn, g2.nn, g3.nn⟩, r, g3, e3⟩
theorem cr_F {a b c d : UInt32} {S va vb vc vd x y z w : Rat} (ha : FV a va (-27)) (hb : FV b vb (-27)) (hc : FV c vc (-27)) (hd : FV d vd (-27)) (h1 : Ap S va x (2001 / 1000) (4003 / 1000 * pw (-24))) (h2 : Ap S vb y (2001 / 1000) (4003 / 1000 * pw (-24))) (h3 : Ap S vc z (2001 / 1000) (4003 / 1000 * pw (-24))) (h4 : Ap S vd w (2001 / 1000) (4003 / 1000 * pw (-24))) (h0 : 0 ≤ S) (hS : S ≤ 1024) :
    nnCr a b c d ∧ ∃ r, FV (FP.fsub (FP.fmul a d) (FP.fmul b c)) r (-54) ∧ Ap (S * S) r (x * w - y * z) (8011 / 1000) (481 / 10 * pw (-24)) := by
  have hSS := Rat.mul_nonneg h0 h0
  have hS2 := sq_bd h0 hS
  obtain ⟨m1, g1, e1⟩ := prod_F ha hd h1 h4 h0 hS2
  obtain ⟨m2, g2, e2⟩ := prod_F hb hc h2 h3 h0 hS2
  obtain ⟨r, g3, e3⟩ := dif2_F g1 g2 e1 e2 hSS hS2
  exact ⟨⟨g1.nn, g2.nn, g3.nn⟩, r, g3, e3⟩
def nnV (xa ya xb yb xc yc : UInt32) : Prop := (nnSq xa ya ∧ nnSq xb yb ∧ nnSq xc yc) ∧ (nnCr xb yb xc yc ∧ nnCr xc yc xa ya ∧ nnCr xa ya xb yb) ∧
  (vf_n32 (FP.fmul (FP.fadd (FP.fmul xa xa) (FP.fmul ya ya)) (FP.fsub (FP.fmul xb yc) (FP.fmul yb xc))) ∧ vf_n32 (FP.fmul (FP.fadd (FP.fmul xb xb) (FP.fmul yb yb)) (FP.fsub (FP.fmul xc ya) (FP.fmul yc xa))) ∧ vf_n32 (FP.fmul (FP.fadd (FP.fmul xc xc) (FP.fmul yc yc)) (FP.fsub (FP.fmul xa yb) (FP.fmul ya xb)))) ∧
  vf_n32 (FP.fadd (FP.fmul (FP.fadd (FP.fmul xa xa) (FP.fmul ya ya)) (FP.fsub (FP.fmul xb yc) (FP.fmul yb xc))) (FP.fmul (FP.fadd (FP.fmul xb xb) (FP.fmul yb yb)) (FP.fsub (FP.fmul xc ya) (FP.fmul yc xa)))) ∧ vf_n32 (fVV xa ya xb yb xc yc)
theorem fVV_F {xa ya xb yb xc yc : UInt32} {S v1 v2 v3 v4 v5 v6 x1 x2 x3 x4 x5 x6 : Rat} (f1 : FV xa v1 (-27)) (f2 : FV ya v2 (-27)) (f3 : FV xb v3 (-27)) (f4 : FV yb v4 (-27)) (f5 : FV xc v5 (-27)) (f6 : FV yc v6 (-27))
    (h1 : Ap S v1 x1 (2001 / 1000) (4003 / 1000 * pw (-24))) (h2 : Ap S v2 x2 (2001 / 1000) (4003 / 1000 * pw (-24))) (h3 : Ap S v3 x3 (2001 / 1000) (4003 / 1000 * pw (-24))) (h4 : Ap S v4 x4 (2001 / 1000) (4003 / 1000 * pw (-24))) (h5 : Ap S v5 x5 (2001 / 1000) (4003 / 1000 * pw (-24))) (h6 : Ap S v6 x6 (2001 / 1000) (4003 / 1000 * pw (-24))) (h0 : 0 ≤ S) (hS : S ≤ 1024) :
    nnV xa ya xb yb xc yc ∧ ∃ r, FV (fVV xa ya xb yb xc yc) r (-108) ∧ Ap (S * S * (S * S)) r ((x1 * x1 + x2 * x2) * (x3 * x6 - x4 * x5) + (x3 * x3 + x4 * x4) * (x5 * x2 - x6 * x1) + (x5 * x5 + x6 * x6) * (x1 * x4 - x2 * x3)) (1928 / 10) (2827 * pw (-24)) := by
  have hSS := Rat.mul_nonneg h0 h0
  have hS2 := sq_bd h0 hS
  have hS4 := sq_bd2 hSS hS2
  have hSSSS := Rat.mul_nonneg hSS hSS
  obtain ⟨n1, a1, g1, e1⟩ := sq_F f1 f2 h1 h2 h0 hS
  obtain ⟨n2, a2, g2, e2⟩ := sq_F f3 f4 h3 h4 h0 hS
  obtain ⟨n3, a3, g3, e3⟩ := sq_F f5 f6 h5 h6 h0 hS
  obtain ⟨n4, a4, g4, e4⟩ := cr_F f3 f4 f5 f6 h3 h4 h5 h6 h0 hS
  obtain ⟨n5, a5, g5, e5⟩ := cr_F f5 f6 f1 f2 h5 h6 h1 h2 h0 hS
  obtain ⟨n6, a6, g6, e6⟩ := cr_F f1 f2 f3 f4 h1 h2 h3 h4 h0 hS
  obtain ⟨b1, k1, l1⟩ := pro4_F g1 g4 e1 e4 hSS hS4
  obtain ⟨b2, k2, l2⟩ := pro4_F g2 g5 e2 e5 hSS hS4
  obtain ⟨b3, k3, l3⟩ := pro4_F g3 g6 e3 e6 hSS hS4
  obtain ⟨c1, k4, l4⟩ := sum4_F k1 k2 l1 l2 hSSSS hS4
  obtain ⟨c2, k5, l5⟩ := sum5_F k4 k3 l4 l3 hSSSS hS4
  exact ⟨⟨⟨n1, n2, n3⟩, ⟨n4, n5, n6⟩, ⟨k1.nn, k2.nn, k3.nn⟩, k4.nn, k5.nn⟩, c2, k5, l5⟩
theorem fr_F {a b c d : P2} (ha : OkP a) (hb : OkP b) (hc : OkP c) (hd : OkP d) :
    ((vf_n32 (FP.fsub (fF a.1) (fF d.1)) ∧ vf_n32 (FP.fsub (fF a.2) (fF d.2))) ∧ (vf_n32 (FP.fsub (fF b.1) (fF d.1)) ∧ vf_n32 (FP.fsub (fF b.2) (fF d.2))) ∧ (vf_n32 (FP.fsub (fF c.1) (fF d.1)) ∧ vf_n32 (FP.fsub (fF c.2) (fF d.2)))) ∧ nnV (FP.fsub (fF a.1) (fF d.1)) (FP.fsub (fF a.2) (fF d.2)) (FP.fsub (fF b.1) (fF d.1)) (FP.fsub (fF b.2) (fF d.2)) (FP.fsub (fF c.1) (fF d.1)) (FP.fsub (fF c.2) (fF d.2)) ∧
    ((vf_n32 (FP.fmul (jS4 a b c d) (jS4 a b c d)) ∧ vf_n32 (FP.fmul (FP.fmul (jS4 a b c d) (jS4 a b c d)) (FP.fmul (jS4 a b c d) (jS4 a b c d)))) ∧ vf_n32 (fB4 (jS4 a b c d))) ∧ mGr (mS3 a b c) (mP d) = jS4 a b c d ∧ m_fr a b c d = (!decide (j_fr a b c d = 0)) ∧ (j_fr a b c d = 0 ∨ j_fr a b c d = s_ring a b c d) := by
  obtain ⟨ax, ay, ⟨a1, a2⟩, ⟨a3, a4⟩, ⟨a5, a6⟩, ⟨a7, a8⟩, a9⟩ := pt_F ha
  obtain ⟨bx, b_y, ⟨b1, b2⟩, ⟨b3, b4⟩, ⟨b5, b6⟩, ⟨b7, b8⟩, b9⟩ := pt_F hb
  obtain ⟨cx, cy, ⟨c1, c2⟩, ⟨c3, c4⟩, ⟨c5, c6⟩, ⟨c7, c8⟩, c9⟩ := pt_F hc
  obtain ⟨dx, dy, ⟨d1, d2⟩, ⟨d3, d4⟩, ⟨d5, d6⟩, ⟨d7, d8⟩, d9⟩ := pt_F hd
  obtain ⟨s1, s2⟩ := fMax_FV a7 b7 a8 b8
  obtain ⟨s3, s4⟩ := fMax_FV c7 d7 c8 d8
  obtain ⟨s5, s6⟩ := fMax_FV s1 s3 s2 s4
  obtain ⟨t1, t2⟩ := mGr_FV a7 b7 a8 b8
  obtain ⟨t3, t4⟩ := mGr_FV t1 c7 t2 c8
  obtain ⟨t5, t6⟩ := mGr_FV t3 d7 t4 d8
  have es : mGr (mS3 a b c) (mP d) = jS4 a b c d := by
    unfold mS3 jS4
    rw [a9, b9, c9, d9]
    rw [← mq_assoc] at t5
    exact t5.inj s5 t6 s6
  generalize hA : mq (aq ax) (aq ay) = A at *
  generalize hB : mq (aq bx) (aq b_y) = B at *
  generalize hC : mq (aq cx) (aq cy) = C at *
  generalize hD : mq (aq dx) (aq dy) = D at *
  have l1 := mq_l (mq A B) (mq C D)
  have l2 := mq_r (mq A B) (mq C D)
  have l3 := mq_l A B
  have l4 := mq_r A B
  have l5 := mq_l C D
  have l6 := mq_r C D
  have x1 := mq_l (aq ax) (aq ay)
  have x2 := mq_r (aq ax) (aq ay)
  have x3 := mq_l (aq bx) (aq b_y)
  have x4 := mq_r (aq bx) (aq b_y)
  have x5 := mq_l (aq cx) (aq cy)
  have x6 := mq_r (aq cx) (aq cy)
  have x7 := mq_l (aq dx) (aq dy)
  have x8 := mq_r (aq dx) (aq dy)
  rw [hA] at x1 x2
  rw [hB] at x3 x4
  rw [hC] at x5 x6
  rw [hD] at x7 x8
  have hS1 : mq (mq A B) (mq C D) ≤ 1024 := by
    refine mq_le (mq_le ?_ ?_) (mq_le ?_ ?_)
    · rw [← hA]; exact mq_le a5 a6
    · rw [← hB]; exact mq_le b5 b6
    · rw [← hC]; exact mq_le c5 c6
    · rw [← hD]; exact mq_le d5 d6
  change FV (jS4 a b c d) _ (-27) at s5
  generalize mq (mq A B) (mq C D) = S at *
  have hS0 : 0 ≤ S := by have := aq_nn ax; grind
  have cax := a3.coord (S := S) (aq_le (by grind))
  have cay := a4.coord (S := S) (aq_le (by grind))
  have cbx := b3.coord (S := S) (aq_le (by grind))
  have cby := b4.coord (S := S) (aq_le (by grind))
  have ccx := c3.coord (S := S) (aq_le (by grind))
  have ccy := c4.coord (S := S) (aq_le (by grind))
  have cdx := d3.coord (S := S) (aq_le (by grind))
  have cdy := d4.coord (S := S) (aq_le (by grind))
  obtain ⟨e1, g1, f1⟩ := diff_F a1 d1 cax cdx hS0 hS1
  obtain ⟨e2, g2, f2⟩ := diff_F a2 d2 cay cdy hS0 hS1
  obtain ⟨e3, g3, f3⟩ := diff_F b1 d1 cbx cdx hS0 hS1
  obtain ⟨e4, g4, f4⟩ := diff_F b2 d2 cby cdy hS0 hS1
  obtain ⟨e5, g5, f5⟩ := diff_F c1 d1 ccx cdx hS0 hS1
  obtain ⟨e6, g6, f6⟩ := diff_F c2 d2 ccy cdy hS0 hS1
  obtain ⟨nV, v, g7, f7⟩ := fVV_F g1 g2 g3 g4 g5 g6 f1 f2 f3 f4 f5 f6 hS0 hS1
  have hSS := Rat.mul_nonneg hS0 hS0
  have hSSSS := Rat.mul_nonneg hSS hSS
  obtain ⟨n1, b0, g8, lo⟩ := fB4_F s5 hS0 hS1
  have DD := dec_law (V := fV4 a b c d) (B := fB4 (jS4 a b c d)) g7 g8 f7.2 hSSSS lo (by decide +kernel) (by decide +kernel)
  refine ⟨⟨⟨g1.nn, g2.nn⟩, ⟨g3.nn, g4.nn⟩, ⟨g5.nn, g6.nn⟩⟩, nV, ⟨n1, g8.nn⟩, es, ?_, ?_⟩
  · unfold m_fr j_fr
    rw [es]; exact DD.1
  · unfold j_fr
    have sc : ∀ x1 x2 x3 x4 x5 x6 : Int, ((((x1 : Rat) * (1 / 12)) * ((x1 : Rat) * (1 / 12)) + ((x2 : Rat) * (1 / 12)) * ((x2 : Rat) * (1 / 12))) * (((x3 : Rat) * (1 / 12)) * ((x6 : Rat) * (1 / 12)) - ((x4 : Rat) * (1 / 12)) * ((x5 : Rat) * (1 / 12))) + (((x3 : Rat) * (1 / 12)) * ((x3 : Rat) * (1 / 12)) + ((x4 : Rat) * (1 / 12)) * ((x4 : Rat) * (1 / 12))) * (((x5 : Rat) * (1 / 12)) * ((x2 : Rat) * (1 / 12)) - ((x6 : Rat) * (1 / 12)) * ((x1 : Rat) * (1 / 12))) + (((x5 : Rat) * (1 / 12)) * ((x5 : Rat) * (1 / 12)) + ((x6 : Rat) * (1 / 12)) * ((x6 : Rat) * (1 / 12))) * (((x1 : Rat) * (1 / 12)) * ((x4 : Rat) * (1 / 12)) - ((x2 : Rat) * (1 / 12)) * ((x3 : Rat) * (1 / 12)))) = ((gI x1 x2 x3 x4 x5 x6 : Int) : Rat) * (1 / 20736) := fun x1 x2 x3 x4 x5 x6 => by
      unfold gI
      simp only [Rat.intCast_sub, Rat.intCast_mul, Rat.intCast_add]
      grind
    have df : ∀ x y : Int32, (x.toInt : Rat) * (1 / 12) - (y.toInt : Rat) * (1 / 12) = ((x.toInt - y.toInt : Int) : Rat) * (1 / 12) := fun x y => by rw [Rat.intCast_sub]; grind
    rw [df, df, df, df, df, df, sc] at DD
    rcases DD.2 with h | ⟨h, h2⟩ | ⟨h, h2⟩
    · exact Or.inl h
    · right
      rw [h, ring_I ha hb hc hd]
      exact (sg_pos ((sgn_Q (K := 1 / 20736) (by decide +kernel) rfl).1 h2)).symm
    · right
      rw [h, ring_I ha hb hc hd]
      exact (sg_neg ((sgn_Q (K := 1 / 20736) (by decide +kernel) rfl).2 h2)).symm
