set_option maxRecDepth 100000
/-! The plain law of a few points: between, inside, cross, separated. -/
theorem tI_cyc (p q r : P2) : tI p q r = (p.1.toInt - r.1.toInt) * (q.2.toInt - r.2.toInt) - (p.2.toInt - r.2.toInt) * (q.1.toInt - r.1.toInt) := by unfold tI; grind
theorem eq_of (p q : P2) (h : s_eq p q = true) : p = q := by
  simp only [s_eq, Bool.and_eq_true, decide_eq_true_eq] at h
  exact Prod.ext h.1 h.2
theorem eq_self' (p : P2) : s_eq p p = true := by simp [s_eq]
theorem turn_3 (p q r : P2) : s_turn p q r = -1 ∨ s_turn p q r = 0 ∨ s_turn p q r = 1 := by
  unfold s_turn s_sign
  split
  · split
    · exact Or.inr (Or.inl rfl)
    · exact Or.inl rfl
  · exact Or.inr (Or.inr rfl)
theorem on_I {p q r : P2} (hp : OkP p) (hq : OkP q) (hr : OkP r) : m_isOn p q r = true ↔ (tI p q r = 0 ∧ aI r p q ≤ 0) := by
  unfold m_isOn
  rw [Bool.and_eq_true, decide_eq_true_eq, turn_I hp hq hr, sg_eq0]
  refine and_congr_right fun _ => ?_
  by_cases h : s_eq p q = true
  · rw [if_pos h]
    have e := (eq_I p q).mp h
    rw [eq_I]; unfold aI; rw [← e.1, ← e.2]
    constructor
    · rintro ⟨a, b⟩; rw [a, b]; simp
    · intro k
      have s1 := sq_nn (p.1.toInt - r.1.toInt)
      have s2 := sq_nn (p.2.toInt - r.2.toInt)
      have s3 := sq2_0 (x := p.1.toInt - r.1.toInt) (y := p.2.toInt - r.2.toInt) (by omega)
      omega
  · rw [if_neg h, decide_eq_true_eq]; exact (along_I hr hp hq).le0
theorem onC {p q r : P2} (hp : OkP p) (hq : OkP q) (hr : OkP r) (h : ¬ (s_eq r p || s_eq r q) = true) : (s_turn p q r = 0 ∧ s_along r p q < 0) ↔ m_isOn p q r = true := by
  rw [on_I hp hq hr, turn_I hp hq hr, sg_eq0, (along_I hr hp hq).lt0]
  refine and_congr_right fun h1 => ⟨fun h2 => by omega, fun h2 => ?_⟩
  rcases (show aI r p q < 0 ∨ 0 ≤ aI r p q by omega) with g | g
  · exact g
  · exfalso
    apply h
    rw [tI_cyc] at h1
    have h3 : aI r p q = 0 := by omega
    unfold aI at h3
    simp only [Bool.or_eq_true, eq_I]
    rcases cd_0 h1 h3 with ⟨a, b⟩ | ⟨a, b⟩
    · exact Or.inl ⟨by omega, by omega⟩
    · exact Or.inr ⟨by omega, by omega⟩
theorem on_end1 {p q : P2} (hp : OkP p) (hq : OkP q) : m_isOn p q p = true := by
  rw [on_I hp hq hp]; unfold tI aI; constructor
  · simp
  · simp
theorem on_end2 {p q : P2} (hp : OkP p) (hq : OkP q) : m_isOn p q q = true := by
  rw [on_I hp hq hq]; unfold tI aI; constructor
  · grind
  · simp
theorem on_self (p r : P2) : m_isOn p p r = s_eq p r := by
  have h : s_turn p p r = 0 := by simp [s_turn, s_br, s_sign]
  unfold m_isOn
  rw [h, eq_self']
  simp
theorem betw_eq {p q r : P2} (hp : OkP p) (hq : OkP q) (hr : OkP r) : j_betw p r q = if s_eq r p || s_eq r q then 2 else if m_isOn p q r then 1 else 0 := by
  unfold j_betw
  by_cases h : (s_eq r p || s_eq r q) = true
  · rw [if_pos h, if_pos h]
  · rw [if_neg h, if_neg h]
    have k := onC hp hq hr h
    by_cases g : m_isOn p q r = true
    · rw [if_pos g, if_pos (k.mpr g)]
    · rw [if_neg g, if_neg (fun q => g (k.mp q))]
theorem law_betw {p q r : P2} (hp : OkP p) (hq : OkP q) (hr : OkP r) : j_betw p q r = m_betw p q r := by
  rw [betw_eq hp hr hq]; unfold m_betw; rw [eq_comm q p]
theorem law_onway {p q r : P2} (hp : OkP p) (hq : OkP q) (hr : OkP r) : j_onway r p q = m_isOn p q r := by
  unfold j_onway
  rw [betw_eq hp hq hr]
  by_cases h : (s_eq r p || s_eq r q) = true
  · rw [if_pos h]
    simp only [Bool.or_eq_true] at h
    rcases h with h | h
    · rw [eq_of r p h, on_end1 hp hq]; rfl
    · rw [eq_of r q h, on_end2 hp hq]; rfl
  · rw [if_neg h]
    cases m_isOn p q r <;> rfl
theorem law_ins (p q r u : P2) : j_ins4 p q r u = m_ins4 p q r u := by
  unfold j_ins4 m_ins4 j_inside
  rw [eq_comm q p, eq_comm r p, eq_comm u p]
  by_cases h1 : (s_eq p q || s_eq p r) = true
  · rw [if_pos h1, if_pos h1]
  rw [if_neg h1, if_neg h1]
  by_cases h2 : (s_eq p u || (s_oneway p q u || s_oneway p r u)) = true
  · rw [if_pos h2, if_pos h2]
  rw [if_neg h2, if_neg h2]
  have ho : s_oneway p q r = true → s_turn p q r = 0 := fun h => by
    unfold s_oneway at h
    simp only [Bool.and_eq_true, decide_eq_true_eq] at h
    exact h.1
  have a1 : (-1 : Int32) ≤ 0 := by decide
  have a2 : ¬ (0 : Int32) ≤ -1 := by decide
  have a3 : ¬ (-1 : Int32) = 0 := by decide
  have a4 : ¬ (1 : Int32) ≤ 0 := by decide
  have a5 : ¬ (1 : Int32) = 0 := by decide
  have a6 : (0 : Int32) ≤ 0 := by decide
  rcases turn_3 p q r with t | t | t
  · have h3 : s_oneway p q r = false := by
      cases hq : s_oneway p q r with
      | false => rfl
      | true => exact absurd ((ho hq).symm.trans t) (by decide)
    rw [t, h3, if_pos a1, if_neg a2, if_neg (by decide), if_neg a3, if_pos a1]
    unfold j_within
    by_cases A : s_turn p r u ≤ 0 <;> by_cases B : s_turn p u q ≤ 0 <;> simp [bI, A, B]
  · rw [t, if_pos a6, if_pos a6, if_pos rfl]
    cases s_oneway p q r with
    | true => rfl
    | false => by_cases A : s_turn p q u ≤ 0 <;> simp [bI, A]
  · have h3 : s_oneway p q r = false := by
      cases hq : s_oneway p q r with
      | false => rfl
      | true => exact absurd ((ho hq).symm.trans t) (by decide)
    rw [t, h3, if_neg a4, if_neg (by decide), if_neg a5, if_neg a4]
    unfold j_within
    by_cases A : s_turn p q u ≤ 0 <;> by_cases B : s_turn p u r ≤ 0 <;> simp [bI, A, B]
/-- a line meets a circle twice at most -/
theorem circ {xa ya xb yb xc yc : Int} (hg : gI xa ya xb yb xc yc = 0) (hab : xa * yb - ya * xb = 0) (ha : ¬ (xa = 0 ∧ ya = 0)) (hb : ¬ (xb = 0 ∧ yb = 0)) (hne : ¬ (xa = xb ∧ ya = yb)) : (xb - xa) * (yc - ya) - (yb - ya) * (xc - xa) = 0 := by
  unfold gI at hg
  have h1 : (xa * xa + ya * ya) * (xb * yc - yb * xc) = (xa * xb + ya * yb) * (xa * yc - ya * xc) := by grind
  have h2 : (xa * xa + ya * ya) * (xb * yc - yb * xc) = (xb * xb + yb * yb) * (xa * yc - ya * xc) := by grind
  have h3 : ((xa * xb + ya * yb) - (xb * xb + yb * yb)) * (xa * yc - ya * xc) = 0 := by rw [Int.sub_mul]; omega
  have hA : xa * xa + ya * ya ≠ 0 := fun h => ha (sq2_0 h)
  have hB : xb * xb + yb * yb ≠ 0 := fun h => hb (sq2_0 h)
  rcases Int.mul_eq_zero.mp h3 with h | h
  · exfalso
    have e1 : (xb * xb + yb * yb) * ((xa * xa + ya * ya) - (xb * xb + yb * yb)) = 0 := by grind
    rcases Int.mul_eq_zero.mp e1 with e2 | e2
    · exact hB e2
    · have e3 : (xa - xb) * (xa - xb) + (ya - yb) * (ya - yb) = 0 := by grind
      have e4 := sq2_0 e3
      exact hne ⟨by omega, by omega⟩
  · rw [h, Int.mul_zero] at h1
    rcases Int.mul_eq_zero.mp h1 with e | e
    · exact absurd e hA
    · grind
theorem law_sep {p q r u : P2} (hp : OkP p) (hq : OkP q) (hr : OkP r) (hu : OkP u) : j_sep4 p q r u = m_sep4 p q r u := by
  unfold j_sep4 m_sep4
  by_cases h : (s_eq p q || (s_eq p r || (s_eq p u || (s_eq q r || (s_eq q u || s_eq r u))))) = true
  · rw [if_pos h, if_pos h]
  rw [if_neg h, if_neg h]
  simp only [Bool.or_eq_true, not_or, Bool.not_eq_true] at h
  obtain ⟨e1, e2, e3, e4, e5, e6⟩ := h
  have b1 : j_betw p r q = if m_isOn p q r then 1 else 0 := by
    rw [betw_eq hp hq hr, eq_comm r p, eq_comm r q, e2, e4]; rfl
  have b2 : j_betw p u q = if m_isOn p q u then 1 else 0 := by
    rw [betw_eq hp hq hu, eq_comm u p, eq_comm u q, e3, e5]; rfl
  by_cases t : s_turn p q r = 0
  · rw [if_pos t]
    by_cases t2 : s_turn p q u = 0
    · have hT : s_turn p q r = 0 ∧ s_turn p q u = 0 := ⟨t, t2⟩
      rw [if_pos t2, if_pos hT, b1, b2]
      cases m_isOn p q r <;> cases m_isOn p q u <;> rfl
    · have hT : ¬ (s_turn p q r = 0 ∧ s_turn p q u = 0) := fun q => t2 q.2
      have hT2 : s_turn p q r = 0 ∨ ¬ s_turn p q r * s_ring p q r u = 0 := Or.inl t
      rw [if_neg t2, if_neg hT, if_pos hT2]
  · have hT : ¬ (s_turn p q r = 0 ∧ s_turn p q u = 0) := fun q => t q.1
    rw [if_neg t, if_neg hT]
    rw [turn_I hp hq hr] at t ⊢
    rw [turn_I hp hq hu, ring_I hp hq hr hu]
    have t' : tI p q r ≠ 0 := fun q => t (sg_eq0.mpr q)
    by_cases g : sgI (ringI p q r u) = 0
    · have hT2 : ¬ (sgI (tI p q r) = 0 ∨ ¬ sgI (tI p q r) * sgI (ringI p q r u) = 0) := fun z => by
        rcases z with z | z
        · exact t z
        · exact z (sg_mul0.mpr (Or.inr (sg_eq0.mp g)))
      rw [if_pos g, if_neg hT2]
      have t2 : tI p q u ≠ 0 := fun hz => by
        rw [tI_cyc] at hz
        have := circ (sg_eq0.mp g) hz (fun z => by
          have : s_eq p u = true := (eq_I p u).mpr ⟨by omega, by omega⟩
          rw [this] at e3; cases e3) (fun z => by
          have : s_eq q u = true := (eq_I q u).mpr ⟨by omega, by omega⟩
          rw [this] at e5; cases e5) (fun z => by
          have : s_eq p q = true := (eq_I p q).mpr ⟨by omega, by omega⟩
          rw [this] at e1; cases e1)
        apply t'
        unfold tI
        grind
      by_cases k : sgI (tI p q r) = sgI (tI p q u)
      · have hL : ¬ sgI (tI p q r) * sgI (tI p q u) < 0 := fun z => by rw [sg_mul] at z; rw [sg_inj] at k; omega
        rw [if_pos k, if_neg hL]
      · have hL : sgI (tI p q r) * sgI (tI p q u) < 0 := by rw [sg_mul]; rw [sg_inj] at k; omega
        rw [if_neg k, if_pos hL]
    · have hT2 : sgI (tI p q r) = 0 ∨ ¬ sgI (tI p q r) * sgI (ringI p q r u) = 0 := Or.inr (fun z => by
        rcases sg_mul0.mp z with z | z
        · exact t' z
        · exact g (sg_eq0.mpr z))
      rw [if_neg g, if_pos hT2]
/-! cross: a line of points in one row -/
theorem behind_I (p q : P2) : s_behind p q = true ↔ (q.1.toInt < p.1.toInt ∨ (p.1.toInt = q.1.toInt ∧ q.2.toInt < p.2.toInt)) := by
  simp only [s_behind, Bool.or_eq_true, Bool.and_eq_true, decide_eq_true_eq, Bool.not_eq_true', decide_eq_false_iff_not, Int32.lt_iff_toInt_lt, Int32.le_iff_toInt_le, ← Int32.toInt_inj, Int.not_le]
theorem pos_le0 {k a : Int} (hk : 0 < k) : k * a ≤ 0 ↔ a ≤ 0 := by
  constructor
  · intro h
    rcases (show 0 < a ∨ a ≤ 0 by omega) with q | q
    · have := Int.mul_pos hk q; omega
    · exact q
  · intro h
    have := Int.mul_le_mul_of_nonneg_left h (Int.le_of_lt hk)
    rw [Int.mul_zero] at this; exact this
theorem coll {vx vy px py sx sy tx ty wx wy : Int} (hv : vx ≠ 0) (hs : vx * (sy - py) - vy * (sx - px) = 0) (ht : vx * (ty - py) - vy * (tx - px) = 0) (hw : vx * (wy - py) - vy * (wx - px) = 0) :
    (tx - sx) * (wy - sy) - (ty - sy) * (wx - sx) = 0 ∧ ((sx - wx) * (tx - wx) + (sy - wy) * (ty - wy) ≤ 0 ↔ (sx - wx) * (tx - wx) ≤ 0) := by
  have a1 : vx * (sy - wy) = vy * (sx - wx) := by simp only [Int.mul_sub] at *; omega
  have a2 : vx * (ty - wy) = vy * (tx - wx) := by simp only [Int.mul_sub] at *; omega
  have a3 : vx * (ty - sy) = vy * (tx - sx) := by simp only [Int.mul_sub] at *; omega
  have a4 : vx * (wy - sy) = vy * (wx - sx) := by simp only [Int.mul_sub] at *; omega
  have hvv : 0 < vx * vx := by
    have h1 := sq_nn vx
    have h2 : vx * vx ≠ 0 := fun h => hv (sq_0 h)
    omega
  constructor
  · have e : vx * ((tx - sx) * (wy - sy) - (ty - sy) * (wx - sx)) = 0 := by grind
    rcases Int.mul_eq_zero.mp e with h | h
    · exact absurd h hv
    · exact h
  · have e : (vx * vx) * ((sx - wx) * (tx - wx) + (sy - wy) * (ty - wy)) = (vx * vx + vy * vy) * ((sx - wx) * (tx - wx)) := by grind
    have hy := sq_nn vy
    rw [← pos_le0 hvv, e, pos_le0 (by omega)]
theorem line_f {p q : P2} (hne : s_eq p q = false) : ∃ f : P2 → Int, (∀ s t, tI p q s = 0 → tI p q t = 0 → ((s_eq s t = true ↔ f s = f t) ∧ (s_behind s t = true ↔ f t < f s))) ∧ (∀ s t w, tI p q s = 0 → tI p q t = 0 → tI p q w = 0 → (tI s t w = 0 ∧ (aI w s t ≤ 0 ↔ (f s - f w) * (f t - f w) ≤ 0))) := by
  by_cases hx : q.1.toInt - p.1.toInt = 0
  · have hy : q.2.toInt - p.2.toInt ≠ 0 := fun h => by
      rw [(eq_I p q).mpr ⟨by omega, by omega⟩] at hne; cases hne
    have key : ∀ s, tI p q s = 0 → s.1.toInt = p.1.toInt := fun s hs => by
      unfold tI at hs
      rw [hx, Int.zero_mul] at hs
      rcases Int.mul_eq_zero.mp (show (q.2.toInt - p.2.toInt) * (s.1.toInt - p.1.toInt) = 0 by omega) with h | h
      · exact absurd h hy
      · omega
    refine ⟨fun s => s.2.toInt, fun s t hs ht => ?_, fun s t w hs ht hw => ?_⟩
    · have a := key s hs
      have b := key t ht
      rw [eq_I, behind_I]
      show _ ∧ (_ ↔ t.2.toInt < s.2.toInt)
      constructor
      · show _ ↔ s.2.toInt = t.2.toInt
        omega
      · omega
    · have a := key s hs
      have b := key t ht
      have d := key w hw
      unfold tI aI
      rw [a, b, d]
      constructor
      · simp
      · simp
  · refine ⟨fun s => s.1.toInt, fun s t hs ht => ?_, fun s t w hs ht hw => coll hx hs ht hw⟩
    have g : s.1.toInt = t.1.toInt → s.2.toInt = t.2.toInt := fun e => by
      unfold tI at hs ht
      rw [← e] at ht
      have h : (q.1.toInt - p.1.toInt) * (s.2.toInt - t.2.toInt) = 0 := by
        have a : (q.1.toInt - p.1.toInt) * (s.2.toInt - t.2.toInt) = (q.1.toInt - p.1.toInt) * (s.2.toInt - p.2.toInt) - (q.1.toInt - p.1.toInt) * (t.2.toInt - p.2.toInt) := by rw [← Int.mul_sub]; congr 1; omega
        omega
      rcases Int.mul_eq_zero.mp h with h | h
      · exact absurd h hx
      · omega
    rw [eq_I, behind_I]
    constructor
    · show _ ↔ s.1.toInt = t.1.toInt
      exact ⟨fun h => h.1, fun h => ⟨h, g h⟩⟩
    · show _ ↔ t.1.toInt < s.1.toInt
      refine ⟨fun h => ?_, fun h => Or.inl h⟩
      rcases h with h | ⟨h, k⟩
      · exact h
      · have := g h; omega
def cmF (b1 b2 b3 b4 : Bool) : Int32 :=
  let n0 : Int32 := 0 + (if b1 then 1 else 0)
  let n1 : Int32 := n0 + (if b2 then 1 else 0)
  let n2 : Int32 := n1 + (if b3 then 1 else 0)
  let n3 : Int32 := n2 + (if b4 then 1 else 0)
  if n3 ≤ 1 then n3 else 2
theorem cmF_eq (b1 b2 b3 b4 : Bool) : (if cmF b1 b2 b3 b4 = 2 then (3 : Int32) else if cmF b1 b2 b3 b4 = 1 then 2 else 0) = if (b1 && b2) || ((b1 && b3) || ((b1 && b4) || ((b2 && b3) || ((b2 && b4) || (b3 && b4))))) then 3 else if b1 || (b2 || (b3 || b4)) then 2 else 0 := by
  cases b1 <;> cases b2 <;> cases b3 <;> cases b4 <;> decide
theorem common_F (p q r u : P2) : m_common p q r u = cmF (m_isOn p q r) (m_isOn p q u && !s_eq r u) (m_isOn r u p && (!s_eq p r && !s_eq p u)) (m_isOn r u q && (!s_eq q r && (!s_eq q u && !s_eq p q))) := rfl
theorem prod_le0 {x y : Int} : x * y ≤ 0 ↔ (x ≤ 0 ∧ 0 ≤ y) ∨ (0 ≤ x ∧ y ≤ 0) := by
  rcases Int.lt_trichotomy x 0 with h | h | h <;> rcases Int.lt_trichotomy y 0 with k | k | k
  · have := Int.mul_pos_of_neg_of_neg h k; omega
  · subst k; simp; omega
  · have := Int.mul_neg_of_neg_of_pos h k; omega
  · subst h; simp; omega
  · subst h; simp; omega
  · subst h; simp; omega
  · have := Int.mul_neg_of_pos_of_neg h k; omega
  · subst k; simp; omega
  · have := Int.mul_pos h k; omega
theorem law_overlap {p q r u : P2} (hp : OkP p) (hq : OkP q) (hr : OkP r) (hu : OkP u) (e1 : s_eq p q = false) (e2 : s_eq r u = false) (t1 : tI p q r = 0) (t2 : tI p q u = 0) : j_overlap p q r u = if m_common p q r u = 2 then 3 else if m_common p q r u = 1 then 2 else 0 := by
  obtain ⟨f, hf, hg⟩ := line_f e1
  have tp : tI p q p = 0 := by unfold tI; simp
  have tq : tI p q q = 0 := by unfold tI; grind
  have on : ∀ s t w, OkP s → OkP t → OkP w → tI p q s = 0 → tI p q t = 0 → tI p q w = 0 → (m_isOn s t w = true ↔ ((f s ≤ f w ∧ f w ≤ f t) ∨ (f t ≤ f w ∧ f w ≤ f s))) := fun s t w hs ht hw a_s a_t a_w => by
    rw [on_I hs ht hw, (hg s t w a_s a_t a_w).2, prod_le0]
    have h0 := (hg s t w a_s a_t a_w).1
    constructor
    · rintro ⟨-, h⟩; omega
    · intro h; exact ⟨h0, by omega⟩
  have ne_f : ∀ s t, tI p q s = 0 → tI p q t = 0 → (s_eq s t = false ↔ ¬ f s = f t) := fun s t a b => by
    rw [← (hf s t a b).1]; cases s_eq s t <;> decide
  rw [common_F, cmF_eq]
  have nab := (ne_f p q tp tq).mp e1
  have ncd := (ne_f r u t1 t2).mp e2
  have step : ∀ lo hi lo2 hi2 : P2, tI p q lo = 0 → tI p q hi = 0 → tI p q lo2 = 0 → tI p q hi2 = 0 → ((f p < f q ∧ f lo = f p ∧ f hi = f q) ∨ (f q < f p ∧ f lo = f q ∧ f hi = f p)) → ((f r < f u ∧ f lo2 = f r ∧ f hi2 = f u) ∨ (f u < f r ∧ f lo2 = f u ∧ f hi2 = f r)) →
      (if s_behind (if s_behind hi hi2 = true then hi2 else hi) (if s_behind lo lo2 = true then lo else lo2) = true then (3 : Int32) else if s_eq (if s_behind hi hi2 = true then hi2 else hi) (if s_behind lo lo2 = true then lo else lo2) = true then 2 else 0) =
      if (m_isOn p q r && (m_isOn p q u && !s_eq r u)) || ((m_isOn p q r && (m_isOn r u p && (!s_eq p r && !s_eq p u))) || ((m_isOn p q r && (m_isOn r u q && (!s_eq q r && (!s_eq q u && !s_eq p q)))) || (((m_isOn p q u && !s_eq r u) && (m_isOn r u p && (!s_eq p r && !s_eq p u))) || (((m_isOn p q u && !s_eq r u) && (m_isOn r u q && (!s_eq q r && (!s_eq q u && !s_eq p q)))) || ((m_isOn r u p && (!s_eq p r && !s_eq p u)) && (m_isOn r u q && (!s_eq q r && (!s_eq q u && !s_eq p q)))))))) then 3
      else if m_isOn p q r || ((m_isOn p q u && !s_eq r u) || ((m_isOn r u p && (!s_eq p r && !s_eq p u)) || (m_isOn r u q && (!s_eq q r && (!s_eq q u && !s_eq p q))))) then 2 else 0 := by
    intro lo hi lo2 hi2 l1 l2 l3 l4 hA hB
    obtain ⟨FR, eFR, lFR, hFR⟩ : ∃ FR, (if s_behind lo lo2 = true then lo else lo2) = FR ∧ tI p q FR = 0 ∧ ((f FR = f lo ∧ f lo2 ≤ f lo) ∨ (f FR = f lo2 ∧ f lo ≤ f lo2)) := by
      have k := (hf lo lo2 l1 l3).2
      by_cases z : s_behind lo lo2 = true
      · exact ⟨lo, if_pos z, l1, Or.inl ⟨rfl, by have := k.mp z; omega⟩⟩
      · exact ⟨lo2, if_neg z, l3, Or.inr ⟨rfl, Int.not_lt.mp (fun y => z (k.mpr y))⟩⟩
    obtain ⟨TO, eTO, lTO, hTO⟩ : ∃ TO, (if s_behind hi hi2 = true then hi2 else hi) = TO ∧ tI p q TO = 0 ∧ ((f TO = f hi ∧ f hi ≤ f hi2) ∨ (f TO = f hi2 ∧ f hi2 ≤ f hi)) := by
      have k := (hf hi hi2 l2 l4).2
      by_cases z : s_behind hi hi2 = true
      · exact ⟨hi2, if_pos z, l4, Or.inr ⟨rfl, by have := k.mp z; omega⟩⟩
      · exact ⟨hi, if_neg z, l2, Or.inl ⟨rfl, Int.not_lt.mp (fun y => z (k.mpr y))⟩⟩
    rw [eFR, eTO]
    have kb := (hf TO FR lTO lFR).2
    have ke := (hf TO FR lTO lFR).1
    have key : ∀ b1 b2 b3 b4 : Bool, (b1 = true ↔ ((f p ≤ f r ∧ f r ≤ f q) ∨ (f q ≤ f r ∧ f r ≤ f p))) → (b2 = true ↔ ((f p ≤ f u ∧ f u ≤ f q) ∨ (f q ≤ f u ∧ f u ≤ f p))) → (b3 = true ↔ (((f r ≤ f p ∧ f p ≤ f u) ∨ (f u ≤ f p ∧ f p ≤ f r)) ∧ ¬ f p = f r ∧ ¬ f p = f u)) → (b4 = true ↔ (((f r ≤ f q ∧ f q ≤ f u) ∨ (f u ≤ f q ∧ f q ≤ f r)) ∧ ¬ f q = f r ∧ ¬ f q = f u)) →
        (if s_behind TO FR = true then (3 : Int32) else if s_eq TO FR = true then 2 else 0) = if (b1 && b2) || ((b1 && b3) || ((b1 && b4) || ((b2 && b3) || ((b2 && b4) || (b3 && b4))))) then 3 else if b1 || (b2 || (b3 || b4)) then 2 else 0 := by
      intro b1 b2 b3 b4 h1 h2 h3 h4
      have N := ov_num hA hB hFR hTO h1 h2 h3 h4
      by_cases z : f FR < f TO
      · have c1 : ((b1 && b2) || ((b1 && b3) || ((b1 && b4) || ((b2 && b3) || ((b2 && b4) || (b3 && b4)))))) = true := by have := N.1.mp z; simpa only [Bool.or_eq_true, Bool.and_eq_true] using this
        rw [if_pos (kb.mpr z), if_pos c1]
      · have c1 : ¬ ((b1 && b2) || ((b1 && b3) || ((b1 && b4) || ((b2 && b3) || ((b2 && b4) || (b3 && b4)))))) = true := fun y => z (N.1.mpr (by simpa only [Bool.or_eq_true, Bool.and_eq_true] using y))
        have c0 : ¬ s_behind TO FR = true := fun y => z (kb.mp y)
        rw [if_neg c0, if_neg c1]
        have M := N.2 z
        by_cases y : f TO = f FR
        · have c2 : (b1 || (b2 || (b3 || b4))) = true := by have := M.mp y; simpa only [Bool.or_eq_true] using this
          rw [if_pos (ke.mpr y), if_pos c2]
        · have c2 : ¬ (b1 || (b2 || (b3 || b4))) = true := fun x => y (M.mpr (by simpa only [Bool.or_eq_true] using x))
          have c3 : ¬ s_eq TO FR = true := fun x => y (ke.mp x)
          rw [if_neg c3, if_neg c2]
    refine key _ _ _ _ (on p q r hp hq hr tp tq t1) ?_ ?_ ?_
    · rw [e2, Bool.not_false, Bool.and_true]; exact on p q u hp hq hu tp tq t2
    · rw [Bool.and_eq_true, Bool.and_eq_true, Bool.not_eq_true', Bool.not_eq_true', on r u p hr hu hp t1 t2 tp, ne_f p r tp t1, ne_f p u tp t2]
    · rw [e1, Bool.not_false, Bool.and_true, Bool.and_eq_true, Bool.and_eq_true, Bool.not_eq_true', Bool.not_eq_true', on r u q hr hu hq t1 t2 tq, ne_f q r tq t1, ne_f q u tq t2]
  have kp := (hf p q tp tq).2
  have kr := (hf r u t1 t2).2
  unfold j_overlap
  by_cases z1 : s_behind p q = true <;> by_cases z2 : s_behind r u = true
  · rw [if_pos z1, if_pos z1, if_pos z2, if_pos z2]
    exact step q p u r tq tp t2 t1 (Or.inr ⟨kp.mp z1, rfl, rfl⟩) (Or.inr ⟨kr.mp z2, rfl, rfl⟩)
  · rw [if_pos z1, if_pos z1, if_neg z2, if_neg z2]
    exact step q p r u tq tp t1 t2 (Or.inr ⟨kp.mp z1, rfl, rfl⟩) (Or.inl ⟨by have := Int.not_lt.mp (fun y => z2 (kr.mpr y)); omega, rfl, rfl⟩)
  · rw [if_neg z1, if_neg z1, if_pos z2, if_pos z2]
    exact step p q u r tp tq t2 t1 (Or.inl ⟨by have := Int.not_lt.mp (fun y => z1 (kp.mpr y)); omega, rfl, rfl⟩) (Or.inr ⟨kr.mp z2, rfl, rfl⟩)
  · rw [if_neg z1, if_neg z1, if_neg z2, if_neg z2]
    exact step p q r u tp tq t1 t2 (Or.inl ⟨by have := Int.not_lt.mp (fun y => z1 (kp.mpr y)); omega, rfl, rfl⟩) (Or.inl ⟨by have := Int.not_lt.mp (fun y => z2 (kr.mpr y)); omega, rfl, rfl⟩)
theorem or4_comm (a b c d : Bool) : (a || (b || (c || d))) = (c || (d || (a || b))) := by cases a <;> cases b <;> cases c <;> cases d <;> rfl
theorem cr_pt2 (b0 b1 b2 b3 c1 c2 d1 d2 e : Bool) (h2 : b2 = c1) (h3 : b3 = d1) (k1 : c1 = true → b1 = true) (k2 : d1 = true → b1 = true) (h0 : b0 = b1) (hc : c2 = c1) (hd : d2 = d1) :
    (if (b2 || (b3 || (b1 || b0))) = true then (2 : Int32) else 0) = if cmF b1 (b0 && !true) (b2 && (!c1 && !c2)) (b3 && (!d1 && (!d2 && !e))) = 2 then 3 else if cmF b1 (b0 && !true) (b2 && (!c1 && !c2)) (b3 && (!d1 && (!d2 && !e))) = 1 then 2 else 0 := by
  subst h2 h3 h0 hc hd
  revert k1 k2
  cases c2 <;> cases d2 <;> cases b0 <;> cases e <;> decide
theorem cr_pt1 (a c d : Bool) (h1 : c = true → a = true) (h2 : d = true → a = true) (h3 : ¬ (c = true ∧ d = true)) :
    (if (a || (a || (c || d))) = true then (2 : Int32) else 0) = if cmF c (d && !false) (a && (!c && !d)) (a && (!c && (!d && !true))) = 2 then 3 else if cmF c (d && !false) (a && (!c && !d)) (a && (!c && (!d && !true))) = 1 then 2 else 0 := by
  revert h1 h2 h3
  cases a <;> cases c <;> cases d <;> decide
theorem law_cross {p q r u : P2} (hp : OkP p) (hq : OkP q) (hr : OkP r) (hu : OkP u) : j_cross p q r u = m_cr4 p q r u := by
  unfold j_cross m_cr4
  rw [law_onway hr hu hp, law_onway hr hu hq, law_onway hp hq hr, law_onway hp hq hu]
  by_cases hx : s_turn p q r * s_turn p q u < 0 ∧ s_turn r u p * s_turn r u q < 0
  · have hz : ¬ s_turn p q r = 0 := fun h => by
      have := hx.1
      rw [h, Int32.zero_mul] at this
      exact absurd this (by decide)
    rw [if_pos hx, if_neg (fun h => by simp only [Bool.and_eq_true, decide_eq_true_eq] at h; exact hz h.1), if_pos hx]
  · rw [if_neg hx]
    by_cases hl : (decide (s_turn p q r = 0) && (decide (s_turn p q u = 0) && (decide (s_turn r u p = 0) && decide (s_turn r u q = 0)))) = true
    · rw [if_pos hl]
      simp only [Bool.and_eq_true, decide_eq_true_eq] at hl
      have t1 : tI p q r = 0 := by have := hl.1; rw [turn_I hp hq hr] at this; exact sg_eq0.mp this
      have t2 : tI p q u = 0 := by have := hl.2.1; rw [turn_I hp hq hu] at this; exact sg_eq0.mp this
      by_cases e2 : s_eq r u = true
      · rw [if_neg (fun h => by have := h.1.2; rw [e2] at this; cases this)]
        obtain rfl := eq_of r u e2
        rw [common_F, e2]
        refine cr_pt2 _ _ _ _ _ _ _ _ _ (by rw [on_self, eq_comm]) (by rw [on_self, eq_comm]) (fun h => ?_) (fun h => ?_) rfl rfl rfl
        · rw [← eq_of p r h]; exact on_end1 hp hq
        · rw [← eq_of q r h]; exact on_end2 hp hq
      · have e2' : s_eq r u = false := by simpa using e2
        by_cases e1 : s_eq p q = true
        · rw [if_neg (fun h => by have := h.1.1; rw [e1] at this; cases this)]
          obtain rfl := eq_of p q e1
          rw [common_F, e2', e1, on_self, on_self]
          refine cr_pt1 _ _ _ (fun h => ?_) (fun h => ?_) (fun h => ?_)
          · rw [eq_of p r h]; exact on_end1 hr hu
          · rw [eq_of p u h]; exact on_end2 hr hu
          · have a := eq_of p r h.1
            have b := eq_of p u h.2
            rw [← a, ← b, eq_self'] at e2'
            cases e2'
        · have e1' : s_eq p q = false := by simpa using e1
          rw [if_pos ⟨⟨e1', e2'⟩, hl.1, hl.2.1⟩]
          exact law_overlap hp hq hr hu e1' e2' t1 t2
    · rw [if_neg hl, if_neg hx]
      rw [if_neg (fun h => by
        obtain ⟨⟨e1, -⟩, h1, h2⟩ := h
        apply hl
        obtain ⟨f, -, hg⟩ := line_f e1
        have tp : tI p q p = 0 := by unfold tI; simp
        have tq : tI p q q = 0 := by unfold tI; grind
        have t1 : tI p q r = 0 := by rw [turn_I hp hq hr] at h1; exact sg_eq0.mp h1
        have t2 : tI p q u = 0 := by rw [turn_I hp hq hu] at h2; exact sg_eq0.mp h2
        simp only [Bool.and_eq_true, decide_eq_true_eq]
        refine ⟨h1, h2, ?_, ?_⟩
        · rw [turn_I hr hu hp]; exact sg_eq0.mpr (hg r u p t1 t2 tp).1
        · rw [turn_I hr hu hq]; exact sg_eq0.mpr (hg r u q t1 t2 tq).1)]
      rw [or4_comm]
