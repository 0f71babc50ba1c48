set_option maxRecDepth 100000
/-! The plain law of rows: convex, nearest, order, around, edges. -/
theorem itr_congr {α : Type} {f g : Nat → α → α} : ∀ {n : Nat} {a : α}, (∀ j, j < n → ∀ x, f j x = g j x) → itr f n a = itr g n a
  | 0, _, _ => rfl
  | n + 1, a, h => by
    show f n (itr f n a) = g n (itr g n a)
    rw [itr_congr (n := n) (a := a) (fun j hj x => h j (by omega) x), h n (by omega)]
theorem itr_and {Q : Nat → Bool} : ∀ {n : Nat} {b : Bool}, itr (fun j a => a && Q j) n b = true ↔ (b = true ∧ ∀ j, j < n → Q j = true)
  | 0, b => ⟨fun h => ⟨h, fun j hj => absurd hj (by omega)⟩, fun h => h.1⟩
  | n + 1, b => by
    show (itr (fun j a => a && Q j) n b && Q n) = true ↔ _
    rw [Bool.and_eq_true, itr_and (n := n)]
    constructor
    · rintro ⟨⟨h1, h2⟩, h3⟩
      refine ⟨h1, fun j hj => ?_⟩
      rcases Nat.lt_or_ge j n with q | q
      · exact h2 j q
      · obtain rfl : j = n := by omega
        exact h3
    · rintro ⟨h1, h2⟩
      exact ⟨⟨h1, fun j hj => h2 j (by omega)⟩, h2 n (by omega)⟩
/-- all pairs -/
def allP (Q : Nat → Nat → Bool) (N n : Nat) : Bool := itr (fun i a => itr (fun j a => a && Q i j) N a) n true
theorem allP_true {Q : Nat → Nat → Bool} {N : Nat} : ∀ {n : Nat}, allP Q N n = true → ∀ i, i < n → ∀ j, j < N → Q i j = true
  | 0, _, i, hi => absurd hi (by omega)
  | n + 1, h, i, hi => by
    have h' : itr (fun j a => a && Q n j) N (allP Q N n) = true := h
    rw [itr_and] at h'
    rcases Nat.lt_or_ge i n with q | q
    · exact allP_true h'.1 i q
    · obtain rfl : i = n := by omega
      exact h'.2
def cvQ (σ : Sg) (N : Nat) (w : Int32) (i j : Nat) : Bool := isEnd i j N || decide (s_turn (σ.rp i) (σ.rp (nx i N)) (σ.rp j) = w)
theorem m_cvI (σ : Sg) (N i : Nat) : ∀ (k : Nat) (a : Bool × Bool), itr (m_cvG σ N i) k a = (itr (fun j x => x && cvQ σ N 1 i j) k a.1, itr (fun j x => x && cvQ σ N (-1) i j) k a.2)
  | 0, _ => rfl
  | k + 1, a => by
    show m_cvG σ N i k (itr (m_cvG σ N i) k a) = (_ && _, _ && _)
    rw [m_cvI σ N i k a]
    unfold m_cvG cvQ
    cases isEnd i k N <;> simp
theorem m_cvA (σ : Sg) (N : Nat) : ∀ i : Nat, m_cvO σ N i = (allP (cvQ σ N 1) N i, allP (cvQ σ N (-1)) N i)
  | 0 => rfl
  | i + 1 => by
    show itr (m_cvG σ N i) N (m_cvO σ N i) = _
    rw [m_cvA σ N i, m_cvI]
    rfl
theorem j_cvI (σ : Sg) (N i : Nat) (w : Int32) : ∀ (k : Nat) (b : Bool), itr (j_cvG σ N i) k (if b then w else 0) = if itr (fun j x => x && cvQ σ N w i j) k b then w else 0
  | 0, _ => rfl
  | k + 1, b => by
    show j_cvG σ N i k (itr (j_cvG σ N i) k (if b then w else 0)) = if (itr (fun j x => x && cvQ σ N w i j) k b && cvQ σ N w i k) then w else 0
    rw [j_cvI σ N i w k b]
    cases itr (fun j x => x && cvQ σ N w i j) k b with
    | false => simp [j_cvG]
    | true => simp [j_cvG, cvQ]
theorem j_cvA (σ : Sg) (N : Nat) (w : Int32) (hw : s_turn (σ.rp 0) (σ.rp 1) (σ.rp 2) = w) : ∀ i : Nat, j_cvO σ N i = if allP (cvQ σ N w) N i then w else 0
  | 0 => hw
  | i + 1 => by
    show itr (j_cvG σ N i) N (j_cvO σ N i) = _
    rw [j_cvA σ N w hw i, j_cvI]
    rfl
theorem law_convexN (σ : Sg) {N : Nat} (h3 : 3 ≤ N) : j_convex σ N = m_convex σ N := by
  unfold j_convex m_convex
  rw [m_cvA, j_cvA σ N _ rfl]
  have key : ∀ w, allP (cvQ σ N w) N N = true → s_turn (σ.rp 0) (σ.rp 1) (σ.rp 2) = w := fun w h => by
    have h1 := allP_true h 0 (by omega) 2 (by omega)
    have h2 : isEnd 0 2 N = false := by
      have : (0 + 1) % N = 1 := Nat.mod_eq_of_lt (by omega)
      unfold isEnd
      rw [this]; rfl
    have h4 : nx 0 N = 1 := by unfold nx; rw [if_neg (by omega)]
    unfold cvQ at h1
    rw [h2, h4, Bool.false_or, decide_eq_true_eq] at h1
    exact h1
  have nf : ∀ w, ¬ s_turn (σ.rp 0) (σ.rp 1) (σ.rp 2) = w → allP (cvQ σ N w) N N = false := fun w h => by
    cases hq : allP (cvQ σ N w) N N with
    | false => rfl
    | true => exact absurd (key w hq) h
  rcases turn_3 (σ.rp 0) (σ.rp 1) (σ.rp 2) with t | t | t
  · rw [t, nf 1 (by rw [t]; decide)]
    simp
  · rw [t, nf 1 (by rw [t]; decide), nf (-1) (by rw [t]; decide)]
    simp
  · rw [t, nf (-1) (by rw [t]; decide)]
    simp
theorem law_convex {σ : Sg} (hO : Ok σ) (n : Int32) : pubR σ n 3 (j_convex σ) = pubR σ n 3 (m_convex σ) := by
  unfold pubR
  by_cases h : m_isMany σ.rn n 3 = true
  · obtain ⟨N, h1, h2, h3⟩ := many_elim (by decide) hO.rn31 h
    have e3 : (3 : Int32).toInt = 3 := rfl
    rw [if_pos h, if_pos h, h2, ixn (Nat.lt_of_le_of_lt h1 hO.rn31), law_convexN σ (N := N) (by omega)]
  · rw [if_neg h, if_neg h]
theorem law_near (σ : Sg) : j_near σ = m_near σ := by
  have e : j_nrG σ = m_nrG σ := by
    funext A k a
    unfold j_nrG m_nrG
    have : (if s_far (σ.pt A) (σ.rp k) < a.2 then s_far (σ.pt A) (σ.rp k) else a.2) = if a.2 ≤ s_far (σ.pt A) (σ.rp k) then a.2 else s_far (σ.pt A) (σ.rp k) := by
      by_cases h : s_far (σ.pt A) (σ.rp k) < a.2
      · rw [if_pos h, if_neg (Int64.not_le.mpr h)]
      · rw [if_neg h, if_pos (Int64.not_lt.mp h)]
    rw [this]
  funext N A
  unfold j_near m_near j_nrO m_nrO
  rw [e]
theorem b_iff {a b : Bool} (h : a = true ↔ b = true) : a = b := Bool.eq_iff_iff.mpr h
theorem law_less {p q : P2} (hp : OkP p) (hq : OkP q) (i k : Nat) : j_ahead (j_cmpA p q) i k = m_less p q i k := by
  unfold j_cmpA m_less j_ahead
  have hx := (hp.x.sub hq.x (by decide)).w
  have hy := (hp.y.sub hq.y (by decide)).w
  by_cases h1 : p.1 = q.1
  · rw [if_pos h1, if_pos h1]
    by_cases h2 : p.2 = q.2
    · rw [if_pos h2]
      have e0 : (p.2 - q.2).toInt64 = 0 := hy.eq0.mpr (by rw [h2]; omega)
      rw [e0]
      rfl
    · rw [if_neg h2]
      have h2' : ¬ p.2.toInt = q.2.toInt := fun h => h2 (Int32.toInt_inj.mp h)
      apply b_iff
      simp only [Bool.or_eq_true, Bool.and_eq_true, decide_eq_true_eq, hy.lt0, hy.eq0, Int32.lt_iff_toInt_lt]
      omega
  · rw [if_neg h1, if_neg h1]
    have h1' : ¬ p.1.toInt = q.1.toInt := fun h => h1 (Int32.toInt_inj.mp h)
    apply b_iff
    simp only [Bool.or_eq_true, Bool.and_eq_true, decide_eq_true_eq, hx.lt0, hx.eq0, Int32.lt_iff_toInt_lt]
    omega
theorem half_rel {z p : P2} (h : s_eq p z = false) : (m_half z p = 0 ∧ j_half z p = 1) ∨ (m_half z p = 1 ∧ j_half z p = 2) := by
  have e : decide (z.2 < p.2) = !decide (p.2 ≤ z.2) := by
    by_cases g : p.2 ≤ z.2
    · have := Int32.not_lt.mpr g
      simp [g, this]
    · have := Int32.not_le.mp g
      simp [g, this]
  unfold m_half j_half
  rw [h, e]
  cases (!decide (p.2 ≤ z.2) || (decide (p.2 = z.2) && !decide (p.1 ≤ z.1))) with
  | true => exact Or.inl ⟨rfl, rfl⟩
  | false => exact Or.inr ⟨rfl, rfl⟩
theorem law_ah {z p q : P2} (hz : OkP z) (hp : OkP p) (hq : OkP q) (i k : Nat) : j_ahead (j_cmpR z p q) i k = m_ah z p q i k := by
  have hf := (far_I hz hp).sub (far_I hz hq) (by decide)
  have hlt := (far_I hz hp).lt (far_I hz hq)
  have heq := (far_I hz hp).eq (far_I hz hq)
  unfold m_ah
  cases ep : s_eq z p with
  | true =>
    obtain rfl := eq_of z p ep
    have h1 : j_half z z = 0 := by unfold j_half; rw [eq_self']; rfl
    cases eq' : s_eq z q with
    | true =>
      obtain rfl := eq_of z q eq'
      have : j_cmpR z z z = 0 := by
        simp only [j_cmpR, h1, Int32.sub_self, not_true_eq_false, or_true, ↓reduceIte, Int64.sub_self]
      rw [this]
      unfold j_ahead
      simp
    | false =>
      have : j_ahead (j_cmpR z z q) i k = true := by
        rcases half_rel (z := z) (p := q) (by rw [eq_comm]; exact eq') with ⟨-, h⟩ | ⟨-, h⟩ <;> simp only [j_cmpR, h1, h] <;> rfl
      rw [this]
      rfl
  | false =>
    cases eq' : s_eq z q with
    | true =>
      obtain rfl := eq_of z q eq'
      have h1 : j_half z z = 0 := by unfold j_half; rw [eq_self']; rfl
      have : j_ahead (j_cmpR z p z) i k = false := by
        rcases half_rel (z := z) (p := p) (by rw [eq_comm]; exact ep) with ⟨-, h⟩ | ⟨-, h⟩ <;> simp only [j_cmpR, h1, h] <;> rfl
      rw [this]
      rfl
    | false =>
      have hp' := half_rel (z := z) (p := p) (by rw [eq_comm]; exact ep)
      have hq' := half_rel (z := z) (p := q) (by rw [eq_comm]; exact eq')
      have same : ∀ h : Int32, ¬ h = 0 → j_half z p = h → j_half z q = h → j_ahead (j_cmpR z p q) i k = if s_turn z p q = 0 then (if s_far z p = s_far z q then decide (i < k) else decide (s_far z p < s_far z q)) else !decide (s_turn z p q ≤ 0) := fun h h0 a b => by
        have : j_cmpR z p q = if s_turn z p q = 0 then s_far z p - s_far z q else (-s_turn z p q).toInt64 := by
          simp only [j_cmpR, a, b, Int32.sub_self, not_true_eq_false, h0, or_self, ↓reduceIte]
        rw [this]
        rcases turn_3 z p q with t | t | t
        · rw [t]; rfl
        · rw [t, if_pos rfl, if_pos rfl]
          unfold j_ahead
          apply b_iff
          by_cases g : s_far z p = s_far z q
          · rw [if_pos g]
            have g' := heq.mp g
            simp only [Bool.or_eq_true, Bool.and_eq_true, decide_eq_true_eq, hf.lt0, hf.eq0]
            omega
          · rw [if_neg g]
            have g' : ¬ aI z p p = aI z q q := fun x => g (heq.mpr x)
            simp only [Bool.or_eq_true, Bool.and_eq_true, decide_eq_true_eq, hf.lt0, hf.eq0, hlt]
            omega
        · rw [t]; rfl
      rcases hp' with ⟨a, b⟩ | ⟨a, b⟩ <;> rcases hq' with ⟨c, d⟩ | ⟨c, d⟩
      · rw [same 1 (by decide) b d, a, c]; rfl
      · have : j_cmpR z p q = -1 := by simp only [j_cmpR, b, d]; rfl
        rw [this, a, c]; rfl
      · have : j_cmpR z p q = 1 := by simp only [j_cmpR, b, d]; rfl
        rw [this, a, c]; rfl
      · rw [same 2 (by decide) b d, a, c]; rfl
theorem plF_congr {f g : Nat → Nat → Bool} (N : Nat) (i : Int32) (n : Nat) (h : ∀ j k, f j k = g j k) : plF f N i n = plF g N i n := by
  have : f = g := by funext j k; exact h j k
  rw [this]
theorem law_order {σ : Sg} (hO : Ok σ) (n i : Int32) : pubO σ n i (fun j k => j_ahead (j_cmpA (σ.rp j) (σ.rp k)) j k) = pubO σ n i (fun i k => m_less (σ.rp i) (σ.rp k) i k) := by
  have : (fun j k => j_ahead (j_cmpA (σ.rp j) (σ.rp k)) j k) = (fun i k => m_less (σ.rp i) (σ.rp k) i k) := by
    funext j k; exact law_less (hO.2.2.1 _) (hO.2.2.1 _) j k
  rw [this]
theorem law_around {σ : Sg} (hO : Ok σ) (c n i : Int32) : pubA σ c n i (fun z j k => j_ahead (j_cmpR z (σ.rp j) (σ.rp k)) j k) = pubA σ c n i (fun z i k => m_ah z (σ.rp i) (σ.rp k) i k) := by
  unfold pubA
  have : (fun j k => j_ahead (j_cmpR (σ.pt (ix c)) (σ.rp j) (σ.rp k)) j k) = (fun i k => m_ah (σ.pt (ix c)) (σ.rp i) (σ.rp k) i k) := by
    funext j k; exact law_ah (hO.2.2.1 _) (hO.2.2.1 _) (hO.2.2.1 _) j k
  simp only [this]
/-! edges -/
def j_up (a b p : P2) : Bool := !decide (p.2 < a.2) && (!decide (b.2 ≤ p.2) && !decide (s_turn a b p ≤ 0))
def j_dn (a b p : P2) : Bool := !decide (p.2 < b.2) && (!decide (a.2 ≤ p.2) && decide (s_turn a b p < 0))
abbrev E3 : Type := Int32 × Int32 × Bool
def j_edG (σ : Sg) (N : Nat) (p : P2) (i : Nat) (a : E3) : E3 := (a.1 + (if j_up (σ.rp i) (σ.rp (nx i N)) p then 1 else 0), a.2.1 + (if j_dn (σ.rp i) (σ.rp (nx i N)) p then 1 else 0), a.2.2 || j_onway p (σ.rp i) (σ.rp (nx i N)))
def j_edO (σ : Sg) (N : Nat) (p : P2) (k : Nat) : E3 := itr (j_edG σ N p) k (0, 0, false)
def j_poly (σ : Sg) (N A : Nat) : Int32 := if (j_edO σ N (σ.pt A) N).2.2 then 2 else ((j_edO σ N (σ.pt A) N).1 + (j_edO σ N (σ.pt A) N).2.1) - ((j_edO σ N (σ.pt A) N).1 + (j_edO σ N (σ.pt A) N).2.1) / 2 * 2
def j_wind (σ : Sg) (n p : Int32) : Int32 := if (m_isMany σ.rn n 1 && isPt σ.np p) && wh σ.rw (ix n) then (if (j_edO σ (ix n) (σ.pt (ix p)) (ix n)).2.2 then 100 else (j_edO σ (ix n) (σ.pt (ix p)) (ix n)).1 - (j_edO σ (ix n) (σ.pt (ix p)) (ix n)).2.1) else -100
theorem rises_eq (a b p : P2) : m_rises a b p = (if j_up a b p then 1 else 0) - (if j_dn a b p then 1 else 0) ∧ (if m_rises a b p = 0 then (0 : Int32) else 1) = (if j_up a b p then 1 else 0) + (if j_dn a b p then 1 else 0) := by
  unfold m_rises j_up j_dn
  rcases turn_3 a b p with t | t | t <;> rw [t] <;> cases decide (p.2 < a.2) <;> cases decide (b.2 ≤ p.2) <;> cases decide (p.2 < b.2) <;> cases decide (a.2 ≤ p.2) <;> decide
theorem i32_4 (a b c d : Int32) : (a + c) - (b + d) = (a - b) + (c - d) := by grind
theorem i32_4' (a b c d : Int32) : (a + c) + (b + d) = (a + b) + (c + d) := by grind
theorem ed_eq {σ : Sg} (hO : Ok σ) (N : Nat) {p : P2} (hp : OkP p) : ∀ k : Nat, (j_edO σ N p k).2.2 = m_onE σ N p k ∧ (j_edO σ N p k).1 - (j_edO σ N p k).2.1 = m_sum σ N p k ∧ (j_edO σ N p k).1 + (j_edO σ N p k).2.1 = m_some σ N p k
  | 0 => ⟨rfl, by show (0 : Int32) - 0 = 0; decide, by show (0 : Int32) + 0 = 0; decide⟩
  | k + 1 => by
    obtain ⟨h1, h2, h3⟩ := ed_eq hO N hp k
    obtain ⟨r1, r2⟩ := rises_eq (σ.rp k) (σ.rp (nx k N)) p
    have e1 : m_onE σ N p (k + 1) = (m_onE σ N p k || m_isOn (σ.rp k) (σ.rp (nx k N)) p) := rfl
    have e2 : m_sum σ N p (k + 1) = m_sum σ N p k + m_rises (σ.rp k) (σ.rp (nx k N)) p := rfl
    have e3 : m_some σ N p (k + 1) = m_some σ N p k + (if m_rises (σ.rp k) (σ.rp (nx k N)) p = 0 then 0 else 1) := rfl
    have e4 : j_edO σ N p (k + 1) = j_edG σ N p k (j_edO σ N p k) := rfl
    rw [e1, e2, e3, e4, ← h1, ← h2, ← h3, r2, r1]
    unfold j_edG
    refine ⟨?_, ?_, ?_⟩
    · rw [law_onway (hO.2.2.1 _) (hO.2.2.1 _) hp]
    · exact i32_4 _ _ _ _
    · exact i32_4' _ _ _ _
theorem law_poly {σ : Sg} (hO : Ok σ) (N A : Nat) : j_poly σ N A = m_poly σ N A := by
  obtain ⟨h1, h2, h3⟩ := ed_eq hO N (hO.2.2.1 A) N
  unfold j_poly m_poly
  rw [h1, h3]
theorem law_wind {σ : Sg} (hO : Ok σ) (n p : Int32) : j_wind σ n p = m_wind σ n p := by
  obtain ⟨h1, h2, h3⟩ := ed_eq hO (ix n) (hO.2.2.1 (ix p)) (ix n)
  unfold j_wind m_wind
  rw [h1, h2]
