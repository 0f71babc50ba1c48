set_option maxRecDepth 100000
/-! The state's changes, and what a method leaves of the heap. -/
def t_cnt (σ : Sg) (q z : Bool) : Sg := (σ.1, σ.2.1, (σ.on, σ.dc + (if q = true then 1 else 0), σ.ud + (if q = true then 0 else 1), σ.zr + (if z = true then 1 else 0)), σ.2.2.2)
def t_on (σ : Sg) (b : Bool) : Sg := (σ.1, σ.2.1, (b, σ.dc, σ.ud, σ.zr), σ.2.2.2)
def t_pt (σ : Sg) (p : P2) : Sg := ((σ.np + 1, fun i => if i = σ.np then p else σ.pt i), σ.2)
def t_row (σ : Sg) (n : Nat) : Sg := (σ.1, (n, fun _ => none), σ.2.2)
def t_put (σ : Sg) (i : Nat) (v : Option Nat) : Sg := (σ.1, (σ.rn, fun j => if j = i then v else σ.rw j), σ.2.2)
def t_ln (σ : Sg) (l : L3) : Sg := (σ.1, σ.2.1, σ.2.2.1, (σ.nl + 1, fun i => if i = σ.nl then l else σ.ln i))
def ownJ (o : Nat) (B : Nat → Nat) (q : Nat) : Prop := q = o ∨ q = B 0 ∨ q = B 1 ∨ q = B 2
def cellJ (o : Nat) (B P L : Nat → Nat) (σ : Sg) (q : Nat) : Prop := ownJ o B q ∨ (∃ i, i < σ.np ∧ q = P i) ∨ (∃ i, i < σ.nl ∧ q = L i)
def JS (o : Nat) (B P L : Nat → Nat) (σ : Sg) : Prop := (o ≠ B 0 ∧ o ≠ B 1 ∧ o ≠ B 2 ∧ B 0 ≠ B 1 ∧ B 0 ≠ B 2 ∧ B 1 ≠ B 2) ∧ (∀ i, i < σ.np → ¬ ownJ o B (P i)) ∧ (∀ i, i < σ.nl → ¬ ownJ o B (L i))
def ownM (o : Nat) (A : Nat → Nat) (q : Nat) : Prop := q = o ∨ ∃ i, i < 6 ∧ q = A i
def MS (o : Nat) (A : Nat → Nat) : Prop := (∀ i, i < 6 → o ≠ A i) ∧ (∀ i j, i < 6 → j < 6 → i ≠ j → A i ≠ A j)
theorem JW.cell {G : GG} {H : Heap} {o : Nat} {B P L : Nat → Nat} {σ : Sg} (h : JW G H o B P L σ) {q : Nat} (hq : cellJ o B P L σ q) : q < H.size := by
  obtain ⟨h1, h2, h3, h4, h5, h6⟩ := h
  rcases hq with (rfl | rfl | rfl | rfl) | ⟨i, hi, rfl⟩ | ⟨i, hi, rfl⟩
  · exact h1.lt
  · exact h2.lt
  · exact h3.lt
  · exact h4.lt
  · exact (h5 i hi).lt
  · exact (h6 i hi).lt
theorem JW.kept {G : GG} {H H' : Heap} {o : Nat} {B P L : Nat → Nat} {σ : Sg} (h : JW G H o B P L σ) (k : ∀ q, cellJ o B P L σ q → H'[q]? = H[q]?) : JW G H' o B P L σ := by
  obtain ⟨h1, h2, h3, h4, h5, h6⟩ := h
  exact ⟨h1.kept (k _ (Or.inl (Or.inl rfl))), h2.kept (k _ (Or.inl (Or.inr (Or.inl rfl)))), h3.kept (k _ (Or.inl (Or.inr (Or.inr (Or.inl rfl))))), h4.kept (k _ (Or.inl (Or.inr (Or.inr (Or.inr rfl))))), fun i hi => (h5 i hi).kept (k _ (Or.inr (Or.inl ⟨i, hi, rfl⟩))), fun i hi => (h6 i hi).kept (k _ (Or.inr (Or.inr ⟨i, hi, rfl⟩)))⟩
theorem MW.cell {G : GG} {H : Heap} {o : Nat} {A : Nat → Nat} {σ : Sg} {th : Int32} (h : MW G H o A σ th) {q : Nat} (hq : ownM o A q) : q < H.size := by
  obtain ⟨h1, h2, h3, h4, h5, h6, h7⟩ := h
  rcases hq with rfl | ⟨i, hi, rfl⟩
  · exact h1.lt
  · match i, hi with
    | 0, _ => exact h2.lt
    | 1, _ => exact h3.lt
    | 2, _ => exact h4.lt
    | 3, _ => exact h5.lt
    | 4, _ => exact h6.lt
    | 5, _ => exact h7.lt
theorem MW.kept {G : GG} {H H' : Heap} {o : Nat} {A : Nat → Nat} {σ : Sg} {th : Int32} (h : MW G H o A σ th) (k : ∀ q, ownM o A q → H'[q]? = H[q]?) : MW G H' o A σ th := by
  obtain ⟨h1, h2, h3, h4, h5, h6, h7⟩ := h
  have kk : ∀ i, i < 6 → H'[A i]? = H[A i]? := fun i hi => k _ (Or.inr ⟨i, hi, rfl⟩)
  exact ⟨h1.kept (k _ (Or.inl rfl)), h2.kept (kk 0 (by decide)), h3.kept (kk 1 (by decide)), h4.kept (kk 2 (by decide)), h5.kept (kk 3 (by decide)), h6.kept (kk 4 (by decide)), h7.kept (kk 5 (by decide))⟩
/-- what a method of the class leaves: its cells for σ', what isn't its own as it was -/
def JP (G : GG) (H : Heap) (o : Nat) (B P L : Nat → Nat) (σ σ' : Sg) (H' : Heap) : Prop :=
  ∃ B' P' L' : Nat → Nat, JW G H' o B' P' L' σ' ∧ JS o B' P' L' σ' ∧ H.size ≤ H'.size ∧ (∀ q, q < H.size → ¬ ownJ o B q → H'[q]? = H[q]?) ∧ (∀ q, cellJ o B' P' L' σ' q → cellJ o B P L σ q ∨ H.size ≤ q)
def MP (G : GG) (H : Heap) (o : Nat) (A : Nat → Nat) (σ' : Sg) (th : Int32) (H' : Heap) : Prop := MW G H' o A σ' th ∧ H'.size = H.size ∧ ∀ q, ¬ ownM o A q → H'[q]? = H[q]?
theorem JP.rf {G : GG} {H : Heap} {o : Nat} {B P L : Nat → Nat} {σ : Sg} (h : JW G H o B P L σ) (hs : JS o B P L σ) : JP G H o B P L σ σ H := ⟨B, P, L, h, hs, Nat.le_refl _, fun _ _ _ => rfl, fun _ h => Or.inl h⟩
theorem JP.grow {G : GG} {H H' : Heap} {o : Nat} {B P L : Nat → Nat} {σ : Sg} (h : JW G H o B P L σ) (hs : JS o B P L σ) (hg : Grow H H') : JP G H o B P L σ σ H' :=
  ⟨B, P, L, h.kept (fun q hq => hg.2 q (h.cell hq)), hs, hg.1, fun q hq _ => hg.2 q hq, fun _ h => Or.inl h⟩
theorem MP.rf {G : GG} {H : Heap} {o : Nat} {A : Nat → Nat} {σ : Sg} {th : Int32} (h : MW G H o A σ th) : MP G H o A σ th H := ⟨h, rfl, fun _ _ => rfl⟩
theorem nbI (q : Bool) : (if q = true then (1 : Int32) else 0) = if q = true then 1 else 0 := rfl
/-- a change of the class's own object alone -/
theorem JP.o {G : GG} {H H' : Heap} {o : Nat} {B P L : Nat → Nat} {σ σ' : Sg} (h : JW G H o B P L σ) (hs : JS o B P L σ) (e1 : σ'.1 = σ.1) (e2 : σ'.2.1 = σ.2.1) (e3 : σ'.2.2.2 = σ.2.2.2)
    (hat : va_at G.1 clA (o, .inr (0, [.int (nI σ'.np), .ref (B 0), .ref (B 1), .int (bI σ'.on), .int σ'.dc, .int σ'.ud, .int σ'.zr, .int (nI σ'.nl), .ref (B 2)])) H') (ho : Only o H H') : JP G H o B P L σ σ' H' := by
  obtain ⟨a, ⟨b1, b2⟩, c, d1, d2⟩ := σ'
  obtain ⟨a', ⟨b1', b2'⟩, c', d1', d2'⟩ := σ
  simp only [Prod.mk.injEq] at e1 e2 e3
  subst e1
  obtain ⟨rfl, rfl⟩ := e2
  obtain ⟨rfl, rfl⟩ := e3
  obtain ⟨h1, h2, h3, h4, h5, h6⟩ := h
  obtain ⟨⟨s1, s2, s3, s4, s5, s6⟩, s7, s8⟩ := hs
  refine ⟨B, P, L, ⟨hat, at_only h2 ho (Ne.symm s1), at_only h3 ho (Ne.symm s2), at_only h4 ho (Ne.symm s3), fun i hi => at_only (h5 i hi) ho (fun q => s7 i hi (Or.inl q)), fun i hi => at_only (h6 i hi) ho (fun q => s8 i hi (Or.inl q))⟩, ⟨⟨s1, s2, s3, s4, s5, s6⟩, s7, s8⟩, Nat.le_of_eq ho.1.symm, fun q _ hq => ho.2 q (fun e => hq (Or.inl e)), fun q hq => Or.inl hq⟩
theorem MP.o {G : GG} {H H' : Heap} {o : Nat} {A : Nat → Nat} {σ σ' : Sg} {th th' : Int32} (h : MW G H o A σ th) (hs : MS o A) (e1 : σ'.1 = σ.1) (e2 : σ'.2.1 = σ.2.1) (e3 : σ'.2.2.2 = σ.2.2.2)
    (hat : va_at G.1 clA (o, .inr (7, [.int th', .int (nI σ'.np), .ref (A 0), .ref (A 1), .int (nI σ'.rn), .ref (A 2), .int (bI σ'.on), .int σ'.dc, .int σ'.ud, .int σ'.zr, .int (nI σ'.nl), .ref (A 3), .ref (A 4), .ref (A 5)])) H') (ho : Only o H H') : MP G H o A σ' th' H' := by
  obtain ⟨a, ⟨b1, b2⟩, c, d1, d2⟩ := σ'
  obtain ⟨a', ⟨b1', b2'⟩, c', d1', d2'⟩ := σ
  simp only [Prod.mk.injEq] at e1 e2 e3
  subst e1
  obtain ⟨rfl, rfl⟩ := e2
  obtain ⟨rfl, rfl⟩ := e3
  obtain ⟨h1, h2, h3, h4, h5, h6, h7⟩ := h
  obtain ⟨s1, s2⟩ := hs
  exact ⟨⟨hat, at_only h2 ho (Ne.symm (s1 0 (by decide))), at_only h3 ho (Ne.symm (s1 1 (by decide))), at_only h4 ho (Ne.symm (s1 2 (by decide))), at_only h5 ho (Ne.symm (s1 3 (by decide))), at_only h6 ho (Ne.symm (s1 4 (by decide))), at_only h7 ho (Ne.symm (s1 5 (by decide)))⟩, ho.1, fun q hq => ho.2 q (fun e => hq (Or.inl e))⟩
/-- an int and a state behind it -/
theorem pr_post {α : Type} {f : Int32 × α} {v : Int32} {t : α} {P : α → Prop} (h : f = (v, t)) (k : P t) : (Outcome.returned (some (Value.int v)) = .returned (some (.int f.1))) ∧ P f.2 := by subst h; exact ⟨rfl, k⟩
/-! side and circle -/
def pubS3 (σ : Sg) (a b d : Int32) (f : P2 → P2 → P2 → Int32 × Sg) : Int32 × Sg := if isPt σ.np a && (isPt σ.np b && isPt σ.np d) then (if s_eq (σ.pt (ix a)) (σ.pt (ix b)) then (-4, σ) else f (σ.pt (ix a)) (σ.pt (ix b)) (σ.pt (ix d))) else (-2, σ)
def pubS4 (σ : Sg) (a b d g : Int32) (f : P2 → P2 → P2 → P2 → Int32 × Sg) : Int32 × Sg := if (isPt σ.np a && (isPt σ.np b && isPt σ.np d)) && isPt σ.np g then (if s_turn (σ.pt (ix a)) (σ.pt (ix b)) (σ.pt (ix d)) = 0 then (-4, σ) else f (σ.pt (ix a)) (σ.pt (ix b)) (σ.pt (ix d)) (σ.pt (ix g))) else (-2, σ)
def j_told (σ : Sg) (k x : Int32) : Sg := t_cnt σ (!decide (k = 0)) (decide (t_sign k x = 0))
def j_sideV (σ : Sg) (p q r : P2) : Int32 × Sg := (t_sign (if σ.on then j_ft p q r else 0) (s_turn p q r), j_told σ (if σ.on then j_ft p q r else 0) (s_turn p q r))
def j_cirV (σ : Sg) (p q r u : P2) : Int32 × Sg := (s_turn p q r * t_sign (if σ.on then j_fr p q r u else 0) (s_ring p q r u), j_told σ (if σ.on then j_fr p q r u else 0) (s_ring p q r u))
def m_sideV (σ : Sg) (p q r : P2) : Int32 × Sg := (s_turn p q r, t_cnt σ (σ.on && m_ft p q r) (decide (s_turn p q r = 0)))
def m_cirV (σ : Sg) (p q r u : P2) : Int32 × Sg := (s_turn p q r * s_ring p q r u, t_cnt σ (σ.on && m_fr p q r u) (decide (s_turn p q r * s_ring p q r u = 0)))
theorem law_side {σ : Sg} (hO : Ok σ) (a b d : Int32) : pubS3 σ a b d (j_sideV σ) = pubS3 σ a b d (m_sideV σ) := by
  have key : ∀ p q r, OkP p → OkP q → OkP r → j_sideV σ p q r = m_sideV σ p q r := fun p q r hp hq hr => by
    obtain ⟨-, -, -, h1, h2⟩ := ft_F hp hq hr
    unfold j_sideV m_sideV j_told t_sign
    rw [h1]
    cases σ.on with
    | false => simp
    | true =>
      simp only [↓reduceIte, Bool.true_and]
      by_cases h0 : j_ft p q r = 0
      · simp [h0]
      · rcases h2 with h2 | h2
        · exact absurd h2 h0
        · rw [if_neg h0, h2]
  unfold pubS3
  rw [key _ _ _ (hO.2.2.1 _) (hO.2.2.1 _) (hO.2.2.1 _)]
theorem law_circle {σ : Sg} (hO : Ok σ) (a b d g : Int32) : pubS4 σ a b d g (j_cirV σ) = pubS4 σ a b d g (m_cirV σ) := by
  have key : ∀ p q r u, OkP p → OkP q → OkP r → OkP u → ¬ s_turn p q r = 0 → j_cirV σ p q r u = m_cirV σ p q r u := fun p q r u hp hq hr hu ht => by
    obtain ⟨-, -, -, -, h1, h2⟩ := fr_F hp hq hr hu
    have hz : decide (s_turn p q r * s_ring p q r u = 0) = decide (s_ring p q r u = 0) := by
      rw [turn_I hp hq hr] at ht ⊢
      rw [ring_I hp hq hr hu]
      apply Bool.eq_iff_iff.mpr
      rw [decide_eq_true_eq, decide_eq_true_eq, sg_mul0, sg_eq0]
      constructor
      · rintro (h | h)
        · exact absurd (sg_eq0.mpr h) ht
        · exact h
      · exact Or.inr
    unfold j_cirV m_cirV j_told t_sign
    rw [h1, hz]
    cases σ.on with
    | false => simp
    | true =>
      simp only [↓reduceIte, Bool.true_and]
      by_cases h0 : j_fr p q r u = 0
      · simp [h0]
      · rcases h2 with h2 | h2
        · exact absurd h2 h0
        · rw [if_neg h0, h2]
  unfold pubS4
  split
  · split
    · rfl
    · next h => exact key _ _ _ _ (hO.2.2.1 _) (hO.2.2.1 _) (hO.2.2.1 _) (hO.2.2.1 _) h
  · rfl
