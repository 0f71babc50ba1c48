set_option maxRecDepth 100000
/-! Counting: lines and where they meet, as numbers alone. -/
def sN : Nat → (Nat → Nat) → Nat
  | 0, _ => 0
  | n + 1, F => sN n F + F n
def mN : Nat → (Nat → Nat) → Nat
  | 0, _ => 0
  | n + 1, F => max (mN n F) (F n)
def cN (n : Nat) (P : Nat → Bool) : Nat := sN n (fun j => (P j).toNat)
theorem cN_succ (n : Nat) (P : Nat → Bool) : cN (n + 1) P = cN n P + (P n).toNat := rfl
theorem sN_congr {F G : Nat → Nat} : ∀ {n : Nat}, (∀ j, j < n → F j = G j) → sN n F = sN n G
  | 0, _ => rfl
  | n + 1, h => by
    show sN n F + F n = sN n G + G n
    rw [sN_congr (n := n) (fun j hj => h j (by omega)), h n (by omega)]
theorem cN_congr {P Q : Nat → Bool} {n : Nat} (h : ∀ j, j < n → P j = Q j) : cN n P = cN n Q := sN_congr fun j hj => by rw [h j hj]
theorem sN_add (F G : Nat → Nat) : ∀ n : Nat, sN n (fun j => F j + G j) = sN n F + sN n G
  | 0 => rfl
  | n + 1 => by
    show sN n (fun j => F j + G j) + (F n + G n) = (sN n F + F n) + (sN n G + G n)
    rw [sN_add F G n]; omega
theorem sN_zero {F : Nat → Nat} : ∀ {n : Nat}, (∀ j, j < n → F j = 0) → sN n F = 0
  | 0, _ => rfl
  | n + 1, h => by
    show sN n F + F n = 0
    rw [sN_zero (n := n) (fun j hj => h j (by omega)), h n (by omega)]
theorem sN_one {F : Nat → Nat} {m : Nat} : ∀ {n : Nat}, m < n → F m = 1 → (∀ j, j < n → j ≠ m → F j = 0) → sN n F = 1
  | 0, h, _, _ => absurd h (by omega)
  | n + 1, h, h1, h0 => by
    show sN n F + F n = 1
    rcases Nat.lt_or_ge m n with q | q
    · rw [sN_one q h1 (fun j hj hm => h0 j (by omega) hm), h0 n (by omega) (by omega)]
    · obtain rfl : m = n := by omega
      rw [sN_zero (fun j hj => h0 j (by omega) (by omega)), h1]
theorem cN_zero {P : Nat → Bool} {n : Nat} : cN n P = 0 ↔ ∀ j, j < n → P j = false := by
  constructor
  · intro h
    induction n with
    | zero => intro j hj; exact absurd hj (by omega)
    | succ n ih =>
      rw [cN_succ] at h
      intro j hj
      rcases Nat.lt_or_ge j n with q | q
      · exact ih (by omega) j q
      · obtain rfl : j = n := by omega
        cases hp : P j with
        | false => rfl
        | true => rw [hp] at h; simp at h
  · intro h
    exact sN_zero fun j hj => by rw [h j hj]; rfl
theorem cN_mono {P : Nat → Bool} {n : Nat} : ∀ {m : Nat}, n ≤ m → cN n P ≤ cN m P
  | 0, h => by obtain rfl : n = 0 := by omega
               exact Nat.le_refl _
  | m + 1, h => by
    rcases Nat.lt_or_ge n (m + 1) with q | q
    · rw [cN_succ]; have := cN_mono (P := P) (n := n) (m := m) (by omega); omega
    · obtain rfl : n = m + 1 := by omega
      exact Nat.le_refl _
theorem cN_pos {P : Nat → Bool} {n i : Nat} (hi : i < n) (h : P i = true) : 1 ≤ cN n P := by
  have := cN_mono (P := P) (n := i + 1) (m := n) (by omega)
  rw [cN_succ, h] at this
  have e : true.toNat = 1 := rfl
  omega
theorem cN_two {P : Nat → Bool} {n i j : Nat} (hi : i < n) (hj : j < n) (hne : i < j) (h : P i = true) (k : P j = true) : 2 ≤ cN n P := by
  have h1 := cN_mono (P := P) (n := j + 1) (m := n) (by omega)
  rw [cN_succ, k] at h1
  have h2 := cN_pos (P := P) (n := j) hne h
  have e : true.toNat = 1 := rfl
  omega
theorem cN_one {P : Nat → Bool} {n i : Nat} (hi : i < n) (h : P i = true) : cN n P = 1 ↔ ∀ j, j < n → P j = true → j = i := by
  constructor
  · intro h1 j hj hp
    rcases Nat.lt_trichotomy i j with q | q | q
    · have := cN_two hi hj q h hp; omega
    · exact q.symm
    · have := cN_two hj hi q hp h; omega
  · intro h1
    refine sN_one (m := i) hi (by rw [h]; rfl) fun j hj hne => ?_
    cases hp : P j with
    | false => rfl
    | true => exact absurd (h1 j hj hp) hne
theorem mN_le {F : Nat → Nat} {B : Nat} : ∀ {n : Nat}, mN n F ≤ B ↔ ∀ j, j < n → F j ≤ B
  | 0 => ⟨fun _ j hj => absurd hj (by omega), fun _ => Nat.zero_le _⟩
  | n + 1 => by
    show max (mN n F) (F n) ≤ B ↔ _
    rw [Nat.max_le, mN_le (n := n)]
    constructor
    · rintro ⟨h1, h2⟩ j hj
      rcases Nat.lt_or_ge j n with q | q
      · exact h1 j q
      · obtain rfl : j = n := by omega
        exact h2
    · intro h
      exact ⟨fun j hj => h j (by omega), h n (by omega)⟩
theorem eq_of_le {x y : Nat} (h : ∀ B, x ≤ B ↔ y ≤ B) : x = y := Nat.le_antisymm ((h y).mpr (Nat.le_refl _)) ((h x).mp (Nat.le_refl _))
theorem least {P : Nat → Prop} (h : ∃ n, P n) : ∃ n, P n ∧ ∀ j, j < n → ¬ P j := by
  obtain ⟨n, hn⟩ := h
  induction n using Nat.strongRecOn with
  | ind n ih =>
    by_cases q : ∃ j, j < n ∧ P j
    · obtain ⟨j, hj, hp⟩ := q
      exact ih j hj hp
    · exact ⟨n, hn, fun j hj hp => q ⟨j, hj, hp⟩⟩
theorem greatest {P : Nat → Bool} {k : Nat} : ∀ {N : Nat}, k < N → P k = true → ∃ x, k ≤ x ∧ x < N ∧ P x = true ∧ ∀ y, x < y → y < N → P y = false
  | 0, h, _ => absurd h (by omega)
  | N + 1, h, hp => by
    cases hq : P N with
    | true => exact ⟨N, by omega, by omega, hq, fun y h1 h2 => absurd h1 (by omega)⟩
    | false =>
      have hkN : k < N := by
        rcases Nat.lt_or_ge k N with q | q
        · exact q
        · obtain rfl : k = N := by omega
          rw [hp] at hq; cases hq
      obtain ⟨x, h1, h2, h3, h4⟩ := greatest hkN hp
      refine ⟨x, h1, by omega, h3, fun y g1 g2 => ?_⟩
      rcases Nat.lt_or_ge y N with q | q
      · exact h4 y g1 q
      · obtain rfl : y = N := by omega
        exact hq
/-- what is known of lines: new ones, pairs that are not parallel, those that go through where two meet -/
def Geo (nw : Nat → Bool) (nb : Nat → Nat → Bool) (thr : Nat → Nat → Nat → Bool) : Prop :=
  (∀ i k, nw i = true → nw k = true → nb i k = nb k i) ∧ (∀ i k, nw i = true → nw k = true → nb i k = true → thr i k i = true ∧ thr i k k = true) ∧
  (∀ i k j, nw i = true → nw k = true → nw j = true → nb i k = true → thr i k j = true → j ≠ i → nb i j = true ∧ ∀ m, nw m = true → thr i j m = thr i k m) ∧ (∀ i k m, nw i = true → nw k = true → nw m = true → thr i k m = thr k i m)
section CNT
variable {nw : Nat → Bool} {nb : Nat → Nat → Bool} {thr : Nat → Nat → Nat → Bool}
theorem Geo.two (g : Geo nw nb thr) {k j a b : Nat} (hk : nw k = true) (hj : nw j = true) (ha : nw a = true) (hb : nw b = true) (hn : nb k j = true) (ta : thr k j a = true) (tb : thr k j b = true) (hne : a ≠ b) : nb a b = true ∧ ∀ m, nw m = true → thr a b m = thr k j m := by
  obtain ⟨g0, g1, g2, g3⟩ := g
  by_cases q : a = k
  · subst q
    exact g2 a j b hk hj hb hn tb (Ne.symm hne)
  · obtain ⟨h1, h2⟩ := g2 k j a hk hj ha hn ta q
    have h3 : nb a k = true := by rw [g0 a k ha hk]; exact h1
    have h4 : ∀ m, nw m = true → thr a k m = thr k j m := fun m hm => by rw [g3 a k m ha hk hm]; exact h2 m hm
    obtain ⟨h5, h6⟩ := g2 a k b ha hk hb h3 (by rw [h4 b hb]; exact tb) (Ne.symm hne)
    exact ⟨h5, fun m hm => by rw [h6 m hm]; exact h4 m hm⟩
end CNT
def fstC (nw : Nat → Bool) (thr : Nat → Nat → Nat → Bool) (i k : Nat) : Nat := cN k (fun j => (nw j && thr i k j) && !decide (j = i))
def prC (nw : Nat → Bool) (nb : Nat → Nat → Bool) (thr : Nat → Nat → Nat → Bool) (i k : Nat) : Bool := (nw i && (nw k && nb i k)) && decide (fstC nw thr i k = 0)
def thC (nw : Nat → Bool) (thr : Nat → Nat → Nat → Bool) (N i k : Nat) : Nat := cN N (fun j => nw j && thr i k j)
def isFC (nw : Nat → Bool) (thr : Nat → Nat → Nat → Bool) (k j : Nat) : Bool := decide (cN j (fun i => nw i && thr k j i) = 0)
def befC (nw : Nat → Bool) (thr : Nat → Nat → Nat → Bool) (k j : Nat) : Nat := cN k (fun i => nw i && thr k j i)
def fOnC (nw : Nat → Bool) (nb : Nat → Nat → Bool) (thr : Nat → Nat → Nat → Bool) (k j : Nat) : Bool := (!decide (j = k) && nb k j) && decide (cN j (fun i => (nw i && thr k j i) && !decide (i = k)) = 0)
/-- the reference's numbers -/
def meetsM (nw : Nat → Bool) (nb : Nat → Nat → Bool) (thr : Nat → Nat → Nat → Bool) (N : Nat) : Nat := sN N (fun i => sN N (fun k => (decide (i < k) && prC nw nb thr i k).toNat))
def onM (nw : Nat → Bool) (nb : Nat → Nat → Bool) (thr : Nat → Nat → Nat → Bool) (N M : Nat) : Nat := sN N (fun i => sN N (fun k => if (decide (i < k) && prC nw nb thr i k) = true then thC nw thr M i k else 0))
def mostM (nw : Nat → Bool) (nb : Nat → Nat → Bool) (thr : Nat → Nat → Nat → Bool) (N : Nat) : Nat := mN N (fun i => mN N (fun k => if (decide (i < k) && prC nw nb thr i k) = true then thC nw thr N i k else 0))
/-- the class's numbers -/
def cellsC (nw : Nat → Bool) (nb : Nat → Nat → Bool) (thr : Nat → Nat → Nat → Bool) (N : Nat) : Nat := sN N (fun k => if nw k = true then sN k (fun j => (nw j && (nb k j && isFC nw thr k j)).toNat) else 0)
def meetsC (nw : Nat → Bool) (nb : Nat → Nat → Bool) (thr : Nat → Nat → Nat → Bool) (N : Nat) : Nat := sN N (fun k => if nw k = true then sN k (fun j => (nw j && (nb k j && (isFC nw thr k j && decide (befC nw thr k j = 1)))).toNat) else 0)
def mostC (nw : Nat → Bool) (nb : Nat → Nat → Bool) (thr : Nat → Nat → Nat → Bool) (N : Nat) : Nat := mN N (fun k => if nw k = true then mN k (fun j => if (nw j && nb k j) = true then befC nw thr k j + 1 else 0) else 0)
def pieC (nw : Nat → Bool) (nb : Nat → Nat → Bool) (thr : Nat → Nat → Nat → Bool) (N M : Nat) : Nat := sN N (fun k => if nw k = true then sN M (fun j => (nw j && fOnC nw nb thr k j).toNat) else 0)
section CNT2
variable {nw : Nat → Bool} {nb : Nat → Nat → Bool} {thr : Nat → Nat → Nat → Bool}
theorem pr_spec {i k : Nat} : prC nw nb thr i k = true ↔ (nw i = true ∧ nw k = true ∧ nb i k = true ∧ ∀ j, j < k → nw j = true → thr i k j = true → j = i) := by
  unfold prC fstC
  simp only [Bool.and_eq_true, decide_eq_true_eq, cN_zero]
  constructor
  · rintro ⟨⟨h1, h2, h3⟩, h4⟩
    refine ⟨h1, h2, h3, fun j hj hw ht => ?_⟩
    have := h4 j hj
    rw [hw, ht] at this
    simpa using this
  · rintro ⟨h1, h2, h3, h4⟩
    refine ⟨⟨h1, h2, h3⟩, fun j hj => ?_⟩
    cases hw : nw j with
    | false => rfl
    | true =>
      cases ht : thr i k j with
      | false => rfl
      | true => rw [h4 j hj hw ht]; simp
theorem isF_spec {k j : Nat} : isFC nw thr k j = true ↔ ∀ i, i < j → nw i = true → thr k j i = false := by
  unfold isFC
  rw [decide_eq_true_eq, cN_zero]
  constructor
  · intro h i hi hw
    have := h i hi
    rw [hw, Bool.true_and] at this
    exact this
  · intro h i hi
    cases hw : nw i with
    | false => rfl
    | true => rw [h i hi hw]; rfl
theorem tn_t {b : Bool} (h : b = true) : b.toNat = 1 := by rw [h]; rfl
theorem tn_f {b : Bool} (h : ¬ b = true) : b.toNat = 0 := by
  cases b with
  | false => rfl
  | true => exact absurd rfl h
/-- each first line of a place on N: told once, by the pair of first lines or as a new place -/
theorem key_i (g : Geo nw nb thr) {N i : Nat} (hN : nw N = true) (hi : nw i = true) (hiN : i < N) :
    (nb N i && isFC nw thr N i).toNat = sN N (fun k => (decide (i < k) && (prC nw nb thr i k && thr i k N)).toNat) + (prC nw nb thr i N).toNat := by
  have g' := g
  obtain ⟨g0, g1, g2, g3⟩ := g'
  have hne : N ≠ i := by omega
  have fA : ∀ k, prC nw nb thr i k = true → thr i k N = true → nb i N = true ∧ nw k = true ∧ thr i N k = true ∧ ∀ m, nw m = true → thr i N m = thr i k m := fun k hp ht => by
    obtain ⟨p1, p2, p3, p4⟩ := pr_spec.mp hp
    obtain ⟨q1, q2⟩ := g2 i k N hi p2 hN p3 ht hne
    exact ⟨q1, p2, by rw [q2 k p2]; exact (g1 i k hi p2 p3).2, q2⟩
  by_cases hb : nb N i = true
  · have hb' : nb i N = true := by rw [g0 i N hi hN]; exact hb
    have sw : ∀ m, nw m = true → thr N i m = thr i N m := fun m hm => g3 N i m hN hi hm
    by_cases hF : isFC nw thr N i = true
    · have hF' := isF_spec.mp hF
      rw [tn_t (by rw [hb, hF]; rfl)]
      by_cases hm : ∃ m, i < m ∧ m < N ∧ nw m = true ∧ thr i N m = true
      · obtain ⟨m, ⟨m1, m2, m3, m4⟩, m5⟩ := least hm
        obtain ⟨n1, n2⟩ := g2 i N m hi hN m3 hb' m4 (by omega)
        have hpm : prC nw nb thr i m = true := pr_spec.mpr ⟨hi, m3, n1, fun j hj hw ht => by
          rw [n2 j hw] at ht
          rcases Nat.lt_trichotomy j i with q | q | q
          · have := hF' j q hw
            rw [sw j hw, ht] at this; cases this
          · exact q
          · exact absurd ⟨q, by omega, hw, ht⟩ (m5 j hj)⟩
        have htN : thr i m N = true := by rw [n2 N hN]; exact (g1 i N hi hN hb').2
        have h1 : sN N (fun k => (decide (i < k) && (prC nw nb thr i k && thr i k N)).toNat) = 1 := by
          refine sN_one (m := m) m2 (tn_t (by rw [hpm, htN]; simp [m1])) fun k hk hkm => tn_f fun hc => ?_
          simp only [Bool.and_eq_true, decide_eq_true_eq] at hc
          obtain ⟨c1, c2, c3⟩ := hc
          obtain ⟨q1, q2, q3, q4⟩ := fA k c2 c3
          obtain ⟨p1, p2, p3, p4⟩ := pr_spec.mp c2
          rcases Nat.lt_or_ge k m with q | q
          · exact m5 k q ⟨c1, hk, q2, q3⟩
          · have := p4 m (by omega) m3 (by rw [← q4 m m3]; exact m4)
            omega
        have h2 : ¬ prC nw nb thr i N = true := fun hp => by
          obtain ⟨p1, p2, p3, p4⟩ := pr_spec.mp hp
          have := p4 m m2 m3 m4
          omega
        rw [h1, tn_f h2]
      · have h1 : sN N (fun k => (decide (i < k) && (prC nw nb thr i k && thr i k N)).toNat) = 0 := sN_zero fun k hk => tn_f fun hc => by
          simp only [Bool.and_eq_true, decide_eq_true_eq] at hc
          obtain ⟨c1, c2, c3⟩ := hc
          obtain ⟨q1, q2, q3, q4⟩ := fA k c2 c3
          exact hm ⟨k, c1, hk, q2, q3⟩
        have h2 : prC nw nb thr i N = true := pr_spec.mpr ⟨hi, hN, hb', fun j hj hw ht => by
          rcases Nat.lt_trichotomy j i with q | q | q
          · have := hF' j q hw
            rw [sw j hw, ht] at this; cases this
          · exact q
          · exact absurd ⟨j, q, hj, hw, ht⟩ hm⟩
        rw [h1, tn_t h2]
    · rw [tn_f (fun h => hF (by simp only [Bool.and_eq_true] at h; exact h.2))]
      obtain ⟨j, hj, hw, ht⟩ : ∃ j, j < i ∧ nw j = true ∧ thr N i j = true := by
        refine Classical.byContradiction fun hc => hF (isF_spec.mpr fun j hj hw => ?_)
        cases ht : thr N i j with
        | false => rfl
        | true => exact absurd ⟨j, hj, hw, ht⟩ hc
      rw [sw j hw] at ht
      have h1 : sN N (fun k => (decide (i < k) && (prC nw nb thr i k && thr i k N)).toNat) = 0 := sN_zero fun k hk => tn_f fun hc => by
        simp only [Bool.and_eq_true, decide_eq_true_eq] at hc
        obtain ⟨c1, c2, c3⟩ := hc
        obtain ⟨q1, q2, q3, q4⟩ := fA k c2 c3
        obtain ⟨p1, p2, p3, p4⟩ := pr_spec.mp c2
        have := p4 j (by omega) hw (by rw [← q4 j hw]; exact ht)
        omega
      have h2 : ¬ prC nw nb thr i N = true := fun hp => by
        obtain ⟨p1, p2, p3, p4⟩ := pr_spec.mp hp
        have := p4 j (by omega) hw ht
        omega
      rw [h1, tn_f h2]
  · rw [tn_f (fun h => hb (by simp only [Bool.and_eq_true] at h; exact h.1))]
    have hb' : ¬ nb i N = true := fun h => hb (by rw [g0 N i hN hi]; exact h)
    have h1 : sN N (fun k => (decide (i < k) && (prC nw nb thr i k && thr i k N)).toNat) = 0 := sN_zero fun k hk => tn_f fun hc => by
      simp only [Bool.and_eq_true, decide_eq_true_eq] at hc
      exact hb' (fA k hc.2.1 hc.2.2).1
    have h2 : ¬ prC nw nb thr i N = true := fun hp => hb' (pr_spec.mp hp).2.2.1
    rw [h1, tn_f h2]
theorem pr_nw {i k : Nat} (h : nw k = false) : prC nw nb thr i k = false := by
  unfold prC; rw [h]; simp
theorem pr_nw' {i k : Nat} (h : nw i = false) : prC nw nb thr i k = false := by
  unfold prC; rw [h]; simp
/-- how many new places on N -/
def newP (nw : Nat → Bool) (nb : Nat → Nat → Bool) (thr : Nat → Nat → Nat → Bool) (N : Nat) : Nat := sN N (fun i => (prC nw nb thr i N).toNat)
theorem meetsM_succ (N : Nat) : meetsM nw nb thr (N + 1) = meetsM nw nb thr N + newP nw nb thr N := by
  have h1 : meetsM nw nb thr (N + 1) = sN N (fun i => sN N (fun k => (decide (i < k) && prC nw nb thr i k).toNat) + (decide (i < N) && prC nw nb thr i N).toNat) + (sN N (fun k => (decide (N < k) && prC nw nb thr N k).toNat) + (decide (N < N) && prC nw nb thr N N).toNat) := rfl
  rw [h1, sN_add]
  have h2 : sN N (fun k => (decide (N < k) && prC nw nb thr N k).toNat) = 0 := sN_zero fun k hk => tn_f (by simp; omega)
  have h3 : (decide (N < N) && prC nw nb thr N N).toNat = 0 := tn_f (by simp)
  have h4 : sN N (fun i => (decide (i < N) && prC nw nb thr i N).toNat) = newP nw nb thr N := sN_congr fun i hi => by simp [hi]
  rw [h2, h3, h4]
  rfl
theorem meets_eq (g : Geo nw nb thr) : ∀ N : Nat, meetsM nw nb thr N = meetsC nw nb thr N
  | 0 => rfl
  | N + 1 => by
    rw [meetsM_succ, meets_eq g N]
    show _ = meetsC nw nb thr N + (if nw N = true then sN N (fun j => (nw j && (nb N j && (isFC nw thr N j && decide (befC nw thr N j = 1)))).toNat) else 0)
    congr 1
    unfold newP
    cases hN : nw N with
    | false =>
      rw [if_neg (by decide)]
      exact sN_zero fun i hi => by rw [pr_nw hN]; rfl
    | true =>
      rw [if_pos rfl]
      refine sN_congr fun i hi => ?_
      congr 1
      apply Bool.eq_iff_iff.mpr
      rw [pr_spec]
      simp only [Bool.and_eq_true, decide_eq_true_eq]
      obtain ⟨g0, g1, g2, g3⟩ := g
      constructor
      · rintro ⟨h1, h2, h3, h4⟩
        have h3' : nb N i = true := by rw [g0 N i hN h1]; exact h3
        have hii : thr N i i = true := (g1 N i hN h1 h3').2
        refine ⟨h1, h3', isF_spec.mpr fun j hj hw => ?_, ?_⟩
        · cases ht : thr N i j with
          | false => rfl
          | true =>
            have := h4 j (by omega) hw (by rw [g3 i N j h1 hN hw]; exact ht)
            omega
        · unfold befC
          rw [cN_one hi (by rw [h1, hii]; rfl)]
          intro j hj hp
          simp only [Bool.and_eq_true] at hp
          exact h4 j hj hp.1 (by rw [g3 i N j h1 hN hp.1]; exact hp.2)
      · rintro ⟨h1, h2, h3, h4⟩
        have hii : thr N i i = true := (g1 N i hN h1 h2).2
        unfold befC at h4
        rw [cN_one hi (by rw [h1, hii]; rfl)] at h4
        refine ⟨h1, hN, by rw [g0 i N h1 hN]; exact h2, fun j hj hw ht => h4 j hj ?_⟩
        rw [hw, g3 N i j hN h1 hw, ht]; rfl
theorem ite_add (c : Bool) (a b : Nat) : (if c = true then a + b else 0) = (if c = true then a else 0) + (if c = true then b else 0) := by cases c <;> simp
theorem sN_add2 (F G : Nat → Nat → Nat) (n m : Nat) : sN n (fun i => sN m (fun k => F i k + G i k)) = sN n (fun i => sN m (fun k => F i k)) + sN n (fun i => sN m (fun k => G i k)) := by
  rw [← sN_add]
  exact sN_congr fun i _ => sN_add (F i) (G i) m
theorem on_cells (g : Geo nw nb thr) : ∀ N : Nat, onM nw nb thr N N = cellsC nw nb thr N + meetsM nw nb thr N
  | 0 => rfl
  | N + 1 => by
    have h1 : onM nw nb thr (N + 1) (N + 1) = sN N (fun i => sN N (fun k => if (decide (i < k) && prC nw nb thr i k) = true then thC nw thr (N + 1) i k else 0) + (if (decide (i < N) && prC nw nb thr i N) = true then thC nw thr (N + 1) i N else 0)) + (sN N (fun k => if (decide (N < k) && prC nw nb thr N k) = true then thC nw thr (N + 1) N k else 0) + (if (decide (N < N) && prC nw nb thr N N) = true then thC nw thr (N + 1) N N else 0)) := rfl
    have h2 : sN N (fun k => if (decide (N < k) && prC nw nb thr N k) = true then thC nw thr (N + 1) N k else 0) = 0 := sN_zero fun k hk => if_neg (by simp; omega)
    have h3 : (if (decide (N < N) && prC nw nb thr N N) = true then thC nw thr (N + 1) N N else 0) = 0 := if_neg (by simp)
    have h4 : sN N (fun i => sN N (fun k => if (decide (i < k) && prC nw nb thr i k) = true then thC nw thr (N + 1) i k else 0)) = onM nw nb thr N N + sN N (fun i => sN N (fun k => if (decide (i < k) && prC nw nb thr i k) = true then (nw N && thr i k N).toNat else 0)) := by
      unfold onM
      rw [← sN_add2]
      refine sN_congr fun i _ => sN_congr fun k _ => ?_
      rw [← ite_add]
      rfl
    obtain ⟨g0, g1, g2, g3⟩ := g
    have h5 : sN N (fun i => if (decide (i < N) && prC nw nb thr i N) = true then thC nw thr (N + 1) i N else 0) = newP nw nb thr N + newP nw nb thr N := by
      unfold newP
      rw [← sN_add]
      refine sN_congr fun i hi => ?_
      by_cases hp : prC nw nb thr i N = true
      · rw [if_pos (by rw [hp]; simp [hi]), tn_t hp]
        obtain ⟨p1, p2, p3, p4⟩ := pr_spec.mp hp
        obtain ⟨q1, q2⟩ := g1 i N p1 p2 p3
        unfold thC
        rw [cN_succ, (cN_one hi (by rw [p1, q1]; rfl)).mpr (fun j hj hc => by
          simp only [Bool.and_eq_true] at hc
          exact p4 j hj hc.1 hc.2), p2, q2]
        rfl
      · rw [if_neg (fun h => hp (by simp only [Bool.and_eq_true] at h; exact h.2)), tn_f hp]
    rw [h1, sN_add, h2, h3, h4, h5, on_cells ⟨g0, g1, g2, g3⟩ N, meetsM_succ]
    show _ = (cellsC nw nb thr N + (if nw N = true then sN N (fun j => (nw j && (nb N j && isFC nw thr N j)).toNat) else 0)) + _
    have h6 : sN N (fun i => sN N (fun k => if (decide (i < k) && prC nw nb thr i k) = true then (nw N && thr i k N).toNat else 0)) + newP nw nb thr N = if nw N = true then sN N (fun j => (nw j && (nb N j && isFC nw thr N j)).toNat) else 0 := by
      cases hN : nw N with
      | false =>
        rw [if_neg (by decide)]
        have a : newP nw nb thr N = 0 := sN_zero fun i hi => by rw [pr_nw hN]; rfl
        rw [a]
        refine sN_zero fun i hi => sN_zero fun k hk => ?_
        split <;> rfl
      | true =>
        rw [if_pos rfl]
        unfold newP
        rw [← sN_add]
        refine sN_congr fun i hi => ?_
        cases hw : nw i with
        | false =>
          rw [pr_nw' hw]
          have : sN N (fun k => if (decide (i < k) && prC nw nb thr i k) = true then (true && thr i k N).toNat else 0) = 0 := sN_zero fun k hk => by rw [pr_nw' hw]; simp
          rw [this]; rfl
        | true =>
          rw [Bool.true_and, key_i ⟨g0, g1, g2, g3⟩ hN hw hi]
          congr 1
          refine sN_congr fun k hk => ?_
          cases decide (i < k) <;> cases prC nw nb thr i k <;> simp
    omega
theorem pie_on (g : Geo nw nb thr) : ∀ N : Nat, pieC nw nb thr N N = onM nw nb thr N N
  | 0 => rfl
  | N + 1 => by
    rw [on_cells g (N + 1), meetsM_succ]
    have ih := pie_on g N
    rw [on_cells g N] at ih
    obtain ⟨g0, g1, g2, g3⟩ := g
    show sN N (fun k => if nw k = true then sN N (fun j => (nw j && fOnC nw nb thr k j).toNat) + (nw N && fOnC nw nb thr k N).toNat else 0) + (if nw N = true then sN N (fun j => (nw j && fOnC nw nb thr N j).toNat) + (nw N && fOnC nw nb thr N N).toNat else 0) = (cellsC nw nb thr N + (if nw N = true then sN N (fun j => (nw j && (nb N j && isFC nw thr N j)).toNat) else 0)) + _
    have h1 : sN N (fun k => if nw k = true then sN N (fun j => (nw j && fOnC nw nb thr k j).toNat) + (nw N && fOnC nw nb thr k N).toNat else 0) = pieC nw nb thr N N + newP nw nb thr N := by
      unfold pieC newP
      rw [← sN_add]
      refine sN_congr fun k hk => ?_
      rw [ite_add]
      congr 1
      cases hw : nw k with
      | false => rw [pr_nw' hw]; rfl
      | true =>
        rw [if_pos rfl]
        unfold fOnC prC fstC
        rw [hw]
        have : decide (N = k) = false := by simp; omega
        rw [this]
        cases nw N <;> cases nb k N <;> simp
    have h2 : (if nw N = true then sN N (fun j => (nw j && fOnC nw nb thr N j).toNat) + (nw N && fOnC nw nb thr N N).toNat else 0) = if nw N = true then sN N (fun j => (nw j && (nb N j && isFC nw thr N j)).toNat) else 0 := by
      cases hN : nw N with
      | false => rfl
      | true =>
        rw [if_pos rfl, if_pos rfl]
        have a : fOnC nw nb thr N N = false := by unfold fOnC; simp
        rw [a]
        show _ + 0 = _
        rw [Nat.add_zero]
        refine sN_congr fun j hj => ?_
        have b : fOnC nw nb thr N j = (nb N j && isFC nw thr N j) := by
          unfold fOnC isFC
          have c : cN j (fun i => (nw i && thr N j i) && !decide (i = N)) = cN j (fun i => nw i && thr N j i) := cN_congr fun i hi => by
            have : decide (i = N) = false := by simp; omega
            rw [this]; simp
          have d : decide (j = N) = false := by simp; omega
          rw [c, d]; simp
        rw [b]
    rw [h1, h2, ih]
    omega
theorem most_eq (g : Geo nw nb thr) (N : Nat) : mostM nw nb thr N = mostC nw nb thr N := by
  apply eq_of_le
  intro B
  unfold mostM mostC
  rw [mN_le, mN_le]
  have g' := g
  obtain ⟨g0, g1, g2, g3⟩ := g'
  constructor
  · intro h k hk
    by_cases hw : nw k = true
    · rw [if_pos hw, mN_le]
      intro j hj
      by_cases hc : (nw j && nb k j) = true
      · rw [if_pos hc]
        simp only [Bool.and_eq_true] at hc
        obtain ⟨wj, nj⟩ := hc
        obtain ⟨t1, t2⟩ := g1 k j hw wj nj
        obtain ⟨i0, ⟨a1, a2⟩, a3⟩ := least (P := fun i => nw i = true ∧ thr k j i = true) ⟨j, wj, t2⟩
        have hi0 : i0 ≤ j := by
          rcases Nat.lt_or_ge j i0 with q | q
          · exact absurd ⟨wj, t2⟩ (a3 j q)
          · exact q
        obtain ⟨m, ⟨b0, b1, b2⟩, b3⟩ := least (P := fun m => i0 < m ∧ nw m = true ∧ thr k j m = true) ⟨k, by omega, hw, t1⟩
        have hmk : m ≤ k := by
          rcases Nat.lt_or_ge k m with q | q
          · exact absurd ⟨by omega, hw, t1⟩ (b3 k q)
          · exact q
        obtain ⟨c1, c2⟩ := g.two hw wj a1 b1 nj a2 b2 (by omega)
        have hp : prC nw nb thr i0 m = true := pr_spec.mpr ⟨a1, b1, c1, fun x hx wx tx => by
          rw [c2 x wx] at tx
          rcases Nat.lt_trichotomy x i0 with q | q | q
          · exact absurd ⟨wx, tx⟩ (a3 x q)
          · exact q
          · exact absurd ⟨q, wx, tx⟩ (b3 x hx)⟩
        have hh := mN_le.mp (h i0 (by omega)) m (by omega)
        rw [if_pos (by rw [hp]; simp [b0])] at hh
        have e : thC nw thr N i0 m = cN N (fun x => nw x && thr k j x) := cN_congr fun x _ => by
          cases wx : nw x with
          | false => rfl
          | true => rw [c2 x wx]
        have hm := cN_mono (P := fun x => nw x && thr k j x) (n := k + 1) (m := N) (by omega)
        rw [cN_succ] at hm
        have hk1 : (nw k && thr k j k).toNat = 1 := tn_t (by rw [hw, t1]; rfl)
        unfold befC
        omega
      · rw [if_neg hc]; exact Nat.zero_le _
    · rw [if_neg hw]; exact Nat.zero_le _
  · intro h i hi
    rw [mN_le]
    intro k hk
    by_cases hc : (decide (i < k) && prC nw nb thr i k) = true
    · rw [if_pos hc]
      simp only [Bool.and_eq_true, decide_eq_true_eq] at hc
      obtain ⟨hik, hp⟩ := hc
      obtain ⟨p1, p2, p3, p4⟩ := pr_spec.mp hp
      obtain ⟨t1, t2⟩ := g1 i k p1 p2 p3
      obtain ⟨x, x1, x2, x3, x4⟩ := greatest (P := fun j => nw j && thr i k j) hk (by rw [p2, t2]; rfl)
      simp only [Bool.and_eq_true] at x3
      obtain ⟨c1, c2⟩ := g.two p1 p2 x3.1 p1 p3 x3.2 t1 (by omega)
      have hh := h x x2
      rw [if_pos x3.1, mN_le] at hh
      have h2 := hh i (by omega)
      rw [if_pos (by rw [p1, c1]; rfl)] at h2
      have e : befC nw thr x i = cN x (fun j => nw j && thr i k j) := cN_congr fun y _ => by
        cases wy : nw y with
        | false => rfl
        | true => rw [c2 y wy]
      have e2 : thC nw thr N i k = cN (x + 1) (fun j => nw j && thr i k j) := by
        unfold thC
        clear hh h2 h e hk hi
        induction N with
        | zero => exact absurd x2 (by omega)
        | succ N ih =>
          rcases Nat.lt_or_ge x N with q | q
          · rw [cN_succ, ih q (fun y h1 h2 => x4 y h1 (by omega)), x4 N q (by omega)]
            rfl
          · obtain rfl : x = N := by omega
            rfl
      rw [cN_succ, tn_t (b := nw x && thr i k x) (by rw [x3.1, x3.2]; rfl)] at e2
      omega
    · rw [if_neg hc]; exact Nat.zero_le _
end CNT2
