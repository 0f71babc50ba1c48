set_option maxRecDepth 100000
/-! Lines in integers, and the reference's count of them. -/
def OkL (p : L3) : Prop := p.1.toInt.natAbs ≤ 19200 ∧ p.2.1.toInt.natAbs ≤ 19200 ∧ p.2.2.toInt.natAbs ≤ 368640000 ∧ ¬ (p.1.toInt = 0 ∧ p.2.1.toInt = 0)
theorem OkL.a {p : L3} (h : OkL p) : BL p.1 p.1.toInt 19200 := ⟨rfl, h.1⟩
theorem OkL.b {p : L3} (h : OkL p) : BL p.2.1 p.2.1.toInt 19200 := ⟨rfl, h.2.1⟩
theorem OkL.c {p : L3} (h : OkL p) : BL p.2.2 p.2.2.toInt 368640000 := ⟨rfl, h.2.2.1⟩
theorem okL_of {p q : P2} (hp : OkP p) (hq : OkP q) (hne : s_eq p q = false) : OkL (lnOf p q) := by
  have ha := (hq.y.sub hp.y (by decide)).w
  have hb := (hp.x.sub hq.x (by decide)).w
  have hc := (ha.mul hp.x.w (by decide)).add (hb.mul hp.y.w (by decide)) (by decide)
  refine ⟨by show (q.2 - p.2).toInt64.toInt.natAbs ≤ _; rw [ha.1]; exact ha.2, by show (p.1 - q.1).toInt64.toInt.natAbs ≤ _; rw [hb.1]; exact hb.2, by show ((q.2 - p.2).toInt64 * p.1.toInt64 + (p.1 - q.1).toInt64 * p.2.toInt64).toInt.natAbs ≤ _; rw [hc.1]; exact hc.2, ?_⟩
  show ¬ ((q.2 - p.2).toInt64.toInt = 0 ∧ (p.1 - q.1).toInt64.toInt = 0)
  rw [ha.1, hb.1]
  rintro ⟨h1, h2⟩
  have : s_eq p q = true := (eq_I p q).mpr ⟨by omega, by omega⟩
  rw [this] at hne; cases hne
abbrev dI (p q : L3) : Int := p.1.toInt * q.2.1.toInt - q.1.toInt * p.2.1.toInt
abbrev xI (p q : L3) : Int := p.2.2.toInt * q.2.1.toInt - q.2.2.toInt * p.2.1.toInt
abbrev yI (p q : L3) : Int := p.1.toInt * q.2.2.toInt - q.1.toInt * p.2.2.toInt
theorem both_B {p q : L3} (hp : OkL p) (hq : OkL q) : BL (m_both p q) (dI p q) 737280000 := (hp.a.mul hq.b (by decide)).sub (hq.a.mul hp.b (by decide)) (by decide)
theorem one_I {p q : L3} (hp : OkL p) (hq : OkL q) : m_isOne p q = true ↔ (dI p q = 0 ∧ p.1.toInt * q.2.2.toInt = q.1.toInt * p.2.2.toInt ∧ p.2.1.toInt * q.2.2.toInt = q.2.1.toInt * p.2.2.toInt) := by
  unfold m_isOne
  simp only [Bool.and_eq_true, decide_eq_true_eq, (both_B hp hq).eq0, (hp.a.mul hq.c (by decide)).eq (hq.a.mul hp.c (by decide)), (hp.b.mul hq.c (by decide)).eq (hq.b.mul hp.c (by decide))]
theorem thr_I {p q r : L3} (hp : OkL p) (hq : OkL q) (hr : OkL r) : m_thr p q r = true ↔ r.1.toInt * xI p q + r.2.1.toInt * yI p q = r.2.2.toInt * dI p q := by
  unfold m_thr
  rw [decide_eq_true_eq]
  exact ((hr.a.mul ((hp.c.mul hq.b (by decide)).sub (hq.c.mul hp.b (by decide)) (by decide)) (by decide)).add (hr.b.mul ((hp.a.mul hq.c (by decide)).sub (hq.a.mul hp.c (by decide)) (by decide)) (by decide)) (by decide)).eq (hr.c.mul (both_B hp hq) (by decide))
theorem one_symm {p q : L3} (hp : OkL p) (hq : OkL q) : m_isOne p q = m_isOne q p := by
  apply Bool.eq_iff_iff.mpr
  rw [one_I hp hq, one_I hq hp]
  unfold dI
  constructor <;> rintro ⟨h1, h2, h3⟩ <;> exact ⟨by omega, h2.symm, h3.symm⟩
/-- two products with one of a pair that is not all zero -/
theorem ab_0 {a b x : Int} (h : ¬ (a = 0 ∧ b = 0)) (h1 : a * x = 0) (h2 : b * x = 0) : x = 0 := by
  rcases Int.mul_eq_zero.mp h1 with e | e
  · rcases Int.mul_eq_zero.mp h2 with e' | e'
    · exact absurd ⟨e, e'⟩ h
    · exact e'
  · exact e
theorem tr_I {a1 b1 c1 a2 b2 c2 a3 b3 c3 : Int} (hn : ¬ (a2 = 0 ∧ b2 = 0)) (h1 : a1 * b2 - a2 * b1 = 0) (h2 : a1 * c2 = a2 * c1) (h3 : b1 * c2 = b2 * c1) (k1 : a2 * b3 - a3 * b2 = 0) (k2 : a2 * c3 = a3 * c2) (k3 : b2 * c3 = b3 * c2) :
    a1 * b3 - a3 * b1 = 0 ∧ a1 * c3 = a3 * c1 ∧ b1 * c3 = b3 * c1 := by
  have e1 : a1 * b3 - a3 * b1 = 0 := ab_0 hn (by grind) (by grind)
  have e2 : a1 * c3 - a3 * c1 = 0 := ab_0 hn (by grind) (by grind)
  have e3 : b1 * c3 - b3 * c1 = 0 := ab_0 hn (by grind) (by grind)
  exact ⟨e1, by omega, by omega⟩
theorem one_trans {p q r : L3} (hp : OkL p) (hq : OkL q) (hr : OkL r) (h : m_isOne p q = true) (k : m_isOne q r = true) : m_isOne p r = true := by
  rw [one_I hp hq] at h
  rw [one_I hq hr] at k
  rw [one_I hp hr]
  exact tr_I hq.2.2.2 h.1 h.2.1 h.2.2 k.1 k.2.1 k.2.2
/-- where i and k meet is where i and j meet, if j goes there -/
theorem meet_I {a1 b1 c1 a2 b2 c2 a3 b3 c3 : Int} (hd : a1 * b2 - a2 * b1 ≠ 0) (ht : a3 * (c1 * b2 - c2 * b1) + b3 * (a1 * c2 - a2 * c1) = c3 * (a1 * b2 - a2 * b1)) :
    (a1 * b3 - a3 * b1 = 0 → a1 * c3 = a3 * c1 ∧ b1 * c3 = b3 * c1) ∧
    (a1 * b3 - a3 * b1 ≠ 0 → ∀ a b c : Int, (a * (c1 * b3 - c3 * b1) + b * (a1 * c3 - a3 * c1) = c * (a1 * b3 - a3 * b1) ↔ a * (c1 * b2 - c2 * b1) + b * (a1 * c2 - a2 * c1) = c * (a1 * b2 - a2 * b1))) := by
  have x1 : (a1 * b2 - a2 * b1) * (c1 * b3 - c3 * b1) = (a1 * b3 - a3 * b1) * (c1 * b2 - c2 * b1) := by grind
  have y1 : (a1 * b2 - a2 * b1) * (a1 * c3 - a3 * c1) = (a1 * b3 - a3 * b1) * (a1 * c2 - a2 * c1) := by grind
  constructor
  · intro h
    rw [h, Int.zero_mul] at x1 y1
    have e1 : c1 * b3 - c3 * b1 = 0 := by
      rcases Int.mul_eq_zero.mp x1 with e | e
      · exact absurd e hd
      · exact e
    have e2 : a1 * c3 - a3 * c1 = 0 := by
      rcases Int.mul_eq_zero.mp y1 with e | e
      · exact absurd e hd
      · exact e
    exact ⟨by omega, by rw [Int.mul_comm b1 c3, Int.mul_comm b3 c1]; omega⟩
  · intro h a b c
    have key : (a1 * b2 - a2 * b1) * (a * (c1 * b3 - c3 * b1) + b * (a1 * c3 - a3 * c1) - c * (a1 * b3 - a3 * b1)) = (a1 * b3 - a3 * b1) * (a * (c1 * b2 - c2 * b1) + b * (a1 * c2 - a2 * c1) - c * (a1 * b2 - a2 * b1)) := by grind
    constructor
    · intro e
      have e0 : a * (c1 * b3 - c3 * b1) + b * (a1 * c3 - a3 * c1) - c * (a1 * b3 - a3 * b1) = 0 := by omega
      rw [e0, Int.mul_zero] at key
      rcases Int.mul_eq_zero.mp key.symm with z | z
      · exact absurd z h
      · omega
    · intro e
      have e0 : a * (c1 * b2 - c2 * b1) + b * (a1 * c2 - a2 * c1) - c * (a1 * b2 - a2 * b1) = 0 := by omega
      rw [e0, Int.mul_zero] at key
      rcases Int.mul_eq_zero.mp key with z | z
      · exact absurd z hd
      · omega
def nwL (f : Nat → L3) (B i : Nat) : Bool := decide (i < B) && m_isNew f i
def nbL (f : Nat → L3) (i k : Nat) : Bool := !decide (m_both (f i) (f k) = 0)
def thL (f : Nat → L3) (i k j : Nat) : Bool := m_thr (f i) (f k) (f j)
theorem m_new_spec {f : Nat → L3} {i : Nat} : ∀ {k : Nat}, m_new f i k = true ↔ ∀ j, j < k → m_isOne (f i) (f j) = false
  | 0 => ⟨fun _ j hj => absurd hj (by omega), fun _ => rfl⟩
  | k + 1 => by
    show (m_new f i k && !m_isOne (f i) (f k)) = true ↔ _
    rw [Bool.and_eq_true, m_new_spec (k := k), Bool.not_eq_true']
    constructor
    · rintro ⟨h1, h2⟩ j hj
      rcases Nat.lt_or_ge j k with q | q
      · exact h1 j q
      · obtain rfl : j = k := by omega
        exact h2
    · intro h
      exact ⟨fun j hj => h j (by omega), h k (by omega)⟩
theorem nwL_spec {f : Nat → L3} {B i : Nat} : nwL f B i = true ↔ (i < B ∧ ∀ j, j < i → m_isOne (f i) (f j) = false) := by
  unfold nwL m_isNew
  rw [Bool.and_eq_true, decide_eq_true_eq, m_new_spec]
theorem nbL_I {f : Nat → L3} {i k : Nat} (hi : OkL (f i)) (hk : OkL (f k)) : nbL f i k = true ↔ dI (f i) (f k) ≠ 0 := by
  unfold nbL
  rw [Bool.not_eq_true', decide_eq_false_iff_not, (both_B hi hk).eq0]
theorem geoL {f : Nat → L3} {B : Nat} (hf : ∀ i, i < B → OkL (f i)) : Geo (nwL f B) (nbL f) (thL f) := by
  have ok : ∀ i, nwL f B i = true → OkL (f i) := fun i h => hf i (nwL_spec.mp h).1
  have dif : ∀ i j, nwL f B i = true → nwL f B j = true → j ≠ i → m_isOne (f i) (f j) = false := fun i j hi hj hne => by
    rcases Nat.lt_or_ge i j with q | q
    · rw [one_symm (ok i hi) (ok j hj)]; exact (nwL_spec.mp hj).2 i q
    · exact (nwL_spec.mp hi).2 j (by omega)
  refine ⟨fun i k hi hk => ?_, fun i k hi hk hn => ?_, fun i k j hi hk hj hn ht hne => ?_, fun i k m hi hk hm => ?_⟩
  · apply Bool.eq_iff_iff.mpr
    rw [nbL_I (ok i hi) (ok k hk), nbL_I (ok k hk) (ok i hi)]
    unfold dI
    omega
  · unfold thL
    rw [thr_I (ok i hi) (ok k hk) (ok i hi), thr_I (ok i hi) (ok k hk) (ok k hk)]
    unfold xI yI dI
    constructor <;> grind
  · rw [nbL_I (ok i hi) (ok k hk)] at hn
    unfold thL at ht
    rw [thr_I (ok i hi) (ok k hk) (ok j hj)] at ht
    obtain ⟨m1, m2⟩ := meet_I hn ht
    have hnb : dI (f i) (f j) ≠ 0 := fun h => by
      have h1 := m1 h
      have : m_isOne (f i) (f j) = true := (one_I (ok i hi) (ok j hj)).mpr ⟨h, h1.1, h1.2⟩
      rw [dif i j hi hj hne] at this; cases this
    refine ⟨(nbL_I (ok i hi) (ok j hj)).mpr hnb, fun m hm => ?_⟩
    apply Bool.eq_iff_iff.mpr
    unfold thL
    rw [thr_I (ok i hi) (ok j hj) (ok m hm), thr_I (ok i hi) (ok k hk) (ok m hm)]
    exact m2 hnb _ _ _
  · apply Bool.eq_iff_iff.mpr
    unfold thL
    rw [thr_I (ok i hi) (ok k hk) (ok m hm), thr_I (ok k hk) (ok i hi) (ok m hm)]
    unfold xI yI dI
    constructor <;> intro h <;> grind
/-! the reference's numbers out of its loops -/
theorem nI_b (a : Nat) (b : Bool) : nI a + (if b = true then 1 else 0) = nI (a + b.toNat) := by
  cases b with
  | false => simp
  | true => exact nI_1 a
theorem nI_ad (a b : Nat) : nI (a + b) = nI a + nI b := Int32.ofNat_add a b
theorem cN_le_n (P : Nat → Bool) : ∀ n : Nat, cN n P ≤ n
  | 0 => Nat.le_refl _
  | n + 1 => by
    rw [cN_succ]; have := cN_le_n P n
    have : (P n).toNat ≤ 1 := by cases P n <;> decide
    omega
theorem itr_cnt (P : Nat → Bool) : ∀ n : Nat, itr (fun j (a : Int32) => a + (if P j = true then 1 else 0)) n 0 = nI (cN n P)
  | 0 => rfl
  | n + 1 => by
    show itr (fun j (a : Int32) => a + (if P j = true then 1 else 0)) n 0 + (if P n = true then 1 else 0) = _
    rw [itr_cnt P n, nI_b, cN_succ]
theorem cN_lt {P : Nat → Bool} {k : Nat} : ∀ {N : Nat}, k ≤ N → cN N (fun j => P j && decide (j < k)) = cN k P
  | 0, h => by obtain rfl : k = 0 := by omega
               rfl
  | N + 1, h => by
    rcases Nat.lt_or_ge k (N + 1) with q | q
    · rw [cN_succ, cN_lt (N := N) (by omega)]
      have : decide (N < k) = false := by simp; omega
      rw [this]; simp
    · obtain rfl : k = N + 1 := by omega
      exact cN_congr fun j hj => by simp [hj]
theorem mlT_eq {f : Nat → L3} {B N i k : Nat} (hN : N ≤ B) (hk : k ≤ N) : mlT f i k N = (nI (fstC (nwL f B) (thL f) i k), nI (thC (nwL f B) (thL f) N i k)) := by
  have e : ∀ n, n ≤ B → mlT f i k n = (nI (cN n (fun j => mlIs f i k j && (decide (j < k) && !decide (j = i)))), nI (cN n (fun j => mlIs f i k j))) := fun n => by
    induction n with
    | zero => intro _; rfl
    | succ n ih =>
      intro hn
      show ((mlT f i k n).1 + (if (mlIs f i k n && (decide (n < k) && !decide (n = i))) = true then 1 else 0), (mlT f i k n).2 + (if mlIs f i k n = true then 1 else 0)) = _
      rw [ih (by omega), cN_succ, cN_succ, ← nI_b, ← nI_b]
  rw [e N hN]
  have h1 : cN N (fun j => mlIs f i k j) = thC (nwL f B) (thL f) N i k := cN_congr fun j hj => by
    unfold mlIs nwL thL
    have : decide (j < B) = true := by simp; omega
    rw [this, Bool.true_and]
  have h2 : cN N (fun j => mlIs f i k j && (decide (j < k) && !decide (j = i))) = fstC (nwL f B) (thL f) i k := by
    unfold fstC
    rw [← cN_lt (k := k) hk]
    refine cN_congr fun j hj => ?_
    unfold mlIs nwL thL
    have : decide (j < B) = true := by simp; omega
    rw [this, Bool.true_and]
    cases m_isNew f j <;> cases m_thr (f i) (f k) (f j) <;> cases decide (j < k) <;> cases decide (j = i) <;> rfl
  rw [h1, h2]
theorem nI_eq0 {x : Nat} (h : x < 2 ^ 31) : nI x = 0 ↔ x = 0 := by
  have : nI 0 = 0 := rfl
  rw [← this, nI_eq h (by decide)]
def rep4 (m o t : Nat) : I4 := (nI m, nI o - nI m, nI t, nI o)
theorem i32_5 (o m t : Int32) : o - m + (t - 1) = (o + t) - (m + 1) := by grind
theorem mlU_rep {m o t th : Nat} (h1 : t < 2 ^ 31) (h2 : th < 2 ^ 31) : mlU (rep4 m o t) (nI th) = rep4 (m + 1) (o + th) (max t th) := by
  unfold mlU rep4
  rw [nI_ad o th, ← nI_1 m, i32_5]
  have : (if nI th ≤ nI t then nI t else nI th) = nI (max t th) := by
    by_cases h : th ≤ t
    · rw [if_pos ((nI_leI h2 h1).mpr h), Nat.max_eq_left h]
    · rw [if_neg (fun q => h ((nI_leI h2 h1).mp q)), Nat.max_eq_right (by omega)]
  simp only [this]
theorem mlG_eq {f : Nat → L3} {B N i k m o t : Nat} (hN : N ≤ B) (hB : B < 2 ^ 31) (hi : i < N) (hk : k < N) (ht : t < 2 ^ 31) : mlG f N i k (rep4 m o t) = rep4 (m + (prC (nwL f B) (nbL f) (thL f) i k).toNat) (o + if prC (nwL f B) (nbL f) (thL f) i k = true then thC (nwL f B) (thL f) N i k else 0) (max t (if prC (nwL f B) (nbL f) (thL f) i k = true then thC (nwL f B) (thL f) N i k else 0)) := by
  have hth : thC (nwL f B) (thL f) N i k < 2 ^ 31 := by have := cN_le_n (fun j => nwL f B j && thL f i k j) N; unfold thC; omega
  have hfs : fstC (nwL f B) (thL f) i k < 2 ^ 31 := by have := cN_le_n (fun j => (nwL f B j && thL f i k j) && !decide (j = i)) k; unfold fstC; omega
  unfold mlG
  rw [mlT_eq hN (by omega)]
  have e1 : nwL f B i = m_isNew f i := by unfold nwL; have : decide (i < B) = true := by simp; omega
                                          rw [this, Bool.true_and]
  have e2 : nwL f B k = m_isNew f k := by unfold nwL; have : decide (k < B) = true := by simp; omega
                                          rw [this, Bool.true_and]
  have e3 : prC (nwL f B) (nbL f) (thL f) i k = ((m_isNew f i && (m_isNew f k && !decide (m_both (f i) (f k) = 0))) && decide (fstC (nwL f B) (thL f) i k = 0)) := by
    unfold prC nbL; rw [e1, e2]
  rw [e3]
  have z0 : rep4 (m + 0) (o + 0) (max t 0) = rep4 m o t := by rw [Nat.max_eq_left (Nat.zero_le _)]; rfl
  cases hc : (m_isNew f i && (m_isNew f k && !decide (m_both (f i) (f k) = 0))) with
  | false => simp only [Bool.false_and, Bool.false_eq_true, ↓reduceIte, Bool.toNat_false]; exact z0.symm
  | true =>
    by_cases h0 : fstC (nwL f B) (thL f) i k = 0
    · rw [if_pos rfl, if_pos ((nI_eq0 hfs).mpr h0), h0]
      simp only [decide_true, Bool.and_true, ↓reduceIte, Bool.toNat_true]
      exact mlU_rep ht hth
    · rw [if_pos rfl, if_neg (fun q => h0 ((nI_eq0 hfs).mp q))]
      have : decide (fstC (nwL f B) (thL f) i k = 0) = false := by simp [h0]
      rw [this]
      simp only [Bool.and_false, Bool.false_eq_true, ↓reduceIte, Bool.toNat_false]
      exact z0.symm
theorem mN_bd {F : Nat → Nat} {n b : Nat} (h : ∀ j, j < n → F j ≤ b) : mN n F ≤ b := mN_le.mpr h
theorem mlI_eq {f : Nat → L3} {B N i m o t : Nat} (hN : N ≤ B) (hB : B < 2 ^ 31) (hi : i < N) (ht : t < 2 ^ 31) : ∀ d : Nat, i + 1 + d ≤ N →
    itr2 (mlG f N i) (i + 1) d (rep4 m o t) = rep4 (m + sN (i + 1 + d) (fun k => (decide (i < k) && prC (nwL f B) (nbL f) (thL f) i k).toNat)) (o + sN (i + 1 + d) (fun k => if (decide (i < k) && prC (nwL f B) (nbL f) (thL f) i k) = true then thC (nwL f B) (thL f) N i k else 0)) (max t (mN (i + 1 + d) (fun k => if (decide (i < k) && prC (nwL f B) (nbL f) (thL f) i k) = true then thC (nwL f B) (thL f) N i k else 0)))
  | 0, _ => by
    have z : ∀ j, j < i + 1 → (decide (i < j) && prC (nwL f B) (nbL f) (thL f) i j) = false := fun j hj => by
      have : decide (i < j) = false := by simp; omega
      rw [this]; rfl
    have h1 : sN (i + 1 + 0) (fun k => (decide (i < k) && prC (nwL f B) (nbL f) (thL f) i k).toNat) = 0 := sN_zero fun j hj => by rw [z j hj]; rfl
    have h2 : sN (i + 1 + 0) (fun k => if (decide (i < k) && prC (nwL f B) (nbL f) (thL f) i k) = true then thC (nwL f B) (thL f) N i k else 0) = 0 := sN_zero fun j hj => by rw [z j hj]; rfl
    have h3 : mN (i + 1 + 0) (fun k => if (decide (i < k) && prC (nwL f B) (nbL f) (thL f) i k) = true then thC (nwL f B) (thL f) N i k else 0) ≤ 0 := mN_bd fun j hj => by rw [z j hj]; exact Nat.le_refl _
    rw [h1, h2, Nat.max_eq_left (by omega)]
    rfl
  | d + 1, hd => by
    show mlG f N i (i + 1 + d) (itr2 (mlG f N i) (i + 1) d (rep4 m o t)) = _
    have hb : mN (i + 1 + d) (fun k => if (decide (i < k) && prC (nwL f B) (nbL f) (thL f) i k) = true then thC (nwL f B) (thL f) N i k else 0) ≤ N := mN_bd fun j hj => by
      split
      · exact cN_le_n _ N
      · exact Nat.zero_le _
    rw [mlI_eq hN hB hi ht d (by omega), mlG_eq hN hB hi (by omega) (by omega)]
    have e : (decide (i < i + 1 + d) && prC (nwL f B) (nbL f) (thL f) i (i + 1 + d)) = prC (nwL f B) (nbL f) (thL f) i (i + 1 + d) := by
      have : decide (i < i + 1 + d) = true := by simp; omega
      rw [this, Bool.true_and]
    have s1 : sN (i + 1 + (d + 1)) (fun k => (decide (i < k) && prC (nwL f B) (nbL f) (thL f) i k).toNat) = sN (i + 1 + d) (fun k => (decide (i < k) && prC (nwL f B) (nbL f) (thL f) i k).toNat) + (prC (nwL f B) (nbL f) (thL f) i (i + 1 + d)).toNat := by
      show sN (i + 1 + d) _ + (decide (i < i + 1 + d) && prC (nwL f B) (nbL f) (thL f) i (i + 1 + d)).toNat = _
      rw [e]
    have s2 : sN (i + 1 + (d + 1)) (fun k => if (decide (i < k) && prC (nwL f B) (nbL f) (thL f) i k) = true then thC (nwL f B) (thL f) N i k else 0) = sN (i + 1 + d) (fun k => if (decide (i < k) && prC (nwL f B) (nbL f) (thL f) i k) = true then thC (nwL f B) (thL f) N i k else 0) + (if prC (nwL f B) (nbL f) (thL f) i (i + 1 + d) = true then thC (nwL f B) (thL f) N i (i + 1 + d) else 0) := by
      show sN (i + 1 + d) _ + (if (decide (i < i + 1 + d) && prC (nwL f B) (nbL f) (thL f) i (i + 1 + d)) = true then thC (nwL f B) (thL f) N i (i + 1 + d) else 0) = _
      rw [e]
    have s3 : mN (i + 1 + (d + 1)) (fun k => if (decide (i < k) && prC (nwL f B) (nbL f) (thL f) i k) = true then thC (nwL f B) (thL f) N i k else 0) = max (mN (i + 1 + d) (fun k => if (decide (i < k) && prC (nwL f B) (nbL f) (thL f) i k) = true then thC (nwL f B) (thL f) N i k else 0)) (if prC (nwL f B) (nbL f) (thL f) i (i + 1 + d) = true then thC (nwL f B) (thL f) N i (i + 1 + d) else 0) := by
      show max (mN (i + 1 + d) _) (if (decide (i < i + 1 + d) && prC (nwL f B) (nbL f) (thL f) i (i + 1 + d)) = true then thC (nwL f B) (thL f) N i (i + 1 + d) else 0) = _
      rw [e]
    rw [s1, s2, s3, Nat.max_assoc]
    simp only [Nat.add_assoc]
theorem mlO_eq {f : Nat → L3} {B N : Nat} (hN : N ≤ B) (hB : B < 2 ^ 31) : mlO f N N = rep4 (meetsM (nwL f B) (nbL f) (thL f) N) (onM (nwL f B) (nbL f) (thL f) N N) (mostM (nwL f B) (nbL f) (thL f) N) := by
  have key : ∀ n, n ≤ N → mlO f N n = rep4 (sN n (fun i => sN N (fun k => (decide (i < k) && prC (nwL f B) (nbL f) (thL f) i k).toNat))) (sN n (fun i => sN N (fun k => if (decide (i < k) && prC (nwL f B) (nbL f) (thL f) i k) = true then thC (nwL f B) (thL f) N i k else 0))) (mN n (fun i => mN N (fun k => if (decide (i < k) && prC (nwL f B) (nbL f) (thL f) i k) = true then thC (nwL f B) (thL f) N i k else 0))) := fun n => by
    induction n with
    | zero => intro _; show ((0 : Int32), (0 : Int32), (0 : Int32), (0 : Int32)) = (nI 0, nI 0 - nI 0, nI 0, nI 0); decide
    | succ n ih =>
      intro hn
      show itr2 (mlG f N n) (n + 1) (N - (n + 1)) (mlO f N n) = _
      have hb : mN n (fun i => mN N (fun k => if (decide (i < k) && prC (nwL f B) (nbL f) (thL f) i k) = true then thC (nwL f B) (thL f) N i k else 0)) ≤ N := mN_bd fun j hj => mN_bd fun k hk => by
        split
        · exact cN_le_n _ N
        · exact Nat.zero_le _
      rw [ih (by omega), mlI_eq hN hB (by omega) (by omega) (N - (n + 1)) (by omega), show n + 1 + (N - (n + 1)) = N by omega]
      rfl
  exact key N (Nat.le_refl _)
theorem mlD_eq {f : Nat → L3} {B N : Nat} (hN : N ≤ B) : mlD f N = nI (cN N (nwL f B)) := by
  unfold mlD
  rw [itr_cnt (fun i => m_isNew f i)]
  congr 1
  refine cN_congr fun j hj => ?_
  unfold nwL
  have : decide (j < B) = true := by simp; omega
  rw [this, Bool.true_and]
