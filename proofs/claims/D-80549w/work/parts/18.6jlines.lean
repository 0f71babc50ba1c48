set_option maxRecDepth 100000
/-! The class's count of lines, and that it is the reference's. -/
def j_par (p q : L3) : Bool := decide (p.1 * q.2.1 = q.1 * p.2.1)
def j_same (p q : L3) : Bool := j_par p q && (decide (p.1 * q.2.2 = q.1 * p.2.2) && decide (p.2.1 * q.2.2 = q.2.1 * p.2.2))
def j_thru (g : Nat → L3) (l m : L3) (n : Nat) : Int32 := itr (fun k a => a + (if m_thr l m (g k) = true then 1 else 0)) n 0
abbrev I3 : Type := Int32 × Int32 × Int32
def j_addG (g : Nat → L3) (l : L3) (n j : Nat) (a : I3) : I3 :=
  if j_par l (g j) = true then a else
  (a.1 + (if (decide (j_thru g l (g j) j = 0) && decide (j_thru g l (g j) n = 1)) = true then 1 else 0), a.2.1 + (if decide (j_thru g l (g j) j = 0) = true then 1 else 0), if j_thru g l (g j) n + 1 ≤ a.2.2 then a.2.2 else j_thru g l (g j) n + 1)
def j_addL (g : Nat → L3) (l : L3) (n k : Nat) (a : I3) : I3 := itr (j_addG g l n) k a
def j_isN (g : Nat → L3) (l : L3) (D : Nat) : Bool := itr (fun j a => a && !j_same (g j) l) D true
abbrev AS : Type := (Nat → Nat) × Nat × I3
def updN (d : Nat → Nat) (D k : Nat) : Nat → Nat := fun j => if j = D then k else d j
def j_step (f : Nat → L3) (k : Nat) (s : AS) : AS :=
  if j_isN (fun j => f (s.1 j)) (f k) s.2.1 = true then
    (updN s.1 s.2.1 k, s.2.1 + 1, ((j_addL (fun j => f (updN s.1 s.2.1 k j)) (f k) s.2.1 s.2.1 s.2.2).1, (j_addL (fun j => f (updN s.1 s.2.1 k j)) (f k) s.2.1 s.2.1 s.2.2).2.1 + 1, (j_addL (fun j => f (updN s.1 s.2.1 k j)) (f k) s.2.1 s.2.1 s.2.2).2.2))
  else s
def j_arr (f : Nat → L3) (n : Nat) : AS := itr (j_step f) n (fun _ => 0, 0, (0, 1, 0))
def j_fOnL (g : Nat → L3) (k j n : Nat) : Bool := itr (fun i a => a && (decide (i = k) || !m_thr (g k) (g j) (g i))) n true
def j_fOn (g : Nat → L3) (k j : Nat) : Bool := if (decide (j = k) || j_par (g k) (g j)) = true then false else j_fOnL g k j j
def j_pieI (g : Nat → L3) (k n : Nat) (a : Int32) : Int32 := itr (fun j b => b + (if j_fOn g k j = true then 1 else 0)) n a
def j_pie (g : Nat → L3) (D n : Nat) : Int32 := itr (fun k a => j_pieI g k D (a + 1)) n 0
def j_linesV (f : Nat → L3) (N : Nat) (w : Int32) : Int32 :=
  if w = 0 then nI (j_arr f N).2.1 else if w = 1 then (j_arr f N).2.2.1 else if w = 2 then (j_arr f N).2.2.2.1
  else if w = 3 then j_pie (fun j => f ((j_arr f N).1 j)) (j_arr f N).2.1 (j_arr f N).2.1
  else if w = 4 then (if (j_arr f N).2.2.1 = 0 then 0 else (j_arr f N).2.2.2.1 - 2 * nI (j_arr f N).2.1) else (j_arr f N).2.2.2.2
theorem par_I {p q : L3} (hp : OkL p) (hq : OkL q) : j_par p q = decide (m_both p q = 0) := by
  apply Bool.eq_iff_iff.mpr
  unfold j_par
  rw [decide_eq_true_eq, decide_eq_true_eq, (both_B hp hq).eq0, (hp.a.mul hq.b (by decide)).eq (hq.a.mul hp.b (by decide))]
  unfold dI
  omega
theorem same_I {p q : L3} (hp : OkL p) (hq : OkL q) : j_same p q = m_isOne p q := by
  unfold j_same m_isOne; rw [par_I hp hq]
/-- a loop over the new ones' places is a loop over all, with the old ones passed by -/
theorem br {α : Type} (nw : Nat → Bool) (F : Nat → α → α) (a : α) : ∀ k : Nat, itr F (cN k nw) a = itr (fun i a => if nw i = true then F (cN i nw) a else a) k a
  | 0 => rfl
  | k + 1 => by
    rw [cN_succ]
    show _ = if nw k = true then F (cN k nw) (itr (fun i a => if nw i = true then F (cN i nw) a else a) k a) else itr (fun i a => if nw i = true then F (cN i nw) a else a) k a
    rw [← br nw F a k]
    cases nw k with
    | false => rfl
    | true => rfl
theorem cN_lt_of {P : Nat → Bool} {i j : Nat} (h : P i = true) (hij : i < j) : cN i P < cN j P := by
  have := cN_mono (P := P) (n := i + 1) (m := j) (by omega)
  rw [cN_succ, h] at this
  have e : true.toNat = 1 := rfl
  omega
theorem pos_inj {P : Nat → Bool} {i j : Nat} (hi : P i = true) (hj : P j = true) : cN i P = cN j P ↔ i = j := by
  constructor
  · intro h
    rcases Nat.lt_trichotomy i j with q | q | q
    · have := cN_lt_of hi q; omega
    · exact q
    · have := cN_lt_of hj q; omega
  · intro h; rw [h]
section JL
variable {f : Nat → L3} {B : Nat}
/-- the places hold the new ones, in order -/
def Pl (f : Nat → L3) (B : Nat) (d : Nat → Nat) (k : Nat) : Prop := ∀ i, i < k → nwL f B i = true → d (cN i (nwL f B)) = i
theorem thru_eq {d : Nat → Nat} {k n : Nat} (hd : Pl f B d k) (hn : n ≤ k) (l m : L3) : j_thru (fun j => f (d j)) l m (cN n (nwL f B)) = nI (cN n (fun i => nwL f B i && m_thr l m (f i))) := by
  unfold j_thru
  rw [br (nwL f B), ← itr_cnt]
  refine itr_congr fun i hi a => ?_
  cases hw : nwL f B i with
  | false => simp
  | true =>
    have e := hd i (by omega) hw
    simp only [↓reduceIte, Bool.true_and, e]
theorem isN_eq (hf : ∀ i, i < B → OkL (f i)) {d : Nat → Nat} {k : Nat} (hd : Pl f B d k) (hk : k < B) : j_isN (fun j => f (d j)) (f k) (cN k (nwL f B)) = nwL f B k := by
  apply Bool.eq_iff_iff.mpr
  unfold j_isN
  rw [br (nwL f B)]
  have e : itr (fun i (a : Bool) => if nwL f B i = true then a && !j_same (f (d (cN i (nwL f B)))) (f k) else a) k true = itr (fun i a => a && (!nwL f B i || !m_isOne (f k) (f i))) k true := itr_congr fun i hi a => by
    cases hw : nwL f B i with
    | false => simp
    | true =>
      simp only [↓reduceIte, Bool.not_true, Bool.false_or]
      rw [hd i hi hw, same_I (hf i (by omega)) (hf k hk), one_symm (hf i (by omega)) (hf k hk)]
  rw [e, itr_and, nwL_spec]
  constructor
  · rintro ⟨-, h⟩
    refine ⟨hk, ?_⟩
    intro j
    induction j using Nat.strongRecOn with
    | ind j ih =>
      intro hj
      cases ho : m_isOne (f k) (f j) with
      | false => rfl
      | true =>
        exfalso
        have hq := h j hj
        rw [ho] at hq
        simp only [Bool.not_true, Bool.or_false, Bool.not_eq_true'] at hq
        have : ¬ nwL f B j = true := by rw [hq]; decide
        apply this
        rw [nwL_spec]
        refine ⟨by omega, fun j' hj' => ?_⟩
        cases ho' : m_isOne (f j) (f j') with
        | false => rfl
        | true =>
          have h1 := one_trans (hf k hk) (hf j (by omega)) (hf j' (by omega)) ho ho'
          rw [ih j' hj' (by omega)] at h1
          cases h1
  · rintro ⟨-, h⟩
    refine ⟨rfl, fun j hj => ?_⟩
    rw [h j hj]; simp
theorem addG_eq (hf : ∀ i, i < B → OkL (f i)) {d : Nat → Nat} {k i m c t : Nat} {c0 : Int32} (hd : Pl f B d k) (hk : k < B) (hB : B < 2 ^ 30) (hi : i < k) (hw : nwL f B i = true) (ht : t < 2 ^ 30) :
    j_addG (fun j => f (d j)) (f k) (cN k (nwL f B)) (cN i (nwL f B)) (nI m, c0 + nI c, nI t) =
    (nI (m + (nwL f B i && (nbL f k i && (isFC (nwL f B) (thL f) k i && decide (befC (nwL f B) (thL f) k i = 1)))).toNat), c0 + nI (c + (nwL f B i && (nbL f k i && isFC (nwL f B) (thL f) k i)).toNat), nI (max t (if (nwL f B i && nbL f k i) = true then befC (nwL f B) (thL f) k i + 1 else 0))) := by
  unfold j_addG
  have e1 : f (d (cN i (nwL f B))) = f i := by rw [hd i hi hw]
  simp only [e1]
  rw [par_I (hf k hk) (hf i (by omega)), thru_eq hd (by omega : i ≤ k), thru_eq hd (Nat.le_refl k)]
  have hb : cN k (fun j => nwL f B j && m_thr (f k) (f i) (f j)) < 2 ^ 30 := by have := cN_le_n (fun j => nwL f B j && m_thr (f k) (f i) (f j)) k; omega
  have hb2 : cN i (fun j => nwL f B j && m_thr (f k) (f i) (f j)) < 2 ^ 30 := by have := cN_le_n (fun j => nwL f B j && m_thr (f k) (f i) (f j)) i; omega
  have e2 : decide (nI (cN i (fun j => nwL f B j && m_thr (f k) (f i) (f j))) = 0) = isFC (nwL f B) (thL f) k i := by
    apply Bool.eq_iff_iff.mpr
    unfold isFC thL
    rw [decide_eq_true_eq, decide_eq_true_eq, nI_eq0 (by omega)]
  have e3 : decide (nI (cN k (fun j => nwL f B j && m_thr (f k) (f i) (f j))) = 1) = decide (befC (nwL f B) (thL f) k i = 1) := by
    apply Bool.eq_iff_iff.mpr
    unfold befC thL
    have : (1 : Int32) = nI 1 := rfl
    rw [decide_eq_true_eq, decide_eq_true_eq, this, nI_eq (by omega) (by omega)]
  have e4 : (if nI (cN k (fun j => nwL f B j && m_thr (f k) (f i) (f j))) + 1 ≤ nI t then nI t else nI (cN k (fun j => nwL f B j && m_thr (f k) (f i) (f j))) + 1) = nI (max t (befC (nwL f B) (thL f) k i + 1)) := by
    have e5 : befC (nwL f B) (thL f) k i = cN k (fun j => nwL f B j && m_thr (f k) (f i) (f j)) := rfl
    rw [e5, nI_1]
    by_cases h : cN k (fun j => nwL f B j && m_thr (f k) (f i) (f j)) + 1 ≤ t
    · rw [if_pos ((nI_leI (by omega) (by omega)).mpr h), Nat.max_eq_left h]
    · rw [if_neg (fun q => h ((nI_leI (by omega) (by omega)).mp q)), Nat.max_eq_right (by omega)]
  rw [e2, e3, e4, hw]
  unfold nbL
  cases hp : decide (m_both (f k) (f i) = 0) with
  | true =>
    simp only [↓reduceIte, Bool.not_true, Bool.false_and, Bool.and_false, Bool.toNat_false, Bool.false_eq_true]
    rw [Nat.max_eq_left (Nat.zero_le _)]
    rfl
  | false =>
    simp only [↓reduceIte, Bool.not_false, Bool.true_and, Bool.false_eq_true]
    rw [nI_b, nI_ad c, ← Int32.add_assoc]
    have : (if isFC (nwL f B) (thL f) k i = true then (1 : Int32) else 0) = nI (isFC (nwL f B) (thL f) k i).toNat := by cases isFC (nwL f B) (thL f) k i <;> rfl
    rw [this]
theorem addL_eq (hf : ∀ i, i < B → OkL (f i)) {d : Nat → Nat} {k m c t : Nat} {c0 : Int32} (hd : Pl f B d k) (hk : k < B) (hB : B < 2 ^ 30) (ht : t ≤ B) :
    j_addL (fun j => f (d j)) (f k) (cN k (nwL f B)) (cN k (nwL f B)) (nI m, c0 + nI c, nI t) =
    (nI (m + sN k (fun i => (nwL f B i && (nbL f k i && (isFC (nwL f B) (thL f) k i && decide (befC (nwL f B) (thL f) k i = 1)))).toNat)), c0 + nI (c + sN k (fun i => (nwL f B i && (nbL f k i && isFC (nwL f B) (thL f) k i)).toNat)), nI (max t (mN k (fun i => if (nwL f B i && nbL f k i) = true then befC (nwL f B) (thL f) k i + 1 else 0)))) := by
  unfold j_addL
  rw [br (nwL f B)]
  have key : ∀ n, n ≤ k → itr (fun i a => if nwL f B i = true then j_addG (fun j => f (d j)) (f k) (cN k (nwL f B)) (cN i (nwL f B)) a else a) n (nI m, c0 + nI c, nI t) =
    (nI (m + sN n (fun i => (nwL f B i && (nbL f k i && (isFC (nwL f B) (thL f) k i && decide (befC (nwL f B) (thL f) k i = 1)))).toNat)), c0 + nI (c + sN n (fun i => (nwL f B i && (nbL f k i && isFC (nwL f B) (thL f) k i)).toNat)), nI (max t (mN n (fun i => if (nwL f B i && nbL f k i) = true then befC (nwL f B) (thL f) k i + 1 else 0)))) := fun n => by
    induction n with
    | zero => intro _; show (nI m, c0 + nI c, nI t) = (nI (m + 0), c0 + nI (c + 0), nI (max t 0)); rw [Nat.max_eq_left (Nat.zero_le _)]; rfl
    | succ n ih =>
      intro hn
      show (if nwL f B n = true then j_addG (fun j => f (d j)) (f k) (cN k (nwL f B)) (cN n (nwL f B)) (itr (fun i a => if nwL f B i = true then j_addG (fun j => f (d j)) (f k) (cN k (nwL f B)) (cN i (nwL f B)) a else a) n (nI m, c0 + nI c, nI t)) else itr (fun i a => if nwL f B i = true then j_addG (fun j => f (d j)) (f k) (cN k (nwL f B)) (cN i (nwL f B)) a else a) n (nI m, c0 + nI c, nI t)) =
        (nI (m + (sN n (fun i => (nwL f B i && (nbL f k i && (isFC (nwL f B) (thL f) k i && decide (befC (nwL f B) (thL f) k i = 1)))).toNat) + (nwL f B n && (nbL f k n && (isFC (nwL f B) (thL f) k n && decide (befC (nwL f B) (thL f) k n = 1)))).toNat)), c0 + nI (c + (sN n (fun i => (nwL f B i && (nbL f k i && isFC (nwL f B) (thL f) k i)).toNat) + (nwL f B n && (nbL f k n && isFC (nwL f B) (thL f) k n)).toNat)), nI (max t (max (mN n (fun i => if (nwL f B i && nbL f k i) = true then befC (nwL f B) (thL f) k i + 1 else 0)) (if (nwL f B n && nbL f k n) = true then befC (nwL f B) (thL f) k n + 1 else 0))))
      rw [ih (by omega)]
      have hb : mN n (fun i => if (nwL f B i && nbL f k i) = true then befC (nwL f B) (thL f) k i + 1 else 0) ≤ B := mN_bd fun j hj => by
        split
        · have := cN_le_n (fun i => nwL f B i && thL f k j i) k
          unfold befC; omega
        · exact Nat.zero_le _
      cases hw : nwL f B n with
      | false => simp only [Bool.false_eq_true, ↓reduceIte, Bool.false_and, Bool.toNat_false, Nat.add_zero, Nat.max_zero]
      | true =>
        simp only [↓reduceIte]
        rw [addG_eq hf hd hk hB (by omega) hw (by omega), hw, Nat.add_assoc, Nat.add_assoc, Nat.max_assoc]
  exact key k (Nat.le_refl _)
theorem Pl.snoc {d : Nat → Nat} {k : Nat} (hd : Pl f B d k) (hw : nwL f B k = true) : Pl f B (updN d (cN k (nwL f B)) k) (k + 1) := fun i hi hi' => by
  unfold updN
  rcases Nat.lt_or_ge i k with q | q
  · rw [if_neg (fun h => by rw [pos_inj hi' hw] at h; omega)]
    exact hd i q hi'
  · obtain rfl : i = k := by omega
    rw [if_pos rfl]
theorem Pl.skip {d : Nat → Nat} {k : Nat} (hd : Pl f B d k) (hw : nwL f B k = false) : Pl f B d (k + 1) := fun i hi hi' => by
  rcases Nat.lt_or_ge i k with q | q
  · exact hd i q hi'
  · obtain rfl : i = k := by omega
    rw [hw] at hi'; cases hi'
theorem i32_6 (a b : Int32) : 1 + a + b + 1 = 1 + (a + b + 1) := by grind
theorem mostC_le (n : Nat) (hn : n ≤ B) : mostC (nwL f B) (nbL f) (thL f) n ≤ B := mN_bd fun k hk => by
  split
  · refine mN_bd fun j hj => ?_
    split
    · have := cN_le_n (fun i => nwL f B i && thL f k j i) k
      unfold befC; omega
    · exact Nat.zero_le _
  · exact Nat.zero_le _
theorem arr_eq (hf : ∀ i, i < B → OkL (f i)) (hB : B < 2 ^ 30) : ∀ n : Nat, n ≤ B → Pl f B (j_arr f n).1 n ∧ (j_arr f n).2 = (cN n (nwL f B), (nI (meetsC (nwL f B) (nbL f) (thL f) n), 1 + nI (cellsC (nwL f B) (nbL f) (thL f) n + cN n (nwL f B)), nI (mostC (nwL f B) (nbL f) (thL f) n)))
  | 0, _ => ⟨fun i hi => absurd hi (by omega), rfl⟩
  | n + 1, hn => by
    obtain ⟨h1, h2⟩ := arr_eq hf hB n (by omega)
    have e : j_arr f (n + 1) = j_step f n (j_arr f n) := rfl
    rw [e]
    generalize j_arr f n = s at h1 h2 ⊢
    obtain ⟨d, D, a⟩ := s
    simp only [Prod.mk.injEq] at h2
    obtain ⟨rfl, rfl⟩ := h2
    unfold j_step
    simp only
    rw [isN_eq hf h1 (by omega)]
    have m1 : meetsC (nwL f B) (nbL f) (thL f) (n + 1) = meetsC (nwL f B) (nbL f) (thL f) n + (if nwL f B n = true then sN n (fun j => (nwL f B j && (nbL f n j && (isFC (nwL f B) (thL f) n j && decide (befC (nwL f B) (thL f) n j = 1)))).toNat) else 0) := rfl
    have m2 : cellsC (nwL f B) (nbL f) (thL f) (n + 1) = cellsC (nwL f B) (nbL f) (thL f) n + (if nwL f B n = true then sN n (fun j => (nwL f B j && (nbL f n j && isFC (nwL f B) (thL f) n j)).toNat) else 0) := rfl
    have m3 : mostC (nwL f B) (nbL f) (thL f) (n + 1) = max (mostC (nwL f B) (nbL f) (thL f) n) (if nwL f B n = true then mN n (fun j => if (nwL f B j && nbL f n j) = true then befC (nwL f B) (thL f) n j + 1 else 0) else 0) := rfl
    rw [m1, m2, m3, cN_succ]
    cases hw : nwL f B n with
    | false =>
      rw [if_neg (by decide), if_neg (by decide), if_neg (by decide), if_neg (by decide)]
      refine ⟨h1.skip hw, ?_⟩
      simp only [Bool.toNat_false, Nat.add_zero, Nat.max_zero]
    | true =>
      rw [if_pos rfl, if_pos rfl, if_pos rfl, if_pos rfl]
      have h3 := h1.snoc hw
      refine ⟨h3, ?_⟩
      have hPl : Pl f B (updN d (cN n (nwL f B)) n) n := fun i hi hi' => h3 i (by omega) hi'
      have hadd := addL_eq (m := meetsC (nwL f B) (nbL f) (thL f) n) (c := cellsC (nwL f B) (nbL f) (thL f) n) (t := mostC (nwL f B) (nbL f) (thL f) n) (c0 := 1 + nI (cN n (nwL f B))) hf hPl (by omega) hB (mostC_le n (by omega))
      have e0 : 1 + nI (cellsC (nwL f B) (nbL f) (thL f) n + cN n (nwL f B)) = 1 + nI (cN n (nwL f B)) + nI (cellsC (nwL f B) (nbL f) (thL f) n) := by rw [Nat.add_comm (cellsC (nwL f B) (nbL f) (thL f) n), nI_ad, Int32.add_assoc]
      rw [e0, hadd]
      simp only [Bool.toNat_true]
      rw [i32_6, ← nI_ad, nI_1]
      have e9 : cN n (nwL f B) + (cellsC (nwL f B) (nbL f) (thL f) n + sN n (fun i => (nwL f B i && (nbL f n i && isFC (nwL f B) (thL f) n i)).toNat)) + 1 = cellsC (nwL f B) (nbL f) (thL f) n + sN n (fun j => (nwL f B j && (nbL f n j && isFC (nwL f B) (thL f) n j)).toNat) + (cN n (nwL f B) + 1) := by omega
      rw [e9]
theorem fOn_eq (hf : ∀ i, i < B → OkL (f i)) {d : Nat → Nat} {N k j : Nat} (hd : Pl f B d N) (hN : N ≤ B) (hk : k < N) (hj : j < N) (wk : nwL f B k = true) (wj : nwL f B j = true) : j_fOn (fun j => f (d j)) (cN k (nwL f B)) (cN j (nwL f B)) = fOnC (nwL f B) (nbL f) (thL f) k j := by
  unfold j_fOn j_fOnL fOnC
  have e1 : f (d (cN k (nwL f B))) = f k := by rw [hd k hk wk]
  have e2 : f (d (cN j (nwL f B))) = f j := by rw [hd j hj wj]
  simp only [e1, e2]
  rw [par_I (hf k (by omega)) (hf j (by omega)), br (nwL f B)]
  have e3 : decide (cN j (nwL f B) = cN k (nwL f B)) = decide (j = k) := by
    apply Bool.eq_iff_iff.mpr; rw [decide_eq_true_eq, decide_eq_true_eq, pos_inj wj wk]
  rw [e3]
  unfold nbL
  cases h1 : decide (j = k) with
  | true => simp
  | false =>
    cases h2 : decide (m_both (f k) (f j) = 0) with
    | true => simp
    | false =>
      simp only [Bool.or_self, Bool.false_eq_true, ↓reduceIte, Bool.not_false, Bool.and_self, Bool.true_and]
      apply Bool.eq_iff_iff.mpr
      have e4 : itr (fun i (a : Bool) => if nwL f B i = true then a && (decide (cN i (nwL f B) = cN k (nwL f B)) || !m_thr (f k) (f j) (f (d (cN i (nwL f B))))) else a) j true = itr (fun i a => a && !((nwL f B i && thL f k j i) && !decide (i = k))) j true := itr_congr fun i hi a => by
        cases hw : nwL f B i with
        | false => simp
        | true =>
          simp only [↓reduceIte, Bool.true_and]
          rw [hd i (by omega) hw]
          have e5 : decide (cN i (nwL f B) = cN k (nwL f B)) = decide (i = k) := by
            apply Bool.eq_iff_iff.mpr; rw [decide_eq_true_eq, decide_eq_true_eq, pos_inj hw wk]
          rw [e5]
          unfold thL
          cases decide (i = k) <;> cases m_thr (f k) (f j) (f i) <;> simp
      rw [e4, itr_and, decide_eq_true_eq, cN_zero]
      simp only [true_and, Bool.not_eq_true']
theorem pieI_eq (hf : ∀ i, i < B → OkL (f i)) {d : Nat → Nat} {N k : Nat} (hd : Pl f B d N) (hN : N ≤ B) (hk : k < N) (wk : nwL f B k = true) (a : Nat) : j_pieI (fun j => f (d j)) (cN k (nwL f B)) (cN N (nwL f B)) (nI a) = nI (a + sN N (fun j => (nwL f B j && fOnC (nwL f B) (nbL f) (thL f) k j).toNat)) := by
  unfold j_pieI
  rw [br (nwL f B)]
  have key : ∀ n, n ≤ N → itr (fun i (b : Int32) => if nwL f B i = true then b + (if j_fOn (fun j => f (d j)) (cN k (nwL f B)) (cN i (nwL f B)) = true then 1 else 0) else b) n (nI a) = nI (a + sN n (fun j => (nwL f B j && fOnC (nwL f B) (nbL f) (thL f) k j).toNat)) := fun n => by
    induction n with
    | zero => intro _; rfl
    | succ n ih =>
      intro hn
      show (if nwL f B n = true then itr (fun i (b : Int32) => if nwL f B i = true then b + (if j_fOn (fun j => f (d j)) (cN k (nwL f B)) (cN i (nwL f B)) = true then 1 else 0) else b) n (nI a) + (if j_fOn (fun j => f (d j)) (cN k (nwL f B)) (cN n (nwL f B)) = true then 1 else 0) else itr (fun i (b : Int32) => if nwL f B i = true then b + (if j_fOn (fun j => f (d j)) (cN k (nwL f B)) (cN i (nwL f B)) = true then 1 else 0) else b) n (nI a)) = nI (a + (sN n (fun j => (nwL f B j && fOnC (nwL f B) (nbL f) (thL f) k j).toNat) + (nwL f B n && fOnC (nwL f B) (nbL f) (thL f) k n).toNat))
      rw [ih (by omega)]
      cases hw : nwL f B n with
      | false => simp
      | true =>
        rw [if_pos rfl, fOn_eq hf hd hN hk (by omega) wk hw, nI_b, Nat.add_assoc, Bool.true_and]
  exact key N (Nat.le_refl _)
theorem pie_eq (hf : ∀ i, i < B → OkL (f i)) {d : Nat → Nat} {N : Nat} (hd : Pl f B d N) (hN : N ≤ B) : j_pie (fun j => f (d j)) (cN N (nwL f B)) (cN N (nwL f B)) = nI (cN N (nwL f B) + pieC (nwL f B) (nbL f) (thL f) N N) := by
  unfold j_pie
  rw [br (nwL f B)]
  have key : ∀ n, n ≤ N → itr (fun i (a : Int32) => if nwL f B i = true then j_pieI (fun j => f (d j)) (cN i (nwL f B)) (cN N (nwL f B)) (a + 1) else a) n 0 = nI (cN n (nwL f B) + pieC (nwL f B) (nbL f) (thL f) n N) := fun n => by
    induction n with
    | zero => intro _; rfl
    | succ n ih =>
      intro hn
      show (if nwL f B n = true then j_pieI (fun j => f (d j)) (cN n (nwL f B)) (cN N (nwL f B)) (itr (fun i (a : Int32) => if nwL f B i = true then j_pieI (fun j => f (d j)) (cN i (nwL f B)) (cN N (nwL f B)) (a + 1) else a) n 0 + 1) else itr (fun i (a : Int32) => if nwL f B i = true then j_pieI (fun j => f (d j)) (cN i (nwL f B)) (cN N (nwL f B)) (a + 1) else a) n 0) = nI ((cN n (nwL f B) + (nwL f B n).toNat) + (pieC (nwL f B) (nbL f) (thL f) n N + (if nwL f B n = true then sN N (fun j => (nwL f B j && fOnC (nwL f B) (nbL f) (thL f) n j).toNat) else 0)))
      rw [ih (by omega)]
      cases hw : nwL f B n with
      | false => simp
      | true =>
        rw [if_pos rfl, if_pos rfl, nI_1, pieI_eq hf hd hN (by omega) hw]
        congr 1
        simp only [Bool.toNat_true]
        omega
  exact key N (Nat.le_refl _)
end JL
theorem law_linesV {f : Nat → L3} {B N : Nat} (hf : ∀ i, i < B → OkL (f i)) (hB : B < 2 ^ 30) (hN : N ≤ B) (w : Int32) : j_linesV f N w = m_linesV f N w := by
  have g := geoL hf
  obtain ⟨h1, h2⟩ := arr_eq hf hB N hN
  unfold j_linesV m_linesV
  rw [mlO_eq hN (by omega), mlD_eq hN, h2]
  simp only [rep4]
  rw [pie_eq hf h1 hN, pie_on g N, meets_eq g N, most_eq g N]
  have hon := on_cells g N
  rw [meets_eq g N] at hon
  have e : nI (onM (nwL f B) (nbL f) (thL f) N N) - nI (meetsC (nwL f B) (nbL f) (thL f) N) = nI (cellsC (nwL f B) (nbL f) (thL f) N) := by
    rw [hon, nI_ad]; exact Int32.add_sub_cancel _ _
  rw [e, nI_ad, nI_ad]
  have e2 : 1 + (nI (cellsC (nwL f B) (nbL f) (thL f) N) + nI (cN N (nwL f B))) = 1 + nI (cN N (nwL f B)) + nI (cellsC (nwL f B) (nbL f) (thL f) N) := by
    rw [Int32.add_comm (nI (cellsC (nwL f B) (nbL f) (thL f) N)), Int32.add_assoc]
  rw [e2]
  rfl
theorem law_lines {σ : Sg} (hO : Ok σ) (n w : Int32) : s_lines σ n w (j_linesV σ.ln) = s_lines σ n w (m_linesV σ.ln) := by
  unfold s_lines
  by_cases h : (m_isMany σ.nl n 0 && (!decide (w < 0) && !decide (5 < w))) = true
  · rw [if_pos h, if_pos h]
    simp only [Bool.and_eq_true] at h
    obtain ⟨N, h1, h2, -⟩ := many_elim (rn := σ.nl) (k := 0) (n := n) (by decide) hO.nl31 h.1
    rw [h2, ixn (Nat.lt_of_le_of_lt h1 hO.nl31)]
    refine law_linesV (B := σ.nl) (fun i hi => ?_) (by have := hO.1.2.2; omega) h1 w
    obtain ⟨p, q, hp, hq, e, hne⟩ := hO.2.2.2 i hi
    rw [e]; exact okL_of hp hq hne
  · rw [if_neg h, if_neg h]
