set_option maxRecDepth 100000
/-! The words of the law: points as pairs, signs, lines; the state that both the class and its reference hold. -/
abbrev P2 : Type := Int32 × Int32
def fF (x : Int32) : UInt32 := FP.fdiv (FP.i2f x) 1094713344
abbrev PtAt (G : GG) (H : Heap) (a : Nat) (n : Int32) (p : P2) : Prop := va_at G.1 clA (a, .inr (1, [.int n, .int p.1, .int p.2, .float (fF p.1), .float (fF p.2)])) H
abbrev L3 : Type := Int64 × Int64 × Int64
abbrev LnAt (G : GG) (H : Heap) (a : Nat) (p : L3) : Prop := va_at G.1 clA (a, .inr (2, [.long p.1, .long p.2.1, .long p.2.2])) H
def s_isIn (v lo hi : Int64) : Bool := !decide (v < lo) && !decide (hi < v)
def s_sign (v : Int64) : Int32 := if v ≤ 0 then (if 0 ≤ v then 0 else -1) else 1
def s_br (a b c d : Int64) : Int64 := a * d - b * c
def s_turn (p q r : P2) : Int32 := s_sign (s_br (q.1 - p.1).toInt64 (q.2 - p.2).toInt64 (r.1 - p.1).toInt64 (r.2 - p.2).toInt64)
def s_eq (p q : P2) : Bool := decide (p.1 = q.1) && decide (p.2 = q.2)
def s_along (o p q : P2) : Int64 := (p.1 - o.1).toInt64 * (q.1 - o.1).toInt64 + (p.2 - o.2).toInt64 * (q.2 - o.2).toInt64
def s_far (o p : P2) : Int64 := (p.1 - o.1).toInt64 * (p.1 - o.1).toInt64 + (p.2 - o.2).toInt64 * (p.2 - o.2).toInt64
def s_ringV (xa ya xb yb xc yc : Int64) : Int64 := (xa * xa + ya * ya) * (xb * yc - yb * xc) + (xb * xb + yb * yb) * (xc * ya - yc * xa) + (xc * xc + yc * yc) * (xa * yb - ya * xb)
def s_ring (a b c d : P2) : Int32 := s_sign (s_ringV (a.1 - d.1).toInt64 (a.2 - d.2).toInt64 (b.1 - d.1).toInt64 (b.2 - d.2).toInt64 (c.1 - d.1).toInt64 (c.2 - d.2).toInt64)
/-- the state: points, row, filter, counts, lines -/
abbrev Sg : Type := (Nat × (Nat → P2)) × (Nat × (Nat → Option Nat)) × (Bool × Int32 × Int32 × Int32) × (Nat × (Nat → L3))
abbrev Sg.np (σ : Sg) : Nat := σ.1.1
abbrev Sg.pt (σ : Sg) : Nat → P2 := σ.1.2
abbrev Sg.rn (σ : Sg) : Nat := σ.2.1.1
abbrev Sg.rw (σ : Sg) : Nat → Option Nat := σ.2.1.2
abbrev Sg.on (σ : Sg) : Bool := σ.2.2.1.1
abbrev Sg.dc (σ : Sg) : Int32 := σ.2.2.1.2.1
abbrev Sg.ud (σ : Sg) : Int32 := σ.2.2.1.2.2.1
abbrev Sg.zr (σ : Sg) : Int32 := σ.2.2.1.2.2.2
abbrev Sg.nl (σ : Sg) : Nat := σ.2.2.2.1
abbrev Sg.ln (σ : Sg) : Nat → L3 := σ.2.2.2.2
def lnOf (p q : P2) : L3 := ((q.2 - p.2).toInt64, (p.1 - q.1).toInt64, (q.2 - p.2).toInt64 * p.1.toInt64 + (p.1 - q.1).toInt64 * p.2.toInt64)
def OkP (p : P2) : Prop := -9600 ≤ p.1.toInt ∧ p.1.toInt ≤ 9600 ∧ -9600 ≤ p.2.toInt ∧ p.2.toInt ≤ 9600
def Ok (σ : Sg) : Prop := (σ.np ≤ 60 ∧ σ.rn ≤ 24 ∧ σ.nl ≤ 12) ∧ (∀ i k, σ.rw i = some k → i < σ.rn ∧ k < σ.np) ∧ (∀ i, OkP (σ.pt i)) ∧ (∀ i, i < σ.nl → ∃ p q : P2, OkP p ∧ OkP q ∧ σ.ln i = lnOf p q ∧ s_eq p q = false)
theorem Ok.lt60 {σ : Sg} (h : Ok σ) {a : Nat} (ha : a < σ.np) : a < 60 := Nat.lt_of_lt_of_le ha h.1.1
theorem Ok.lt24 {σ : Sg} (h : Ok σ) {a : Nat} (ha : a < σ.rn) : a < 24 := Nat.lt_of_lt_of_le ha h.1.2.1
theorem Ok.lt12 {σ : Sg} (h : Ok σ) {a : Nat} (ha : a < σ.nl) : a < 12 := Nat.lt_of_lt_of_le ha h.1.2.2
def isPt (np : Nat) (a : Int32) : Bool := !decide (a < 0) && !decide (nI np ≤ a)
theorem isPt_elim {np : Nat} {a : Int32} (hn : np ≤ 60) (h : isPt np a = true) : ∃ k : Nat, k < np ∧ a = nI k := by
  simp only [isPt, Bool.and_eq_true, Bool.not_eq_true', decide_eq_false_iff_not] at h
  obtain ⟨j, h1, h2⟩ := nI_of h.1
  refine ⟨j, ?_, h2⟩
  rcases Nat.lt_or_ge j np with q | q
  · exact q
  · exact absurd (by rw [h2]; exact nI_le q h1) h.2
theorem isPt_nI {np k : Nat} (hn : np ≤ 60) (h : k < np) : isPt np (nI k) = true := by
  have h1 := nI_pos (n := k) (by omega)
  have h2 := nI_ge h (by omega)
  simp [isPt, h1, h2]
def rI : Option Nat → Int32
  | none => -1
  | some k => nI k
theorem rI_some {f : Nat → Option Nat} {k A : Nat} (h : f k = some A) : rI (f k) = nI A := by rw [h]; rfl
/-- the reference's cells -/
def MW (G : GG) (H : Heap) (o : Nat) (A : Nat → Nat) (σ : Sg) (th : Int32) : Prop :=
  va_at G.1 clA (o, .inr (7, [.int th, .int (nI σ.np), .ref (A 0), .ref (A 1), .int (nI σ.rn), .ref (A 2), .int (bI σ.on), .int σ.dc, .int σ.ud, .int σ.zr, .int (nI σ.nl), .ref (A 3), .ref (A 4), .ref (A 5)])) H ∧
  va_at G.1 clA (A 0, .inl (G.2.2.2.1, 60, .inl (fun i => (σ.pt i).1))) H ∧ va_at G.1 clA (A 1, .inl (G.2.2.2.1, 60, .inl (fun i => (σ.pt i).2))) H ∧
  va_at G.1 clA (A 2, .inl (G.2.2.2.1, 24, .inl (fun i => rI (σ.rw i)))) H ∧
  va_at G.1 clA (A 3, .inl (G.2.2.2.2, 12, .inr (.inl (fun i => (σ.ln i).1)))) H ∧ va_at G.1 clA (A 4, .inl (G.2.2.2.2, 12, .inr (.inl (fun i => (σ.ln i).2.1)))) H ∧ va_at G.1 clA (A 5, .inl (G.2.2.2.2, 12, .inr (.inl (fun i => (σ.ln i).2.2)))) H
/-- the class's cells -/
def JW (G : GG) (H : Heap) (o : Nat) (B : Nat → Nat) (P L : Nat → Nat) (σ : Sg) : Prop :=
  va_at G.1 clA (o, .inr (0, [.int (nI σ.np), .ref (B 0), .ref (B 1), .int (bI σ.on), .int σ.dc, .int σ.ud, .int σ.zr, .int (nI σ.nl), .ref (B 2)])) H ∧
  va_at G.1 clA (B 0, .inl (G.2.1, 60, .inr (.inr (.inr (.inr (fun i => if i < σ.np then some (P i) else none)))))) H ∧
  va_at G.1 clA (B 1, .inl (G.2.1, σ.rn, .inr (.inr (.inr (.inr (fun i => (σ.rw i).map P)))))) H ∧
  va_at G.1 clA (B 2, .inl (G.2.2.1, 12, .inr (.inr (.inr (.inr (fun i => if i < σ.nl then some (L i) else none)))))) H ∧
  (∀ i, i < σ.np → PtAt G H (P i) (nI i) (σ.pt i)) ∧ (∀ i, i < σ.nl → LnAt G H (L i) (σ.ln i))
theorem pa_some {np : Nat} {P : Nat → Nat} {k : Nat} (h : k < np) : (fun i => if i < np then some (P i) else none) k = some (P k) := if_pos h
theorem ra_some {f : Nat → Option Nat} {P : Nat → Nat} {k A : Nat} (h : f k = some A) : (fun i => (f i).map P) k = some (P A) := by show (f k).map P = _; rw [h]; rfl
section CUT
variable {p : Program} {l : Launch} {e : Env} {R : Room} {s : State} {m : MethodId} {args : Array Value} {below : List Frame} {meth : Method} {c : Code} {H : Heap} {locs : List Loc} {cells slots : Nat} {Q : State → Prop}
variable {pc : Nat} {ls : Array Slot} {rest : List Value}
/-- two ways meet at J with one int more on the stack -/
theorem cutI {J : Nat} {v : Int32} (k : W p l e R s m args below meth c H locs cells slots Q (F0 m J ls (.int v :: rest))) (h : (∀ x, x = v → W p l e R s m args below meth c H locs cells slots Q (F0 m J ls (.int x :: rest))) → W p l e R s m args below meth c H locs cells slots Q (F0 m pc ls rest)) : W p l e R s m args below meth c H locs cells slots Q (F0 m pc ls rest) := h (fun _ e => e ▸ k)
/-- ways meet at J under a condition, with the same stack -/
theorem cutC {J : Nat} {C : Prop} (k : C → W p l e R s m args below meth c H locs cells slots Q (F0 m J ls rest)) (h : (C → W p l e R s m args below meth c H locs cells slots Q (F0 m J ls rest)) → W p l e R s m args below meth c H locs cells slots Q (F0 m pc ls rest)) : W p l e R s m args below meth c H locs cells slots Q (F0 m pc ls rest) := h k
end CUT
