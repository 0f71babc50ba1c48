set_option maxRecDepth 100000

def j_point (σ : Sg) (x y d : Int64) : Int32 × Sg :=
  if s_isIn x (-800) 800 && (s_isIn y (-800) 800 && s_isIn d 1 12) then (if 12 - 12 / d * d = 0 then (if nI σ.np = 60 then (-3, σ) else (nI σ.np, t_pt σ (x.toInt32 * (12 / d.toInt32), y.toInt32 * (12 / d.toInt32)))) else (-2, σ)) else (-2, σ)
theorem isIn_I {x a b : Int64} : s_isIn x a b = true ↔ (a.toInt ≤ x.toInt ∧ x.toInt ≤ b.toInt) := by
  simp only [s_isIn, Bool.and_eq_true, Bool.not_eq_true', decide_eq_false_iff_not, Int64.lt_iff_toInt_lt]
  omega
theorem d12 {d : Int64} (h : s_isIn d 1 12 = true) : d = 1 ∨ d = 2 ∨ d = 3 ∨ d = 4 ∨ d = 5 ∨ d = 6 ∨ d = 7 ∨ d = 8 ∨ d = 9 ∨ d = 10 ∨ d = 11 ∨ d = 12 := by
  rw [isIn_I] at h
  have e1 : (1 : Int64).toInt = 1 := rfl
  have e12 : (12 : Int64).toInt = 12 := rfl
  rw [e1, e12] at h
  have key : ∀ k : Int64, d = k ↔ d.toInt = k.toInt := fun k => Int64.toInt_inj.symm
  have e : (2 : Int64).toInt = 2 ∧ (3 : Int64).toInt = 3 ∧ (4 : Int64).toInt = 4 ∧ (5 : Int64).toInt = 5 ∧ (6 : Int64).toInt = 6 ∧ (7 : Int64).toInt = 7 ∧ (8 : Int64).toInt = 8 ∧ (9 : Int64).toInt = 9 ∧ (10 : Int64).toInt = 10 ∧ (11 : Int64).toInt = 11 := ⟨rfl, rfl, rfl, rfl, rfl, rfl, rfl, rfl, rfl, rfl⟩
  simp only [key, e1, e12, e]
  omega
theorem in_nz {d : Int64} (h : s_isIn d 1 12 = true) : ¬ d = 0 := fun e => by subst e; exact absurd h (by decide)
theorem in_nz32 {d : Int64} (h : s_isIn d 1 12 = true) : ¬ d.toInt32 = 0 := by
  rcases d12 h with rfl | rfl | rfl | rfl | rfl | rfl | rfl | rfl | rfl | rfl | rfl | rfl <;> decide
theorem i32_of {x : Int64} (h1 : -2147483648 ≤ x.toInt) (h2 : x.toInt < 2147483648) : x.toInt32.toInt = x.toInt := by
  rw [Int64.toInt_toInt32]; exact Int.bmod_eq_of_le (by omega) (by omega)
theorem pt_ok {x y d : Int64} (hx : s_isIn x (-800) 800 = true) (hy : s_isIn y (-800) 800 = true) (hd : s_isIn d 1 12 = true) : OkP (x.toInt32 * (12 / d.toInt32), y.toInt32 * (12 / d.toInt32)) := by
  rw [isIn_I] at hx hy
  have e1 : (-800 : Int64).toInt = -800 := rfl
  have e2 : (800 : Int64).toInt = 800 := rfl
  rw [e1, e2] at hx hy
  have hb : ∃ k : Int, (12 / d.toInt32).toInt = k ∧ 1 ≤ k ∧ k ≤ 12 := by
    rcases d12 hd with rfl | rfl | rfl | rfl | rfl | rfl | rfl | rfl | rfl | rfl | rfl | rfl <;> exact ⟨_, rfl, by decide, by decide⟩
  obtain ⟨k, k1, k2, k3⟩ := hb
  have key : ∀ z : Int64, -800 ≤ z.toInt → z.toInt ≤ 800 → -9600 ≤ (z.toInt32 * (12 / d.toInt32)).toInt ∧ (z.toInt32 * (12 / d.toInt32)).toInt ≤ 9600 := fun z h1 h2 => by
    have e := i32_of (x := z) (by omega) (by omega)
    have hm := nab_mul (a := z.toInt) (b := k) (A := 800) (B := 12) (by omega) (by omega)
    generalize hz : z.toInt * k = t at hm
    have e3 : (z.toInt32 * (12 / d.toInt32)).toInt = t := by
      rw [← hz, ← e, ← k1]
      refine i32_mul ?_ ?_
      · rw [e, k1, hz]; omega
      · rw [e, k1, hz]; omega
    rw [e3]; omega
  exact ⟨(key x hx.1 hx.2).1, (key x hx.1 hx.2).2, (key y hy.1 hy.2).1, (key y hy.1 hy.2).2⟩
theorem law_point (σ : Sg) (x y d : Int64) : j_point σ x y d = m_point σ x y d := by
  have hr : ∀ z : Int64, s_isIn z (-800) 800 = (!decide (z < -800) && decide (z ≤ 800)) := fun z => by
    unfold s_isIn
    congr 1
    by_cases h : z ≤ 800
    · have := Int64.not_lt.mpr h; simp [h, this]
    · have := Int64.not_le.mp h; simp [h, this]
  have core : s_isIn d 1 12 = true → ((12 - 12 / d * d = 0 ↔ m_good d = true) ∧ (m_good d = true → (12 / d).toInt32 = 12 / d.toInt32)) := fun h => by
    rcases d12 h with rfl | rfl | rfl | rfl | rfl | rfl | rfl | rfl | rfl | rfl | rfl | rfl <;> exact ⟨by decide, fun _ => by decide⟩
  have good : m_good d = true → s_isIn d 1 12 = true := fun h => by
    simp only [m_good, Bool.or_eq_true, decide_eq_true_eq] at h
    rcases h with rfl | rfl | rfl | rfl | rfl | rfl <;> decide
  unfold j_point m_point
  rw [hr x, hr y]
  by_cases hg : m_good d = true
  · have hi := good hg
    have h0 := (core hi).1.mpr hg
    rw [if_pos hg, hi, if_pos h0, Int64.toInt32_mul, Int64.toInt32_mul, (core hi).2 hg]
    by_cases a1 : x < -800 <;> by_cases a2 : x ≤ 800 <;> by_cases a3 : y < -800 <;> by_cases a4 : y ≤ 800 <;> simp [a1, a2, a3, a4]
  · rw [if_neg hg]
    by_cases hi : s_isIn d 1 12 = true
    · have h0 : ¬ 12 - 12 / d * d = 0 := fun h => hg ((core hi).1.mp h)
      rw [if_neg h0]
      simp
    · rw [if_neg (fun h => hi (by simp only [Bool.and_eq_true] at h; exact h.2.2))]
theorem pt_kept {H H1 H2 H3 H4 : Heap} {q b o : Nat} (hq : q = H.size) (hg : Grow H H1) (h1 : Only q H1 H2) (h2 : Only b H2 H3) (h3 : Only o H3 H4) : H.size ≤ H4.size ∧ ∀ z, z < H.size → z ≠ o → z ≠ b → H4[z]? = H[z]? := by
  refine ⟨by rw [h3.1, h2.1, h1.1]; exact hg.1, fun z hz ho hb => ?_⟩
  rw [h3.2 z ho, h2.2 z hb, h1.2 z (by omega), hg.2 z hz]
abbrev o9 (G : GG) (o : Nat) (B : Nat → Nat) (σ : Sg) (H : Heap) : Prop := va_at G.1 clA (o, .inr (0, [.int (nI σ.np), .ref (B 0), .ref (B 1), .int (bI σ.on), .int σ.dc, .int σ.ud, .int σ.zr, .int (nI σ.nl), .ref (B 2)])) H
abbrev aP (G : GG) (a n : Nat) (f : Nat → Option Nat) (H : Heap) : Prop := va_at G.1 clA (a, .inl (G.2.1, n, .inr (.inr (.inr (.inr f))))) H
abbrev aLn (G : GG) (a n : Nat) (f : Nat → Option Nat) (H : Heap) : Prop := va_at G.1 clA (a, .inl (G.2.2.1, n, .inr (.inr (.inr (.inr f))))) H
theorem JP.pt {G : GG} {H H' : Heap} {o q : Nat} {B P L : Nat → Nat} {σ : Sg} {p : P2} (hJ : JW G H o B P L σ) (hO : Ok σ) (hS : JS o B P L σ) (hq : q = H.size) (h0 : o9 G o B (t_pt σ p) H') (h1 : aP G (B 0) 60 (va_up (fun i => if i < σ.np then some (P i) else none) σ.np (some q)) H') (h2 : PtAt G H' q (nI σ.np) p)
    (hk : H.size ≤ H'.size ∧ ∀ z, z < H.size → z ≠ o → z ≠ B 0 → H'[z]? = H[z]?) : JP G H o B P L σ (t_pt σ p) H' := by
  obtain ⟨⟨s1, s2, s3, s4, s5, s6⟩, s7, s8⟩ := hS
  obtain ⟨j1, j2, j3, j4, j5, j6⟩ := hJ
  have e1 : va_up (fun i => if i < σ.np then some (P i) else none) σ.np (some q) = fun i => if i < (t_pt σ p).np then some ((fun i => if i = σ.np then q else P i) i) else none := by
    funext i
    show (if i = σ.np then some q else if i < σ.np then some (P i) else none) = if i < σ.np + 1 then some (if i = σ.np then q else P i) else none
    by_cases c : i = σ.np
    · rw [if_pos c, if_pos (by omega), if_pos c]
    · rw [if_neg c, if_neg c]
      by_cases c2 : i < σ.np
      · rw [if_pos c2, if_pos (by omega)]
      · rw [if_neg c2, if_neg (by omega)]
  rw [e1] at h1
  have b1 := j1.lt
  have b2 := j2.lt
  have b3 := j3.lt
  have b4 := j4.lt
  have nq : ¬ ownJ o B q := fun h => by
    have b1' : o < H.size := b1
    have b2' : B 0 < H.size := b2
    have b3' : B 1 < H.size := b3
    have b4' : B 2 < H.size := b4
    rcases h with h | h | h | h <;> omega
  have k2 : ∀ z, z < H.size → ¬ ownJ o B z → H'[z]? = H[z]? := fun z hz h => hk.2 z hz (fun e => h (Or.inl e)) (fun e => h (Or.inr (Or.inl e)))
  refine ⟨B, fun i => if i = σ.np then q else P i, L, ⟨h0, h1, ?_, ?_, ?_, ?_⟩, ⟨⟨s1, s2, s3, s4, s5, s6⟩, ?_, s8⟩, hk.1, k2, ?_⟩
  · have h9 := j3.kept (hk.2 _ b3 (Ne.symm s2) (Ne.symm s4))
    have e2 : (fun i => (σ.rw i).map P) = fun i => ((t_pt σ p).rw i).map (fun i => if i = σ.np then q else P i) := by
      funext i
      show (σ.rw i).map P = (σ.rw i).map (fun i => if i = σ.np then q else P i)
      cases hr : σ.rw i with
      | none => rfl
      | some k =>
        have hk2 := (hO.2.1 i k hr).2
        show some (P k) = some (if k = σ.np then q else P k)
        rw [if_neg (by omega)]
    rw [e2] at h9
    exact h9
  · exact j4.kept (hk.2 _ b4 (Ne.symm s3) (Ne.symm s5))
  · intro i hi
    show PtAt G H' (if i = σ.np then q else P i) (nI i) (if i = σ.np then p else σ.pt i)
    by_cases c : i = σ.np
    · rw [if_pos c, if_pos c, c]; exact h2
    · have hi' : i < σ.np := by have : i < σ.np + 1 := hi; omega
      rw [if_neg c, if_neg c]
      have := j5 i hi'
      exact this.kept (k2 _ this.lt (s7 i hi'))
  · intro i hi
    have := j6 i hi
    exact this.kept (k2 _ this.lt (s8 i hi))
  · intro i hi
    show ¬ ownJ o B (if i = σ.np then q else P i)
    by_cases c : i = σ.np
    · rw [if_pos c]; exact nq
    · rw [if_neg c]; exact s7 i (by have : i < σ.np + 1 := hi; omega)
  · intro z hz
    rcases hz with hz | ⟨i, hi, rfl⟩ | ⟨i, hi, rfl⟩
    · exact Or.inl (Or.inl hz)
    · show cellJ o B P L σ (if i = σ.np then q else P i) ∨ H.size ≤ (if i = σ.np then q else P i)
      by_cases c : i = σ.np
      · rw [if_pos c]; exact Or.inr (by omega)
      · rw [if_neg c]; exact Or.inl (Or.inr (Or.inl ⟨i, by have : i < σ.np + 1 := hi; omega, rfl⟩))
    · exact Or.inl (Or.inr (Or.inr ⟨i, hi, rfl⟩))
theorem JP.ln {G : GG} {H H' : Heap} {o q : Nat} {B P L : Nat → Nat} {σ : Sg} {l : L3} (hJ : JW G H o B P L σ) (hS : JS o B P L σ) (hq : q = H.size) (h0 : o9 G o B (t_ln σ l) H') (h1 : aLn G (B 2) 12 (va_up (fun i => if i < σ.nl then some (L i) else none) σ.nl (some q)) H') (h2 : LnAt G H' q l)
    (hk : H.size ≤ H'.size ∧ ∀ z, z < H.size → z ≠ o → z ≠ B 2 → H'[z]? = H[z]?) : JP G H o B P L σ (t_ln σ l) H' := by
  obtain ⟨⟨s1, s2, s3, s4, s5, s6⟩, s7, s8⟩ := hS
  obtain ⟨j1, j2, j3, j4, j5, j6⟩ := hJ
  have e1 : va_up (fun i => if i < σ.nl then some (L i) else none) σ.nl (some q) = fun i => if i < (t_ln σ l).nl then some ((fun i => if i = σ.nl then q else L i) i) else none := by
    funext i
    show (if i = σ.nl then some q else if i < σ.nl then some (L i) else none) = if i < σ.nl + 1 then some (if i = σ.nl then q else L i) else none
    by_cases c : i = σ.nl
    · rw [if_pos c, if_pos (by omega), if_pos c]
    · rw [if_neg c, if_neg c]
      by_cases c2 : i < σ.nl
      · rw [if_pos c2, if_pos (by omega)]
      · rw [if_neg c2, if_neg (by omega)]
  rw [e1] at h1
  have b1 := j1.lt
  have b2 := j2.lt
  have b3 := j3.lt
  have b4 := j4.lt
  have nq : ¬ ownJ o B q := fun h => by
    have b1' : o < H.size := b1
    have b2' : B 0 < H.size := b2
    have b3' : B 1 < H.size := b3
    have b4' : B 2 < H.size := b4
    rcases h with h | h | h | h <;> omega
  have k2 : ∀ z, z < H.size → ¬ ownJ o B z → H'[z]? = H[z]? := fun z hz h => hk.2 z hz (fun e => h (Or.inl e)) (fun e => h (Or.inr (Or.inr (Or.inr e))))
  refine ⟨B, P, fun i => if i = σ.nl then q else L i, ⟨h0, j2.kept (hk.2 _ b2 (Ne.symm s1) s5), j3.kept (hk.2 _ b3 (Ne.symm s2) s6), h1, ?_, ?_⟩, ⟨⟨s1, s2, s3, s4, s5, s6⟩, s7, ?_⟩, hk.1, k2, ?_⟩
  · intro i hi
    have := j5 i hi
    exact this.kept (k2 _ this.lt (s7 i hi))
  · intro i hi
    show LnAt G H' (if i = σ.nl then q else L i) (if i = σ.nl then l else σ.ln i)
    by_cases c : i = σ.nl
    · rw [if_pos c, if_pos c]; exact h2
    · have hi' : i < σ.nl := by have : i < σ.nl + 1 := hi; omega
      rw [if_neg c, if_neg c]
      have := j6 i hi'
      exact this.kept (k2 _ this.lt (s8 i hi'))
  · intro i hi
    show ¬ ownJ o B (if i = σ.nl then q else L i)
    by_cases c : i = σ.nl
    · rw [if_pos c]; exact nq
    · rw [if_neg c]; exact s8 i (by have : i < σ.nl + 1 := hi; omega)
  · intro z hz
    rcases hz with hz | ⟨i, hi, rfl⟩ | ⟨i, hi, rfl⟩
    · exact Or.inl (Or.inl hz)
    · exact Or.inl (Or.inr (Or.inl ⟨i, hi, rfl⟩))
    · show cellJ o B P L σ (if i = σ.nl then q else L i) ∨ H.size ≤ (if i = σ.nl then q else L i)
      by_cases c : i = σ.nl
      · rw [if_pos c]; exact Or.inr (by omega)
      · rw [if_neg c]; exact Or.inl (Or.inr (Or.inr ⟨i, by have : i < σ.nl + 1 := hi; omega, rfl⟩))
theorem dX1_point_0 : decode cX1_point 0 = .ok (.lload_n 1, 1) := by decide +kernel
theorem dX1_point_1 : decode cX1_point 1 = .ok (.ldc2_w 54, 3) := by decide +kernel
theorem dX1_point_4 : decode cX1_point 4 = .ok (.ldc2_w 56, 3) := by decide +kernel
theorem dX1_point_7 : decode cX1_point 7 = .ok (.invokestatic 46, 3) := by decide +kernel
theorem dX1_point_10 : decode cX1_point 10 = .ok (.ifCond .eq 39, 3) := by decide +kernel
theorem dX1_point_13 : decode cX1_point 13 = .ok (.lload_n 3, 1) := by decide +kernel
theorem dX1_point_14 : decode cX1_point 14 = .ok (.ldc2_w 54, 3) := by decide +kernel
theorem dX1_point_17 : decode cX1_point 17 = .ok (.ldc2_w 56, 3) := by decide +kernel
theorem dX1_point_20 : decode cX1_point 20 = .ok (.invokestatic 46, 3) := by decide +kernel
theorem dX1_point_23 : decode cX1_point 23 = .ok (.ifCond .eq 26, 3) := by decide +kernel
theorem dX1_point_26 : decode cX1_point 26 = .ok (.lload 5, 2) := by decide +kernel
theorem dX1_point_28 : decode cX1_point 28 = .ok (.lconst 1, 1) := by decide +kernel
theorem dX1_point_29 : decode cX1_point 29 = .ok (.ldc2_w 58, 3) := by decide +kernel
theorem dX1_point_32 : decode cX1_point 32 = .ok (.invokestatic 46, 3) := by decide +kernel
theorem dX1_point_35 : decode cX1_point 35 = .ok (.ifCond .eq 14, 3) := by decide +kernel
theorem dX1_point_38 : decode cX1_point 38 = .ok (.ldc2_w 58, 3) := by decide +kernel
theorem dX1_point_41 : decode cX1_point 41 = .ok (.lload 5, 2) := by decide +kernel
theorem dX1_point_43 : decode cX1_point 43 = .ok (.lrem, 1) := by decide +kernel
theorem dX1_point_44 : decode cX1_point 44 = .ok (.lconst 0, 1) := by decide +kernel
theorem dX1_point_45 : decode cX1_point 45 = .ok (.lcmp, 1) := by decide +kernel
theorem dX1_point_46 : decode cX1_point 46 = .ok (.ifCond .eq 6, 3) := by decide +kernel
theorem dX1_point_49 : decode cX1_point 49 = .ok (.bipush (-2), 2) := by decide +kernel
theorem dX1_point_51 : decode cX1_point 51 = .ok (.ireturn, 1) := by decide +kernel
theorem dX1_point_52 : decode cX1_point 52 = .ok (.aload_n 0, 1) := by decide +kernel
theorem dX1_point_53 : decode cX1_point 53 = .ok (.getfield 43, 3) := by decide +kernel
theorem dX1_point_56 : decode cX1_point 56 = .ok (.bipush 60, 2) := by decide +kernel
theorem dX1_point_58 : decode cX1_point 58 = .ok (.if_icmp .ne 6, 3) := by decide +kernel
theorem dX1_point_61 : decode cX1_point 61 = .ok (.bipush (-3), 2) := by decide +kernel
theorem dX1_point_63 : decode cX1_point 63 = .ok (.ireturn, 1) := by decide +kernel
theorem dX1_point_64 : decode cX1_point 64 = .ok (.bipush 12, 2) := by decide +kernel
theorem dX1_point_66 : decode cX1_point 66 = .ok (.lload 5, 2) := by decide +kernel
theorem dX1_point_68 : decode cX1_point 68 = .ok (.l2i, 1) := by decide +kernel
theorem dX1_point_69 : decode cX1_point 69 = .ok (.idiv, 1) := by decide +kernel
theorem dX1_point_70 : decode cX1_point 70 = .ok (.istore 7, 2) := by decide +kernel
theorem dX1_point_72 : decode cX1_point 72 = .ok (.aload_n 0, 1) := by decide +kernel
theorem dX1_point_73 : decode cX1_point 73 = .ok (.getfield 26, 3) := by decide +kernel
theorem dX1_point_76 : decode cX1_point 76 = .ok (.aload_n 0, 1) := by decide +kernel
theorem dX1_point_77 : decode cX1_point 77 = .ok (.getfield 43, 3) := by decide +kernel
theorem dX1_point_80 : decode cX1_point 80 = .ok (.new 2, 3) := by decide +kernel
theorem dX1_point_83 : decode cX1_point 83 = .ok (.dup, 1) := by decide +kernel
theorem dX1_point_84 : decode cX1_point 84 = .ok (.aload_n 0, 1) := by decide +kernel
theorem dX1_point_85 : decode cX1_point 85 = .ok (.getfield 43, 3) := by decide +kernel
theorem dX1_point_88 : decode cX1_point 88 = .ok (.lload_n 1, 1) := by decide +kernel
theorem dX1_point_89 : decode cX1_point 89 = .ok (.l2i, 1) := by decide +kernel
theorem dX1_point_90 : decode cX1_point 90 = .ok (.iload 7, 2) := by decide +kernel
theorem dX1_point_92 : decode cX1_point 92 = .ok (.imul, 1) := by decide +kernel
theorem dX1_point_93 : decode cX1_point 93 = .ok (.lload_n 3, 1) := by decide +kernel
theorem dX1_point_94 : decode cX1_point 94 = .ok (.l2i, 1) := by decide +kernel
theorem dX1_point_95 : decode cX1_point 95 = .ok (.iload 7, 2) := by decide +kernel
theorem dX1_point_97 : decode cX1_point 97 = .ok (.imul, 1) := by decide +kernel
theorem dX1_point_98 : decode cX1_point 98 = .ok (.invokespecial 60, 3) := by decide +kernel
theorem dX1_point_101 : decode cX1_point 101 = .ok (.aastore, 1) := by decide +kernel
theorem dX1_point_102 : decode cX1_point 102 = .ok (.aload_n 0, 1) := by decide +kernel
theorem dX1_point_103 : decode cX1_point 103 = .ok (.dup, 1) := by decide +kernel
theorem dX1_point_104 : decode cX1_point 104 = .ok (.getfield 43, 3) := by decide +kernel
theorem dX1_point_107 : decode cX1_point 107 = .ok (.iconst 1, 1) := by decide +kernel
theorem dX1_point_108 : decode cX1_point 108 = .ok (.iadd, 1) := by decide +kernel
theorem dX1_point_109 : decode cX1_point 109 = .ok (.putfield 43, 3) := by decide +kernel
theorem dX1_point_112 : decode cX1_point 112 = .ok (.aload_n 0, 1) := by decide +kernel
theorem dX1_point_113 : decode cX1_point 113 = .ok (.getfield 43, 3) := by decide +kernel
theorem dX1_point_116 : decode cX1_point 116 = .ok (.iconst 1, 1) := by decide +kernel
theorem dX1_point_117 : decode cX1_point 117 = .ok (.isub, 1) := by decide +kernel
theorem dX1_point_118 : decode cX1_point 118 = .ok (.ireturn, 1) := by decide +kernel
set_option maxHeartbeats 800000 in
theorem met_X1_point (l : Launch) (G : GG) {H : Heap} {o : Nat} {B P L : Nat → Nat} {σ : Sg} {x y d : Int64} (hJ : JW G H o B P L σ) (hO : Ok σ) (hS : JS o B P L σ) : GM l yX1_point cX1_point 8 (some .int) 2 1 5 35 G H [.ref o, .long x, .long y, .long d] (fun oc H' => oc = .returned (some (.int (j_point σ x y d).1)) ∧ JP G H o B P L σ (j_point σ x y d).2 H') (fun z => ownJ o B z ∨ z = H.size) := by
  refine gm_intro pl_X1_point (Nat.le_of_ble_eq_true rfl) ?_
  intro pX eX sX mX belX methX cX ls hE hnm hl
  obtain ⟨hx, hb, hr, hlk, hml, hown, hts, hK, hZ, hH⟩ := hE
  have hl : lv_has ls 8 [(0, .ref o), (1, .long x), (3, .long y), (5, .long d)] := hl
  have hL : ∀ q ∈ ([] : List Loc), (fun z => ownJ o B z ∨ z = H.size : Addr → Prop) q.base := fun q h => by cases h
  refine lv_lload_n hx hb dX1_point_0 rfl (lv_at hl 1 rfl) ?_
  refine lv_ldc2 hx hb hown (hts _ q108) dX1_point_1 ?_
  refine lv_ldc2 hx hb hown (hts _ q109) dX1_point_4 ?_
  refine p_callS (As := [.long _, .long _, .long _]) hx hb hml hown hts hK trivial (met_X1_isIn l G ) q110 q111 q42 q112 hd_X1_isIn rfl (by decide) hl.1 rfl (Nat.le_of_ble_eq_true rfl) dX1_point_7 ⟨Nat.le_of_ble_eq_true rfl, Nat.le_of_ble_eq_true rfl⟩ ?_
  refine b_ifeq (tgt := 49) hx hb dX1_point_10 rfl (fun c_10 => ?_) (fun c_10 => ?_)
  · skip
    refine lv_bipush (v := -2) hx hb dX1_point_49 ib_m2 ?_
    refine W.widen (k := 1) (n := 5) (Nat.le_of_ble_eq_true rfl) (Nat.le_of_ble_eq_true rfl) ?_
    exact g_iret (F := fun z => ownJ o B z ∨ z = H.size) (Post := fun oc H' => oc = .returned (some (.int (j_point σ x y d).1)) ∧ JP G H o B P L σ (j_point σ x y d).2 H') hx hb hr hlk hL dX1_point_51 (pr_post (P := fun τ => JP G H o B P L σ τ _) (by first | with_reducible rfl | (simp only [j_point, c_10, nI_pred, ↓reduceIte, Bool.true_and, Bool.and_true, Bool.false_and, Bool.and_false, Bool.true_or, Bool.or_true, Bool.false_or, Bool.or_false, Bool.not_true, Bool.not_false, decide_true, decide_false, bI_t, bI_f, Bool.false_eq_true, not_true_eq_false, not_false_eq_true, eq_self, reduceCtorEq, Bool.true_eq_false, and_true, true_and, and_false, false_and, or_true, true_or, or_false, false_or]; done)) (JP.rf hJ hS))
  refine lv_lload_n hx hb dX1_point_13 rfl (lv_at hl 2 rfl) ?_
  refine lv_ldc2 hx hb hown (hts _ q108) dX1_point_14 ?_
  refine lv_ldc2 hx hb hown (hts _ q109) dX1_point_17 ?_
  refine p_callS (As := [.long _, .long _, .long _]) hx hb hml hown hts hK trivial (met_X1_isIn l G ) q110 q111 q42 q112 hd_X1_isIn rfl (by decide) hl.1 rfl (Nat.le_of_ble_eq_true rfl) dX1_point_20 ⟨Nat.le_of_ble_eq_true rfl, Nat.le_of_ble_eq_true rfl⟩ ?_
  refine b_ifeq (tgt := 49) hx hb dX1_point_23 rfl (fun c_23 => ?_) (fun c_23 => ?_)
  · skip
    refine lv_bipush (v := -2) hx hb dX1_point_49 ib_m2 ?_
    refine W.widen (k := 1) (n := 5) (Nat.le_of_ble_eq_true rfl) (Nat.le_of_ble_eq_true rfl) ?_
    exact g_iret (F := fun z => ownJ o B z ∨ z = H.size) (Post := fun oc H' => oc = .returned (some (.int (j_point σ x y d).1)) ∧ JP G H o B P L σ (j_point σ x y d).2 H') hx hb hr hlk hL dX1_point_51 (pr_post (P := fun τ => JP G H o B P L σ τ _) (by first | with_reducible rfl | (simp only [j_point, c_10, c_23, nI_pred, ↓reduceIte, Bool.true_and, Bool.and_true, Bool.false_and, Bool.and_false, Bool.true_or, Bool.or_true, Bool.false_or, Bool.or_false, Bool.not_true, Bool.not_false, decide_true, decide_false, bI_t, bI_f, Bool.false_eq_true, not_true_eq_false, not_false_eq_true, eq_self, reduceCtorEq, Bool.true_eq_false, and_true, true_and, and_false, false_and, or_true, true_or, or_false, false_or]; done) | (simp only [c_10, ↓reduceIte, Bool.true_and, Bool.and_true, Bool.false_and, Bool.and_false, Bool.true_or, Bool.or_true, Bool.false_or, Bool.or_false, Bool.not_true, Bool.not_false, decide_true, decide_false, bI_t, bI_f, Bool.false_eq_true, not_true_eq_false, not_false_eq_true, eq_self, reduceCtorEq, Bool.true_eq_false, and_true, true_and, and_false, false_and, or_true, true_or, or_false, false_or] at c_23; done) | (simp only [c_23, ↓reduceIte, Bool.true_and, Bool.and_true, Bool.false_and, Bool.and_false, Bool.true_or, Bool.or_true, Bool.false_or, Bool.or_false, Bool.not_true, Bool.not_false, decide_true, decide_false, bI_t, bI_f, Bool.false_eq_true, not_true_eq_false, not_false_eq_true, eq_self, reduceCtorEq, Bool.true_eq_false, and_true, true_and, and_false, false_and, or_true, true_or, or_false, false_or] at c_10; done)) (JP.rf hJ hS))
  refine lv_lload hx hb dX1_point_26 (lv_at hl 3 rfl) ?_
  refine lv_lconst (v := 1) hx hb dX1_point_28 rfl ?_
  refine lv_ldc2 hx hb hown (hts _ q113) dX1_point_29 ?_
  refine p_callS (As := [.long _, .long _, .long _]) hx hb hml hown hts hK trivial (met_X1_isIn l G ) q110 q111 q42 q112 hd_X1_isIn rfl (by decide) hl.1 rfl (Nat.le_of_ble_eq_true rfl) dX1_point_32 ⟨Nat.le_of_ble_eq_true rfl, Nat.le_of_ble_eq_true rfl⟩ ?_
  refine b_ifeq (tgt := 49) hx hb dX1_point_35 rfl (fun c_35 => ?_) (fun c_35 => ?_)
  · skip
    refine lv_bipush (v := -2) hx hb dX1_point_49 ib_m2 ?_
    refine W.widen (k := 1) (n := 5) (Nat.le_of_ble_eq_true rfl) (Nat.le_of_ble_eq_true rfl) ?_
    exact g_iret (F := fun z => ownJ o B z ∨ z = H.size) (Post := fun oc H' => oc = .returned (some (.int (j_point σ x y d).1)) ∧ JP G H o B P L σ (j_point σ x y d).2 H') hx hb hr hlk hL dX1_point_51 (pr_post (P := fun τ => JP G H o B P L σ τ _) (by first | with_reducible rfl | (simp only [j_point, c_10, c_23, c_35, nI_pred, ↓reduceIte, Bool.true_and, Bool.and_true, Bool.false_and, Bool.and_false, Bool.true_or, Bool.or_true, Bool.false_or, Bool.or_false, Bool.not_true, Bool.not_false, decide_true, decide_false, bI_t, bI_f, Bool.false_eq_true, not_true_eq_false, not_false_eq_true, eq_self, reduceCtorEq, Bool.true_eq_false, and_true, true_and, and_false, false_and, or_true, true_or, or_false, false_or]; done) | (simp only [c_10, c_23, ↓reduceIte, Bool.true_and, Bool.and_true, Bool.false_and, Bool.and_false, Bool.true_or, Bool.or_true, Bool.false_or, Bool.or_false, Bool.not_true, Bool.not_false, decide_true, decide_false, bI_t, bI_f, Bool.false_eq_true, not_true_eq_false, not_false_eq_true, eq_self, reduceCtorEq, Bool.true_eq_false, and_true, true_and, and_false, false_and, or_true, true_or, or_false, false_or] at c_35; done) | (simp only [c_10, c_35, ↓reduceIte, Bool.true_and, Bool.and_true, Bool.false_and, Bool.and_false, Bool.true_or, Bool.or_true, Bool.false_or, Bool.or_false, Bool.not_true, Bool.not_false, decide_true, decide_false, bI_t, bI_f, Bool.false_eq_true, not_true_eq_false, not_false_eq_true, eq_self, reduceCtorEq, Bool.true_eq_false, and_true, true_and, and_false, false_and, or_true, true_or, or_false, false_or] at c_23; done) | (simp only [c_23, c_35, ↓reduceIte, Bool.true_and, Bool.and_true, Bool.false_and, Bool.and_false, Bool.true_or, Bool.or_true, Bool.false_or, Bool.or_false, Bool.not_true, Bool.not_false, decide_true, decide_false, bI_t, bI_f, Bool.false_eq_true, not_true_eq_false, not_false_eq_true, eq_self, reduceCtorEq, Bool.true_eq_false, and_true, true_and, and_false, false_and, or_true, true_or, or_false, false_or] at c_10; done)) (JP.rf hJ hS))
  refine lv_ldc2 hx hb hown (hts _ q113) dX1_point_38 ?_
  refine lv_lload hx hb dX1_point_41 (lv_at hl 3 rfl) ?_
  refine lv_lrem hx hb dX1_point_43 (in_nz c_35) ?_
  refine lv_lconst (v := 0) hx hb dX1_point_44 rfl ?_
  refine lc_eq (tgt := 52) hx hb dX1_point_45 dX1_point_46 rfl (fun c_45 => ?_) (fun c_45 => ?_)
  · skip
    refine lv_aload_n hx hb dX1_point_52 rfl (lv_at hl 0 rfl) ?_
    refine gf_X1_43 hx hb hts hown hK hJ.1 rfl dX1_point_53 ?_
    refine lv_bipush (v := 60) hx hb dX1_point_56 ib_60 ?_
    refine lv_icmp_ne (tgt := 64) hx hb dX1_point_58 rfl (fun c_58 => ?_) (fun c_58 => ?_)
    · skip
      have hlt_ : σ.np < 60 := np_lt hO.1.1 c_58
      refine lv_bipush (v := 12) hx hb dX1_point_64 ib_12 ?_
      refine lv_lload hx hb dX1_point_66 (lv_at hl 3 rfl) ?_
      refine lv_l2i hx hb dX1_point_68 rfl ?_
      refine lv_idiv hx hb dX1_point_69 (in_nz32 c_35) ?_
      refine lv_istore (lv' := [(7, .int _), (0, .ref _), (1, .long _), (3, .long _), (5, .long _)]) hx hb dX1_point_70 hl (Nat.le_of_ble_eq_true rfl) rfl (fun ls hl => ?_)
      refine lv_aload_n hx hb dX1_point_72 rfl (lv_at hl 1 rfl) ?_
      refine gf_X1_26 hx hb hts hown hK hJ.1 rfl dX1_point_73 ?_
      refine lv_aload_n hx hb dX1_point_76 rfl (lv_at hl 1 rfl) ?_
      refine gf_X1_43 hx hb hts hown hK hJ.1 rfl dX1_point_77 ?_
      refine nw_X3 hx hb hts hown q70 hK (Nat.le_of_ble_eq_true rfl) (Nat.le_of_ble_eq_true rfl) dX1_point_80 (fun nq Hnq_ enq_ hnq_ hznq_ hgnq_ => ?_)
      have h1_ := at_grow hJ.1 hgnq_
      have h2_ := at_grow hJ.2.1 hgnq_
      refine lv_dup hx hb dX1_point_83 rfl ?_
      refine lv_aload_n hx hb dX1_point_84 rfl (lv_at hl 1 rfl) ?_
      refine gf_X1_43 hx hb hts hown hK h1_ rfl dX1_point_85 ?_
      refine lv_lload_n hx hb dX1_point_88 rfl (lv_at hl 2 rfl) ?_
      refine lv_l2i hx hb dX1_point_89 rfl ?_
      refine lv_iload hx hb dX1_point_90 (lv_at hl 0 rfl) ?_
      refine lv_imul hx hb dX1_point_92 ?_
      refine lv_lload_n hx hb dX1_point_93 rfl (lv_at hl 3 rfl) ?_
      refine lv_l2i hx hb dX1_point_94 rfl ?_
      refine lv_iload hx hb dX1_point_95 (lv_at hl 0 rfl) ?_
      refine lv_imul hx hb dX1_point_97 ?_
      refine g_callI (F := fun z => ownJ o B z ∨ z = H.size) (As := [.int _, .int _, .int _]) hx hb hml hown hts hK (met_X3_init l G hnq_ (pt_ok c_10 c_23 c_35)) rfl q115 q116 q44 q117 hd_X3_init rfl (by decide) hl.1 rfl (Nat.le_of_ble_eq_true rfl) dX1_point_98 ⟨Nat.le_of_ble_eq_true rfl, Nat.le_of_ble_eq_true rfl⟩ (fun q hq => Or.inr (hq.trans enq_)) hL (fun v2_ H2_ locs hP2_ hL => ?_)
      obtain ⟨hv2_, hat2_, hon2_⟩ := hP2_
      cases hv2_
      have h3_ := at_only h1_ hon2_ (by rw [enq_]; exact Nat.ne_of_lt hJ.1.lt)
      have h4_ := at_only h2_ hon2_ (by rw [enq_]; exact Nat.ne_of_lt hJ.2.1.lt)
      refine w_aast (F := fun z => ownJ o B z ∨ z = H.size) (t0 := 0) (ci := 1) hx hb hK h4_ rfl rfl hat2_ dX1_point_101 (k := σ.np) hlt_ (by decide) rfl hL (Or.inl (Or.inr (Or.inl rfl))) (fun HA3_ locs hA3_ hoA3_ hL => ?_)
      have h5_ := at_only h3_ hoA3_ hS.1.1
      have h6_ := at_only hat2_ hoA3_ (by rw [enq_]; exact Nat.ne_of_gt hJ.2.1.lt)
      refine lv_aload_n hx hb dX1_point_102 rfl (lv_at hl 1 rfl) ?_
      refine lv_dup hx hb dX1_point_103 rfl ?_
      refine gf_X1_43 hx hb hts hown hK h5_ rfl dX1_point_104 ?_
      refine lv_iconst (v := 1) hx hb dX1_point_107 ic_1 ?_
      refine lv_iadd hx hb dX1_point_108 ?_
      refine topi_eq (nI_1 _) ?_
      refine pf_X1_43 (F := fun z => ownJ o B z ∨ z = H.size) hx hb hts hown hK h5_ rfl rfl (Nat.le_of_ble_eq_true rfl) dX1_point_109 hL (Or.inl (Or.inl rfl)) (fun H7_ locs h7_ ho7_ hL => ?_)
      have h8_ := at_only hA3_ ho7_ (Ne.symm hS.1.1)
      have h9_ := at_only h6_ ho7_ (by rw [enq_]; exact Nat.ne_of_gt hJ.1.lt)
      refine lv_aload_n hx hb dX1_point_112 rfl (lv_at hl 1 rfl) ?_
      refine gf_X1_43 hx hb hts hown hK h7_ rfl dX1_point_113 ?_
      refine lv_iconst (v := 1) hx hb dX1_point_116 ic_1 ?_
      refine lv_isub hx hb dX1_point_117 ?_
      exact g_iret (F := fun z => ownJ o B z ∨ z = H.size) (Post := fun oc H' => oc = .returned (some (.int (j_point σ x y d).1)) ∧ JP G H o B P L σ (j_point σ x y d).2 H') hx hb hr hlk hL dX1_point_118 (pr_post (P := fun τ => JP G H o B P L σ τ _) (by first | with_reducible rfl | (simp only [j_point, c_10, c_23, c_35, eq_true c_45, c_58, nI_pred, ↓reduceIte, Bool.true_and, Bool.and_true, Bool.false_and, Bool.and_false, Bool.true_or, Bool.or_true, Bool.false_or, Bool.or_false, Bool.not_true, Bool.not_false, decide_true, decide_false, bI_t, bI_f, Bool.false_eq_true, not_true_eq_false, not_false_eq_true, eq_self, reduceCtorEq, Bool.true_eq_false, and_true, true_and, and_false, false_and, or_true, true_or, or_false, false_or]; done) | (simp only [c_10, c_23, c_35, eq_true c_45, ↓reduceIte, Bool.true_and, Bool.and_true, Bool.false_and, Bool.and_false, Bool.true_or, Bool.or_true, Bool.false_or, Bool.or_false, Bool.not_true, Bool.not_false, decide_true, decide_false, bI_t, bI_f, Bool.false_eq_true, not_true_eq_false, not_false_eq_true, eq_self, reduceCtorEq, Bool.true_eq_false, and_true, true_and, and_false, false_and, or_true, true_or, or_false, false_or] at c_58; done) | (simp only [c_10, c_23, c_35, c_58, ↓reduceIte, Bool.true_and, Bool.and_true, Bool.false_and, Bool.and_false, Bool.true_or, Bool.or_true, Bool.false_or, Bool.or_false, Bool.not_true, Bool.not_false, decide_true, decide_false, bI_t, bI_f, Bool.false_eq_true, not_true_eq_false, not_false_eq_true, eq_self, reduceCtorEq, Bool.true_eq_false, and_true, true_and, and_false, false_and, or_true, true_or, or_false, false_or] at c_45; done) | (simp only [c_10, c_23, eq_true c_45, c_58, ↓reduceIte, Bool.true_and, Bool.and_true, Bool.false_and, Bool.and_false, Bool.true_or, Bool.or_true, Bool.false_or, Bool.or_false, Bool.not_true, Bool.not_false, decide_true, decide_false, bI_t, bI_f, Bool.false_eq_true, not_true_eq_false, not_false_eq_true, eq_self, reduceCtorEq, Bool.true_eq_false, and_true, true_and, and_false, false_and, or_true, true_or, or_false, false_or] at c_35; done) | (simp only [c_10, c_35, eq_true c_45, c_58, ↓reduceIte, Bool.true_and, Bool.and_true, Bool.false_and, Bool.and_false, Bool.true_or, Bool.or_true, Bool.false_or, Bool.or_false, Bool.not_true, Bool.not_false, decide_true, decide_false, bI_t, bI_f, Bool.false_eq_true, not_true_eq_false, not_false_eq_true, eq_self, reduceCtorEq, Bool.true_eq_false, and_true, true_and, and_false, false_and, or_true, true_or, or_false, false_or] at c_23; done) | (simp only [c_23, c_35, eq_true c_45, c_58, ↓reduceIte, Bool.true_and, Bool.and_true, Bool.false_and, Bool.and_false, Bool.true_or, Bool.or_true, Bool.false_or, Bool.or_false, Bool.not_true, Bool.not_false, decide_true, decide_false, bI_t, bI_f, Bool.false_eq_true, not_true_eq_false, not_false_eq_true, eq_self, reduceCtorEq, Bool.true_eq_false, and_true, true_and, and_false, false_and, or_true, true_or, or_false, false_or] at c_10; done)) (JP.pt (p := (x.toInt32 * (12 / d.toInt32), y.toInt32 * (12 / d.toInt32))) hJ hO hS enq_ h7_ h8_ h9_ (pt_kept enq_ hgnq_ hon2_ hoA3_ ho7_)))
    refine lv_bipush (v := -3) hx hb dX1_point_61 ib_m3 ?_
    refine W.widen (k := 1) (n := 5) (Nat.le_of_ble_eq_true rfl) (Nat.le_of_ble_eq_true rfl) ?_
    exact g_iret (F := fun z => ownJ o B z ∨ z = H.size) (Post := fun oc H' => oc = .returned (some (.int (j_point σ x y d).1)) ∧ JP G H o B P L σ (j_point σ x y d).2 H') hx hb hr hlk hL dX1_point_63 (pr_post (P := fun τ => JP G H o B P L σ τ _) (by first | with_reducible rfl | (simp only [j_point, c_10, c_23, c_35, eq_true c_45, eq_true c_58, nI_pred, ↓reduceIte, Bool.true_and, Bool.and_true, Bool.false_and, Bool.and_false, Bool.true_or, Bool.or_true, Bool.false_or, Bool.or_false, Bool.not_true, Bool.not_false, decide_true, decide_false, bI_t, bI_f, Bool.false_eq_true, not_true_eq_false, not_false_eq_true, eq_self, reduceCtorEq, Bool.true_eq_false, and_true, true_and, and_false, false_and, or_true, true_or, or_false, false_or]; done) | (simp only [c_10, c_23, c_35, eq_true c_45, ↓reduceIte, Bool.true_and, Bool.and_true, Bool.false_and, Bool.and_false, Bool.true_or, Bool.or_true, Bool.false_or, Bool.or_false, Bool.not_true, Bool.not_false, decide_true, decide_false, bI_t, bI_f, Bool.false_eq_true, not_true_eq_false, not_false_eq_true, eq_self, reduceCtorEq, Bool.true_eq_false, and_true, true_and, and_false, false_and, or_true, true_or, or_false, false_or] at c_58; done) | (simp only [c_10, c_23, c_35, eq_true c_58, ↓reduceIte, Bool.true_and, Bool.and_true, Bool.false_and, Bool.and_false, Bool.true_or, Bool.or_true, Bool.false_or, Bool.or_false, Bool.not_true, Bool.not_false, decide_true, decide_false, bI_t, bI_f, Bool.false_eq_true, not_true_eq_false, not_false_eq_true, eq_self, reduceCtorEq, Bool.true_eq_false, and_true, true_and, and_false, false_and, or_true, true_or, or_false, false_or] at c_45; done) | (simp only [c_10, c_23, eq_true c_45, eq_true c_58, ↓reduceIte, Bool.true_and, Bool.and_true, Bool.false_and, Bool.and_false, Bool.true_or, Bool.or_true, Bool.false_or, Bool.or_false, Bool.not_true, Bool.not_false, decide_true, decide_false, bI_t, bI_f, Bool.false_eq_true, not_true_eq_false, not_false_eq_true, eq_self, reduceCtorEq, Bool.true_eq_false, and_true, true_and, and_false, false_and, or_true, true_or, or_false, false_or] at c_35; done) | (simp only [c_10, c_35, eq_true c_45, eq_true c_58, ↓reduceIte, Bool.true_and, Bool.and_true, Bool.false_and, Bool.and_false, Bool.true_or, Bool.or_true, Bool.false_or, Bool.or_false, Bool.not_true, Bool.not_false, decide_true, decide_false, bI_t, bI_f, Bool.false_eq_true, not_true_eq_false, not_false_eq_true, eq_self, reduceCtorEq, Bool.true_eq_false, and_true, true_and, and_false, false_and, or_true, true_or, or_false, false_or] at c_23; done) | (simp only [c_23, c_35, eq_true c_45, eq_true c_58, ↓reduceIte, Bool.true_and, Bool.and_true, Bool.false_and, Bool.and_false, Bool.true_or, Bool.or_true, Bool.false_or, Bool.or_false, Bool.not_true, Bool.not_false, decide_true, decide_false, bI_t, bI_f, Bool.false_eq_true, not_true_eq_false, not_false_eq_true, eq_self, reduceCtorEq, Bool.true_eq_false, and_true, true_and, and_false, false_and, or_true, true_or, or_false, false_or] at c_10; done)) (JP.rf hJ hS))
  refine lv_bipush (v := -2) hx hb dX1_point_49 ib_m2 ?_
  refine W.widen (k := 1) (n := 5) (Nat.le_of_ble_eq_true rfl) (Nat.le_of_ble_eq_true rfl) ?_
  exact g_iret (F := fun z => ownJ o B z ∨ z = H.size) (Post := fun oc H' => oc = .returned (some (.int (j_point σ x y d).1)) ∧ JP G H o B P L σ (j_point σ x y d).2 H') hx hb hr hlk hL dX1_point_51 (pr_post (P := fun τ => JP G H o B P L σ τ _) (by first | with_reducible rfl | (simp only [j_point, c_10, c_23, c_35, c_45, nI_pred, ↓reduceIte, Bool.true_and, Bool.and_true, Bool.false_and, Bool.and_false, Bool.true_or, Bool.or_true, Bool.false_or, Bool.or_false, Bool.not_true, Bool.not_false, decide_true, decide_false, bI_t, bI_f, Bool.false_eq_true, not_true_eq_false, not_false_eq_true, eq_self, reduceCtorEq, Bool.true_eq_false, and_true, true_and, and_false, false_and, or_true, true_or, or_false, false_or]; done) | (simp only [c_10, c_23, c_35, ↓reduceIte, Bool.true_and, Bool.and_true, Bool.false_and, Bool.and_false, Bool.true_or, Bool.or_true, Bool.false_or, Bool.or_false, Bool.not_true, Bool.not_false, decide_true, decide_false, bI_t, bI_f, Bool.false_eq_true, not_true_eq_false, not_false_eq_true, eq_self, reduceCtorEq, Bool.true_eq_false, and_true, true_and, and_false, false_and, or_true, true_or, or_false, false_or] at c_45; done) | (simp only [c_10, c_23, c_45, ↓reduceIte, Bool.true_and, Bool.and_true, Bool.false_and, Bool.and_false, Bool.true_or, Bool.or_true, Bool.false_or, Bool.or_false, Bool.not_true, Bool.not_false, decide_true, decide_false, bI_t, bI_f, Bool.false_eq_true, not_true_eq_false, not_false_eq_true, eq_self, reduceCtorEq, Bool.true_eq_false, and_true, true_and, and_false, false_and, or_true, true_or, or_false, false_or] at c_35; done) | (simp only [c_10, c_35, c_45, ↓reduceIte, Bool.true_and, Bool.and_true, Bool.false_and, Bool.and_false, Bool.true_or, Bool.or_true, Bool.false_or, Bool.or_false, Bool.not_true, Bool.not_false, decide_true, decide_false, bI_t, bI_f, Bool.false_eq_true, not_true_eq_false, not_false_eq_true, eq_self, reduceCtorEq, Bool.true_eq_false, and_true, true_and, and_false, false_and, or_true, true_or, or_false, false_or] at c_23; done) | (simp only [c_23, c_35, c_45, ↓reduceIte, Bool.true_and, Bool.and_true, Bool.false_and, Bool.and_false, Bool.true_or, Bool.or_true, Bool.false_or, Bool.or_false, Bool.not_true, Bool.not_false, decide_true, decide_false, bI_t, bI_f, Bool.false_eq_true, not_true_eq_false, not_false_eq_true, eq_self, reduceCtorEq, Bool.true_eq_false, and_true, true_and, and_false, false_and, or_true, true_or, or_false, false_or] at c_10; done)) (JP.rf hJ hS))
theorem dX1_line_0 : decode cX1_line 0 = .ok (.aload_n 0, 1) := by decide +kernel
theorem dX1_line_1 : decode cX1_line 1 = .ok (.iload_n 1, 1) := by decide +kernel
theorem dX1_line_2 : decode cX1_line 2 = .ok (.invokevirtual 50, 3) := by decide +kernel
theorem dX1_line_5 : decode cX1_line 5 = .ok (.ifCond .eq 11, 3) := by decide +kernel
theorem dX1_line_8 : decode cX1_line 8 = .ok (.aload_n 0, 1) := by decide +kernel
theorem dX1_line_9 : decode cX1_line 9 = .ok (.iload_n 2, 1) := by decide +kernel
theorem dX1_line_10 : decode cX1_line 10 = .ok (.invokevirtual 50, 3) := by decide +kernel
theorem dX1_line_13 : decode cX1_line 13 = .ok (.ifCond .ne 6, 3) := by decide +kernel
theorem dX1_line_16 : decode cX1_line 16 = .ok (.bipush (-2), 2) := by decide +kernel
theorem dX1_line_18 : decode cX1_line 18 = .ok (.ireturn, 1) := by decide +kernel
theorem dX1_line_19 : decode cX1_line 19 = .ok (.aload_n 0, 1) := by decide +kernel
theorem dX1_line_20 : decode cX1_line 20 = .ok (.getfield 26, 3) := by decide +kernel
theorem dX1_line_23 : decode cX1_line 23 = .ok (.iload_n 1, 1) := by decide +kernel
theorem dX1_line_24 : decode cX1_line 24 = .ok (.aaload, 1) := by decide +kernel
theorem dX1_line_25 : decode cX1_line 25 = .ok (.aload_n 0, 1) := by decide +kernel
theorem dX1_line_26 : decode cX1_line 26 = .ok (.getfield 26, 3) := by decide +kernel
theorem dX1_line_29 : decode cX1_line 29 = .ok (.iload_n 2, 1) := by decide +kernel
theorem dX1_line_30 : decode cX1_line 30 = .ok (.aaload, 1) := by decide +kernel
theorem dX1_line_31 : decode cX1_line 31 = .ok (.invokevirtual 79, 3) := by decide +kernel
theorem dX1_line_34 : decode cX1_line 34 = .ok (.ifCond .eq 6, 3) := by decide +kernel
theorem dX1_line_37 : decode cX1_line 37 = .ok (.bipush (-4), 2) := by decide +kernel
theorem dX1_line_39 : decode cX1_line 39 = .ok (.ireturn, 1) := by decide +kernel
theorem dX1_line_40 : decode cX1_line 40 = .ok (.aload_n 0, 1) := by decide +kernel
theorem dX1_line_41 : decode cX1_line 41 = .ok (.getfield 181, 3) := by decide +kernel
theorem dX1_line_44 : decode cX1_line 44 = .ok (.bipush 12, 2) := by decide +kernel
theorem dX1_line_46 : decode cX1_line 46 = .ok (.if_icmp .ne 6, 3) := by decide +kernel
theorem dX1_line_49 : decode cX1_line 49 = .ok (.bipush (-3), 2) := by decide +kernel
theorem dX1_line_51 : decode cX1_line 51 = .ok (.ireturn, 1) := by decide +kernel
theorem dX1_line_52 : decode cX1_line 52 = .ok (.aload_n 0, 1) := by decide +kernel
theorem dX1_line_53 : decode cX1_line 53 = .ok (.getfield 39, 3) := by decide +kernel
theorem dX1_line_56 : decode cX1_line 56 = .ok (.aload_n 0, 1) := by decide +kernel
theorem dX1_line_57 : decode cX1_line 57 = .ok (.getfield 181, 3) := by decide +kernel
theorem dX1_line_60 : decode cX1_line 60 = .ok (.new 37, 3) := by decide +kernel
theorem dX1_line_63 : decode cX1_line 63 = .ok (.dup, 1) := by decide +kernel
theorem dX1_line_64 : decode cX1_line 64 = .ok (.aload_n 0, 1) := by decide +kernel
theorem dX1_line_65 : decode cX1_line 65 = .ok (.getfield 26, 3) := by decide +kernel
theorem dX1_line_68 : decode cX1_line 68 = .ok (.iload_n 1, 1) := by decide +kernel
theorem dX1_line_69 : decode cX1_line 69 = .ok (.aaload, 1) := by decide +kernel
theorem dX1_line_70 : decode cX1_line 70 = .ok (.aload_n 0, 1) := by decide +kernel
theorem dX1_line_71 : decode cX1_line 71 = .ok (.getfield 26, 3) := by decide +kernel
theorem dX1_line_74 : decode cX1_line 74 = .ok (.iload_n 2, 1) := by decide +kernel
theorem dX1_line_75 : decode cX1_line 75 = .ok (.aaload, 1) := by decide +kernel
theorem dX1_line_76 : decode cX1_line 76 = .ok (.invokespecial 184, 3) := by decide +kernel
theorem dX1_line_79 : decode cX1_line 79 = .ok (.aastore, 1) := by decide +kernel
theorem dX1_line_80 : decode cX1_line 80 = .ok (.aload_n 0, 1) := by decide +kernel
theorem dX1_line_81 : decode cX1_line 81 = .ok (.dup, 1) := by decide +kernel
theorem dX1_line_82 : decode cX1_line 82 = .ok (.getfield 181, 3) := by decide +kernel
theorem dX1_line_85 : decode cX1_line 85 = .ok (.iconst 1, 1) := by decide +kernel
theorem dX1_line_86 : decode cX1_line 86 = .ok (.iadd, 1) := by decide +kernel
theorem dX1_line_87 : decode cX1_line 87 = .ok (.putfield 181, 3) := by decide +kernel
theorem dX1_line_90 : decode cX1_line 90 = .ok (.aload_n 0, 1) := by decide +kernel
theorem dX1_line_91 : decode cX1_line 91 = .ok (.getfield 181, 3) := by decide +kernel
theorem dX1_line_94 : decode cX1_line 94 = .ok (.iconst 1, 1) := by decide +kernel
theorem dX1_line_95 : decode cX1_line 95 = .ok (.isub, 1) := by decide +kernel
theorem dX1_line_96 : decode cX1_line 96 = .ok (.ireturn, 1) := by decide +kernel
set_option maxHeartbeats 800000 in
theorem met_X1_line (l : Launch) (G : GG) {H : Heap} {o : Nat} {B P L : Nat → Nat} {σ : Sg} {a b : Int32} (hJ : JW G H o B P L σ) (hO : Ok σ) (hS : JS o B P L σ) : GM l yX1_line cX1_line 3 (some .int) 2 1 3 46 G H [.ref o, .int a, .int b] (fun oc H' => oc = .returned (some (.int (s_line σ a b).1)) ∧ JP G H o B P L σ (s_line σ a b).2 H') (fun z => ownJ o B z ∨ z = H.size) := by
  refine gm_intro pl_X1_line (Nat.le_of_ble_eq_true rfl) ?_
  intro pX eX sX mX belX methX cX ls hE hnm hl
  obtain ⟨hx, hb, hr, hlk, hml, hown, hts, hK, hZ, hH⟩ := hE
  have hl : lv_has ls 3 [(0, .ref o), (1, .int a), (2, .int b)] := hl
  have hL : ∀ q ∈ ([] : List Loc), (fun z => ownJ o B z ∨ z = H.size : Addr → Prop) q.base := fun q h => by cases h
  refine lv_aload_n hx hb dX1_line_0 rfl (lv_at hl 0 rfl) ?_
  refine lv_iload_n hx hb dX1_line_1 rfl (lv_at hl 1 rfl) ?_
  refine p_callV (As := [.int _]) hx hb hml hown hts hK trivial (met_X1_isPoint l G hJ hO ) q156 q158 qs1 q42 q159 hv_X1_isPoint rfl hJ.1 rfl (by decide) hl.1 rfl (Nat.le_of_ble_eq_true rfl) dX1_line_2 ⟨Nat.le_of_ble_eq_true rfl, Nat.le_of_ble_eq_true rfl⟩ ?_
  refine b_ifeq (tgt := 16) hx hb dX1_line_5 rfl (fun c_5 => ?_) (fun c_5 => ?_)
  · skip
    refine lv_bipush (v := -2) hx hb dX1_line_16 ib_m2 ?_
    refine W.widen (k := 1) (n := 3) (Nat.le_of_ble_eq_true rfl) (Nat.le_of_ble_eq_true rfl) ?_
    exact g_iret (F := fun z => ownJ o B z ∨ z = H.size) (Post := fun oc H' => oc = .returned (some (.int (s_line σ a b).1)) ∧ JP G H o B P L σ (s_line σ a b).2 H') hx hb hr hlk hL dX1_line_18 (pr_post (P := fun τ => JP G H o B P L σ τ _) (by first | with_reducible rfl | (simp only [s_line, c_5, nI_pred, ↓reduceIte, Bool.true_and, Bool.and_true, Bool.false_and, Bool.and_false, Bool.true_or, Bool.or_true, Bool.false_or, Bool.or_false, Bool.not_true, Bool.not_false, decide_true, decide_false, bI_t, bI_f, Bool.false_eq_true, not_true_eq_false, not_false_eq_true, eq_self, reduceCtorEq, Bool.true_eq_false, and_true, true_and, and_false, false_and, or_true, true_or, or_false, false_or]; done)) (JP.rf hJ hS))
  obtain ⟨a_, i_a, rfl⟩ := isPt_elim hO.1.1 c_5
  refine lv_aload_n hx hb dX1_line_8 rfl (lv_at hl 0 rfl) ?_
  refine lv_iload_n hx hb dX1_line_9 rfl (lv_at hl 2 rfl) ?_
  refine p_callV (As := [.int _]) hx hb hml hown hts hK trivial (met_X1_isPoint l G hJ hO ) q156 q158 qs1 q42 q159 hv_X1_isPoint rfl hJ.1 rfl (by decide) hl.1 rfl (Nat.le_of_ble_eq_true rfl) dX1_line_10 ⟨Nat.le_of_ble_eq_true rfl, Nat.le_of_ble_eq_true rfl⟩ ?_
  refine b_ifne (tgt := 19) hx hb dX1_line_13 rfl (fun c_13 => ?_) (fun c_13 => ?_)
  · skip
    obtain ⟨b_, i_b, rfl⟩ := isPt_elim hO.1.1 c_13
    refine lv_aload_n hx hb dX1_line_19 rfl (lv_at hl 0 rfl) ?_
    refine gf_X1_26 hx hb hts hown hK hJ.1 rfl dX1_line_20 ?_
    refine lv_iload_n hx hb dX1_line_23 rfl (lv_at hl 1 rfl) ?_
    refine r_pald hx hb hK hJ.2.1 dX1_line_24 (k := a_) (hO.lt60 i_a) (by decide) rfl (pa_some i_a) ?_
    refine lv_aload_n hx hb dX1_line_25 rfl (lv_at hl 0 rfl) ?_
    refine gf_X1_26 hx hb hts hown hK hJ.1 rfl dX1_line_26 ?_
    refine lv_iload_n hx hb dX1_line_29 rfl (lv_at hl 2 rfl) ?_
    refine r_pald hx hb hK hJ.2.1 dX1_line_30 (k := b_) (hO.lt60 i_b) (by decide) rfl (pa_some i_b) ?_
    refine p_callV (As := [.ref _]) hx hb hml hown hts hK trivial (met_X3_isEqual l G (hJ.2.2.2.2.1 _ i_a) (hJ.2.2.2.2.1 _ i_b)) q160 q161 q162 q44 q163 hv_X3_isEqual rfl (hJ.2.2.2.2.1 _ i_a) rfl (by decide) hl.1 rfl (Nat.le_of_ble_eq_true rfl) dX1_line_31 ⟨Nat.le_of_ble_eq_true rfl, Nat.le_of_ble_eq_true rfl⟩ ?_
    refine b_ifeq (tgt := 40) hx hb dX1_line_34 rfl (fun c_34 => ?_) (fun c_34 => ?_)
    · skip
      refine lv_aload_n hx hb dX1_line_40 rfl (lv_at hl 0 rfl) ?_
      refine gf_X1_181 hx hb hts hown hK hJ.1 rfl dX1_line_41 ?_
      refine lv_bipush (v := 12) hx hb dX1_line_44 ib_12 ?_
      refine lv_icmp_ne (tgt := 52) hx hb dX1_line_46 rfl (fun c_46 => ?_) (fun c_46 => ?_)
      · skip
        have hlt_ : σ.nl < 12 := nl_lt hO.1.2.2 c_46
        refine lv_aload_n hx hb dX1_line_52 rfl (lv_at hl 0 rfl) ?_
        refine gf_X1_39 hx hb hts hown hK hJ.1 rfl dX1_line_53 ?_
        refine lv_aload_n hx hb dX1_line_56 rfl (lv_at hl 0 rfl) ?_
        refine gf_X1_181 hx hb hts hown hK hJ.1 rfl dX1_line_57 ?_
        refine nw_X8 hx hb hts hown q72 hK (Nat.le_of_ble_eq_true rfl) (Nat.le_of_ble_eq_true rfl) dX1_line_60 (fun nq Hnq_ enq_ hnq_ hznq_ hgnq_ => ?_)
        have h1_ := at_grow hJ.1 hgnq_
        have h2_ := at_grow hJ.2.1 hgnq_
        have h3_ := at_grow hJ.2.2.2.1 hgnq_
        refine lv_dup hx hb dX1_line_63 rfl ?_
        refine lv_aload_n hx hb dX1_line_64 rfl (lv_at hl 0 rfl) ?_
        refine gf_X1_26 hx hb hts hown hK h1_ rfl dX1_line_65 ?_
        refine lv_iload_n hx hb dX1_line_68 rfl (lv_at hl 1 rfl) ?_
        refine r_pald hx hb hK h2_ dX1_line_69 (k := a_) (hO.lt60 i_a) (by decide) rfl (pa_some i_a) ?_
        refine lv_aload_n hx hb dX1_line_70 rfl (lv_at hl 0 rfl) ?_
        refine gf_X1_26 hx hb hts hown hK h1_ rfl dX1_line_71 ?_
        refine lv_iload_n hx hb dX1_line_74 rfl (lv_at hl 2 rfl) ?_
        refine r_pald hx hb hK h2_ dX1_line_75 (k := b_) (hO.lt60 i_b) (by decide) rfl (pa_some i_b) ?_
        refine g_callI (F := fun z => ownJ o B z ∨ z = H.size) (As := [.ref _, .ref _]) hx hb hml hown hts hK (met_X8_init l G hnq_ (at_grow (hJ.2.2.2.2.1 _ i_a) hgnq_) (at_grow (hJ.2.2.2.2.1 _ i_b) hgnq_) (by rw [enq_]; exact Nat.ne_of_lt (hJ.2.2.2.2.1 _ i_a).lt) (by rw [enq_]; exact Nat.ne_of_lt (hJ.2.2.2.2.1 _ i_b).lt)) rfl q394 q395 q60 q396 hd_X8_init rfl (by decide) hl.1 rfl (Nat.le_of_ble_eq_true rfl) dX1_line_76 ⟨Nat.le_of_ble_eq_true rfl, Nat.le_of_ble_eq_true rfl⟩ (fun q hq => Or.inr (hq.trans enq_)) hL (fun v2_ H2_ locs hP2_ hL => ?_)
        obtain ⟨hv2_, hat2_, hon2_⟩ := hP2_
        cases hv2_
        have h4_ := at_only h1_ hon2_ (by rw [enq_]; exact Nat.ne_of_lt hJ.1.lt)
        have h5_ := at_only h2_ hon2_ (by rw [enq_]; exact Nat.ne_of_lt hJ.2.1.lt)
        have h6_ := at_only h3_ hon2_ (by rw [enq_]; exact Nat.ne_of_lt hJ.2.2.2.1.lt)
        refine w_aast (F := fun z => ownJ o B z ∨ z = H.size) (t0 := 1) (ci := 2) hx hb hK h6_ rfl rfl hat2_ dX1_line_79 (k := σ.nl) hlt_ (by decide) rfl hL (Or.inl (Or.inr (Or.inr (Or.inr rfl)))) (fun HA3_ locs hA3_ hoA3_ hL => ?_)
        have h7_ := at_only h4_ hoA3_ hS.1.2.2.1
        have h8_ := at_only h5_ hoA3_ hS.1.2.2.2.2.1
        have h9_ := at_only hat2_ hoA3_ (by rw [enq_]; exact Nat.ne_of_gt hJ.2.2.2.1.lt)
        refine lv_aload_n hx hb dX1_line_80 rfl (lv_at hl 0 rfl) ?_
        refine lv_dup hx hb dX1_line_81 rfl ?_
        refine gf_X1_181 hx hb hts hown hK h7_ rfl dX1_line_82 ?_
        refine lv_iconst (v := 1) hx hb dX1_line_85 ic_1 ?_
        refine lv_iadd hx hb dX1_line_86 ?_
        refine topi_eq (nI_1 _) ?_
        refine pf_X1_181 (F := fun z => ownJ o B z ∨ z = H.size) hx hb hts hown hK h7_ rfl rfl (Nat.le_of_ble_eq_true rfl) dX1_line_87 hL (Or.inl (Or.inl rfl)) (fun H10_ locs h10_ ho10_ hL => ?_)
        have h11_ := at_only h8_ ho10_ (Ne.symm hS.1.1)
        have h12_ := at_only hA3_ ho10_ (Ne.symm hS.1.2.2.1)
        have h13_ := at_only h9_ ho10_ (by rw [enq_]; exact Nat.ne_of_gt hJ.1.lt)
        refine lv_aload_n hx hb dX1_line_90 rfl (lv_at hl 0 rfl) ?_
        refine gf_X1_181 hx hb hts hown hK h10_ rfl dX1_line_91 ?_
        refine lv_iconst (v := 1) hx hb dX1_line_94 ic_1 ?_
        refine lv_isub hx hb dX1_line_95 ?_
        exact g_iret (F := fun z => ownJ o B z ∨ z = H.size) (Post := fun oc H' => oc = .returned (some (.int (s_line σ (nI a_) (nI b_)).1)) ∧ JP G H o B P L σ (s_line σ (nI a_) (nI b_)).2 H') hx hb hr hlk hL dX1_line_96 (pr_post (P := fun τ => JP G H o B P L σ τ _) (by first | with_reducible rfl | (simp only [s_line, c_5, hO.ix i_a, c_13, hO.ix i_b, c_34, c_46, nI_pred, ↓reduceIte, Bool.true_and, Bool.and_true, Bool.false_and, Bool.and_false, Bool.true_or, Bool.or_true, Bool.false_or, Bool.or_false, Bool.not_true, Bool.not_false, decide_true, decide_false, bI_t, bI_f, Bool.false_eq_true, not_true_eq_false, not_false_eq_true, eq_self, reduceCtorEq, Bool.true_eq_false, and_true, true_and, and_false, false_and, or_true, true_or, or_false, false_or]; done) | (simp only [c_5, hO.ix i_a, c_13, hO.ix i_b, c_34, ↓reduceIte, Bool.true_and, Bool.and_true, Bool.false_and, Bool.and_false, Bool.true_or, Bool.or_true, Bool.false_or, Bool.or_false, Bool.not_true, Bool.not_false, decide_true, decide_false, bI_t, bI_f, Bool.false_eq_true, not_true_eq_false, not_false_eq_true, eq_self, reduceCtorEq, Bool.true_eq_false, and_true, true_and, and_false, false_and, or_true, true_or, or_false, false_or] at c_46; done) | (simp only [c_5, hO.ix i_a, c_13, hO.ix i_b, c_46, ↓reduceIte, Bool.true_and, Bool.and_true, Bool.false_and, Bool.and_false, Bool.true_or, Bool.or_true, Bool.false_or, Bool.or_false, Bool.not_true, Bool.not_false, decide_true, decide_false, bI_t, bI_f, Bool.false_eq_true, not_true_eq_false, not_false_eq_true, eq_self, reduceCtorEq, Bool.true_eq_false, and_true, true_and, and_false, false_and, or_true, true_or, or_false, false_or] at c_34; done) | (simp only [c_5, hO.ix i_a, hO.ix i_b, c_34, c_46, ↓reduceIte, Bool.true_and, Bool.and_true, Bool.false_and, Bool.and_false, Bool.true_or, Bool.or_true, Bool.false_or, Bool.or_false, Bool.not_true, Bool.not_false, decide_true, decide_false, bI_t, bI_f, Bool.false_eq_true, not_true_eq_false, not_false_eq_true, eq_self, reduceCtorEq, Bool.true_eq_false, and_true, true_and, and_false, false_and, or_true, true_or, or_false, false_or] at c_13; done) | (simp only [hO.ix i_a, c_13, hO.ix i_b, c_34, c_46, ↓reduceIte, Bool.true_and, Bool.and_true, Bool.false_and, Bool.and_false, Bool.true_or, Bool.or_true, Bool.false_or, Bool.or_false, Bool.not_true, Bool.not_false, decide_true, decide_false, bI_t, bI_f, Bool.false_eq_true, not_true_eq_false, not_false_eq_true, eq_self, reduceCtorEq, Bool.true_eq_false, and_true, true_and, and_false, false_and, or_true, true_or, or_false, false_or] at c_5; done)) (JP.ln hJ hS enq_ h10_ h12_ h13_ (pt_kept enq_ hgnq_ hon2_ hoA3_ ho10_)))
      refine lv_bipush (v := -3) hx hb dX1_line_49 ib_m3 ?_
      refine W.widen (k := 1) (n := 3) (Nat.le_of_ble_eq_true rfl) (Nat.le_of_ble_eq_true rfl) ?_
      exact g_iret (F := fun z => ownJ o B z ∨ z = H.size) (Post := fun oc H' => oc = .returned (some (.int (s_line σ (nI a_) (nI b_)).1)) ∧ JP G H o B P L σ (s_line σ (nI a_) (nI b_)).2 H') hx hb hr hlk hL dX1_line_51 (pr_post (P := fun τ => JP G H o B P L σ τ _) (by first | with_reducible rfl | (simp only [s_line, c_5, hO.ix i_a, c_13, hO.ix i_b, c_34, eq_true c_46, nI_pred, ↓reduceIte, Bool.true_and, Bool.and_true, Bool.false_and, Bool.and_false, Bool.true_or, Bool.or_true, Bool.false_or, Bool.or_false, Bool.not_true, Bool.not_false, decide_true, decide_false, bI_t, bI_f, Bool.false_eq_true, not_true_eq_false, not_false_eq_true, eq_self, reduceCtorEq, Bool.true_eq_false, and_true, true_and, and_false, false_and, or_true, true_or, or_false, false_or]; done) | (simp only [c_5, hO.ix i_a, c_13, hO.ix i_b, c_34, ↓reduceIte, Bool.true_and, Bool.and_true, Bool.false_and, Bool.and_false, Bool.true_or, Bool.or_true, Bool.false_or, Bool.or_false, Bool.not_true, Bool.not_false, decide_true, decide_false, bI_t, bI_f, Bool.false_eq_true, not_true_eq_false, not_false_eq_true, eq_self, reduceCtorEq, Bool.true_eq_false, and_true, true_and, and_false, false_and, or_true, true_or, or_false, false_or] at c_46; done) | (simp only [c_5, hO.ix i_a, c_13, hO.ix i_b, eq_true c_46, ↓reduceIte, Bool.true_and, Bool.and_true, Bool.false_and, Bool.and_false, Bool.true_or, Bool.or_true, Bool.false_or, Bool.or_false, Bool.not_true, Bool.not_false, decide_true, decide_false, bI_t, bI_f, Bool.false_eq_true, not_true_eq_false, not_false_eq_true, eq_self, reduceCtorEq, Bool.true_eq_false, and_true, true_and, and_false, false_and, or_true, true_or, or_false, false_or] at c_34; done) | (simp only [c_5, hO.ix i_a, hO.ix i_b, c_34, eq_true c_46, ↓reduceIte, Bool.true_and, Bool.and_true, Bool.false_and, Bool.and_false, Bool.true_or, Bool.or_true, Bool.false_or, Bool.or_false, Bool.not_true, Bool.not_false, decide_true, decide_false, bI_t, bI_f, Bool.false_eq_true, not_true_eq_false, not_false_eq_true, eq_self, reduceCtorEq, Bool.true_eq_false, and_true, true_and, and_false, false_and, or_true, true_or, or_false, false_or] at c_13; done) | (simp only [hO.ix i_a, c_13, hO.ix i_b, c_34, eq_true c_46, ↓reduceIte, Bool.true_and, Bool.and_true, Bool.false_and, Bool.and_false, Bool.true_or, Bool.or_true, Bool.false_or, Bool.or_false, Bool.not_true, Bool.not_false, decide_true, decide_false, bI_t, bI_f, Bool.false_eq_true, not_true_eq_false, not_false_eq_true, eq_self, reduceCtorEq, Bool.true_eq_false, and_true, true_and, and_false, false_and, or_true, true_or, or_false, false_or] at c_5; done)) (JP.rf hJ hS))
    refine lv_bipush (v := -4) hx hb dX1_line_37 ib_m4 ?_
    refine W.widen (k := 1) (n := 3) (Nat.le_of_ble_eq_true rfl) (Nat.le_of_ble_eq_true rfl) ?_
    exact g_iret (F := fun z => ownJ o B z ∨ z = H.size) (Post := fun oc H' => oc = .returned (some (.int (s_line σ (nI a_) (nI b_)).1)) ∧ JP G H o B P L σ (s_line σ (nI a_) (nI b_)).2 H') hx hb hr hlk hL dX1_line_39 (pr_post (P := fun τ => JP G H o B P L σ τ _) (by first | with_reducible rfl | (simp only [s_line, c_5, hO.ix i_a, c_13, hO.ix i_b, c_34, nI_pred, ↓reduceIte, Bool.true_and, Bool.and_true, Bool.false_and, Bool.and_false, Bool.true_or, Bool.or_true, Bool.false_or, Bool.or_false, Bool.not_true, Bool.not_false, decide_true, decide_false, bI_t, bI_f, Bool.false_eq_true, not_true_eq_false, not_false_eq_true, eq_self, reduceCtorEq, Bool.true_eq_false, and_true, true_and, and_false, false_and, or_true, true_or, or_false, false_or]; done) | (simp only [c_5, hO.ix i_a, c_13, hO.ix i_b, ↓reduceIte, Bool.true_and, Bool.and_true, Bool.false_and, Bool.and_false, Bool.true_or, Bool.or_true, Bool.false_or, Bool.or_false, Bool.not_true, Bool.not_false, decide_true, decide_false, bI_t, bI_f, Bool.false_eq_true, not_true_eq_false, not_false_eq_true, eq_self, reduceCtorEq, Bool.true_eq_false, and_true, true_and, and_false, false_and, or_true, true_or, or_false, false_or] at c_34; done) | (simp only [c_5, hO.ix i_a, hO.ix i_b, c_34, ↓reduceIte, Bool.true_and, Bool.and_true, Bool.false_and, Bool.and_false, Bool.true_or, Bool.or_true, Bool.false_or, Bool.or_false, Bool.not_true, Bool.not_false, decide_true, decide_false, bI_t, bI_f, Bool.false_eq_true, not_true_eq_false, not_false_eq_true, eq_self, reduceCtorEq, Bool.true_eq_false, and_true, true_and, and_false, false_and, or_true, true_or, or_false, false_or] at c_13; done) | (simp only [hO.ix i_a, c_13, hO.ix i_b, c_34, ↓reduceIte, Bool.true_and, Bool.and_true, Bool.false_and, Bool.and_false, Bool.true_or, Bool.or_true, Bool.false_or, Bool.or_false, Bool.not_true, Bool.not_false, decide_true, decide_false, bI_t, bI_f, Bool.false_eq_true, not_true_eq_false, not_false_eq_true, eq_self, reduceCtorEq, Bool.true_eq_false, and_true, true_and, and_false, false_and, or_true, true_or, or_false, false_or] at c_5; done)) (JP.rf hJ hS))
  refine lv_bipush (v := -2) hx hb dX1_line_16 ib_m2 ?_
  refine W.widen (k := 1) (n := 3) (Nat.le_of_ble_eq_true rfl) (Nat.le_of_ble_eq_true rfl) ?_
  exact g_iret (F := fun z => ownJ o B z ∨ z = H.size) (Post := fun oc H' => oc = .returned (some (.int (s_line σ (nI a_) b).1)) ∧ JP G H o B P L σ (s_line σ (nI a_) b).2 H') hx hb hr hlk hL dX1_line_18 (pr_post (P := fun τ => JP G H o B P L σ τ _) (by first | with_reducible rfl | (simp only [s_line, c_5, hO.ix i_a, c_13, nI_pred, ↓reduceIte, Bool.true_and, Bool.and_true, Bool.false_and, Bool.and_false, Bool.true_or, Bool.or_true, Bool.false_or, Bool.or_false, Bool.not_true, Bool.not_false, decide_true, decide_false, bI_t, bI_f, Bool.false_eq_true, not_true_eq_false, not_false_eq_true, eq_self, reduceCtorEq, Bool.true_eq_false, and_true, true_and, and_false, false_and, or_true, true_or, or_false, false_or]; done) | (simp only [c_5, hO.ix i_a, ↓reduceIte, Bool.true_and, Bool.and_true, Bool.false_and, Bool.and_false, Bool.true_or, Bool.or_true, Bool.false_or, Bool.or_false, Bool.not_true, Bool.not_false, decide_true, decide_false, bI_t, bI_f, Bool.false_eq_true, not_true_eq_false, not_false_eq_true, eq_self, reduceCtorEq, Bool.true_eq_false, and_true, true_and, and_false, false_and, or_true, true_or, or_false, false_or] at c_13; done) | (simp only [hO.ix i_a, c_13, ↓reduceIte, Bool.true_and, Bool.and_true, Bool.false_and, Bool.and_false, Bool.true_or, Bool.or_true, Bool.false_or, Bool.or_false, Bool.not_true, Bool.not_false, decide_true, decide_false, bI_t, bI_f, Bool.false_eq_true, not_true_eq_false, not_false_eq_true, eq_self, reduceCtorEq, Bool.true_eq_false, and_true, true_and, and_false, false_and, or_true, true_or, or_false, false_or] at c_5; done)) (JP.rf hJ hS))
