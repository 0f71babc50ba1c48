set_option maxRecDepth 100000

theorem nI_nm1 {n : Nat} (h : n < 2 ^ 31) : ¬ nI n = -1 := fun e => by
  have := nI_pos h
  rw [e] at this
  exact this (by decide)
def m_at (σ : Sg) (th i w : Int32) : Int32 × (Sg × Int32) :=
  if isPt σ.rn i then (match σ.rw (ix i) with
    | none => (0, σ, 2)
    | some A => (if w = 0 then (σ.pt A).1 else if w = 1 then (σ.pt A).2 else nI A, σ, th)) else (0, σ, 1)
def KM (o : Nat) (A : Nat → Nat) (H H' : Heap) : Prop := H'.size = H.size ∧ ∀ q, ¬ ownM o A q → H'[q]? = H[q]?
theorem KM.of {o a : Nat} {A : Nat → Nat} {H H' : Heap} (h : Only a H H') (k : ownM o A a) : KM o A H H' := ⟨h.1, fun q hq => h.2 q (fun e => hq (e ▸ k))⟩
theorem KM.tr {o : Nat} {A : Nat → Nat} {H H1 H2 : Heap} (h : KM o A H H1) (k : KM o A H1 H2) : KM o A H H2 := ⟨k.1.trans h.1, fun q hq => (k.2 q hq).trans (h.2 q hq)⟩
def m_good (d : Int64) : Bool := decide (d = 1) || (decide (d = 2) || (decide (d = 3) || (decide (d = 4) || (decide (d = 6) || decide (d = 12)))))
theorem good_nz {d : Int64} (h : m_good d = true) : ¬ d = 0 := fun e => by subst e; exact absurd h (by decide)
def m_rng (x : Int64) : Bool := !decide (x < -800) && !decide (800 < x)
def m_point (σ : Sg) (x y d : Int64) : Int32 × Sg :=
  if m_good d then (if x < -800 then (-2, σ) else if x ≤ 800 then (if y < -800 then (-2, σ) else if y ≤ 800 then (if nI σ.np = 60 then (-3, σ) else (nI σ.np, t_pt σ ((x * (12 / d)).toInt32, (y * (12 / d)).toInt32))) else (-2, σ)) else (-2, σ)) else (-2, σ)
theorem np_lt {n : Nat} (h : n ≤ 60) (c : ¬ nI n = 60) : n < 60 := by
  rcases Nat.lt_or_ge n 60 with q | q
  · exact q
  · exact absurd (show nI n = 60 by rw [show n = 60 by omega]; rfl) c
theorem nl_lt {n : Nat} (h : n ≤ 12) (c : ¬ nI n = 12) : n < 12 := by
  rcases Nat.lt_or_ge n 12 with q | q
  · exact q
  · exact absurd (show nI n = 12 by rw [show n = 12 by omega]; rfl) c
abbrev o14 (G : GG) (o : Nat) (A : Nat → Nat) (σ : Sg) (th : Int32) (H : Heap) : Prop := va_at G.1 clA (o, .inr (7, [.int th, .int (nI σ.np), .ref (A 0), .ref (A 1), .int (nI σ.rn), .ref (A 2), .int (bI σ.on), .int σ.dc, .int σ.ud, .int σ.zr, .int (nI σ.nl), .ref (A 3), .ref (A 4), .ref (A 5)])) H
abbrev aI4 (G : GG) (a n : Nat) (f : Nat → Int32) (H : Heap) : Prop := va_at G.1 clA (a, .inl (G.2.2.2.1, n, .inl f)) H
abbrev aL8 (G : GG) (a n : Nat) (f : Nat → Int64) (H : Heap) : Prop := va_at G.1 clA (a, .inl (G.2.2.2.2, n, .inr (.inl f))) H
theorem MP.pt {G : GG} {H H' : Heap} {o : Nat} {A : Nat → Nat} {σ : Sg} {th : Int32} {p : P2} (h0 : o14 G o A (t_pt σ p) th H') (h1 : aI4 G (A 0) 60 (upd (fun i => (σ.pt i).1) σ.np p.1) H') (h2 : aI4 G (A 1) 60 (upd (fun i => (σ.pt i).2) σ.np p.2) H') (h3 : aI4 G (A 2) 24 (fun i => rI (σ.rw i)) H') (h4 : aL8 G (A 3) 12 (fun i => (σ.ln i).1) H') (h5 : aL8 G (A 4) 12 (fun i => (σ.ln i).2.1) H') (h6 : aL8 G (A 5) 12 (fun i => (σ.ln i).2.2) H') (k : KM o A H H') : MP G H o A (t_pt σ p) th H' := by
  have e1 : upd (fun i => (σ.pt i).1) σ.np p.1 = fun i => ((t_pt σ p).pt i).1 := by
    funext i; show (if i = σ.np then p.1 else (σ.pt i).1) = (if i = σ.np then p else σ.pt i).1; split <;> rfl
  have e2 : upd (fun i => (σ.pt i).2) σ.np p.2 = fun i => ((t_pt σ p).pt i).2 := by
    funext i; show (if i = σ.np then p.2 else (σ.pt i).2) = (if i = σ.np then p else σ.pt i).2; split <;> rfl
  rw [e1] at h1
  rw [e2] at h2
  exact ⟨⟨h0, h1, h2, h3, h4, h5, h6⟩, k⟩
def s_line (σ : Sg) (a b : Int32) : Int32 × Sg :=
  if isPt σ.np a && isPt σ.np b then (if s_eq (σ.pt (ix a)) (σ.pt (ix b)) then (-4, σ) else if nI σ.nl = 12 then (-3, σ) else (nI σ.nl, t_ln σ (lnOf (σ.pt (ix a)) (σ.pt (ix b))))) else (-2, σ)
theorem upL_self (f : Nat → Int64) (k : Nat) (x : Int64) : vp_updL f k x k = x := by unfold vp_updL; rw [if_pos rfl]
theorem MP.ln {G : GG} {H H' : Heap} {o : Nat} {A : Nat → Nat} {σ : Sg} {th : Int32} {l : L3} (h0 : o14 G o A (t_ln σ l) th H') (h1 : aI4 G (A 0) 60 (fun i => (σ.pt i).1) H') (h2 : aI4 G (A 1) 60 (fun i => (σ.pt i).2) H') (h3 : aI4 G (A 2) 24 (fun i => rI (σ.rw i)) H') (h4 : aL8 G (A 3) 12 (vp_updL (fun i => (σ.ln i).1) σ.nl l.1) H') (h5 : aL8 G (A 4) 12 (vp_updL (fun i => (σ.ln i).2.1) σ.nl l.2.1) H') (h6 : aL8 G (A 5) 12 (vp_updL (fun i => (σ.ln i).2.2) σ.nl l.2.2) H') (k : KM o A H H') : MP G H o A (t_ln σ l) th H' := by
  have e1 : vp_updL (fun i => (σ.ln i).1) σ.nl l.1 = fun i => ((t_ln σ l).ln i).1 := by
    funext i; show (if i = σ.nl then l.1 else (σ.ln i).1) = (if i = σ.nl then l else σ.ln i).1; split <;> rfl
  have e2 : vp_updL (fun i => (σ.ln i).2.1) σ.nl l.2.1 = fun i => ((t_ln σ l).ln i).2.1 := by
    funext i; show (if i = σ.nl then l.2.1 else (σ.ln i).2.1) = (if i = σ.nl then l else σ.ln i).2.1; split <;> rfl
  have e3 : vp_updL (fun i => (σ.ln i).2.2) σ.nl l.2.2 = fun i => ((t_ln σ l).ln i).2.2 := by
    funext i; show (if i = σ.nl then l.2.2 else (σ.ln i).2.2) = (if i = σ.nl then l else σ.ln i).2.2; split <;> rfl
  rw [e1] at h4
  rw [e2] at h5
  rw [e3] at h6
  exact ⟨⟨h0, h1, h2, h3, h4, h5, h6⟩, k⟩
def pv (p : Int32) : Option Nat := if p = -1 then none else some (ix p)
def m_of (σ : Sg) (th i p : Int32) : Int32 × (Sg × Int32) :=
  if p = -1 then (if isPt σ.rn i then (rI (σ.rw (ix i)), t_put σ (ix i) none, th) else (0, σ, 1))
  else if isPt σ.np p then (if isPt σ.rn i then (rI (σ.rw (ix i)), t_put σ (ix i) (some (ix p)), th) else (0, σ, 1)) else (-2, σ, th)
theorem if_rI (x : Option Nat) : rI x = rI x := rfl
theorem MP.put {G : GG} {H H' : Heap} {o : Nat} {A : Nat → Nat} {σ : Sg} {th x : Int32} {i : Nat} {v : Option Nat} (hv : x = rI v) (h0 : o14 G o A σ th H') (h1 : aI4 G (A 0) 60 (fun i => (σ.pt i).1) H') (h2 : aI4 G (A 1) 60 (fun i => (σ.pt i).2) H') (h3 : aI4 G (A 2) 24 (upd (fun i => rI (σ.rw i)) i x) H') (h4 : aL8 G (A 3) 12 (fun i => (σ.ln i).1) H') (h5 : aL8 G (A 4) 12 (fun i => (σ.ln i).2.1) H') (h6 : aL8 G (A 5) 12 (fun i => (σ.ln i).2.2) H') (k : KM o A H H') : MP G H o A (t_put σ i v) th H' := by
  have e1 : upd (fun i => rI (σ.rw i)) i x = fun j => rI ((t_put σ i v).rw j) := by
    funext j; show (if j = i then x else rI (σ.rw j)) = rI (if j = i then v else σ.rw j); split
    · exact hv
    · rfl
  rw [e1] at h3
  exact ⟨⟨h0, h1, h2, h3, h4, h5, h6⟩, k⟩
theorem dX2_point_0 : decode cX2_point 0 = .ok (.lload 5, 2) := by decide +kernel
theorem dX2_point_2 : decode cX2_point 2 = .ok (.lconst 1, 1) := by decide +kernel
theorem dX2_point_3 : decode cX2_point 3 = .ok (.lcmp, 1) := by decide +kernel
theorem dX2_point_4 : decode cX2_point 4 = .ok (.ifCond .eq 48, 3) := by decide +kernel
theorem dX2_point_7 : decode cX2_point 7 = .ok (.lload 5, 2) := by decide +kernel
theorem dX2_point_9 : decode cX2_point 9 = .ok (.ldc2_w 37, 3) := by decide +kernel
theorem dX2_point_12 : decode cX2_point 12 = .ok (.lcmp, 1) := by decide +kernel
theorem dX2_point_13 : decode cX2_point 13 = .ok (.ifCond .eq 39, 3) := by decide +kernel
theorem dX2_point_16 : decode cX2_point 16 = .ok (.lload 5, 2) := by decide +kernel
theorem dX2_point_18 : decode cX2_point 18 = .ok (.ldc2_w 39, 3) := by decide +kernel
theorem dX2_point_21 : decode cX2_point 21 = .ok (.lcmp, 1) := by decide +kernel
theorem dX2_point_22 : decode cX2_point 22 = .ok (.ifCond .eq 30, 3) := by decide +kernel
theorem dX2_point_25 : decode cX2_point 25 = .ok (.lload 5, 2) := by decide +kernel
theorem dX2_point_27 : decode cX2_point 27 = .ok (.ldc2_w 41, 3) := by decide +kernel
theorem dX2_point_30 : decode cX2_point 30 = .ok (.lcmp, 1) := by decide +kernel
theorem dX2_point_31 : decode cX2_point 31 = .ok (.ifCond .eq 21, 3) := by decide +kernel
theorem dX2_point_34 : decode cX2_point 34 = .ok (.lload 5, 2) := by decide +kernel
theorem dX2_point_36 : decode cX2_point 36 = .ok (.ldc2_w 43, 3) := by decide +kernel
theorem dX2_point_39 : decode cX2_point 39 = .ok (.lcmp, 1) := by decide +kernel
theorem dX2_point_40 : decode cX2_point 40 = .ok (.ifCond .eq 12, 3) := by decide +kernel
theorem dX2_point_43 : decode cX2_point 43 = .ok (.lload 5, 2) := by decide +kernel
theorem dX2_point_45 : decode cX2_point 45 = .ok (.ldc2_w 45, 3) := by decide +kernel
theorem dX2_point_48 : decode cX2_point 48 = .ok (.lcmp, 1) := by decide +kernel
theorem dX2_point_49 : decode cX2_point 49 = .ok (.ifCond .ne 7, 3) := by decide +kernel
theorem dX2_point_52 : decode cX2_point 52 = .ok (.iconst 1, 1) := by decide +kernel
theorem dX2_point_53 : decode cX2_point 53 = .ok (.goto 4, 3) := by decide +kernel
theorem dX2_point_56 : decode cX2_point 56 = .ok (.iconst 0, 1) := by decide +kernel
theorem dX2_point_57 : decode cX2_point 57 = .ok (.istore 7, 2) := by decide +kernel
theorem dX2_point_59 : decode cX2_point 59 = .ok (.iload 7, 2) := by decide +kernel
theorem dX2_point_61 : decode cX2_point 61 = .ok (.ifCond .eq 35, 3) := by decide +kernel
theorem dX2_point_64 : decode cX2_point 64 = .ok (.lload_n 1, 1) := by decide +kernel
theorem dX2_point_65 : decode cX2_point 65 = .ok (.ldc2_w 47, 3) := by decide +kernel
theorem dX2_point_68 : decode cX2_point 68 = .ok (.lcmp, 1) := by decide +kernel
theorem dX2_point_69 : decode cX2_point 69 = .ok (.ifCond .lt 27, 3) := by decide +kernel
theorem dX2_point_72 : decode cX2_point 72 = .ok (.lload_n 1, 1) := by decide +kernel
theorem dX2_point_73 : decode cX2_point 73 = .ok (.ldc2_w 49, 3) := by decide +kernel
theorem dX2_point_76 : decode cX2_point 76 = .ok (.lcmp, 1) := by decide +kernel
theorem dX2_point_77 : decode cX2_point 77 = .ok (.ifCond .gt 19, 3) := by decide +kernel
theorem dX2_point_80 : decode cX2_point 80 = .ok (.lload_n 3, 1) := by decide +kernel
theorem dX2_point_81 : decode cX2_point 81 = .ok (.ldc2_w 47, 3) := by decide +kernel
theorem dX2_point_84 : decode cX2_point 84 = .ok (.lcmp, 1) := by decide +kernel
theorem dX2_point_85 : decode cX2_point 85 = .ok (.ifCond .lt 11, 3) := by decide +kernel
theorem dX2_point_88 : decode cX2_point 88 = .ok (.lload_n 3, 1) := by decide +kernel
theorem dX2_point_89 : decode cX2_point 89 = .ok (.ldc2_w 49, 3) := by decide +kernel
theorem dX2_point_92 : decode cX2_point 92 = .ok (.lcmp, 1) := by decide +kernel
theorem dX2_point_93 : decode cX2_point 93 = .ok (.ifCond .le 6, 3) := by decide +kernel
theorem dX2_point_96 : decode cX2_point 96 = .ok (.bipush (-2), 2) := by decide +kernel
theorem dX2_point_98 : decode cX2_point 98 = .ok (.ireturn, 1) := by decide +kernel
theorem dX2_point_99 : decode cX2_point 99 = .ok (.aload_n 0, 1) := by decide +kernel
theorem dX2_point_100 : decode cX2_point 100 = .ok (.getfield 51, 3) := by decide +kernel
theorem dX2_point_103 : decode cX2_point 103 = .ok (.bipush 60, 2) := by decide +kernel
theorem dX2_point_105 : decode cX2_point 105 = .ok (.if_icmp .ne 6, 3) := by decide +kernel
theorem dX2_point_108 : decode cX2_point 108 = .ok (.bipush (-3), 2) := by decide +kernel
theorem dX2_point_110 : decode cX2_point 110 = .ok (.ireturn, 1) := by decide +kernel
theorem dX2_point_111 : decode cX2_point 111 = .ok (.aload_n 0, 1) := by decide +kernel
theorem dX2_point_112 : decode cX2_point 112 = .ok (.getfield 13, 3) := by decide +kernel
theorem dX2_point_115 : decode cX2_point 115 = .ok (.aload_n 0, 1) := by decide +kernel
theorem dX2_point_116 : decode cX2_point 116 = .ok (.getfield 51, 3) := by decide +kernel
theorem dX2_point_119 : decode cX2_point 119 = .ok (.lload_n 1, 1) := by decide +kernel
theorem dX2_point_120 : decode cX2_point 120 = .ok (.ldc2_w 45, 3) := by decide +kernel
theorem dX2_point_123 : decode cX2_point 123 = .ok (.lload 5, 2) := by decide +kernel
theorem dX2_point_125 : decode cX2_point 125 = .ok (.ldiv, 1) := by decide +kernel
theorem dX2_point_126 : decode cX2_point 126 = .ok (.lmul, 1) := by decide +kernel
theorem dX2_point_127 : decode cX2_point 127 = .ok (.l2i, 1) := by decide +kernel
theorem dX2_point_128 : decode cX2_point 128 = .ok (.iastore, 1) := by decide +kernel
theorem dX2_point_129 : decode cX2_point 129 = .ok (.aload_n 0, 1) := by decide +kernel
theorem dX2_point_130 : decode cX2_point 130 = .ok (.getfield 17, 3) := by decide +kernel
theorem dX2_point_133 : decode cX2_point 133 = .ok (.aload_n 0, 1) := by decide +kernel
theorem dX2_point_134 : decode cX2_point 134 = .ok (.getfield 51, 3) := by decide +kernel
theorem dX2_point_137 : decode cX2_point 137 = .ok (.lload_n 3, 1) := by decide +kernel
theorem dX2_point_138 : decode cX2_point 138 = .ok (.ldc2_w 45, 3) := by decide +kernel
theorem dX2_point_141 : decode cX2_point 141 = .ok (.lload 5, 2) := by decide +kernel
theorem dX2_point_143 : decode cX2_point 143 = .ok (.ldiv, 1) := by decide +kernel
theorem dX2_point_144 : decode cX2_point 144 = .ok (.lmul, 1) := by decide +kernel
theorem dX2_point_145 : decode cX2_point 145 = .ok (.l2i, 1) := by decide +kernel
theorem dX2_point_146 : decode cX2_point 146 = .ok (.iastore, 1) := by decide +kernel
theorem dX2_point_147 : decode cX2_point 147 = .ok (.aload_n 0, 1) := by decide +kernel
theorem dX2_point_148 : decode cX2_point 148 = .ok (.dup, 1) := by decide +kernel
theorem dX2_point_149 : decode cX2_point 149 = .ok (.getfield 51, 3) := by decide +kernel
theorem dX2_point_152 : decode cX2_point 152 = .ok (.iconst 1, 1) := by decide +kernel
theorem dX2_point_153 : decode cX2_point 153 = .ok (.iadd, 1) := by decide +kernel
theorem dX2_point_154 : decode cX2_point 154 = .ok (.putfield 51, 3) := by decide +kernel
theorem dX2_point_157 : decode cX2_point 157 = .ok (.aload_n 0, 1) := by decide +kernel
theorem dX2_point_158 : decode cX2_point 158 = .ok (.getfield 51, 3) := by decide +kernel
theorem dX2_point_161 : decode cX2_point 161 = .ok (.iconst 1, 1) := by decide +kernel
theorem dX2_point_162 : decode cX2_point 162 = .ok (.isub, 1) := by decide +kernel
theorem dX2_point_163 : decode cX2_point 163 = .ok (.ireturn, 1) := by decide +kernel
set_option maxHeartbeats 800000 in
theorem met_X2_point (l : Launch) (G : GG) {H : Heap} {o : Nat} {A : Nat → Nat} {σ : Sg} {th : Int32} {x : Int64} {y : Int64} {dn : Int64} (hM : MW G H o A σ th) (hO : Ok σ) (hS : MS o A) : GM l yX2_point cX2_point 8 (some .int) 0 0 0 0 G H [.ref o, .long x, .long y, .long dn] (fun oc H' => oc = .returned (some (.int (m_point σ x y dn).1)) ∧ MP G H o A (m_point σ x y dn).2 th H') (fun z => ownM o A z) := by
  refine gm_intro pl_X2_point (Nat.le_of_ble_eq_true rfl) ?_
  intro pX eX sX mX belX methX cX ls hE hnm hl
  obtain ⟨hx, hb, hr, hlk, hml, hown, hts, hK, hZ, hH⟩ := hE
  have hl : lv_has ls 8 [(0, .ref o), (1, .long x), (3, .long y), (5, .long dn)] := hl
  have hL : ∀ q ∈ ([] : List Loc), (fun z => ownM o A z : Addr → Prop) q.base := fun q h => by cases h
  refine cutI (J := 57) (v := bI (m_good dn)) ?_ (fun K48 => ?_)
  rotate_left
  · skip
    refine lv_lload hx hb dX2_point_0 (lv_at hl 3 rfl) ?_
    refine lv_lconst (v := 1) hx hb dX2_point_2 rfl ?_
    refine lc_eq (tgt := 52) hx hb dX2_point_3 dX2_point_4 rfl (fun c_3 => ?_) (fun c_3 => ?_)
    · skip
      refine lv_iconst (v := 1) hx hb dX2_point_52 ic_1 ?_
      refine lv_goto (tgt := 57) hx hb dX2_point_53 rfl ?_
      exact K48 _ (by first | with_reducible rfl | (simp only [m_point, m_good, eq_true c_3, nI_pred, ↓reduceIte, Bool.true_and, Bool.and_true, Bool.false_and, Bool.and_false, Bool.true_or, Bool.or_true, Bool.false_or, Bool.or_false, Bool.not_true, Bool.not_false, decide_true, decide_false, bI_t, bI_f, Bool.false_eq_true, not_true_eq_false, not_false_eq_true, eq_self, reduceCtorEq, Bool.true_eq_false, and_true, true_and, and_false, false_and, or_true, true_or, or_false, false_or]; done))
    refine lv_lload hx hb dX2_point_7 (lv_at hl 3 rfl) ?_
    refine lv_ldc2 hx hb hown (hts _ q709) dX2_point_9 ?_
    refine lc_eq (tgt := 52) hx hb dX2_point_12 dX2_point_13 rfl (fun c_12 => ?_) (fun c_12 => ?_)
    · skip
      refine lv_iconst (v := 1) hx hb dX2_point_52 ic_1 ?_
      refine lv_goto (tgt := 57) hx hb dX2_point_53 rfl ?_
      exact K48 _ (by first | with_reducible rfl | (simp only [m_point, m_good, c_3, eq_true c_12, nI_pred, ↓reduceIte, Bool.true_and, Bool.and_true, Bool.false_and, Bool.and_false, Bool.true_or, Bool.or_true, Bool.false_or, Bool.or_false, Bool.not_true, Bool.not_false, decide_true, decide_false, bI_t, bI_f, Bool.false_eq_true, not_true_eq_false, not_false_eq_true, eq_self, reduceCtorEq, Bool.true_eq_false, and_true, true_and, and_false, false_and, or_true, true_or, or_false, false_or]; done) | (simp only [c_3, ↓reduceIte, Bool.true_and, Bool.and_true, Bool.false_and, Bool.and_false, Bool.true_or, Bool.or_true, Bool.false_or, Bool.or_false, Bool.not_true, Bool.not_false, decide_true, decide_false, bI_t, bI_f, Bool.false_eq_true, not_true_eq_false, not_false_eq_true, eq_self, reduceCtorEq, Bool.true_eq_false, and_true, true_and, and_false, false_and, or_true, true_or, or_false, false_or] at c_12; done) | (simp only [eq_true c_12, ↓reduceIte, Bool.true_and, Bool.and_true, Bool.false_and, Bool.and_false, Bool.true_or, Bool.or_true, Bool.false_or, Bool.or_false, Bool.not_true, Bool.not_false, decide_true, decide_false, bI_t, bI_f, Bool.false_eq_true, not_true_eq_false, not_false_eq_true, eq_self, reduceCtorEq, Bool.true_eq_false, and_true, true_and, and_false, false_and, or_true, true_or, or_false, false_or] at c_3; done))
    refine lv_lload hx hb dX2_point_16 (lv_at hl 3 rfl) ?_
    refine lv_ldc2 hx hb hown (hts _ q710) dX2_point_18 ?_
    refine lc_eq (tgt := 52) hx hb dX2_point_21 dX2_point_22 rfl (fun c_21 => ?_) (fun c_21 => ?_)
    · skip
      refine lv_iconst (v := 1) hx hb dX2_point_52 ic_1 ?_
      refine lv_goto (tgt := 57) hx hb dX2_point_53 rfl ?_
      exact K48 _ (by first | with_reducible rfl | (simp only [m_point, m_good, c_3, c_12, eq_true c_21, nI_pred, ↓reduceIte, Bool.true_and, Bool.and_true, Bool.false_and, Bool.and_false, Bool.true_or, Bool.or_true, Bool.false_or, Bool.or_false, Bool.not_true, Bool.not_false, decide_true, decide_false, bI_t, bI_f, Bool.false_eq_true, not_true_eq_false, not_false_eq_true, eq_self, reduceCtorEq, Bool.true_eq_false, and_true, true_and, and_false, false_and, or_true, true_or, or_false, false_or]; done) | (simp only [c_3, c_12, ↓reduceIte, Bool.true_and, Bool.and_true, Bool.false_and, Bool.and_false, Bool.true_or, Bool.or_true, Bool.false_or, Bool.or_false, Bool.not_true, Bool.not_false, decide_true, decide_false, bI_t, bI_f, Bool.false_eq_true, not_true_eq_false, not_false_eq_true, eq_self, reduceCtorEq, Bool.true_eq_false, and_true, true_and, and_false, false_and, or_true, true_or, or_false, false_or] at c_21; done) | (simp only [c_3, eq_true c_21, ↓reduceIte, Bool.true_and, Bool.and_true, Bool.false_and, Bool.and_false, Bool.true_or, Bool.or_true, Bool.false_or, Bool.or_false, Bool.not_true, Bool.not_false, decide_true, decide_false, bI_t, bI_f, Bool.false_eq_true, not_true_eq_false, not_false_eq_true, eq_self, reduceCtorEq, Bool.true_eq_false, and_true, true_and, and_false, false_and, or_true, true_or, or_false, false_or] at c_12; done) | (simp only [c_12, eq_true c_21, ↓reduceIte, Bool.true_and, Bool.and_true, Bool.false_and, Bool.and_false, Bool.true_or, Bool.or_true, Bool.false_or, Bool.or_false, Bool.not_true, Bool.not_false, decide_true, decide_false, bI_t, bI_f, Bool.false_eq_true, not_true_eq_false, not_false_eq_true, eq_self, reduceCtorEq, Bool.true_eq_false, and_true, true_and, and_false, false_and, or_true, true_or, or_false, false_or] at c_3; done))
    refine lv_lload hx hb dX2_point_25 (lv_at hl 3 rfl) ?_
    refine lv_ldc2 hx hb hown (hts _ q711) dX2_point_27 ?_
    refine lc_eq (tgt := 52) hx hb dX2_point_30 dX2_point_31 rfl (fun c_30 => ?_) (fun c_30 => ?_)
    · skip
      refine lv_iconst (v := 1) hx hb dX2_point_52 ic_1 ?_
      refine lv_goto (tgt := 57) hx hb dX2_point_53 rfl ?_
      exact K48 _ (by first | with_reducible rfl | (simp only [m_point, m_good, c_3, c_12, c_21, eq_true c_30, nI_pred, ↓reduceIte, Bool.true_and, Bool.and_true, Bool.false_and, Bool.and_false, Bool.true_or, Bool.or_true, Bool.false_or, Bool.or_false, Bool.not_true, Bool.not_false, decide_true, decide_false, bI_t, bI_f, Bool.false_eq_true, not_true_eq_false, not_false_eq_true, eq_self, reduceCtorEq, Bool.true_eq_false, and_true, true_and, and_false, false_and, or_true, true_or, or_false, false_or]; done) | (simp only [c_3, c_12, c_21, ↓reduceIte, Bool.true_and, Bool.and_true, Bool.false_and, Bool.and_false, Bool.true_or, Bool.or_true, Bool.false_or, Bool.or_false, Bool.not_true, Bool.not_false, decide_true, decide_false, bI_t, bI_f, Bool.false_eq_true, not_true_eq_false, not_false_eq_true, eq_self, reduceCtorEq, Bool.true_eq_false, and_true, true_and, and_false, false_and, or_true, true_or, or_false, false_or] at c_30; done) | (simp only [c_3, c_12, eq_true c_30, ↓reduceIte, Bool.true_and, Bool.and_true, Bool.false_and, Bool.and_false, Bool.true_or, Bool.or_true, Bool.false_or, Bool.or_false, Bool.not_true, Bool.not_false, decide_true, decide_false, bI_t, bI_f, Bool.false_eq_true, not_true_eq_false, not_false_eq_true, eq_self, reduceCtorEq, Bool.true_eq_false, and_true, true_and, and_false, false_and, or_true, true_or, or_false, false_or] at c_21; done) | (simp only [c_3, c_21, eq_true c_30, ↓reduceIte, Bool.true_and, Bool.and_true, Bool.false_and, Bool.and_false, Bool.true_or, Bool.or_true, Bool.false_or, Bool.or_false, Bool.not_true, Bool.not_false, decide_true, decide_false, bI_t, bI_f, Bool.false_eq_true, not_true_eq_false, not_false_eq_true, eq_self, reduceCtorEq, Bool.true_eq_false, and_true, true_and, and_false, false_and, or_true, true_or, or_false, false_or] at c_12; done) | (simp only [c_12, c_21, eq_true c_30, ↓reduceIte, Bool.true_and, Bool.and_true, Bool.false_and, Bool.and_false, Bool.true_or, Bool.or_true, Bool.false_or, Bool.or_false, Bool.not_true, Bool.not_false, decide_true, decide_false, bI_t, bI_f, Bool.false_eq_true, not_true_eq_false, not_false_eq_true, eq_self, reduceCtorEq, Bool.true_eq_false, and_true, true_and, and_false, false_and, or_true, true_or, or_false, false_or] at c_3; done))
    refine lv_lload hx hb dX2_point_34 (lv_at hl 3 rfl) ?_
    refine lv_ldc2 hx hb hown (hts _ q712) dX2_point_36 ?_
    refine lc_eq (tgt := 52) hx hb dX2_point_39 dX2_point_40 rfl (fun c_39 => ?_) (fun c_39 => ?_)
    · skip
      refine lv_iconst (v := 1) hx hb dX2_point_52 ic_1 ?_
      refine lv_goto (tgt := 57) hx hb dX2_point_53 rfl ?_
      exact K48 _ (by first | with_reducible rfl | (simp only [m_point, m_good, c_3, c_12, c_21, c_30, eq_true c_39, nI_pred, ↓reduceIte, Bool.true_and, Bool.and_true, Bool.false_and, Bool.and_false, Bool.true_or, Bool.or_true, Bool.false_or, Bool.or_false, Bool.not_true, Bool.not_false, decide_true, decide_false, bI_t, bI_f, Bool.false_eq_true, not_true_eq_false, not_false_eq_true, eq_self, reduceCtorEq, Bool.true_eq_false, and_true, true_and, and_false, false_and, or_true, true_or, or_false, false_or]; done) | (simp only [c_3, c_12, c_21, c_30, ↓reduceIte, Bool.true_and, Bool.and_true, Bool.false_and, Bool.and_false, Bool.true_or, Bool.or_true, Bool.false_or, Bool.or_false, Bool.not_true, Bool.not_false, decide_true, decide_false, bI_t, bI_f, Bool.false_eq_true, not_true_eq_false, not_false_eq_true, eq_self, reduceCtorEq, Bool.true_eq_false, and_true, true_and, and_false, false_and, or_true, true_or, or_false, false_or] at c_39; done) | (simp only [c_3, c_12, c_21, eq_true c_39, ↓reduceIte, Bool.true_and, Bool.and_true, Bool.false_and, Bool.and_false, Bool.true_or, Bool.or_true, Bool.false_or, Bool.or_false, Bool.not_true, Bool.not_false, decide_true, decide_false, bI_t, bI_f, Bool.false_eq_true, not_true_eq_false, not_false_eq_true, eq_self, reduceCtorEq, Bool.true_eq_false, and_true, true_and, and_false, false_and, or_true, true_or, or_false, false_or] at c_30; done) | (simp only [c_3, c_12, c_30, eq_true c_39, ↓reduceIte, Bool.true_and, Bool.and_true, Bool.false_and, Bool.and_false, Bool.true_or, Bool.or_true, Bool.false_or, Bool.or_false, Bool.not_true, Bool.not_false, decide_true, decide_false, bI_t, bI_f, Bool.false_eq_true, not_true_eq_false, not_false_eq_true, eq_self, reduceCtorEq, Bool.true_eq_false, and_true, true_and, and_false, false_and, or_true, true_or, or_false, false_or] at c_21; done) | (simp only [c_3, c_21, c_30, eq_true c_39, ↓reduceIte, Bool.true_and, Bool.and_true, Bool.false_and, Bool.and_false, Bool.true_or, Bool.or_true, Bool.false_or, Bool.or_false, Bool.not_true, Bool.not_false, decide_true, decide_false, bI_t, bI_f, Bool.false_eq_true, not_true_eq_false, not_false_eq_true, eq_self, reduceCtorEq, Bool.true_eq_false, and_true, true_and, and_false, false_and, or_true, true_or, or_false, false_or] at c_12; done) | (simp only [c_12, c_21, c_30, eq_true c_39, ↓reduceIte, Bool.true_and, Bool.and_true, Bool.false_and, Bool.and_false, Bool.true_or, Bool.or_true, Bool.false_or, Bool.or_false, Bool.not_true, Bool.not_false, decide_true, decide_false, bI_t, bI_f, Bool.false_eq_true, not_true_eq_false, not_false_eq_true, eq_self, reduceCtorEq, Bool.true_eq_false, and_true, true_and, and_false, false_and, or_true, true_or, or_false, false_or] at c_3; done))
    refine lv_lload hx hb dX2_point_43 (lv_at hl 3 rfl) ?_
    refine lv_ldc2 hx hb hown (hts _ q713) dX2_point_45 ?_
    refine lc_ne (tgt := 56) hx hb dX2_point_48 dX2_point_49 rfl (fun c_48 => ?_) (fun c_48 => ?_)
    · skip
      refine lv_iconst (v := 0) hx hb dX2_point_56 ic_0 ?_
      exact K48 _ (by first | with_reducible rfl | (simp only [m_point, m_good, c_3, c_12, c_21, c_30, c_39, c_48, nI_pred, ↓reduceIte, Bool.true_and, Bool.and_true, Bool.false_and, Bool.and_false, Bool.true_or, Bool.or_true, Bool.false_or, Bool.or_false, Bool.not_true, Bool.not_false, decide_true, decide_false, bI_t, bI_f, Bool.false_eq_true, not_true_eq_false, not_false_eq_true, eq_self, reduceCtorEq, Bool.true_eq_false, and_true, true_and, and_false, false_and, or_true, true_or, or_false, false_or]; done) | (simp only [c_3, c_12, c_21, c_30, c_39, ↓reduceIte, Bool.true_and, Bool.and_true, Bool.false_and, Bool.and_false, Bool.true_or, Bool.or_true, Bool.false_or, Bool.or_false, Bool.not_true, Bool.not_false, decide_true, decide_false, bI_t, bI_f, Bool.false_eq_true, not_true_eq_false, not_false_eq_true, eq_self, reduceCtorEq, Bool.true_eq_false, and_true, true_and, and_false, false_and, or_true, true_or, or_false, false_or] at c_48; done) | (simp only [c_3, c_12, c_21, c_30, c_48, ↓reduceIte, Bool.true_and, Bool.and_true, Bool.false_and, Bool.and_false, Bool.true_or, Bool.or_true, Bool.false_or, Bool.or_false, Bool.not_true, Bool.not_false, decide_true, decide_false, bI_t, bI_f, Bool.false_eq_true, not_true_eq_false, not_false_eq_true, eq_self, reduceCtorEq, Bool.true_eq_false, and_true, true_and, and_false, false_and, or_true, true_or, or_false, false_or] at c_39; done) | (simp only [c_3, c_12, c_21, c_39, c_48, ↓reduceIte, Bool.true_and, Bool.and_true, Bool.false_and, Bool.and_false, Bool.true_or, Bool.or_true, Bool.false_or, Bool.or_false, Bool.not_true, Bool.not_false, decide_true, decide_false, bI_t, bI_f, Bool.false_eq_true, not_true_eq_false, not_false_eq_true, eq_self, reduceCtorEq, Bool.true_eq_false, and_true, true_and, and_false, false_and, or_true, true_or, or_false, false_or] at c_30; done) | (simp only [c_3, c_12, c_30, c_39, c_48, ↓reduceIte, Bool.true_and, Bool.and_true, Bool.false_and, Bool.and_false, Bool.true_or, Bool.or_true, Bool.false_or, Bool.or_false, Bool.not_true, Bool.not_false, decide_true, decide_false, bI_t, bI_f, Bool.false_eq_true, not_true_eq_false, not_false_eq_true, eq_self, reduceCtorEq, Bool.true_eq_false, and_true, true_and, and_false, false_and, or_true, true_or, or_false, false_or] at c_21; done) | (simp only [c_3, c_21, c_30, c_39, c_48, ↓reduceIte, Bool.true_and, Bool.and_true, Bool.false_and, Bool.and_false, Bool.true_or, Bool.or_true, Bool.false_or, Bool.or_false, Bool.not_true, Bool.not_false, decide_true, decide_false, bI_t, bI_f, Bool.false_eq_true, not_true_eq_false, not_false_eq_true, eq_self, reduceCtorEq, Bool.true_eq_false, and_true, true_and, and_false, false_and, or_true, true_or, or_false, false_or] at c_12; done) | (simp only [c_12, c_21, c_30, c_39, c_48, ↓reduceIte, Bool.true_and, Bool.and_true, Bool.false_and, Bool.and_false, Bool.true_or, Bool.or_true, Bool.false_or, Bool.or_false, Bool.not_true, Bool.not_false, decide_true, decide_false, bI_t, bI_f, Bool.false_eq_true, not_true_eq_false, not_false_eq_true, eq_self, reduceCtorEq, Bool.true_eq_false, and_true, true_and, and_false, false_and, or_true, true_or, or_false, false_or] at c_3; done))
    refine lv_iconst (v := 1) hx hb dX2_point_52 ic_1 ?_
    refine lv_goto (tgt := 57) hx hb dX2_point_53 rfl ?_
    exact K48 _ (by first | with_reducible rfl | (simp only [m_point, m_good, c_3, c_12, c_21, c_30, c_39, eq_true c_48, nI_pred, ↓reduceIte, Bool.true_and, Bool.and_true, Bool.false_and, Bool.and_false, Bool.true_or, Bool.or_true, Bool.false_or, Bool.or_false, Bool.not_true, Bool.not_false, decide_true, decide_false, bI_t, bI_f, Bool.false_eq_true, not_true_eq_false, not_false_eq_true, eq_self, reduceCtorEq, Bool.true_eq_false, and_true, true_and, and_false, false_and, or_true, true_or, or_false, false_or]; done) | (simp only [c_3, c_12, c_21, c_30, c_39, ↓reduceIte, Bool.true_and, Bool.and_true, Bool.false_and, Bool.and_false, Bool.true_or, Bool.or_true, Bool.false_or, Bool.or_false, Bool.not_true, Bool.not_false, decide_true, decide_false, bI_t, bI_f, Bool.false_eq_true, not_true_eq_false, not_false_eq_true, eq_self, reduceCtorEq, Bool.true_eq_false, and_true, true_and, and_false, false_and, or_true, true_or, or_false, false_or] at c_48; done) | (simp only [c_3, c_12, c_21, c_30, eq_true c_48, ↓reduceIte, Bool.true_and, Bool.and_true, Bool.false_and, Bool.and_false, Bool.true_or, Bool.or_true, Bool.false_or, Bool.or_false, Bool.not_true, Bool.not_false, decide_true, decide_false, bI_t, bI_f, Bool.false_eq_true, not_true_eq_false, not_false_eq_true, eq_self, reduceCtorEq, Bool.true_eq_false, and_true, true_and, and_false, false_and, or_true, true_or, or_false, false_or] at c_39; done) | (simp only [c_3, c_12, c_21, c_39, eq_true c_48, ↓reduceIte, Bool.true_and, Bool.and_true, Bool.false_and, Bool.and_false, Bool.true_or, Bool.or_true, Bool.false_or, Bool.or_false, Bool.not_true, Bool.not_false, decide_true, decide_false, bI_t, bI_f, Bool.false_eq_true, not_true_eq_false, not_false_eq_true, eq_self, reduceCtorEq, Bool.true_eq_false, and_true, true_and, and_false, false_and, or_true, true_or, or_false, false_or] at c_30; done) | (simp only [c_3, c_12, c_30, c_39, eq_true c_48, ↓reduceIte, Bool.true_and, Bool.and_true, Bool.false_and, Bool.and_false, Bool.true_or, Bool.or_true, Bool.false_or, Bool.or_false, Bool.not_true, Bool.not_false, decide_true, decide_false, bI_t, bI_f, Bool.false_eq_true, not_true_eq_false, not_false_eq_true, eq_self, reduceCtorEq, Bool.true_eq_false, and_true, true_and, and_false, false_and, or_true, true_or, or_false, false_or] at c_21; done) | (simp only [c_3, c_21, c_30, c_39, eq_true c_48, ↓reduceIte, Bool.true_and, Bool.and_true, Bool.false_and, Bool.and_false, Bool.true_or, Bool.or_true, Bool.false_or, Bool.or_false, Bool.not_true, Bool.not_false, decide_true, decide_false, bI_t, bI_f, Bool.false_eq_true, not_true_eq_false, not_false_eq_true, eq_self, reduceCtorEq, Bool.true_eq_false, and_true, true_and, and_false, false_and, or_true, true_or, or_false, false_or] at c_12; done) | (simp only [c_12, c_21, c_30, c_39, eq_true c_48, ↓reduceIte, Bool.true_and, Bool.and_true, Bool.false_and, Bool.and_false, Bool.true_or, Bool.or_true, Bool.false_or, Bool.or_false, Bool.not_true, Bool.not_false, decide_true, decide_false, bI_t, bI_f, Bool.false_eq_true, not_true_eq_false, not_false_eq_true, eq_self, reduceCtorEq, Bool.true_eq_false, and_true, true_and, and_false, false_and, or_true, true_or, or_false, false_or] at c_3; done))
  refine lv_istore (lv' := [(7, .int _), (0, .ref _), (1, .long _), (3, .long _), (5, .long _)]) hx hb dX2_point_57 hl (Nat.le_of_ble_eq_true rfl) rfl (fun ls hl => ?_)
  refine lv_iload hx hb dX2_point_59 (lv_at hl 0 rfl) ?_
  refine b_ifeq (tgt := 96) hx hb dX2_point_61 rfl (fun c_61 => ?_) (fun c_61 => ?_)
  · skip
    refine lv_bipush (v := -2) hx hb dX2_point_96 ib_m2 ?_
    exact g_iret (F := fun z => ownM o A z) (Post := fun oc H' => oc = .returned (some (.int (m_point σ x y dn).1)) ∧ MP G H o A (m_point σ x y dn).2 th H') hx hb hr hlk hL dX2_point_98 (pr_post (P := fun τ => MP G H o A τ th _) (by first | with_reducible rfl | (simp only [m_point, c_61, nI_pred, ↓reduceIte, Bool.true_and, Bool.and_true, Bool.false_and, Bool.and_false, Bool.true_or, Bool.or_true, Bool.false_or, Bool.or_false, Bool.not_true, Bool.not_false, decide_true, decide_false, bI_t, bI_f, Bool.false_eq_true, not_true_eq_false, not_false_eq_true, eq_self, reduceCtorEq, Bool.true_eq_false, and_true, true_and, and_false, false_and, or_true, true_or, or_false, false_or]; done)) (MP.rf hM))
  refine lv_lload_n hx hb dX2_point_64 rfl (lv_at hl 2 rfl) ?_
  refine lv_ldc2 hx hb hown (hts _ q714) dX2_point_65 ?_
  refine lc_lt (tgt := 96) hx hb dX2_point_68 dX2_point_69 rfl (fun c_68 => ?_) (fun c_68 => ?_)
  · skip
    refine lv_bipush (v := -2) hx hb dX2_point_96 ib_m2 ?_
    exact g_iret (F := fun z => ownM o A z) (Post := fun oc H' => oc = .returned (some (.int (m_point σ x y dn).1)) ∧ MP G H o A (m_point σ x y dn).2 th H') hx hb hr hlk hL dX2_point_98 (pr_post (P := fun τ => MP G H o A τ th _) (by first | with_reducible rfl | (simp only [m_point, c_61, c_68, Int64.not_le.mpr c_68, nI_pred, ↓reduceIte, Bool.true_and, Bool.and_true, Bool.false_and, Bool.and_false, Bool.true_or, Bool.or_true, Bool.false_or, Bool.or_false, Bool.not_true, Bool.not_false, decide_true, decide_false, bI_t, bI_f, Bool.false_eq_true, not_true_eq_false, not_false_eq_true, eq_self, reduceCtorEq, Bool.true_eq_false, and_true, true_and, and_false, false_and, or_true, true_or, or_false, false_or]; done) | (simp only [c_61, ↓reduceIte, Bool.true_and, Bool.and_true, Bool.false_and, Bool.and_false, Bool.true_or, Bool.or_true, Bool.false_or, Bool.or_false, Bool.not_true, Bool.not_false, decide_true, decide_false, bI_t, bI_f, Bool.false_eq_true, not_true_eq_false, not_false_eq_true, eq_self, reduceCtorEq, Bool.true_eq_false, and_true, true_and, and_false, false_and, or_true, true_or, or_false, false_or] at c_68; done) | (simp only [c_68, Int64.not_le.mpr c_68, ↓reduceIte, Bool.true_and, Bool.and_true, Bool.false_and, Bool.and_false, Bool.true_or, Bool.or_true, Bool.false_or, Bool.or_false, Bool.not_true, Bool.not_false, decide_true, decide_false, bI_t, bI_f, Bool.false_eq_true, not_true_eq_false, not_false_eq_true, eq_self, reduceCtorEq, Bool.true_eq_false, and_true, true_and, and_false, false_and, or_true, true_or, or_false, false_or] at c_61; done)) (MP.rf hM))
  refine lv_lload_n hx hb dX2_point_72 rfl (lv_at hl 2 rfl) ?_
  refine lv_ldc2 hx hb hown (hts _ q715) dX2_point_73 ?_
  refine lc_gt (tgt := 96) hx hb dX2_point_76 dX2_point_77 rfl (fun c_76 => ?_) (fun c_76 => ?_)
  · skip
    refine lv_bipush (v := -2) hx hb dX2_point_96 ib_m2 ?_
    exact g_iret (F := fun z => ownM o A z) (Post := fun oc H' => oc = .returned (some (.int (m_point σ x y dn).1)) ∧ MP G H o A (m_point σ x y dn).2 th H') hx hb hr hlk hL dX2_point_98 (pr_post (P := fun τ => MP G H o A τ th _) (by first | with_reducible rfl | (simp only [m_point, c_61, c_68, Int64.not_lt.mp c_68, c_76, Int64.not_le.mpr c_76, nI_pred, ↓reduceIte, Bool.true_and, Bool.and_true, Bool.false_and, Bool.and_false, Bool.true_or, Bool.or_true, Bool.false_or, Bool.or_false, Bool.not_true, Bool.not_false, decide_true, decide_false, bI_t, bI_f, Bool.false_eq_true, not_true_eq_false, not_false_eq_true, eq_self, reduceCtorEq, Bool.true_eq_false, and_true, true_and, and_false, false_and, or_true, true_or, or_false, false_or]; done) | (simp only [c_61, c_68, Int64.not_lt.mp c_68, ↓reduceIte, Bool.true_and, Bool.and_true, Bool.false_and, Bool.and_false, Bool.true_or, Bool.or_true, Bool.false_or, Bool.or_false, Bool.not_true, Bool.not_false, decide_true, decide_false, bI_t, bI_f, Bool.false_eq_true, not_true_eq_false, not_false_eq_true, eq_self, reduceCtorEq, Bool.true_eq_false, and_true, true_and, and_false, false_and, or_true, true_or, or_false, false_or] at c_76; done) | (simp only [c_61, c_76, Int64.not_le.mpr c_76, ↓reduceIte, Bool.true_and, Bool.and_true, Bool.false_and, Bool.and_false, Bool.true_or, Bool.or_true, Bool.false_or, Bool.or_false, Bool.not_true, Bool.not_false, decide_true, decide_false, bI_t, bI_f, Bool.false_eq_true, not_true_eq_false, not_false_eq_true, eq_self, reduceCtorEq, Bool.true_eq_false, and_true, true_and, and_false, false_and, or_true, true_or, or_false, false_or] at c_68; done) | (simp only [c_68, Int64.not_lt.mp c_68, c_76, Int64.not_le.mpr c_76, ↓reduceIte, Bool.true_and, Bool.and_true, Bool.false_and, Bool.and_false, Bool.true_or, Bool.or_true, Bool.false_or, Bool.or_false, Bool.not_true, Bool.not_false, decide_true, decide_false, bI_t, bI_f, Bool.false_eq_true, not_true_eq_false, not_false_eq_true, eq_self, reduceCtorEq, Bool.true_eq_false, and_true, true_and, and_false, false_and, or_true, true_or, or_false, false_or] at c_61; done)) (MP.rf hM))
  refine lv_lload_n hx hb dX2_point_80 rfl (lv_at hl 3 rfl) ?_
  refine lv_ldc2 hx hb hown (hts _ q714) dX2_point_81 ?_
  refine lc_lt (tgt := 96) hx hb dX2_point_84 dX2_point_85 rfl (fun c_84 => ?_) (fun c_84 => ?_)
  · skip
    refine lv_bipush (v := -2) hx hb dX2_point_96 ib_m2 ?_
    exact g_iret (F := fun z => ownM o A z) (Post := fun oc H' => oc = .returned (some (.int (m_point σ x y dn).1)) ∧ MP G H o A (m_point σ x y dn).2 th H') hx hb hr hlk hL dX2_point_98 (pr_post (P := fun τ => MP G H o A τ th _) (by first | with_reducible rfl | (simp only [m_point, c_61, c_68, Int64.not_lt.mp c_68, c_76, Int64.not_lt.mp c_76, c_84, Int64.not_le.mpr c_84, nI_pred, ↓reduceIte, Bool.true_and, Bool.and_true, Bool.false_and, Bool.and_false, Bool.true_or, Bool.or_true, Bool.false_or, Bool.or_false, Bool.not_true, Bool.not_false, decide_true, decide_false, bI_t, bI_f, Bool.false_eq_true, not_true_eq_false, not_false_eq_true, eq_self, reduceCtorEq, Bool.true_eq_false, and_true, true_and, and_false, false_and, or_true, true_or, or_false, false_or]; done) | (simp only [c_61, c_68, Int64.not_lt.mp c_68, c_76, Int64.not_lt.mp c_76, ↓reduceIte, Bool.true_and, Bool.and_true, Bool.false_and, Bool.and_false, Bool.true_or, Bool.or_true, Bool.false_or, Bool.or_false, Bool.not_true, Bool.not_false, decide_true, decide_false, bI_t, bI_f, Bool.false_eq_true, not_true_eq_false, not_false_eq_true, eq_self, reduceCtorEq, Bool.true_eq_false, and_true, true_and, and_false, false_and, or_true, true_or, or_false, false_or] at c_84; done) | (simp only [c_61, c_68, Int64.not_lt.mp c_68, c_84, Int64.not_le.mpr c_84, ↓reduceIte, Bool.true_and, Bool.and_true, Bool.false_and, Bool.and_false, Bool.true_or, Bool.or_true, Bool.false_or, Bool.or_false, Bool.not_true, Bool.not_false, decide_true, decide_false, bI_t, bI_f, Bool.false_eq_true, not_true_eq_false, not_false_eq_true, eq_self, reduceCtorEq, Bool.true_eq_false, and_true, true_and, and_false, false_and, or_true, true_or, or_false, false_or] at c_76; done) | (simp only [c_61, c_76, Int64.not_lt.mp c_76, c_84, Int64.not_le.mpr c_84, ↓reduceIte, Bool.true_and, Bool.and_true, Bool.false_and, Bool.and_false, Bool.true_or, Bool.or_true, Bool.false_or, Bool.or_false, Bool.not_true, Bool.not_false, decide_true, decide_false, bI_t, bI_f, Bool.false_eq_true, not_true_eq_false, not_false_eq_true, eq_self, reduceCtorEq, Bool.true_eq_false, and_true, true_and, and_false, false_and, or_true, true_or, or_false, false_or] at c_68; done) | (simp only [c_68, Int64.not_lt.mp c_68, c_76, Int64.not_lt.mp c_76, c_84, Int64.not_le.mpr c_84, ↓reduceIte, Bool.true_and, Bool.and_true, Bool.false_and, Bool.and_false, Bool.true_or, Bool.or_true, Bool.false_or, Bool.or_false, Bool.not_true, Bool.not_false, decide_true, decide_false, bI_t, bI_f, Bool.false_eq_true, not_true_eq_false, not_false_eq_true, eq_self, reduceCtorEq, Bool.true_eq_false, and_true, true_and, and_false, false_and, or_true, true_or, or_false, false_or] at c_61; done)) (MP.rf hM))
  refine lv_lload_n hx hb dX2_point_88 rfl (lv_at hl 3 rfl) ?_
  refine lv_ldc2 hx hb hown (hts _ q715) dX2_point_89 ?_
  refine lc_le (tgt := 99) hx hb dX2_point_92 dX2_point_93 rfl (fun c_92 => ?_) (fun c_92 => ?_)
  · skip
    refine lv_aload_n hx hb dX2_point_99 rfl (lv_at hl 1 rfl) ?_
    refine gf_X2_51 hx hb hts hown hK hM.1 rfl dX2_point_100 ?_
    refine lv_bipush (v := 60) hx hb dX2_point_103 ib_60 ?_
    refine lv_icmp_ne (tgt := 111) hx hb dX2_point_105 rfl (fun c_105 => ?_) (fun c_105 => ?_)
    · skip
      have hlt_ : σ.np < 60 := np_lt hO.1.1 c_105
      refine lv_aload_n hx hb dX2_point_111 rfl (lv_at hl 1 rfl) ?_
      refine gf_X2_13 hx hb hts hown hK hM.1 rfl dX2_point_112 ?_
      refine lv_aload_n hx hb dX2_point_115 rfl (lv_at hl 1 rfl) ?_
      refine gf_X2_51 hx hb hts hown hK hM.1 rfl dX2_point_116 ?_
      refine lv_lload_n hx hb dX2_point_119 rfl (lv_at hl 2 rfl) ?_
      refine lv_ldc2 hx hb hown (hts _ q713) dX2_point_120 ?_
      refine lv_lload hx hb dX2_point_123 (lv_at hl 4 rfl) ?_
      refine lv_ldiv hx hb dX2_point_125 (good_nz c_61) ?_
      refine lv_lmul hx hb dX2_point_126 ?_
      refine lv_l2i hx hb dX2_point_127 rfl ?_
      refine w_iast (F := fun z => ownM o A z) hx hb hK hM.2.1 dX2_point_128 (k := σ.np) hlt_ (by decide) rfl hL (Or.inr ⟨0, by decide, rfl⟩) (fun H1_ locs h1_ ho1_ hL => ?_)
      have h2_ := at_only hM.1 ho1_ (hS.1 0 (by decide))
      have h3_ := at_only hM.2.2.1 ho1_ (hS.2 1 0 (by decide) (by decide) (by decide))
      have h4_ := at_only hM.2.2.2.1 ho1_ (hS.2 2 0 (by decide) (by decide) (by decide))
      have h5_ := at_only hM.2.2.2.2.1 ho1_ (hS.2 3 0 (by decide) (by decide) (by decide))
      have h6_ := at_only hM.2.2.2.2.2.1 ho1_ (hS.2 4 0 (by decide) (by decide) (by decide))
      have h7_ := at_only hM.2.2.2.2.2.2 ho1_ (hS.2 5 0 (by decide) (by decide) (by decide))
      refine lv_aload_n hx hb dX2_point_129 rfl (lv_at hl 1 rfl) ?_
      refine gf_X2_17 hx hb hts hown hK h2_ rfl dX2_point_130 ?_
      refine lv_aload_n hx hb dX2_point_133 rfl (lv_at hl 1 rfl) ?_
      refine gf_X2_51 hx hb hts hown hK h2_ rfl dX2_point_134 ?_
      refine lv_lload_n hx hb dX2_point_137 rfl (lv_at hl 3 rfl) ?_
      refine lv_ldc2 hx hb hown (hts _ q713) dX2_point_138 ?_
      refine lv_lload hx hb dX2_point_141 (lv_at hl 4 rfl) ?_
      refine lv_ldiv hx hb dX2_point_143 (good_nz c_61) ?_
      refine lv_lmul hx hb dX2_point_144 ?_
      refine lv_l2i hx hb dX2_point_145 rfl ?_
      refine w_iast (F := fun z => ownM o A z) hx hb hK h3_ dX2_point_146 (k := σ.np) hlt_ (by decide) rfl hL (Or.inr ⟨1, by decide, rfl⟩) (fun H8_ locs h8_ ho8_ hL => ?_)
      have h9_ := at_only h2_ ho8_ (hS.1 1 (by decide))
      have h10_ := at_only h1_ ho8_ (hS.2 0 1 (by decide) (by decide) (by decide))
      have h11_ := at_only h4_ ho8_ (hS.2 2 1 (by decide) (by decide) (by decide))
      have h12_ := at_only h5_ ho8_ (hS.2 3 1 (by decide) (by decide) (by decide))
      have h13_ := at_only h6_ ho8_ (hS.2 4 1 (by decide) (by decide) (by decide))
      have h14_ := at_only h7_ ho8_ (hS.2 5 1 (by decide) (by decide) (by decide))
      refine lv_aload_n hx hb dX2_point_147 rfl (lv_at hl 1 rfl) ?_
      refine lv_dup hx hb dX2_point_148 rfl ?_
      refine gf_X2_51 hx hb hts hown hK h9_ rfl dX2_point_149 ?_
      refine lv_iconst (v := 1) hx hb dX2_point_152 ic_1 ?_
      refine lv_iadd hx hb dX2_point_153 ?_
      refine topi_eq (nI_1 _) ?_
      refine pf_X2_51 (F := fun z => ownM o A z) hx hb hts hown hK h9_ rfl rfl (Nat.le_of_ble_eq_true rfl) dX2_point_154 hL (Or.inl rfl) (fun H15_ locs h15_ ho15_ hL => ?_)
      have h16_ := at_only h10_ ho15_ (Ne.symm (hS.1 0 (by decide)))
      have h17_ := at_only h8_ ho15_ (Ne.symm (hS.1 1 (by decide)))
      have h18_ := at_only h11_ ho15_ (Ne.symm (hS.1 2 (by decide)))
      have h19_ := at_only h12_ ho15_ (Ne.symm (hS.1 3 (by decide)))
      have h20_ := at_only h13_ ho15_ (Ne.symm (hS.1 4 (by decide)))
      have h21_ := at_only h14_ ho15_ (Ne.symm (hS.1 5 (by decide)))
      refine lv_aload_n hx hb dX2_point_157 rfl (lv_at hl 1 rfl) ?_
      refine gf_X2_51 hx hb hts hown hK h15_ rfl dX2_point_158 ?_
      refine lv_iconst (v := 1) hx hb dX2_point_161 ic_1 ?_
      refine lv_isub hx hb dX2_point_162 ?_
      exact g_iret (F := fun z => ownM o A z) (Post := fun oc H' => oc = .returned (some (.int (m_point σ x y dn).1)) ∧ MP G H o A (m_point σ x y dn).2 th H') hx hb hr hlk hL dX2_point_163 (pr_post (P := fun τ => MP G H o A τ th _) (by first | with_reducible rfl | (simp only [m_point, c_61, c_68, Int64.not_lt.mp c_68, c_76, Int64.not_lt.mp c_76, c_84, Int64.not_lt.mp c_84, c_92, Int64.not_lt.mpr c_92, c_105, nI_pred, ↓reduceIte, Bool.true_and, Bool.and_true, Bool.false_and, Bool.and_false, Bool.true_or, Bool.or_true, Bool.false_or, Bool.or_false, Bool.not_true, Bool.not_false, decide_true, decide_false, bI_t, bI_f, Bool.false_eq_true, not_true_eq_false, not_false_eq_true, eq_self, reduceCtorEq, Bool.true_eq_false, and_true, true_and, and_false, false_and, or_true, true_or, or_false, false_or]; done) | (simp only [c_61, c_68, Int64.not_lt.mp c_68, c_76, Int64.not_lt.mp c_76, c_84, Int64.not_lt.mp c_84, c_92, Int64.not_lt.mpr c_92, ↓reduceIte, Bool.true_and, Bool.and_true, Bool.false_and, Bool.and_false, Bool.true_or, Bool.or_true, Bool.false_or, Bool.or_false, Bool.not_true, Bool.not_false, decide_true, decide_false, bI_t, bI_f, Bool.false_eq_true, not_true_eq_false, not_false_eq_true, eq_self, reduceCtorEq, Bool.true_eq_false, and_true, true_and, and_false, false_and, or_true, true_or, or_false, false_or] at c_105; done) | (simp only [c_61, c_68, Int64.not_lt.mp c_68, c_76, Int64.not_lt.mp c_76, c_84, Int64.not_lt.mp c_84, c_105, ↓reduceIte, Bool.true_and, Bool.and_true, Bool.false_and, Bool.and_false, Bool.true_or, Bool.or_true, Bool.false_or, Bool.or_false, Bool.not_true, Bool.not_false, decide_true, decide_false, bI_t, bI_f, Bool.false_eq_true, not_true_eq_false, not_false_eq_true, eq_self, reduceCtorEq, Bool.true_eq_false, and_true, true_and, and_false, false_and, or_true, true_or, or_false, false_or] at c_92; done) | (simp only [c_61, c_68, Int64.not_lt.mp c_68, c_76, Int64.not_lt.mp c_76, c_92, Int64.not_lt.mpr c_92, c_105, ↓reduceIte, Bool.true_and, Bool.and_true, Bool.false_and, Bool.and_false, Bool.true_or, Bool.or_true, Bool.false_or, Bool.or_false, Bool.not_true, Bool.not_false, decide_true, decide_false, bI_t, bI_f, Bool.false_eq_true, not_true_eq_false, not_false_eq_true, eq_self, reduceCtorEq, Bool.true_eq_false, and_true, true_and, and_false, false_and, or_true, true_or, or_false, false_or] at c_84; done) | (simp only [c_61, c_68, Int64.not_lt.mp c_68, c_84, Int64.not_lt.mp c_84, c_92, Int64.not_lt.mpr c_92, c_105, ↓reduceIte, Bool.true_and, Bool.and_true, Bool.false_and, Bool.and_false, Bool.true_or, Bool.or_true, Bool.false_or, Bool.or_false, Bool.not_true, Bool.not_false, decide_true, decide_false, bI_t, bI_f, Bool.false_eq_true, not_true_eq_false, not_false_eq_true, eq_self, reduceCtorEq, Bool.true_eq_false, and_true, true_and, and_false, false_and, or_true, true_or, or_false, false_or] at c_76; done) | (simp only [c_61, c_76, Int64.not_lt.mp c_76, c_84, Int64.not_lt.mp c_84, c_92, Int64.not_lt.mpr c_92, c_105, ↓reduceIte, Bool.true_and, Bool.and_true, Bool.false_and, Bool.and_false, Bool.true_or, Bool.or_true, Bool.false_or, Bool.or_false, Bool.not_true, Bool.not_false, decide_true, decide_false, bI_t, bI_f, Bool.false_eq_true, not_true_eq_false, not_false_eq_true, eq_self, reduceCtorEq, Bool.true_eq_false, and_true, true_and, and_false, false_and, or_true, true_or, or_false, false_or] at c_68; done) | (simp only [c_68, Int64.not_lt.mp c_68, c_76, Int64.not_lt.mp c_76, c_84, Int64.not_lt.mp c_84, c_92, Int64.not_lt.mpr c_92, c_105, ↓reduceIte, Bool.true_and, Bool.and_true, Bool.false_and, Bool.and_false, Bool.true_or, Bool.or_true, Bool.false_or, Bool.or_false, Bool.not_true, Bool.not_false, decide_true, decide_false, bI_t, bI_f, Bool.false_eq_true, not_true_eq_false, not_false_eq_true, eq_self, reduceCtorEq, Bool.true_eq_false, and_true, true_and, and_false, false_and, or_true, true_or, or_false, false_or] at c_61; done)) (MP.pt (p := ((x * (12 / dn)).toInt32, (y * (12 / dn)).toInt32)) h15_ h16_ h17_ h18_ h19_ h20_ h21_ (KM.tr (KM.tr (KM.of ho1_ (Or.inr ⟨0, by decide, rfl⟩)) (KM.of ho8_ (Or.inr ⟨1, by decide, rfl⟩))) (KM.of ho15_ (Or.inl rfl)))))
    refine lv_bipush (v := -3) hx hb dX2_point_108 ib_m3 ?_
    exact g_iret (F := fun z => ownM o A z) (Post := fun oc H' => oc = .returned (some (.int (m_point σ x y dn).1)) ∧ MP G H o A (m_point σ x y dn).2 th H') hx hb hr hlk hL dX2_point_110 (pr_post (P := fun τ => MP G H o A τ th _) (by first | with_reducible rfl | (simp only [m_point, c_61, c_68, Int64.not_lt.mp c_68, c_76, Int64.not_lt.mp c_76, c_84, Int64.not_lt.mp c_84, c_92, Int64.not_lt.mpr c_92, eq_true c_105, nI_pred, ↓reduceIte, Bool.true_and, Bool.and_true, Bool.false_and, Bool.and_false, Bool.true_or, Bool.or_true, Bool.false_or, Bool.or_false, Bool.not_true, Bool.not_false, decide_true, decide_false, bI_t, bI_f, Bool.false_eq_true, not_true_eq_false, not_false_eq_true, eq_self, reduceCtorEq, Bool.true_eq_false, and_true, true_and, and_false, false_and, or_true, true_or, or_false, false_or]; done) | (simp only [c_61, c_68, Int64.not_lt.mp c_68, c_76, Int64.not_lt.mp c_76, c_84, Int64.not_lt.mp c_84, c_92, Int64.not_lt.mpr c_92, ↓reduceIte, Bool.true_and, Bool.and_true, Bool.false_and, Bool.and_false, Bool.true_or, Bool.or_true, Bool.false_or, Bool.or_false, Bool.not_true, Bool.not_false, decide_true, decide_false, bI_t, bI_f, Bool.false_eq_true, not_true_eq_false, not_false_eq_true, eq_self, reduceCtorEq, Bool.true_eq_false, and_true, true_and, and_false, false_and, or_true, true_or, or_false, false_or] at c_105; done) | (simp only [c_61, c_68, Int64.not_lt.mp c_68, c_76, Int64.not_lt.mp c_76, c_84, Int64.not_lt.mp c_84, eq_true c_105, ↓reduceIte, Bool.true_and, Bool.and_true, Bool.false_and, Bool.and_false, Bool.true_or, Bool.or_true, Bool.false_or, Bool.or_false, Bool.not_true, Bool.not_false, decide_true, decide_false, bI_t, bI_f, Bool.false_eq_true, not_true_eq_false, not_false_eq_true, eq_self, reduceCtorEq, Bool.true_eq_false, and_true, true_and, and_false, false_and, or_true, true_or, or_false, false_or] at c_92; done) | (simp only [c_61, c_68, Int64.not_lt.mp c_68, c_76, Int64.not_lt.mp c_76, c_92, Int64.not_lt.mpr c_92, eq_true c_105, ↓reduceIte, Bool.true_and, Bool.and_true, Bool.false_and, Bool.and_false, Bool.true_or, Bool.or_true, Bool.false_or, Bool.or_false, Bool.not_true, Bool.not_false, decide_true, decide_false, bI_t, bI_f, Bool.false_eq_true, not_true_eq_false, not_false_eq_true, eq_self, reduceCtorEq, Bool.true_eq_false, and_true, true_and, and_false, false_and, or_true, true_or, or_false, false_or] at c_84; done) | (simp only [c_61, c_68, Int64.not_lt.mp c_68, c_84, Int64.not_lt.mp c_84, c_92, Int64.not_lt.mpr c_92, eq_true c_105, ↓reduceIte, Bool.true_and, Bool.and_true, Bool.false_and, Bool.and_false, Bool.true_or, Bool.or_true, Bool.false_or, Bool.or_false, Bool.not_true, Bool.not_false, decide_true, decide_false, bI_t, bI_f, Bool.false_eq_true, not_true_eq_false, not_false_eq_true, eq_self, reduceCtorEq, Bool.true_eq_false, and_true, true_and, and_false, false_and, or_true, true_or, or_false, false_or] at c_76; done) | (simp only [c_61, c_76, Int64.not_lt.mp c_76, c_84, Int64.not_lt.mp c_84, c_92, Int64.not_lt.mpr c_92, eq_true c_105, ↓reduceIte, Bool.true_and, Bool.and_true, Bool.false_and, Bool.and_false, Bool.true_or, Bool.or_true, Bool.false_or, Bool.or_false, Bool.not_true, Bool.not_false, decide_true, decide_false, bI_t, bI_f, Bool.false_eq_true, not_true_eq_false, not_false_eq_true, eq_self, reduceCtorEq, Bool.true_eq_false, and_true, true_and, and_false, false_and, or_true, true_or, or_false, false_or] at c_68; done) | (simp only [c_68, Int64.not_lt.mp c_68, c_76, Int64.not_lt.mp c_76, c_84, Int64.not_lt.mp c_84, c_92, Int64.not_lt.mpr c_92, eq_true c_105, ↓reduceIte, Bool.true_and, Bool.and_true, Bool.false_and, Bool.and_false, Bool.true_or, Bool.or_true, Bool.false_or, Bool.or_false, Bool.not_true, Bool.not_false, decide_true, decide_false, bI_t, bI_f, Bool.false_eq_true, not_true_eq_false, not_false_eq_true, eq_self, reduceCtorEq, Bool.true_eq_false, and_true, true_and, and_false, false_and, or_true, true_or, or_false, false_or] at c_61; done)) (MP.rf hM))
  refine lv_bipush (v := -2) hx hb dX2_point_96 ib_m2 ?_
  exact g_iret (F := fun z => ownM o A z) (Post := fun oc H' => oc = .returned (some (.int (m_point σ x y dn).1)) ∧ MP G H o A (m_point σ x y dn).2 th H') hx hb hr hlk hL dX2_point_98 (pr_post (P := fun τ => MP G H o A τ th _) (by first | with_reducible rfl | (simp only [m_point, c_61, c_68, Int64.not_lt.mp c_68, c_76, Int64.not_lt.mp c_76, c_84, Int64.not_lt.mp c_84, c_92, Int64.not_le.mp c_92, nI_pred, ↓reduceIte, Bool.true_and, Bool.and_true, Bool.false_and, Bool.and_false, Bool.true_or, Bool.or_true, Bool.false_or, Bool.or_false, Bool.not_true, Bool.not_false, decide_true, decide_false, bI_t, bI_f, Bool.false_eq_true, not_true_eq_false, not_false_eq_true, eq_self, reduceCtorEq, Bool.true_eq_false, and_true, true_and, and_false, false_and, or_true, true_or, or_false, false_or]; done) | (simp only [c_61, c_68, Int64.not_lt.mp c_68, c_76, Int64.not_lt.mp c_76, c_84, Int64.not_lt.mp c_84, ↓reduceIte, Bool.true_and, Bool.and_true, Bool.false_and, Bool.and_false, Bool.true_or, Bool.or_true, Bool.false_or, Bool.or_false, Bool.not_true, Bool.not_false, decide_true, decide_false, bI_t, bI_f, Bool.false_eq_true, not_true_eq_false, not_false_eq_true, eq_self, reduceCtorEq, Bool.true_eq_false, and_true, true_and, and_false, false_and, or_true, true_or, or_false, false_or] at c_92; done) | (simp only [c_61, c_68, Int64.not_lt.mp c_68, c_76, Int64.not_lt.mp c_76, c_92, Int64.not_le.mp c_92, ↓reduceIte, Bool.true_and, Bool.and_true, Bool.false_and, Bool.and_false, Bool.true_or, Bool.or_true, Bool.false_or, Bool.or_false, Bool.not_true, Bool.not_false, decide_true, decide_false, bI_t, bI_f, Bool.false_eq_true, not_true_eq_false, not_false_eq_true, eq_self, reduceCtorEq, Bool.true_eq_false, and_true, true_and, and_false, false_and, or_true, true_or, or_false, false_or] at c_84; done) | (simp only [c_61, c_68, Int64.not_lt.mp c_68, c_84, Int64.not_lt.mp c_84, c_92, Int64.not_le.mp c_92, ↓reduceIte, Bool.true_and, Bool.and_true, Bool.false_and, Bool.and_false, Bool.true_or, Bool.or_true, Bool.false_or, Bool.or_false, Bool.not_true, Bool.not_false, decide_true, decide_false, bI_t, bI_f, Bool.false_eq_true, not_true_eq_false, not_false_eq_true, eq_self, reduceCtorEq, Bool.true_eq_false, and_true, true_and, and_false, false_and, or_true, true_or, or_false, false_or] at c_76; done) | (simp only [c_61, c_76, Int64.not_lt.mp c_76, c_84, Int64.not_lt.mp c_84, c_92, Int64.not_le.mp c_92, ↓reduceIte, Bool.true_and, Bool.and_true, Bool.false_and, Bool.and_false, Bool.true_or, Bool.or_true, Bool.false_or, Bool.or_false, Bool.not_true, Bool.not_false, decide_true, decide_false, bI_t, bI_f, Bool.false_eq_true, not_true_eq_false, not_false_eq_true, eq_self, reduceCtorEq, Bool.true_eq_false, and_true, true_and, and_false, false_and, or_true, true_or, or_false, false_or] at c_68; done) | (simp only [c_68, Int64.not_lt.mp c_68, c_76, Int64.not_lt.mp c_76, c_84, Int64.not_lt.mp c_84, c_92, Int64.not_le.mp c_92, ↓reduceIte, Bool.true_and, Bool.and_true, Bool.false_and, Bool.and_false, Bool.true_or, Bool.or_true, Bool.false_or, Bool.or_false, Bool.not_true, Bool.not_false, decide_true, decide_false, bI_t, bI_f, Bool.false_eq_true, not_true_eq_false, not_false_eq_true, eq_self, reduceCtorEq, Bool.true_eq_false, and_true, true_and, and_false, false_and, or_true, true_or, or_false, false_or] at c_61; done)) (MP.rf hM))
theorem dX2_line_0 : decode cX2_line 0 = .ok (.aload_n 0, 1) := by decide +kernel
theorem dX2_line_1 : decode cX2_line 1 = .ok (.iload_n 1, 1) := by decide +kernel
theorem dX2_line_2 : decode cX2_line 2 = .ok (.invokevirtual 69, 3) := by decide +kernel
theorem dX2_line_5 : decode cX2_line 5 = .ok (.ifCond .eq 11, 3) := by decide +kernel
theorem dX2_line_8 : decode cX2_line 8 = .ok (.aload_n 0, 1) := by decide +kernel
theorem dX2_line_9 : decode cX2_line 9 = .ok (.iload_n 2, 1) := by decide +kernel
theorem dX2_line_10 : decode cX2_line 10 = .ok (.invokevirtual 69, 3) := by decide +kernel
theorem dX2_line_13 : decode cX2_line 13 = .ok (.ifCond .ne 6, 3) := by decide +kernel
theorem dX2_line_16 : decode cX2_line 16 = .ok (.bipush (-2), 2) := by decide +kernel
theorem dX2_line_18 : decode cX2_line 18 = .ok (.ireturn, 1) := by decide +kernel
theorem dX2_line_19 : decode cX2_line 19 = .ok (.aload_n 0, 1) := by decide +kernel
theorem dX2_line_20 : decode cX2_line 20 = .ok (.iload_n 1, 1) := by decide +kernel
theorem dX2_line_21 : decode cX2_line 21 = .ok (.iload_n 2, 1) := by decide +kernel
theorem dX2_line_22 : decode cX2_line 22 = .ok (.invokevirtual 107, 3) := by decide +kernel
theorem dX2_line_25 : decode cX2_line 25 = .ok (.ifCond .eq 6, 3) := by decide +kernel
theorem dX2_line_28 : decode cX2_line 28 = .ok (.bipush (-4), 2) := by decide +kernel
theorem dX2_line_30 : decode cX2_line 30 = .ok (.ireturn, 1) := by decide +kernel
theorem dX2_line_31 : decode cX2_line 31 = .ok (.aload_n 0, 1) := by decide +kernel
theorem dX2_line_32 : decode cX2_line 32 = .ok (.getfield 168, 3) := by decide +kernel
theorem dX2_line_35 : decode cX2_line 35 = .ok (.bipush 12, 2) := by decide +kernel
theorem dX2_line_37 : decode cX2_line 37 = .ok (.if_icmp .ne 6, 3) := by decide +kernel
theorem dX2_line_40 : decode cX2_line 40 = .ok (.bipush (-3), 2) := by decide +kernel
theorem dX2_line_42 : decode cX2_line 42 = .ok (.ireturn, 1) := by decide +kernel
theorem dX2_line_43 : decode cX2_line 43 = .ok (.aload_n 0, 1) := by decide +kernel
theorem dX2_line_44 : decode cX2_line 44 = .ok (.getfield 27, 3) := by decide +kernel
theorem dX2_line_47 : decode cX2_line 47 = .ok (.aload_n 0, 1) := by decide +kernel
theorem dX2_line_48 : decode cX2_line 48 = .ok (.getfield 168, 3) := by decide +kernel
theorem dX2_line_51 : decode cX2_line 51 = .ok (.aload_n 0, 1) := by decide +kernel
theorem dX2_line_52 : decode cX2_line 52 = .ok (.getfield 17, 3) := by decide +kernel
theorem dX2_line_55 : decode cX2_line 55 = .ok (.iload_n 2, 1) := by decide +kernel
theorem dX2_line_56 : decode cX2_line 56 = .ok (.iaload, 1) := by decide +kernel
theorem dX2_line_57 : decode cX2_line 57 = .ok (.aload_n 0, 1) := by decide +kernel
theorem dX2_line_58 : decode cX2_line 58 = .ok (.getfield 17, 3) := by decide +kernel
theorem dX2_line_61 : decode cX2_line 61 = .ok (.iload_n 1, 1) := by decide +kernel
theorem dX2_line_62 : decode cX2_line 62 = .ok (.iaload, 1) := by decide +kernel
theorem dX2_line_63 : decode cX2_line 63 = .ok (.isub, 1) := by decide +kernel
theorem dX2_line_64 : decode cX2_line 64 = .ok (.i2l, 1) := by decide +kernel
theorem dX2_line_65 : decode cX2_line 65 = .ok (.lastore, 1) := by decide +kernel
theorem dX2_line_66 : decode cX2_line 66 = .ok (.aload_n 0, 1) := by decide +kernel
theorem dX2_line_67 : decode cX2_line 67 = .ok (.getfield 31, 3) := by decide +kernel
theorem dX2_line_70 : decode cX2_line 70 = .ok (.aload_n 0, 1) := by decide +kernel
theorem dX2_line_71 : decode cX2_line 71 = .ok (.getfield 168, 3) := by decide +kernel
theorem dX2_line_74 : decode cX2_line 74 = .ok (.aload_n 0, 1) := by decide +kernel
theorem dX2_line_75 : decode cX2_line 75 = .ok (.getfield 13, 3) := by decide +kernel
theorem dX2_line_78 : decode cX2_line 78 = .ok (.iload_n 1, 1) := by decide +kernel
theorem dX2_line_79 : decode cX2_line 79 = .ok (.iaload, 1) := by decide +kernel
theorem dX2_line_80 : decode cX2_line 80 = .ok (.aload_n 0, 1) := by decide +kernel
theorem dX2_line_81 : decode cX2_line 81 = .ok (.getfield 13, 3) := by decide +kernel
theorem dX2_line_84 : decode cX2_line 84 = .ok (.iload_n 2, 1) := by decide +kernel
theorem dX2_line_85 : decode cX2_line 85 = .ok (.iaload, 1) := by decide +kernel
theorem dX2_line_86 : decode cX2_line 86 = .ok (.isub, 1) := by decide +kernel
theorem dX2_line_87 : decode cX2_line 87 = .ok (.i2l, 1) := by decide +kernel
theorem dX2_line_88 : decode cX2_line 88 = .ok (.lastore, 1) := by decide +kernel
theorem dX2_line_89 : decode cX2_line 89 = .ok (.aload_n 0, 1) := by decide +kernel
theorem dX2_line_90 : decode cX2_line 90 = .ok (.getfield 34, 3) := by decide +kernel
theorem dX2_line_93 : decode cX2_line 93 = .ok (.aload_n 0, 1) := by decide +kernel
theorem dX2_line_94 : decode cX2_line 94 = .ok (.getfield 168, 3) := by decide +kernel
theorem dX2_line_97 : decode cX2_line 97 = .ok (.aload_n 0, 1) := by decide +kernel
theorem dX2_line_98 : decode cX2_line 98 = .ok (.getfield 27, 3) := by decide +kernel
theorem dX2_line_101 : decode cX2_line 101 = .ok (.aload_n 0, 1) := by decide +kernel
theorem dX2_line_102 : decode cX2_line 102 = .ok (.getfield 168, 3) := by decide +kernel
theorem dX2_line_105 : decode cX2_line 105 = .ok (.laload, 1) := by decide +kernel
theorem dX2_line_106 : decode cX2_line 106 = .ok (.aload_n 0, 1) := by decide +kernel
theorem dX2_line_107 : decode cX2_line 107 = .ok (.getfield 13, 3) := by decide +kernel
theorem dX2_line_110 : decode cX2_line 110 = .ok (.iload_n 1, 1) := by decide +kernel
theorem dX2_line_111 : decode cX2_line 111 = .ok (.iaload, 1) := by decide +kernel
theorem dX2_line_112 : decode cX2_line 112 = .ok (.i2l, 1) := by decide +kernel
theorem dX2_line_113 : decode cX2_line 113 = .ok (.lmul, 1) := by decide +kernel
theorem dX2_line_114 : decode cX2_line 114 = .ok (.aload_n 0, 1) := by decide +kernel
theorem dX2_line_115 : decode cX2_line 115 = .ok (.getfield 31, 3) := by decide +kernel
theorem dX2_line_118 : decode cX2_line 118 = .ok (.aload_n 0, 1) := by decide +kernel
theorem dX2_line_119 : decode cX2_line 119 = .ok (.getfield 168, 3) := by decide +kernel
theorem dX2_line_122 : decode cX2_line 122 = .ok (.laload, 1) := by decide +kernel
theorem dX2_line_123 : decode cX2_line 123 = .ok (.aload_n 0, 1) := by decide +kernel
theorem dX2_line_124 : decode cX2_line 124 = .ok (.getfield 17, 3) := by decide +kernel
theorem dX2_line_127 : decode cX2_line 127 = .ok (.iload_n 1, 1) := by decide +kernel
theorem dX2_line_128 : decode cX2_line 128 = .ok (.iaload, 1) := by decide +kernel
theorem dX2_line_129 : decode cX2_line 129 = .ok (.i2l, 1) := by decide +kernel
theorem dX2_line_130 : decode cX2_line 130 = .ok (.lmul, 1) := by decide +kernel
theorem dX2_line_131 : decode cX2_line 131 = .ok (.ladd, 1) := by decide +kernel
theorem dX2_line_132 : decode cX2_line 132 = .ok (.lastore, 1) := by decide +kernel
theorem dX2_line_133 : decode cX2_line 133 = .ok (.aload_n 0, 1) := by decide +kernel
theorem dX2_line_134 : decode cX2_line 134 = .ok (.dup, 1) := by decide +kernel
theorem dX2_line_135 : decode cX2_line 135 = .ok (.getfield 168, 3) := by decide +kernel
theorem dX2_line_138 : decode cX2_line 138 = .ok (.iconst 1, 1) := by decide +kernel
theorem dX2_line_139 : decode cX2_line 139 = .ok (.iadd, 1) := by decide +kernel
theorem dX2_line_140 : decode cX2_line 140 = .ok (.putfield 168, 3) := by decide +kernel
theorem dX2_line_143 : decode cX2_line 143 = .ok (.aload_n 0, 1) := by decide +kernel
theorem dX2_line_144 : decode cX2_line 144 = .ok (.getfield 168, 3) := by decide +kernel
theorem dX2_line_147 : decode cX2_line 147 = .ok (.iconst 1, 1) := by decide +kernel
theorem dX2_line_148 : decode cX2_line 148 = .ok (.isub, 1) := by decide +kernel
theorem dX2_line_149 : decode cX2_line 149 = .ok (.ireturn, 1) := by decide +kernel
set_option maxHeartbeats 800000 in
theorem met_X2_line (l : Launch) (G : GG) {H : Heap} {o : Nat} {A : Nat → Nat} {σ : Sg} {th : Int32} {a : Int32} {b : Int32} (hM : MW G H o A σ th) (hO : Ok σ) (hS : MS o A) : GM l yX2_line cX2_line 3 (some .int) 1 0 0 22 G H [.ref o, .int a, .int b] (fun oc H' => oc = .returned (some (.int (s_line σ a b).1)) ∧ MP G H o A (s_line σ a b).2 th H') (fun z => ownM o A z) := by
  refine gm_intro pl_X2_line (Nat.le_of_ble_eq_true rfl) ?_
  intro pX eX sX mX belX methX cX ls hE hnm hl
  obtain ⟨hx, hb, hr, hlk, hml, hown, hts, hK, hZ, hH⟩ := hE
  have hl : lv_has ls 3 [(0, .ref o), (1, .int a), (2, .int b)] := hl
  have hL : ∀ q ∈ ([] : List Loc), (fun z => ownM o A z : Addr → Prop) q.base := fun q h => by cases h
  refine lv_aload_n hx hb dX2_line_0 rfl (lv_at hl 0 rfl) ?_
  refine lv_iload_n hx hb dX2_line_1 rfl (lv_at hl 1 rfl) ?_
  refine p_callV (As := [.int _]) hx hb hml hown hts hK trivial (met_X2_isPoint l G hM) q728 q730 qs13 q43 q731 hv_X2_isPoint rfl hM.1 rfl (by decide) hl.1 rfl (Nat.le_of_ble_eq_true rfl) dX2_line_2 ⟨Nat.le_of_ble_eq_true rfl, Nat.le_of_ble_eq_true rfl⟩ ?_
  refine b_ifeq (tgt := 16) hx hb dX2_line_5 rfl (fun c_5 => ?_) (fun c_5 => ?_)
  · skip
    refine lv_bipush (v := -2) hx hb dX2_line_16 ib_m2 ?_
    exact g_iret (F := fun z => ownM o A z) (Post := fun oc H' => oc = .returned (some (.int (s_line σ a b).1)) ∧ MP G H o A (s_line σ a b).2 th H') hx hb hr hlk hL dX2_line_18 (pr_post (P := fun τ => MP G H o A τ th _) (by first | with_reducible rfl | (simp only [s_line, c_5, nI_pred, ↓reduceIte, Bool.true_and, Bool.and_true, Bool.false_and, Bool.and_false, Bool.true_or, Bool.or_true, Bool.false_or, Bool.or_false, Bool.not_true, Bool.not_false, decide_true, decide_false, bI_t, bI_f, Bool.false_eq_true, not_true_eq_false, not_false_eq_true, eq_self, reduceCtorEq, Bool.true_eq_false, and_true, true_and, and_false, false_and, or_true, true_or, or_false, false_or]; done)) (MP.rf hM))
  obtain ⟨a_, i_a, rfl⟩ := isPt_elim hO.1.1 c_5
  refine lv_aload_n hx hb dX2_line_8 rfl (lv_at hl 0 rfl) ?_
  refine lv_iload_n hx hb dX2_line_9 rfl (lv_at hl 2 rfl) ?_
  refine p_callV (As := [.int _]) hx hb hml hown hts hK trivial (met_X2_isPoint l G hM) q728 q730 qs13 q43 q731 hv_X2_isPoint rfl hM.1 rfl (by decide) hl.1 rfl (Nat.le_of_ble_eq_true rfl) dX2_line_10 ⟨Nat.le_of_ble_eq_true rfl, Nat.le_of_ble_eq_true rfl⟩ ?_
  refine b_ifne (tgt := 19) hx hb dX2_line_13 rfl (fun c_13 => ?_) (fun c_13 => ?_)
  · skip
    obtain ⟨b_, i_b, rfl⟩ := isPt_elim hO.1.1 c_13
    refine lv_aload_n hx hb dX2_line_19 rfl (lv_at hl 0 rfl) ?_
    refine lv_iload_n hx hb dX2_line_20 rfl (lv_at hl 1 rfl) ?_
    refine lv_iload_n hx hb dX2_line_21 rfl (lv_at hl 2 rfl) ?_
    refine p_callV (As := [.int _, .int _]) hx hb hml hown hts hK trivial (met_X2_areEqual l G hM hO i_a i_b) q744 q746 qs15 q43 q747 hv_X2_areEqual rfl hM.1 rfl (by decide) hl.1 rfl (Nat.le_of_ble_eq_true rfl) dX2_line_22 ⟨Nat.le_of_ble_eq_true rfl, Nat.le_of_ble_eq_true rfl⟩ ?_
    refine b_ifeq (tgt := 31) hx hb dX2_line_25 rfl (fun c_25 => ?_) (fun c_25 => ?_)
    · skip
      refine lv_aload_n hx hb dX2_line_31 rfl (lv_at hl 0 rfl) ?_
      refine gf_X2_168 hx hb hts hown hK hM.1 rfl dX2_line_32 ?_
      refine lv_bipush (v := 12) hx hb dX2_line_35 ib_12 ?_
      refine lv_icmp_ne (tgt := 43) hx hb dX2_line_37 rfl (fun c_37 => ?_) (fun c_37 => ?_)
      · skip
        have hlt_ : σ.nl < 12 := nl_lt hO.1.2.2 c_37
        refine lv_aload_n hx hb dX2_line_43 rfl (lv_at hl 0 rfl) ?_
        refine gf_X2_27 hx hb hts hown hK hM.1 rfl dX2_line_44 ?_
        refine lv_aload_n hx hb dX2_line_47 rfl (lv_at hl 0 rfl) ?_
        refine gf_X2_168 hx hb hts hown hK hM.1 rfl dX2_line_48 ?_
        refine lv_aload_n hx hb dX2_line_51 rfl (lv_at hl 0 rfl) ?_
        refine gf_X2_17 hx hb hts hown hK hM.1 rfl dX2_line_52 ?_
        refine lv_iload_n hx hb dX2_line_55 rfl (lv_at hl 2 rfl) ?_
        refine r_iald hx hb hK hM.2.2.1 dX2_line_56 (k := b_) (hO.lt60 i_b) (by decide) rfl rfl ?_
        refine lv_aload_n hx hb dX2_line_57 rfl (lv_at hl 0 rfl) ?_
        refine gf_X2_17 hx hb hts hown hK hM.1 rfl dX2_line_58 ?_
        refine lv_iload_n hx hb dX2_line_61 rfl (lv_at hl 1 rfl) ?_
        refine r_iald hx hb hK hM.2.2.1 dX2_line_62 (k := a_) (hO.lt60 i_a) (by decide) rfl rfl ?_
        refine lv_isub hx hb dX2_line_63 ?_
        refine lv_i2l hx hb dX2_line_64 rfl ?_
        refine w_last (F := fun z => ownM o A z) hx hb hK hM.2.2.2.2.1 dX2_line_65 (k := σ.nl) hlt_ (by decide) rfl hL (Or.inr ⟨3, by decide, rfl⟩) (fun H1_ locs h1_ ho1_ hL => ?_)
        have h2_ := at_only hM.1 ho1_ (hS.1 3 (by decide))
        have h3_ := at_only hM.2.1 ho1_ (hS.2 0 3 (by decide) (by decide) (by decide))
        have h4_ := at_only hM.2.2.1 ho1_ (hS.2 1 3 (by decide) (by decide) (by decide))
        have h5_ := at_only hM.2.2.2.1 ho1_ (hS.2 2 3 (by decide) (by decide) (by decide))
        have h6_ := at_only hM.2.2.2.2.2.1 ho1_ (hS.2 4 3 (by decide) (by decide) (by decide))
        have h7_ := at_only hM.2.2.2.2.2.2 ho1_ (hS.2 5 3 (by decide) (by decide) (by decide))
        refine lv_aload_n hx hb dX2_line_66 rfl (lv_at hl 0 rfl) ?_
        refine gf_X2_31 hx hb hts hown hK h2_ rfl dX2_line_67 ?_
        refine lv_aload_n hx hb dX2_line_70 rfl (lv_at hl 0 rfl) ?_
        refine gf_X2_168 hx hb hts hown hK h2_ rfl dX2_line_71 ?_
        refine lv_aload_n hx hb dX2_line_74 rfl (lv_at hl 0 rfl) ?_
        refine gf_X2_13 hx hb hts hown hK h2_ rfl dX2_line_75 ?_
        refine lv_iload_n hx hb dX2_line_78 rfl (lv_at hl 1 rfl) ?_
        refine r_iald hx hb hK h3_ dX2_line_79 (k := a_) (hO.lt60 i_a) (by decide) rfl rfl ?_
        refine lv_aload_n hx hb dX2_line_80 rfl (lv_at hl 0 rfl) ?_
        refine gf_X2_13 hx hb hts hown hK h2_ rfl dX2_line_81 ?_
        refine lv_iload_n hx hb dX2_line_84 rfl (lv_at hl 2 rfl) ?_
        refine r_iald hx hb hK h3_ dX2_line_85 (k := b_) (hO.lt60 i_b) (by decide) rfl rfl ?_
        refine lv_isub hx hb dX2_line_86 ?_
        refine lv_i2l hx hb dX2_line_87 rfl ?_
        refine w_last (F := fun z => ownM o A z) hx hb hK h6_ dX2_line_88 (k := σ.nl) hlt_ (by decide) rfl hL (Or.inr ⟨4, by decide, rfl⟩) (fun H8_ locs h8_ ho8_ hL => ?_)
        have h9_ := at_only h2_ ho8_ (hS.1 4 (by decide))
        have h10_ := at_only h3_ ho8_ (hS.2 0 4 (by decide) (by decide) (by decide))
        have h11_ := at_only h4_ ho8_ (hS.2 1 4 (by decide) (by decide) (by decide))
        have h12_ := at_only h5_ ho8_ (hS.2 2 4 (by decide) (by decide) (by decide))
        have h13_ := at_only h1_ ho8_ (hS.2 3 4 (by decide) (by decide) (by decide))
        have h14_ := at_only h7_ ho8_ (hS.2 5 4 (by decide) (by decide) (by decide))
        refine lv_aload_n hx hb dX2_line_89 rfl (lv_at hl 0 rfl) ?_
        refine gf_X2_34 hx hb hts hown hK h9_ rfl dX2_line_90 ?_
        refine lv_aload_n hx hb dX2_line_93 rfl (lv_at hl 0 rfl) ?_
        refine gf_X2_168 hx hb hts hown hK h9_ rfl dX2_line_94 ?_
        refine lv_aload_n hx hb dX2_line_97 rfl (lv_at hl 0 rfl) ?_
        refine gf_X2_27 hx hb hts hown hK h9_ rfl dX2_line_98 ?_
        refine lv_aload_n hx hb dX2_line_101 rfl (lv_at hl 0 rfl) ?_
        refine gf_X2_168 hx hb hts hown hK h9_ rfl dX2_line_102 ?_
        refine r_lald hx hb hK h13_ dX2_line_105 (k := σ.nl) hlt_ (by decide) rfl (upL_self _ _ _) ?_
        refine lv_aload_n hx hb dX2_line_106 rfl (lv_at hl 0 rfl) ?_
        refine gf_X2_13 hx hb hts hown hK h9_ rfl dX2_line_107 ?_
        refine lv_iload_n hx hb dX2_line_110 rfl (lv_at hl 1 rfl) ?_
        refine r_iald hx hb hK h10_ dX2_line_111 (k := a_) (hO.lt60 i_a) (by decide) rfl rfl ?_
        refine lv_i2l hx hb dX2_line_112 rfl ?_
        refine lv_lmul hx hb dX2_line_113 ?_
        refine lv_aload_n hx hb dX2_line_114 rfl (lv_at hl 0 rfl) ?_
        refine gf_X2_31 hx hb hts hown hK h9_ rfl dX2_line_115 ?_
        refine lv_aload_n hx hb dX2_line_118 rfl (lv_at hl 0 rfl) ?_
        refine gf_X2_168 hx hb hts hown hK h9_ rfl dX2_line_119 ?_
        refine r_lald hx hb hK h8_ dX2_line_122 (k := σ.nl) hlt_ (by decide) rfl (upL_self _ _ _) ?_
        refine lv_aload_n hx hb dX2_line_123 rfl (lv_at hl 0 rfl) ?_
        refine gf_X2_17 hx hb hts hown hK h9_ rfl dX2_line_124 ?_
        refine lv_iload_n hx hb dX2_line_127 rfl (lv_at hl 1 rfl) ?_
        refine r_iald hx hb hK h11_ dX2_line_128 (k := a_) (hO.lt60 i_a) (by decide) rfl rfl ?_
        refine lv_i2l hx hb dX2_line_129 rfl ?_
        refine lv_lmul hx hb dX2_line_130 ?_
        refine lv_ladd hx hb dX2_line_131 ?_
        refine w_last (F := fun z => ownM o A z) hx hb hK h14_ dX2_line_132 (k := σ.nl) hlt_ (by decide) rfl hL (Or.inr ⟨5, by decide, rfl⟩) (fun H15_ locs h15_ ho15_ hL => ?_)
        have h16_ := at_only h9_ ho15_ (hS.1 5 (by decide))
        have h17_ := at_only h10_ ho15_ (hS.2 0 5 (by decide) (by decide) (by decide))
        have h18_ := at_only h11_ ho15_ (hS.2 1 5 (by decide) (by decide) (by decide))
        have h19_ := at_only h12_ ho15_ (hS.2 2 5 (by decide) (by decide) (by decide))
        have h20_ := at_only h13_ ho15_ (hS.2 3 5 (by decide) (by decide) (by decide))
        have h21_ := at_only h8_ ho15_ (hS.2 4 5 (by decide) (by decide) (by decide))
        refine lv_aload_n hx hb dX2_line_133 rfl (lv_at hl 0 rfl) ?_
        refine lv_dup hx hb dX2_line_134 rfl ?_
        refine gf_X2_168 hx hb hts hown hK h16_ rfl dX2_line_135 ?_
        refine lv_iconst (v := 1) hx hb dX2_line_138 ic_1 ?_
        refine lv_iadd hx hb dX2_line_139 ?_
        refine topi_eq (nI_1 _) ?_
        refine pf_X2_168 (F := fun z => ownM o A z) hx hb hts hown hK h16_ rfl rfl (Nat.le_of_ble_eq_true rfl) dX2_line_140 hL (Or.inl rfl) (fun H22_ locs h22_ ho22_ hL => ?_)
        have h23_ := at_only h17_ ho22_ (Ne.symm (hS.1 0 (by decide)))
        have h24_ := at_only h18_ ho22_ (Ne.symm (hS.1 1 (by decide)))
        have h25_ := at_only h19_ ho22_ (Ne.symm (hS.1 2 (by decide)))
        have h26_ := at_only h20_ ho22_ (Ne.symm (hS.1 3 (by decide)))
        have h27_ := at_only h21_ ho22_ (Ne.symm (hS.1 4 (by decide)))
        have h28_ := at_only h15_ ho22_ (Ne.symm (hS.1 5 (by decide)))
        refine lv_aload_n hx hb dX2_line_143 rfl (lv_at hl 0 rfl) ?_
        refine gf_X2_168 hx hb hts hown hK h22_ rfl dX2_line_144 ?_
        refine lv_iconst (v := 1) hx hb dX2_line_147 ic_1 ?_
        refine lv_isub hx hb dX2_line_148 ?_
        exact g_iret (F := fun z => ownM o A z) (Post := fun oc H' => oc = .returned (some (.int (s_line σ (nI a_) (nI b_)).1)) ∧ MP G H o A (s_line σ (nI a_) (nI b_)).2 th H') hx hb hr hlk hL dX2_line_149 (pr_post (P := fun τ => MP G H o A τ th _) (by first | with_reducible rfl | (simp only [s_line, c_5, hO.ix i_a, c_13, hO.ix i_b, c_25, c_37, nI_pred, ↓reduceIte, Bool.true_and, Bool.and_true, Bool.false_and, Bool.and_false, Bool.true_or, Bool.or_true, Bool.false_or, Bool.or_false, Bool.not_true, Bool.not_false, decide_true, decide_false, bI_t, bI_f, Bool.false_eq_true, not_true_eq_false, not_false_eq_true, eq_self, reduceCtorEq, Bool.true_eq_false, and_true, true_and, and_false, false_and, or_true, true_or, or_false, false_or]; done) | (simp only [c_5, hO.ix i_a, c_13, hO.ix i_b, c_25, ↓reduceIte, Bool.true_and, Bool.and_true, Bool.false_and, Bool.and_false, Bool.true_or, Bool.or_true, Bool.false_or, Bool.or_false, Bool.not_true, Bool.not_false, decide_true, decide_false, bI_t, bI_f, Bool.false_eq_true, not_true_eq_false, not_false_eq_true, eq_self, reduceCtorEq, Bool.true_eq_false, and_true, true_and, and_false, false_and, or_true, true_or, or_false, false_or] at c_37; done) | (simp only [c_5, hO.ix i_a, c_13, hO.ix i_b, c_37, ↓reduceIte, Bool.true_and, Bool.and_true, Bool.false_and, Bool.and_false, Bool.true_or, Bool.or_true, Bool.false_or, Bool.or_false, Bool.not_true, Bool.not_false, decide_true, decide_false, bI_t, bI_f, Bool.false_eq_true, not_true_eq_false, not_false_eq_true, eq_self, reduceCtorEq, Bool.true_eq_false, and_true, true_and, and_false, false_and, or_true, true_or, or_false, false_or] at c_25; done) | (simp only [c_5, hO.ix i_a, hO.ix i_b, c_25, c_37, ↓reduceIte, Bool.true_and, Bool.and_true, Bool.false_and, Bool.and_false, Bool.true_or, Bool.or_true, Bool.false_or, Bool.or_false, Bool.not_true, Bool.not_false, decide_true, decide_false, bI_t, bI_f, Bool.false_eq_true, not_true_eq_false, not_false_eq_true, eq_self, reduceCtorEq, Bool.true_eq_false, and_true, true_and, and_false, false_and, or_true, true_or, or_false, false_or] at c_13; done) | (simp only [hO.ix i_a, c_13, hO.ix i_b, c_25, c_37, ↓reduceIte, Bool.true_and, Bool.and_true, Bool.false_and, Bool.and_false, Bool.true_or, Bool.or_true, Bool.false_or, Bool.or_false, Bool.not_true, Bool.not_false, decide_true, decide_false, bI_t, bI_f, Bool.false_eq_true, not_true_eq_false, not_false_eq_true, eq_self, reduceCtorEq, Bool.true_eq_false, and_true, true_and, and_false, false_and, or_true, true_or, or_false, false_or] at c_5; done)) (MP.ln (l := lnOf (σ.pt a_) (σ.pt b_)) h22_ h23_ h24_ h25_ h26_ h27_ h28_ (KM.tr (KM.tr (KM.tr (KM.of ho1_ (Or.inr ⟨3, by decide, rfl⟩)) (KM.of ho8_ (Or.inr ⟨4, by decide, rfl⟩))) (KM.of ho15_ (Or.inr ⟨5, by decide, rfl⟩))) (KM.of ho22_ (Or.inl rfl)))))
      refine lv_bipush (v := -3) hx hb dX2_line_40 ib_m3 ?_
      exact g_iret (F := fun z => ownM o A z) (Post := fun oc H' => oc = .returned (some (.int (s_line σ (nI a_) (nI b_)).1)) ∧ MP G H o A (s_line σ (nI a_) (nI b_)).2 th H') hx hb hr hlk hL dX2_line_42 (pr_post (P := fun τ => MP G H o A τ th _) (by first | with_reducible rfl | (simp only [s_line, c_5, hO.ix i_a, c_13, hO.ix i_b, c_25, eq_true c_37, nI_pred, ↓reduceIte, Bool.true_and, Bool.and_true, Bool.false_and, Bool.and_false, Bool.true_or, Bool.or_true, Bool.false_or, Bool.or_false, Bool.not_true, Bool.not_false, decide_true, decide_false, bI_t, bI_f, Bool.false_eq_true, not_true_eq_false, not_false_eq_true, eq_self, reduceCtorEq, Bool.true_eq_false, and_true, true_and, and_false, false_and, or_true, true_or, or_false, false_or]; done) | (simp only [c_5, hO.ix i_a, c_13, hO.ix i_b, c_25, ↓reduceIte, Bool.true_and, Bool.and_true, Bool.false_and, Bool.and_false, Bool.true_or, Bool.or_true, Bool.false_or, Bool.or_false, Bool.not_true, Bool.not_false, decide_true, decide_false, bI_t, bI_f, Bool.false_eq_true, not_true_eq_false, not_false_eq_true, eq_self, reduceCtorEq, Bool.true_eq_false, and_true, true_and, and_false, false_and, or_true, true_or, or_false, false_or] at c_37; done) | (simp only [c_5, hO.ix i_a, c_13, hO.ix i_b, eq_true c_37, ↓reduceIte, Bool.true_and, Bool.and_true, Bool.false_and, Bool.and_false, Bool.true_or, Bool.or_true, Bool.false_or, Bool.or_false, Bool.not_true, Bool.not_false, decide_true, decide_false, bI_t, bI_f, Bool.false_eq_true, not_true_eq_false, not_false_eq_true, eq_self, reduceCtorEq, Bool.true_eq_false, and_true, true_and, and_false, false_and, or_true, true_or, or_false, false_or] at c_25; done) | (simp only [c_5, hO.ix i_a, hO.ix i_b, c_25, eq_true c_37, ↓reduceIte, Bool.true_and, Bool.and_true, Bool.false_and, Bool.and_false, Bool.true_or, Bool.or_true, Bool.false_or, Bool.or_false, Bool.not_true, Bool.not_false, decide_true, decide_false, bI_t, bI_f, Bool.false_eq_true, not_true_eq_false, not_false_eq_true, eq_self, reduceCtorEq, Bool.true_eq_false, and_true, true_and, and_false, false_and, or_true, true_or, or_false, false_or] at c_13; done) | (simp only [hO.ix i_a, c_13, hO.ix i_b, c_25, eq_true c_37, ↓reduceIte, Bool.true_and, Bool.and_true, Bool.false_and, Bool.and_false, Bool.true_or, Bool.or_true, Bool.false_or, Bool.or_false, Bool.not_true, Bool.not_false, decide_true, decide_false, bI_t, bI_f, Bool.false_eq_true, not_true_eq_false, not_false_eq_true, eq_self, reduceCtorEq, Bool.true_eq_false, and_true, true_and, and_false, false_and, or_true, true_or, or_false, false_or] at c_5; done)) (MP.rf hM))
    refine lv_bipush (v := -4) hx hb dX2_line_28 ib_m4 ?_
    exact g_iret (F := fun z => ownM o A z) (Post := fun oc H' => oc = .returned (some (.int (s_line σ (nI a_) (nI b_)).1)) ∧ MP G H o A (s_line σ (nI a_) (nI b_)).2 th H') hx hb hr hlk hL dX2_line_30 (pr_post (P := fun τ => MP G H o A τ th _) (by first | with_reducible rfl | (simp only [s_line, c_5, hO.ix i_a, c_13, hO.ix i_b, c_25, nI_pred, ↓reduceIte, Bool.true_and, Bool.and_true, Bool.false_and, Bool.and_false, Bool.true_or, Bool.or_true, Bool.false_or, Bool.or_false, Bool.not_true, Bool.not_false, decide_true, decide_false, bI_t, bI_f, Bool.false_eq_true, not_true_eq_false, not_false_eq_true, eq_self, reduceCtorEq, Bool.true_eq_false, and_true, true_and, and_false, false_and, or_true, true_or, or_false, false_or]; done) | (simp only [c_5, hO.ix i_a, c_13, hO.ix i_b, ↓reduceIte, Bool.true_and, Bool.and_true, Bool.false_and, Bool.and_false, Bool.true_or, Bool.or_true, Bool.false_or, Bool.or_false, Bool.not_true, Bool.not_false, decide_true, decide_false, bI_t, bI_f, Bool.false_eq_true, not_true_eq_false, not_false_eq_true, eq_self, reduceCtorEq, Bool.true_eq_false, and_true, true_and, and_false, false_and, or_true, true_or, or_false, false_or] at c_25; done) | (simp only [c_5, hO.ix i_a, hO.ix i_b, c_25, ↓reduceIte, Bool.true_and, Bool.and_true, Bool.false_and, Bool.and_false, Bool.true_or, Bool.or_true, Bool.false_or, Bool.or_false, Bool.not_true, Bool.not_false, decide_true, decide_false, bI_t, bI_f, Bool.false_eq_true, not_true_eq_false, not_false_eq_true, eq_self, reduceCtorEq, Bool.true_eq_false, and_true, true_and, and_false, false_and, or_true, true_or, or_false, false_or] at c_13; done) | (simp only [hO.ix i_a, c_13, hO.ix i_b, c_25, ↓reduceIte, Bool.true_and, Bool.and_true, Bool.false_and, Bool.and_false, Bool.true_or, Bool.or_true, Bool.false_or, Bool.or_false, Bool.not_true, Bool.not_false, decide_true, decide_false, bI_t, bI_f, Bool.false_eq_true, not_true_eq_false, not_false_eq_true, eq_self, reduceCtorEq, Bool.true_eq_false, and_true, true_and, and_false, false_and, or_true, true_or, or_false, false_or] at c_5; done)) (MP.rf hM))
  refine lv_bipush (v := -2) hx hb dX2_line_16 ib_m2 ?_
  exact g_iret (F := fun z => ownM o A z) (Post := fun oc H' => oc = .returned (some (.int (s_line σ (nI a_) b).1)) ∧ MP G H o A (s_line σ (nI a_) b).2 th H') hx hb hr hlk hL dX2_line_18 (pr_post (P := fun τ => MP G H o A τ th _) (by first | with_reducible rfl | (simp only [s_line, c_5, hO.ix i_a, c_13, nI_pred, ↓reduceIte, Bool.true_and, Bool.and_true, Bool.false_and, Bool.and_false, Bool.true_or, Bool.or_true, Bool.false_or, Bool.or_false, Bool.not_true, Bool.not_false, decide_true, decide_false, bI_t, bI_f, Bool.false_eq_true, not_true_eq_false, not_false_eq_true, eq_self, reduceCtorEq, Bool.true_eq_false, and_true, true_and, and_false, false_and, or_true, true_or, or_false, false_or]; done) | (simp only [c_5, hO.ix i_a, ↓reduceIte, Bool.true_and, Bool.and_true, Bool.false_and, Bool.and_false, Bool.true_or, Bool.or_true, Bool.false_or, Bool.or_false, Bool.not_true, Bool.not_false, decide_true, decide_false, bI_t, bI_f, Bool.false_eq_true, not_true_eq_false, not_false_eq_true, eq_self, reduceCtorEq, Bool.true_eq_false, and_true, true_and, and_false, false_and, or_true, true_or, or_false, false_or] at c_13; done) | (simp only [hO.ix i_a, c_13, ↓reduceIte, Bool.true_and, Bool.and_true, Bool.false_and, Bool.and_false, Bool.true_or, Bool.or_true, Bool.false_or, Bool.or_false, Bool.not_true, Bool.not_false, decide_true, decide_false, bI_t, bI_f, Bool.false_eq_true, not_true_eq_false, not_false_eq_true, eq_self, reduceCtorEq, Bool.true_eq_false, and_true, true_and, and_false, false_and, or_true, true_or, or_false, false_or] at c_5; done)) (MP.rf hM))
theorem dX2_of_0 : decode cX2_of 0 = .ok (.iload_n 2, 1) := by decide +kernel
theorem dX2_of_1 : decode cX2_of 1 = .ok (.iconst (-1), 1) := by decide +kernel
theorem dX2_of_2 : decode cX2_of 2 = .ok (.if_icmp .eq 14, 3) := by decide +kernel
theorem dX2_of_5 : decode cX2_of 5 = .ok (.aload_n 0, 1) := by decide +kernel
theorem dX2_of_6 : decode cX2_of 6 = .ok (.iload_n 2, 1) := by decide +kernel
theorem dX2_of_7 : decode cX2_of 7 = .ok (.invokevirtual 69, 3) := by decide +kernel
theorem dX2_of_10 : decode cX2_of 10 = .ok (.ifCond .ne 6, 3) := by decide +kernel
theorem dX2_of_13 : decode cX2_of 13 = .ok (.bipush (-2), 2) := by decide +kernel
theorem dX2_of_15 : decode cX2_of 15 = .ok (.ireturn, 1) := by decide +kernel
theorem dX2_of_16 : decode cX2_of 16 = .ok (.aload_n 0, 1) := by decide +kernel
theorem dX2_of_17 : decode cX2_of 17 = .ok (.iload_n 1, 1) := by decide +kernel
theorem dX2_of_18 : decode cX2_of 18 = .ok (.invokevirtual 73, 3) := by decide +kernel
theorem dX2_of_21 : decode cX2_of 21 = .ok (.ifCond .ne 9, 3) := by decide +kernel
theorem dX2_of_24 : decode cX2_of 24 = .ok (.aload_n 0, 1) := by decide +kernel
theorem dX2_of_25 : decode cX2_of 25 = .ok (.iconst 1, 1) := by decide +kernel
theorem dX2_of_26 : decode cX2_of 26 = .ok (.invokevirtual 62, 3) := by decide +kernel
theorem dX2_of_29 : decode cX2_of 29 = .ok (.ireturn, 1) := by decide +kernel
theorem dX2_of_30 : decode cX2_of 30 = .ok (.aload_n 0, 1) := by decide +kernel
theorem dX2_of_31 : decode cX2_of 31 = .ok (.getfield 20, 3) := by decide +kernel
theorem dX2_of_34 : decode cX2_of 34 = .ok (.iload_n 1, 1) := by decide +kernel
theorem dX2_of_35 : decode cX2_of 35 = .ok (.iaload, 1) := by decide +kernel
theorem dX2_of_36 : decode cX2_of 36 = .ok (.istore_n 3, 1) := by decide +kernel
theorem dX2_of_37 : decode cX2_of 37 = .ok (.aload_n 0, 1) := by decide +kernel
theorem dX2_of_38 : decode cX2_of 38 = .ok (.getfield 20, 3) := by decide +kernel
theorem dX2_of_41 : decode cX2_of 41 = .ok (.iload_n 1, 1) := by decide +kernel
theorem dX2_of_42 : decode cX2_of 42 = .ok (.iload_n 2, 1) := by decide +kernel
theorem dX2_of_43 : decode cX2_of 43 = .ok (.iastore, 1) := by decide +kernel
theorem dX2_of_44 : decode cX2_of 44 = .ok (.iload_n 3, 1) := by decide +kernel
theorem dX2_of_45 : decode cX2_of 45 = .ok (.ireturn, 1) := by decide +kernel
set_option maxHeartbeats 800000 in
theorem met_X2_of (l : Launch) (G : GG) {H : Heap} {o : Nat} {A : Nat → Nat} {σ : Sg} {th : Int32} {i : Int32} {p : Int32} (hM : MW G H o A σ th) (hO : Ok σ) (hS : MS o A) : GM l yX2_of cX2_of 4 (some .int) 1 0 0 21 G H [.ref o, .int i, .int p] (fun oc H' => oc = .returned (some (.int (m_of σ th i p).1)) ∧ MP G H o A (m_of σ th i p).2.1 (m_of σ th i p).2.2 H') (fun z => ownM o A z) := by
  refine gm_intro pl_X2_of (Nat.le_of_ble_eq_true rfl) ?_
  intro pX eX sX mX belX methX cX ls hE hnm hl
  obtain ⟨hx, hb, hr, hlk, hml, hown, hts, hK, hZ, hH⟩ := hE
  have hl : lv_has ls 4 [(0, .ref o), (1, .int i), (2, .int p)] := hl
  have hL : ∀ q ∈ ([] : List Loc), (fun z => ownM o A z : Addr → Prop) q.base := fun q h => by cases h
  refine lv_iload_n hx hb dX2_of_0 rfl (lv_at hl 2 rfl) ?_
  refine lv_iconst (v := -1) hx hb dX2_of_1 ic_m1 ?_
  refine lv_icmp_eq (tgt := 16) hx hb dX2_of_2 rfl (fun c_2 => ?_) (fun c_2 => ?_)
  · skip
    refine lv_aload_n hx hb dX2_of_16 rfl (lv_at hl 0 rfl) ?_
    refine lv_iload_n hx hb dX2_of_17 rfl (lv_at hl 1 rfl) ?_
    refine p_callV (As := [.int _]) hx hb hml hown hts hK trivial (met_X2_isPlace l G hM) q732 q734 qs14 q43 q735 hv_X2_isPlace rfl hM.1 rfl (by decide) hl.1 rfl (Nat.le_of_ble_eq_true rfl) dX2_of_18 ⟨Nat.le_of_ble_eq_true rfl, Nat.le_of_ble_eq_true rfl⟩ ?_
    refine b_ifne (tgt := 30) hx hb dX2_of_21 rfl (fun c_21 => ?_) (fun c_21 => ?_)
    · skip
      obtain ⟨i_, i_i, rfl⟩ := isPt_elim (Nat.le_trans hO.1.2.1 (by decide)) c_21
      refine lv_aload_n hx hb dX2_of_30 rfl (lv_at hl 0 rfl) ?_
      refine gf_X2_20 hx hb hts hown hK hM.1 rfl dX2_of_31 ?_
      refine lv_iload_n hx hb dX2_of_34 rfl (lv_at hl 1 rfl) ?_
      refine r_iald hx hb hK hM.2.2.2.1 dX2_of_35 (k := i_) (hO.lt24 i_i) (by decide) rfl rfl ?_
      refine lv_istore_n (lv' := [(3, .int _), (0, .ref _), (1, .int _), (2, .int _)]) hx hb dX2_of_36 rfl hl (Nat.le_of_ble_eq_true rfl) rfl (fun ls hl => ?_)
      refine lv_aload_n hx hb dX2_of_37 rfl (lv_at hl 1 rfl) ?_
      refine gf_X2_20 hx hb hts hown hK hM.1 rfl dX2_of_38 ?_
      refine lv_iload_n hx hb dX2_of_41 rfl (lv_at hl 2 rfl) ?_
      refine lv_iload_n hx hb dX2_of_42 rfl (lv_at hl 3 rfl) ?_
      refine w_iast (F := fun z => ownM o A z) hx hb hK hM.2.2.2.1 dX2_of_43 (k := i_) (hO.lt24 i_i) (by decide) rfl hL (Or.inr ⟨2, by decide, rfl⟩) (fun H1_ locs h1_ ho1_ hL => ?_)
      have h2_ := at_only hM.1 ho1_ (hS.1 2 (by decide))
      have h3_ := at_only hM.2.1 ho1_ (hS.2 0 2 (by decide) (by decide) (by decide))
      have h4_ := at_only hM.2.2.1 ho1_ (hS.2 1 2 (by decide) (by decide) (by decide))
      have h5_ := at_only hM.2.2.2.2.1 ho1_ (hS.2 3 2 (by decide) (by decide) (by decide))
      have h6_ := at_only hM.2.2.2.2.2.1 ho1_ (hS.2 4 2 (by decide) (by decide) (by decide))
      have h7_ := at_only hM.2.2.2.2.2.2 ho1_ (hS.2 5 2 (by decide) (by decide) (by decide))
      refine lv_iload_n hx hb dX2_of_44 rfl (lv_at hl 0 rfl) ?_
      exact g_iret (F := fun z => ownM o A z) (Post := fun oc H' => oc = .returned (some (.int (m_of σ th (nI i_) p).1)) ∧ MP G H o A (m_of σ th (nI i_) p).2.1 (m_of σ th (nI i_) p).2.2 H') hx hb hr hlk hL dX2_of_45 (pr_post (t := (t_put σ i_ none, th)) (P := fun τ => MP G H o A τ.1 τ.2 _) (by first | with_reducible rfl | (simp only [m_of, eq_true c_2, c_21, ixn (Nat.lt_of_lt_of_le i_i (Nat.le_trans hO.1.2.1 (by decide))), ↓reduceIte, Bool.true_and, Bool.and_true, Bool.false_and, Bool.and_false, Bool.true_or, Bool.or_true, Bool.false_or, Bool.or_false, Bool.not_true, Bool.not_false, decide_true, decide_false, bI_t, bI_f, Bool.false_eq_true, not_true_eq_false, not_false_eq_true, eq_self, reduceCtorEq, Bool.true_eq_false, and_true, true_and, and_false, false_and, or_true, true_or, or_false, false_or]; done) | (simp only [eq_true c_2, ixn (Nat.lt_of_lt_of_le i_i (Nat.le_trans hO.1.2.1 (by decide))), ↓reduceIte, Bool.true_and, Bool.and_true, Bool.false_and, Bool.and_false, Bool.true_or, Bool.or_true, Bool.false_or, Bool.or_false, Bool.not_true, Bool.not_false, decide_true, decide_false, bI_t, bI_f, Bool.false_eq_true, not_true_eq_false, not_false_eq_true, eq_self, reduceCtorEq, Bool.true_eq_false, and_true, true_and, and_false, false_and, or_true, true_or, or_false, false_or] at c_21; done) | (simp only [c_21, ixn (Nat.lt_of_lt_of_le i_i (Nat.le_trans hO.1.2.1 (by decide))), ↓reduceIte, Bool.true_and, Bool.and_true, Bool.false_and, Bool.and_false, Bool.true_or, Bool.or_true, Bool.false_or, Bool.or_false, Bool.not_true, Bool.not_false, decide_true, decide_false, bI_t, bI_f, Bool.false_eq_true, not_true_eq_false, not_false_eq_true, eq_self, reduceCtorEq, Bool.true_eq_false, and_true, true_and, and_false, false_and, or_true, true_or, or_false, false_or] at c_2; done)) (MP.put (i := i_) (x := p) (v := none) c_2 h2_ h3_ h4_ h1_ h5_ h6_ h7_ (KM.of ho1_ (Or.inr ⟨2, by decide, rfl⟩))))
    refine lv_aload_n hx hb dX2_of_24 rfl (lv_at hl 0 rfl) ?_
    refine lv_iconst (v := 1) hx hb dX2_of_25 ic_1 ?_
    refine g_callV (F := fun z => ownM o A z) (As := [.int _]) hx hb hml hown hts hK (met_X2_fail l G hM.1) q720 q722 qs12 q43 q723 hv_X2_fail rfl hM.1 rfl (by decide) hl.1 rfl (Nat.le_of_ble_eq_true rfl) dX2_of_26 ⟨Nat.le_of_ble_eq_true rfl, Nat.le_of_ble_eq_true rfl⟩ (fun _ h => Or.inl h) hL (fun v1_ H1_ locs hP1_ hL => ?_)
    obtain ⟨hv1_, hat_, hon_⟩ := hP1_
    cases hv1_
    exact g_iret (F := fun z => ownM o A z) (Post := fun oc H' => oc = .returned (some (.int (m_of σ th i p).1)) ∧ MP G H o A (m_of σ th i p).2.1 (m_of σ th i p).2.2 H') hx hb hr hlk hL dX2_of_29 (pr_post (t := (σ, 1)) (P := fun τ => MP G H o A τ.1 τ.2 _) (by first | with_reducible rfl | (simp only [m_of, eq_true c_2, c_21, ↓reduceIte, Bool.true_and, Bool.and_true, Bool.false_and, Bool.and_false, Bool.true_or, Bool.or_true, Bool.false_or, Bool.or_false, Bool.not_true, Bool.not_false, decide_true, decide_false, bI_t, bI_f, Bool.false_eq_true, not_true_eq_false, not_false_eq_true, eq_self, reduceCtorEq, Bool.true_eq_false, and_true, true_and, and_false, false_and, or_true, true_or, or_false, false_or]; done) | (simp only [eq_true c_2, ↓reduceIte, Bool.true_and, Bool.and_true, Bool.false_and, Bool.and_false, Bool.true_or, Bool.or_true, Bool.false_or, Bool.or_false, Bool.not_true, Bool.not_false, decide_true, decide_false, bI_t, bI_f, Bool.false_eq_true, not_true_eq_false, not_false_eq_true, eq_self, reduceCtorEq, Bool.true_eq_false, and_true, true_and, and_false, false_and, or_true, true_or, or_false, false_or] at c_21; done) | (simp only [c_21, ↓reduceIte, Bool.true_and, Bool.and_true, Bool.false_and, Bool.and_false, Bool.true_or, Bool.or_true, Bool.false_or, Bool.or_false, Bool.not_true, Bool.not_false, decide_true, decide_false, bI_t, bI_f, Bool.false_eq_true, not_true_eq_false, not_false_eq_true, eq_self, reduceCtorEq, Bool.true_eq_false, and_true, true_and, and_false, false_and, or_true, true_or, or_false, false_or] at c_2; done)) (MP.o (σ' := σ) hM hS rfl rfl rfl hat_ hon_))
  refine lv_aload_n hx hb dX2_of_5 rfl (lv_at hl 0 rfl) ?_
  refine lv_iload_n hx hb dX2_of_6 rfl (lv_at hl 2 rfl) ?_
  refine p_callV (As := [.int _]) hx hb hml hown hts hK trivial (met_X2_isPoint l G hM) q728 q730 qs13 q43 q731 hv_X2_isPoint rfl hM.1 rfl (by decide) hl.1 rfl (Nat.le_of_ble_eq_true rfl) dX2_of_7 ⟨Nat.le_of_ble_eq_true rfl, Nat.le_of_ble_eq_true rfl⟩ ?_
  refine b_ifne (tgt := 16) hx hb dX2_of_10 rfl (fun c_10 => ?_) (fun c_10 => ?_)
  · skip
    obtain ⟨p_, i_p, rfl⟩ := isPt_elim hO.1.1 c_10
    refine lv_aload_n hx hb dX2_of_16 rfl (lv_at hl 0 rfl) ?_
    refine lv_iload_n hx hb dX2_of_17 rfl (lv_at hl 1 rfl) ?_
    refine p_callV (As := [.int _]) hx hb hml hown hts hK trivial (met_X2_isPlace l G hM) q732 q734 qs14 q43 q735 hv_X2_isPlace rfl hM.1 rfl (by decide) hl.1 rfl (Nat.le_of_ble_eq_true rfl) dX2_of_18 ⟨Nat.le_of_ble_eq_true rfl, Nat.le_of_ble_eq_true rfl⟩ ?_
    refine b_ifne (tgt := 30) hx hb dX2_of_21 rfl (fun c_21 => ?_) (fun c_21 => ?_)
    · skip
      obtain ⟨i_, i_i, rfl⟩ := isPt_elim (Nat.le_trans hO.1.2.1 (by decide)) c_21
      refine lv_aload_n hx hb dX2_of_30 rfl (lv_at hl 0 rfl) ?_
      refine gf_X2_20 hx hb hts hown hK hM.1 rfl dX2_of_31 ?_
      refine lv_iload_n hx hb dX2_of_34 rfl (lv_at hl 1 rfl) ?_
      refine r_iald hx hb hK hM.2.2.2.1 dX2_of_35 (k := i_) (hO.lt24 i_i) (by decide) rfl rfl ?_
      refine lv_istore_n (lv' := [(3, .int _), (0, .ref _), (1, .int _), (2, .int _)]) hx hb dX2_of_36 rfl hl (Nat.le_of_ble_eq_true rfl) rfl (fun ls hl => ?_)
      refine lv_aload_n hx hb dX2_of_37 rfl (lv_at hl 1 rfl) ?_
      refine gf_X2_20 hx hb hts hown hK hM.1 rfl dX2_of_38 ?_
      refine lv_iload_n hx hb dX2_of_41 rfl (lv_at hl 2 rfl) ?_
      refine lv_iload_n hx hb dX2_of_42 rfl (lv_at hl 3 rfl) ?_
      refine w_iast (F := fun z => ownM o A z) hx hb hK hM.2.2.2.1 dX2_of_43 (k := i_) (hO.lt24 i_i) (by decide) rfl hL (Or.inr ⟨2, by decide, rfl⟩) (fun H8_ locs h8_ ho8_ hL => ?_)
      have h9_ := at_only hM.1 ho8_ (hS.1 2 (by decide))
      have h10_ := at_only hM.2.1 ho8_ (hS.2 0 2 (by decide) (by decide) (by decide))
      have h11_ := at_only hM.2.2.1 ho8_ (hS.2 1 2 (by decide) (by decide) (by decide))
      have h12_ := at_only hM.2.2.2.2.1 ho8_ (hS.2 3 2 (by decide) (by decide) (by decide))
      have h13_ := at_only hM.2.2.2.2.2.1 ho8_ (hS.2 4 2 (by decide) (by decide) (by decide))
      have h14_ := at_only hM.2.2.2.2.2.2 ho8_ (hS.2 5 2 (by decide) (by decide) (by decide))
      refine lv_iload_n hx hb dX2_of_44 rfl (lv_at hl 0 rfl) ?_
      exact g_iret (F := fun z => ownM o A z) (Post := fun oc H' => oc = .returned (some (.int (m_of σ th (nI i_) (nI p_)).1)) ∧ MP G H o A (m_of σ th (nI i_) (nI p_)).2.1 (m_of σ th (nI i_) (nI p_)).2.2 H') hx hb hr hlk hL dX2_of_45 (pr_post (t := (t_put σ i_ (some p_), th)) (P := fun τ => MP G H o A τ.1 τ.2 _) (by first | with_reducible rfl | (simp only [m_of, c_2, c_10, hO.ix i_p, c_21, ixn (Nat.lt_of_lt_of_le i_i (Nat.le_trans hO.1.2.1 (by decide))), ↓reduceIte, Bool.true_and, Bool.and_true, Bool.false_and, Bool.and_false, Bool.true_or, Bool.or_true, Bool.false_or, Bool.or_false, Bool.not_true, Bool.not_false, decide_true, decide_false, bI_t, bI_f, Bool.false_eq_true, not_true_eq_false, not_false_eq_true, eq_self, reduceCtorEq, Bool.true_eq_false, and_true, true_and, and_false, false_and, or_true, true_or, or_false, false_or]; done) | (simp only [c_2, c_10, hO.ix i_p, ixn (Nat.lt_of_lt_of_le i_i (Nat.le_trans hO.1.2.1 (by decide))), ↓reduceIte, Bool.true_and, Bool.and_true, Bool.false_and, Bool.and_false, Bool.true_or, Bool.or_true, Bool.false_or, Bool.or_false, Bool.not_true, Bool.not_false, decide_true, decide_false, bI_t, bI_f, Bool.false_eq_true, not_true_eq_false, not_false_eq_true, eq_self, reduceCtorEq, Bool.true_eq_false, and_true, true_and, and_false, false_and, or_true, true_or, or_false, false_or] at c_21; done) | (simp only [c_2, hO.ix i_p, c_21, ixn (Nat.lt_of_lt_of_le i_i (Nat.le_trans hO.1.2.1 (by decide))), ↓reduceIte, Bool.true_and, Bool.and_true, Bool.false_and, Bool.and_false, Bool.true_or, Bool.or_true, Bool.false_or, Bool.or_false, Bool.not_true, Bool.not_false, decide_true, decide_false, bI_t, bI_f, Bool.false_eq_true, not_true_eq_false, not_false_eq_true, eq_self, reduceCtorEq, Bool.true_eq_false, and_true, true_and, and_false, false_and, or_true, true_or, or_false, false_or] at c_10; done) | (simp only [c_10, hO.ix i_p, c_21, ixn (Nat.lt_of_lt_of_le i_i (Nat.le_trans hO.1.2.1 (by decide))), ↓reduceIte, Bool.true_and, Bool.and_true, Bool.false_and, Bool.and_false, Bool.true_or, Bool.or_true, Bool.false_or, Bool.or_false, Bool.not_true, Bool.not_false, decide_true, decide_false, bI_t, bI_f, Bool.false_eq_true, not_true_eq_false, not_false_eq_true, eq_self, reduceCtorEq, Bool.true_eq_false, and_true, true_and, and_false, false_and, or_true, true_or, or_false, false_or] at c_2; done)) (MP.put (i := i_) (x := nI p_) (v := some p_) rfl h9_ h10_ h11_ h8_ h12_ h13_ h14_ (KM.of ho8_ (Or.inr ⟨2, by decide, rfl⟩))))
    refine lv_aload_n hx hb dX2_of_24 rfl (lv_at hl 0 rfl) ?_
    refine lv_iconst (v := 1) hx hb dX2_of_25 ic_1 ?_
    refine g_callV (F := fun z => ownM o A z) (As := [.int _]) hx hb hml hown hts hK (met_X2_fail l G hM.1) q720 q722 qs12 q43 q723 hv_X2_fail rfl hM.1 rfl (by decide) hl.1 rfl (Nat.le_of_ble_eq_true rfl) dX2_of_26 ⟨Nat.le_of_ble_eq_true rfl, Nat.le_of_ble_eq_true rfl⟩ (fun _ h => Or.inl h) hL (fun v1_ H1_ locs hP1_ hL => ?_)
    obtain ⟨hv1_, hat_, hon_⟩ := hP1_
    cases hv1_
    exact g_iret (F := fun z => ownM o A z) (Post := fun oc H' => oc = .returned (some (.int (m_of σ th i (nI p_)).1)) ∧ MP G H o A (m_of σ th i (nI p_)).2.1 (m_of σ th i (nI p_)).2.2 H') hx hb hr hlk hL dX2_of_29 (pr_post (t := (σ, 1)) (P := fun τ => MP G H o A τ.1 τ.2 _) (by first | with_reducible rfl | (simp only [m_of, c_2, c_10, hO.ix i_p, c_21, ↓reduceIte, Bool.true_and, Bool.and_true, Bool.false_and, Bool.and_false, Bool.true_or, Bool.or_true, Bool.false_or, Bool.or_false, Bool.not_true, Bool.not_false, decide_true, decide_false, bI_t, bI_f, Bool.false_eq_true, not_true_eq_false, not_false_eq_true, eq_self, reduceCtorEq, Bool.true_eq_false, and_true, true_and, and_false, false_and, or_true, true_or, or_false, false_or]; done) | (simp only [c_2, c_10, hO.ix i_p, ↓reduceIte, Bool.true_and, Bool.and_true, Bool.false_and, Bool.and_false, Bool.true_or, Bool.or_true, Bool.false_or, Bool.or_false, Bool.not_true, Bool.not_false, decide_true, decide_false, bI_t, bI_f, Bool.false_eq_true, not_true_eq_false, not_false_eq_true, eq_self, reduceCtorEq, Bool.true_eq_false, and_true, true_and, and_false, false_and, or_true, true_or, or_false, false_or] at c_21; done) | (simp only [c_2, hO.ix i_p, c_21, ↓reduceIte, Bool.true_and, Bool.and_true, Bool.false_and, Bool.and_false, Bool.true_or, Bool.or_true, Bool.false_or, Bool.or_false, Bool.not_true, Bool.not_false, decide_true, decide_false, bI_t, bI_f, Bool.false_eq_true, not_true_eq_false, not_false_eq_true, eq_self, reduceCtorEq, Bool.true_eq_false, and_true, true_and, and_false, false_and, or_true, true_or, or_false, false_or] at c_10; done) | (simp only [c_10, hO.ix i_p, c_21, ↓reduceIte, Bool.true_and, Bool.and_true, Bool.false_and, Bool.and_false, Bool.true_or, Bool.or_true, Bool.false_or, Bool.or_false, Bool.not_true, Bool.not_false, decide_true, decide_false, bI_t, bI_f, Bool.false_eq_true, not_true_eq_false, not_false_eq_true, eq_self, reduceCtorEq, Bool.true_eq_false, and_true, true_and, and_false, false_and, or_true, true_or, or_false, false_or] at c_2; done)) (MP.o (σ' := σ) hM hS rfl rfl rfl hat_ hon_))
  refine lv_bipush (v := -2) hx hb dX2_of_13 ib_m2 ?_
  exact g_iret (F := fun z => ownM o A z) (Post := fun oc H' => oc = .returned (some (.int (m_of σ th i p).1)) ∧ MP G H o A (m_of σ th i p).2.1 (m_of σ th i p).2.2 H') hx hb hr hlk hL dX2_of_15 (pr_post (t := (σ, th)) (P := fun τ => MP G H o A τ.1 τ.2 _) (by first | with_reducible rfl | (simp only [m_of, c_2, c_10, ↓reduceIte, Bool.true_and, Bool.and_true, Bool.false_and, Bool.and_false, Bool.true_or, Bool.or_true, Bool.false_or, Bool.or_false, Bool.not_true, Bool.not_false, decide_true, decide_false, bI_t, bI_f, Bool.false_eq_true, not_true_eq_false, not_false_eq_true, eq_self, reduceCtorEq, Bool.true_eq_false, and_true, true_and, and_false, false_and, or_true, true_or, or_false, false_or]; done) | (simp only [c_2, ↓reduceIte, Bool.true_and, Bool.and_true, Bool.false_and, Bool.and_false, Bool.true_or, Bool.or_true, Bool.false_or, Bool.or_false, Bool.not_true, Bool.not_false, decide_true, decide_false, bI_t, bI_f, Bool.false_eq_true, not_true_eq_false, not_false_eq_true, eq_self, reduceCtorEq, Bool.true_eq_false, and_true, true_and, and_false, false_and, or_true, true_or, or_false, false_or] at c_10; done) | (simp only [c_10, ↓reduceIte, Bool.true_and, Bool.and_true, Bool.false_and, Bool.and_false, Bool.true_or, Bool.or_true, Bool.false_or, Bool.or_false, Bool.not_true, Bool.not_false, decide_true, decide_false, bI_t, bI_f, Bool.false_eq_true, not_true_eq_false, not_false_eq_true, eq_self, reduceCtorEq, Bool.true_eq_false, and_true, true_and, and_false, false_and, or_true, true_or, or_false, false_or] at c_2; done)) (MP.rf hM))
theorem dX2_at_0 : decode cX2_at 0 = .ok (.aload_n 0, 1) := by decide +kernel
theorem dX2_at_1 : decode cX2_at 1 = .ok (.iload_n 1, 1) := by decide +kernel
theorem dX2_at_2 : decode cX2_at 2 = .ok (.invokevirtual 73, 3) := by decide +kernel
theorem dX2_at_5 : decode cX2_at 5 = .ok (.ifCond .ne 9, 3) := by decide +kernel
theorem dX2_at_8 : decode cX2_at 8 = .ok (.aload_n 0, 1) := by decide +kernel
theorem dX2_at_9 : decode cX2_at 9 = .ok (.iconst 1, 1) := by decide +kernel
theorem dX2_at_10 : decode cX2_at 10 = .ok (.invokevirtual 62, 3) := by decide +kernel
theorem dX2_at_13 : decode cX2_at 13 = .ok (.ireturn, 1) := by decide +kernel
theorem dX2_at_14 : decode cX2_at 14 = .ok (.aload_n 0, 1) := by decide +kernel
theorem dX2_at_15 : decode cX2_at 15 = .ok (.getfield 20, 3) := by decide +kernel
theorem dX2_at_18 : decode cX2_at 18 = .ok (.iload_n 1, 1) := by decide +kernel
theorem dX2_at_19 : decode cX2_at 19 = .ok (.iaload, 1) := by decide +kernel
theorem dX2_at_20 : decode cX2_at 20 = .ok (.iconst (-1), 1) := by decide +kernel
theorem dX2_at_21 : decode cX2_at 21 = .ok (.if_icmp .ne 9, 3) := by decide +kernel
theorem dX2_at_24 : decode cX2_at 24 = .ok (.aload_n 0, 1) := by decide +kernel
theorem dX2_at_25 : decode cX2_at 25 = .ok (.iconst 2, 1) := by decide +kernel
theorem dX2_at_26 : decode cX2_at 26 = .ok (.invokevirtual 62, 3) := by decide +kernel
theorem dX2_at_29 : decode cX2_at 29 = .ok (.ireturn, 1) := by decide +kernel
theorem dX2_at_30 : decode cX2_at 30 = .ok (.iload_n 2, 1) := by decide +kernel
theorem dX2_at_31 : decode cX2_at 31 = .ok (.ifCond .ne 17, 3) := by decide +kernel
theorem dX2_at_34 : decode cX2_at 34 = .ok (.aload_n 0, 1) := by decide +kernel
theorem dX2_at_35 : decode cX2_at 35 = .ok (.getfield 13, 3) := by decide +kernel
theorem dX2_at_38 : decode cX2_at 38 = .ok (.aload_n 0, 1) := by decide +kernel
theorem dX2_at_39 : decode cX2_at 39 = .ok (.getfield 20, 3) := by decide +kernel
theorem dX2_at_42 : decode cX2_at 42 = .ok (.iload_n 1, 1) := by decide +kernel
theorem dX2_at_43 : decode cX2_at 43 = .ok (.iaload, 1) := by decide +kernel
theorem dX2_at_44 : decode cX2_at 44 = .ok (.iaload, 1) := by decide +kernel
theorem dX2_at_45 : decode cX2_at 45 = .ok (.goto 28, 3) := by decide +kernel
theorem dX2_at_48 : decode cX2_at 48 = .ok (.iload_n 2, 1) := by decide +kernel
theorem dX2_at_49 : decode cX2_at 49 = .ok (.iconst 1, 1) := by decide +kernel
theorem dX2_at_50 : decode cX2_at 50 = .ok (.if_icmp .ne 17, 3) := by decide +kernel
theorem dX2_at_53 : decode cX2_at 53 = .ok (.aload_n 0, 1) := by decide +kernel
theorem dX2_at_54 : decode cX2_at 54 = .ok (.getfield 17, 3) := by decide +kernel
theorem dX2_at_57 : decode cX2_at 57 = .ok (.aload_n 0, 1) := by decide +kernel
theorem dX2_at_58 : decode cX2_at 58 = .ok (.getfield 20, 3) := by decide +kernel
theorem dX2_at_61 : decode cX2_at 61 = .ok (.iload_n 1, 1) := by decide +kernel
theorem dX2_at_62 : decode cX2_at 62 = .ok (.iaload, 1) := by decide +kernel
theorem dX2_at_63 : decode cX2_at 63 = .ok (.iaload, 1) := by decide +kernel
theorem dX2_at_64 : decode cX2_at 64 = .ok (.goto 9, 3) := by decide +kernel
theorem dX2_at_67 : decode cX2_at 67 = .ok (.aload_n 0, 1) := by decide +kernel
theorem dX2_at_68 : decode cX2_at 68 = .ok (.getfield 20, 3) := by decide +kernel
theorem dX2_at_71 : decode cX2_at 71 = .ok (.iload_n 1, 1) := by decide +kernel
theorem dX2_at_72 : decode cX2_at 72 = .ok (.iaload, 1) := by decide +kernel
theorem dX2_at_73 : decode cX2_at 73 = .ok (.ireturn, 1) := by decide +kernel
set_option maxHeartbeats 800000 in
theorem met_X2_at (l : Launch) (G : GG) {H : Heap} {o : Nat} {A : Nat → Nat} {σ : Sg} {th : Int32} {i : Int32} {w : Int32} (hM : MW G H o A σ th) (hO : Ok σ) (hS : MS o A) : GM l yX2_at cX2_at 3 (some .int) 1 0 0 21 G H [.ref o, .int i, .int w] (fun oc H' => oc = .returned (some (.int (m_at σ th i w).1)) ∧ MP G H o A (m_at σ th i w).2.1 (m_at σ th i w).2.2 H') (fun z => ownM o A z) := by
  refine gm_intro pl_X2_at (Nat.le_of_ble_eq_true rfl) ?_
  intro pX eX sX mX belX methX cX ls hE hnm hl
  obtain ⟨hx, hb, hr, hlk, hml, hown, hts, hK, hZ, hH⟩ := hE
  have hl : lv_has ls 3 [(0, .ref o), (1, .int i), (2, .int w)] := hl
  have hL : ∀ q ∈ ([] : List Loc), (fun z => ownM o A z : Addr → Prop) q.base := fun q h => by cases h
  refine lv_aload_n hx hb dX2_at_0 rfl (lv_at hl 0 rfl) ?_
  refine lv_iload_n hx hb dX2_at_1 rfl (lv_at hl 1 rfl) ?_
  refine p_callV (As := [.int _]) hx hb hml hown hts hK trivial (met_X2_isPlace l G hM) q732 q734 qs14 q43 q735 hv_X2_isPlace rfl hM.1 rfl (by decide) hl.1 rfl (Nat.le_of_ble_eq_true rfl) dX2_at_2 ⟨Nat.le_of_ble_eq_true rfl, Nat.le_of_ble_eq_true rfl⟩ ?_
  refine b_ifne (tgt := 14) hx hb dX2_at_5 rfl (fun c_5 => ?_) (fun c_5 => ?_)
  · skip
    obtain ⟨i_, i_i, rfl⟩ := isPt_elim (Nat.le_trans hO.1.2.1 (by decide)) c_5
    refine lv_aload_n hx hb dX2_at_14 rfl (lv_at hl 0 rfl) ?_
    refine gf_X2_20 hx hb hts hown hK hM.1 rfl dX2_at_15 ?_
    refine lv_iload_n hx hb dX2_at_18 rfl (lv_at hl 1 rfl) ?_
    cases hq_ : σ.rw i_ with
    | none =>
      refine r_iald hx hb hK hM.2.2.2.1 dX2_at_19 (k := i_) (hO.lt24 i_i) (by decide) rfl (v := -1) (by show rI (σ.rw i_) = _; rw [hq_]; rfl) ?_
      refine lv_iconst (v := -1) hx hb dX2_at_20 ic_m1 ?_
      refine lv_icmp_ne (tgt := 30) hx hb dX2_at_21 rfl (fun c_ => absurd rfl c_) (fun _ => ?_)
      refine lv_aload_n hx hb dX2_at_24 rfl (lv_at hl 0 rfl) ?_
      refine lv_iconst (v := 2) hx hb dX2_at_25 ic_2 ?_
      refine g_callV (F := fun z => ownM o A z) (As := [.int _]) hx hb hml hown hts hK (met_X2_fail l G hM.1) q720 q722 qs12 q43 q723 hv_X2_fail rfl hM.1 rfl (by decide) hl.1 rfl (Nat.le_of_ble_eq_true rfl) dX2_at_26 ⟨Nat.le_of_ble_eq_true rfl, Nat.le_of_ble_eq_true rfl⟩ (fun _ h => Or.inl h) hL (fun v1_ H1_ locs hP1_ hL => ?_)
      obtain ⟨hv1_, hat_, hon_⟩ := hP1_
      cases hv1_
      exact g_iret (F := fun z => ownM o A z) (Post := fun oc H' => oc = .returned (some (.int (m_at σ th (nI i_) w).1)) ∧ MP G H o A (m_at σ th (nI i_) w).2.1 (m_at σ th (nI i_) w).2.2 H') hx hb hr hlk hL dX2_at_29 (pr_post (t := (σ, 2)) (P := fun τ => MP G H o A τ.1 τ.2 _) (by first | with_reducible rfl | (simp only [m_at, c_5, ixn (Nat.lt_of_lt_of_le i_i (Nat.le_trans hO.1.2.1 (by decide))), hq_, nz10, ↓reduceIte, Bool.true_and, Bool.and_true, Bool.false_and, Bool.and_false, Bool.true_or, Bool.or_true, Bool.false_or, Bool.or_false, Bool.not_true, Bool.not_false, decide_true, decide_false, bI_t, bI_f, Bool.false_eq_true, not_true_eq_false, not_false_eq_true, eq_self, reduceCtorEq, Bool.true_eq_false, and_true, true_and, and_false, false_and, or_true, true_or, or_false, false_or]; done)) (MP.o (σ' := σ) hM hS rfl rfl rfl hat_ hon_))
    | some A_ =>
      refine r_iald hx hb hK hM.2.2.2.1 dX2_at_19 (k := i_) (hO.lt24 i_i) (by decide) rfl (v := nI A_) (by show rI (σ.rw i_) = _; rw [hq_]; rfl) ?_
      have i_A : A_ < σ.np := (hO.2.1 _ _ hq_).2
      refine lv_iconst (v := -1) hx hb dX2_at_20 ic_m1 ?_
      refine lv_icmp_ne (tgt := 30) hx hb dX2_at_21 rfl (fun _ => ?_) (fun c_ => absurd c_ (nI_nm1 (by have := hO.1.1; omega)))
      refine lv_iload_n hx hb dX2_at_30 rfl (lv_at hl 2 rfl) ?_
      refine lv_if_ne (tgt := 48) hx hb dX2_at_31 rfl (fun c_31 => ?_) (fun c_31 => ?_)
      · skip
        refine lv_iload_n hx hb dX2_at_48 rfl (lv_at hl 2 rfl) ?_
        refine lv_iconst (v := 1) hx hb dX2_at_49 ic_1 ?_
        refine lv_icmp_ne (tgt := 67) hx hb dX2_at_50 rfl (fun c_50 => ?_) (fun c_50 => ?_)
        · skip
          refine lv_aload_n hx hb dX2_at_67 rfl (lv_at hl 0 rfl) ?_
          refine gf_X2_20 hx hb hts hown hK hM.1 rfl dX2_at_68 ?_
          refine lv_iload_n hx hb dX2_at_71 rfl (lv_at hl 1 rfl) ?_
          refine r_iald hx hb hK hM.2.2.2.1 dX2_at_72 (k := i_) (hO.lt24 i_i) (by decide) rfl (v := nI A_) (by show rI (σ.rw i_) = _; rw [hq_]; rfl) ?_
          exact g_iret (F := fun z => ownM o A z) (Post := fun oc H' => oc = .returned (some (.int (m_at σ th (nI i_) w).1)) ∧ MP G H o A (m_at σ th (nI i_) w).2.1 (m_at σ th (nI i_) w).2.2 H') hx hb hr hlk hL dX2_at_73 (pr_post (t := (σ, th)) (P := fun τ => MP G H o A τ.1 τ.2 _) (by first | with_reducible rfl | (simp only [m_at, c_5, ixn (Nat.lt_of_lt_of_le i_i (Nat.le_trans hO.1.2.1 (by decide))), hq_, c_31, c_50, nz10, ↓reduceIte, Bool.true_and, Bool.and_true, Bool.false_and, Bool.and_false, Bool.true_or, Bool.or_true, Bool.false_or, Bool.or_false, Bool.not_true, Bool.not_false, decide_true, decide_false, bI_t, bI_f, Bool.false_eq_true, not_true_eq_false, not_false_eq_true, eq_self, reduceCtorEq, Bool.true_eq_false, and_true, true_and, and_false, false_and, or_true, true_or, or_false, false_or]; done) | (simp only [c_5, ixn (Nat.lt_of_lt_of_le i_i (Nat.le_trans hO.1.2.1 (by decide))), hq_, c_31, ↓reduceIte, Bool.true_and, Bool.and_true, Bool.false_and, Bool.and_false, Bool.true_or, Bool.or_true, Bool.false_or, Bool.or_false, Bool.not_true, Bool.not_false, decide_true, decide_false, bI_t, bI_f, Bool.false_eq_true, not_true_eq_false, not_false_eq_true, eq_self, reduceCtorEq, Bool.true_eq_false, and_true, true_and, and_false, false_and, or_true, true_or, or_false, false_or] at c_50; done) | (simp only [c_5, ixn (Nat.lt_of_lt_of_le i_i (Nat.le_trans hO.1.2.1 (by decide))), hq_, c_50, ↓reduceIte, Bool.true_and, Bool.and_true, Bool.false_and, Bool.and_false, Bool.true_or, Bool.or_true, Bool.false_or, Bool.or_false, Bool.not_true, Bool.not_false, decide_true, decide_false, bI_t, bI_f, Bool.false_eq_true, not_true_eq_false, not_false_eq_true, eq_self, reduceCtorEq, Bool.true_eq_false, and_true, true_and, and_false, false_and, or_true, true_or, or_false, false_or] at c_31; done) | (simp only [ixn (Nat.lt_of_lt_of_le i_i (Nat.le_trans hO.1.2.1 (by decide))), hq_, c_31, c_50, ↓reduceIte, Bool.true_and, Bool.and_true, Bool.false_and, Bool.and_false, Bool.true_or, Bool.or_true, Bool.false_or, Bool.or_false, Bool.not_true, Bool.not_false, decide_true, decide_false, bI_t, bI_f, Bool.false_eq_true, not_true_eq_false, not_false_eq_true, eq_self, reduceCtorEq, Bool.true_eq_false, and_true, true_and, and_false, false_and, or_true, true_or, or_false, false_or] at c_5; done)) (MP.rf hM))
        refine lv_aload_n hx hb dX2_at_53 rfl (lv_at hl 0 rfl) ?_
        refine gf_X2_17 hx hb hts hown hK hM.1 rfl dX2_at_54 ?_
        refine lv_aload_n hx hb dX2_at_57 rfl (lv_at hl 0 rfl) ?_
        refine gf_X2_20 hx hb hts hown hK hM.1 rfl dX2_at_58 ?_
        refine lv_iload_n hx hb dX2_at_61 rfl (lv_at hl 1 rfl) ?_
        refine r_iald hx hb hK hM.2.2.2.1 dX2_at_62 (k := i_) (hO.lt24 i_i) (by decide) rfl (v := nI A_) (by show rI (σ.rw i_) = _; rw [hq_]; rfl) ?_
        refine r_iald hx hb hK hM.2.2.1 dX2_at_63 (k := A_) (hO.lt60 i_A) (by decide) rfl rfl ?_
        refine lv_goto (tgt := 73) hx hb dX2_at_64 rfl ?_
        exact g_iret (F := fun z => ownM o A z) (Post := fun oc H' => oc = .returned (some (.int (m_at σ th (nI i_) w).1)) ∧ MP G H o A (m_at σ th (nI i_) w).2.1 (m_at σ th (nI i_) w).2.2 H') hx hb hr hlk hL dX2_at_73 (pr_post (t := (σ, th)) (P := fun τ => MP G H o A τ.1 τ.2 _) (by first | with_reducible rfl | (simp only [m_at, c_5, ixn (Nat.lt_of_lt_of_le i_i (Nat.le_trans hO.1.2.1 (by decide))), hq_, c_31, eq_true c_50, nz10, ↓reduceIte, Bool.true_and, Bool.and_true, Bool.false_and, Bool.and_false, Bool.true_or, Bool.or_true, Bool.false_or, Bool.or_false, Bool.not_true, Bool.not_false, decide_true, decide_false, bI_t, bI_f, Bool.false_eq_true, not_true_eq_false, not_false_eq_true, eq_self, reduceCtorEq, Bool.true_eq_false, and_true, true_and, and_false, false_and, or_true, true_or, or_false, false_or]; done) | (simp only [c_5, ixn (Nat.lt_of_lt_of_le i_i (Nat.le_trans hO.1.2.1 (by decide))), hq_, c_31, ↓reduceIte, Bool.true_and, Bool.and_true, Bool.false_and, Bool.and_false, Bool.true_or, Bool.or_true, Bool.false_or, Bool.or_false, Bool.not_true, Bool.not_false, decide_true, decide_false, bI_t, bI_f, Bool.false_eq_true, not_true_eq_false, not_false_eq_true, eq_self, reduceCtorEq, Bool.true_eq_false, and_true, true_and, and_false, false_and, or_true, true_or, or_false, false_or] at c_50; done) | (simp only [c_5, ixn (Nat.lt_of_lt_of_le i_i (Nat.le_trans hO.1.2.1 (by decide))), hq_, eq_true c_50, ↓reduceIte, Bool.true_and, Bool.and_true, Bool.false_and, Bool.and_false, Bool.true_or, Bool.or_true, Bool.false_or, Bool.or_false, Bool.not_true, Bool.not_false, decide_true, decide_false, bI_t, bI_f, Bool.false_eq_true, not_true_eq_false, not_false_eq_true, eq_self, reduceCtorEq, Bool.true_eq_false, and_true, true_and, and_false, false_and, or_true, true_or, or_false, false_or] at c_31; done) | (simp only [ixn (Nat.lt_of_lt_of_le i_i (Nat.le_trans hO.1.2.1 (by decide))), hq_, c_31, eq_true c_50, ↓reduceIte, Bool.true_and, Bool.and_true, Bool.false_and, Bool.and_false, Bool.true_or, Bool.or_true, Bool.false_or, Bool.or_false, Bool.not_true, Bool.not_false, decide_true, decide_false, bI_t, bI_f, Bool.false_eq_true, not_true_eq_false, not_false_eq_true, eq_self, reduceCtorEq, Bool.true_eq_false, and_true, true_and, and_false, false_and, or_true, true_or, or_false, false_or] at c_5; done)) (MP.rf hM))
      refine lv_aload_n hx hb dX2_at_34 rfl (lv_at hl 0 rfl) ?_
      refine gf_X2_13 hx hb hts hown hK hM.1 rfl dX2_at_35 ?_
      refine lv_aload_n hx hb dX2_at_38 rfl (lv_at hl 0 rfl) ?_
      refine gf_X2_20 hx hb hts hown hK hM.1 rfl dX2_at_39 ?_
      refine lv_iload_n hx hb dX2_at_42 rfl (lv_at hl 1 rfl) ?_
      refine r_iald hx hb hK hM.2.2.2.1 dX2_at_43 (k := i_) (hO.lt24 i_i) (by decide) rfl (v := nI A_) (by show rI (σ.rw i_) = _; rw [hq_]; rfl) ?_
      refine r_iald hx hb hK hM.2.1 dX2_at_44 (k := A_) (hO.lt60 i_A) (by decide) rfl rfl ?_
      refine lv_goto (tgt := 73) hx hb dX2_at_45 rfl ?_
      exact g_iret (F := fun z => ownM o A z) (Post := fun oc H' => oc = .returned (some (.int (m_at σ th (nI i_) w).1)) ∧ MP G H o A (m_at σ th (nI i_) w).2.1 (m_at σ th (nI i_) w).2.2 H') hx hb hr hlk hL dX2_at_73 (pr_post (t := (σ, th)) (P := fun τ => MP G H o A τ.1 τ.2 _) (by first | with_reducible rfl | (simp only [m_at, c_5, ixn (Nat.lt_of_lt_of_le i_i (Nat.le_trans hO.1.2.1 (by decide))), hq_, eq_true c_31, nz10, ↓reduceIte, Bool.true_and, Bool.and_true, Bool.false_and, Bool.and_false, Bool.true_or, Bool.or_true, Bool.false_or, Bool.or_false, Bool.not_true, Bool.not_false, decide_true, decide_false, bI_t, bI_f, Bool.false_eq_true, not_true_eq_false, not_false_eq_true, eq_self, reduceCtorEq, Bool.true_eq_false, and_true, true_and, and_false, false_and, or_true, true_or, or_false, false_or]; done) | (simp only [c_5, ixn (Nat.lt_of_lt_of_le i_i (Nat.le_trans hO.1.2.1 (by decide))), hq_, ↓reduceIte, Bool.true_and, Bool.and_true, Bool.false_and, Bool.and_false, Bool.true_or, Bool.or_true, Bool.false_or, Bool.or_false, Bool.not_true, Bool.not_false, decide_true, decide_false, bI_t, bI_f, Bool.false_eq_true, not_true_eq_false, not_false_eq_true, eq_self, reduceCtorEq, Bool.true_eq_false, and_true, true_and, and_false, false_and, or_true, true_or, or_false, false_or] at c_31; done) | (simp only [ixn (Nat.lt_of_lt_of_le i_i (Nat.le_trans hO.1.2.1 (by decide))), hq_, eq_true c_31, ↓reduceIte, Bool.true_and, Bool.and_true, Bool.false_and, Bool.and_false, Bool.true_or, Bool.or_true, Bool.false_or, Bool.or_false, Bool.not_true, Bool.not_false, decide_true, decide_false, bI_t, bI_f, Bool.false_eq_true, not_true_eq_false, not_false_eq_true, eq_self, reduceCtorEq, Bool.true_eq_false, and_true, true_and, and_false, false_and, or_true, true_or, or_false, false_or] at c_5; done)) (MP.rf hM))
  refine lv_aload_n hx hb dX2_at_8 rfl (lv_at hl 0 rfl) ?_
  refine lv_iconst (v := 1) hx hb dX2_at_9 ic_1 ?_
  refine g_callV (F := fun z => ownM o A z) (As := [.int _]) hx hb hml hown hts hK (met_X2_fail l G hM.1) q720 q722 qs12 q43 q723 hv_X2_fail rfl hM.1 rfl (by decide) hl.1 rfl (Nat.le_of_ble_eq_true rfl) dX2_at_10 ⟨Nat.le_of_ble_eq_true rfl, Nat.le_of_ble_eq_true rfl⟩ (fun _ h => Or.inl h) hL (fun v1_ H1_ locs hP1_ hL => ?_)
  obtain ⟨hv1_, hat_, hon_⟩ := hP1_
  cases hv1_
  exact g_iret (F := fun z => ownM o A z) (Post := fun oc H' => oc = .returned (some (.int (m_at σ th i w).1)) ∧ MP G H o A (m_at σ th i w).2.1 (m_at σ th i w).2.2 H') hx hb hr hlk hL dX2_at_13 (pr_post (t := (σ, 1)) (P := fun τ => MP G H o A τ.1 τ.2 _) (by first | with_reducible rfl | (simp only [m_at, c_5, nz10, ↓reduceIte, Bool.true_and, Bool.and_true, Bool.false_and, Bool.and_false, Bool.true_or, Bool.or_true, Bool.false_or, Bool.or_false, Bool.not_true, Bool.not_false, decide_true, decide_false, bI_t, bI_f, Bool.false_eq_true, not_true_eq_false, not_false_eq_true, eq_self, reduceCtorEq, Bool.true_eq_false, and_true, true_and, and_false, false_and, or_true, true_or, or_false, false_or]; done)) (MP.o (σ' := σ) hM hS rfl rfl rfl hat_ hon_))
