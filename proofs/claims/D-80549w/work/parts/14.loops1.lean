set_option maxRecDepth 100000
/-- as often as there are places -/
def itr {α : Type} (f : Nat → α → α) : Nat → α → α
  | 0, a => a
  | k + 1, a => f k (itr f k a)
section LOOP
variable {p : Program} {l : Launch} {e : Env} {R : Room} {s : State} {m : MethodId} {args : Array Value} {below : List Frame} {meth : Method} {c : Code} {H : Heap} {locs : List Loc} {cells slots : Nat} {Q : State → Prop}
variable {ls : Array Slot} {rest : List Value}
/-- a loop that counts up to N; the heap stays -/
theorem loopW {N head nL : Nat} {lv : Nat → List (Nat × Value)} (step : ∀ k, k ≤ N → (∀ ls : Array Slot, lv_has ls nL (lv (k + 1)) → k < N → W p l e R s m args below meth c H locs cells slots Q (F0 m head ls rest)) → ∀ ls : Array Slot, lv_has ls nL (lv k) → W p l e R s m args below meth c H locs cells slots Q (F0 m head ls rest)) :
    ∀ k, k ≤ N → ∀ ls : Array Slot, lv_has ls nL (lv k) → W p l e R s m args below meth c H locs cells slots Q (F0 m head ls rest) := by
  have key : ∀ d k, k + d = N → ∀ ls : Array Slot, lv_has ls nL (lv k) → W p l e R s m args below meth c H locs cells slots Q (F0 m head ls rest) := by
    intro d
    induction d with
    | zero => intro k hk ls hl; exact step k (by omega) (fun _ _ h => absurd h (by omega)) ls hl
    | succ d ih => intro k hk ls hl; exact step k (by omega) (fun ls2 h2 _ => ih (k + 1) (by omega) ls2 h2) ls hl
  intro k hk
  exact key (N - k) k (by omega)
end LOOP
theorem lp_out {k N : Nat} (hk : k ≤ N) (hN : N < 2 ^ 31) (c : nI N ≤ nI k) : N = k := by
  rcases Nat.lt_or_ge k N with q | q
  · exact absurd c (nI_ge q hN)
  · omega
theorem lp_in {k N : Nat} (hk : k ≤ N) (hN : N < 2 ^ 31) (c : ¬ nI N ≤ nI k) : k < N := by
  rcases Nat.lt_or_ge k N with q | q
  · exact q
  · exact absurd (nI_le q (by omega)) c
theorem bI_and (a b : Bool) : bI a &&& bI b = bI (a && b) := by cases a <;> cases b <;> decide
theorem bI_or (a b : Bool) : bI a ||| bI b = bI (a || b) := by cases a <;> cases b <;> decide
abbrev Sg.ri (σ : Sg) (k : Nat) : Nat := (σ.rw k).getD 0
abbrev Sg.rp (σ : Sg) (k : Nat) : P2 := σ.pt (σ.ri k)
/-- the first N places hold points -/
def wh (f : Nat → Option Nat) : Nat → Bool
  | 0 => true
  | k + 1 => wh f k && (f k).isSome
theorem wh_spec {f : Nat → Option Nat} : ∀ {N : Nat}, wh f N = true → ∀ k, k < N → f k = some ((f k).getD 0)
  | 0, _, k, hk => absurd hk (by omega)
  | N + 1, h, k, hk => by
    simp only [wh, Bool.and_eq_true] at h
    rcases Nat.lt_or_ge k N with q | q
    · exact wh_spec h.1 k q
    · obtain rfl : k = N := by omega
      obtain ⟨x, hx⟩ := Option.isSome_iff_exists.mp h.2
      rw [hx]; rfl
/-- the first N places hold points -/
def HR (σ : Sg) (N : Nat) : Prop := ∀ k, k < N → σ.rw k = some (σ.ri k) ∧ σ.ri k < σ.np
theorem HR.of {σ : Sg} (h : Ok σ) {N : Nat} (hw : wh σ.rw N = true) : HR σ N := fun k hk => by
  have e := wh_spec hw k hk
  exact ⟨e, (h.2.1 k _ e).2⟩
theorem Ok.rIn {σ : Sg} (h : Ok σ) {k : Nat} (c : rI (σ.rw k) = -1) : (σ.rw k).isSome = false := by
  cases hq : σ.rw k with
  | none => rfl
  | some A =>
    have hA := (h.2.1 k A hq).2
    rw [hq] at c
    have h1 := nI_pos (n := A) (by have := h.1.1; omega)
    exact absurd (show nI A < 0 by rw [show nI A = -1 from c]; decide) h1
theorem Ok.rIs {σ : Sg} (h : Ok σ) {k : Nat} (c : ¬ rI (σ.rw k) = -1) : (σ.rw k).isSome = true := by
  cases hq : σ.rw k with
  | none => rw [hq] at c; exact absurd rfl c
  | some A => rfl
theorem many_elim {rn : Nat} {n k : Int32} (hk : 0 ≤ k) (hr : rn < 2 ^ 31) (h : m_isMany rn n k = true) : ∃ N : Nat, N ≤ rn ∧ n = nI N ∧ k.toInt ≤ N := by
  simp only [m_isMany, Bool.and_eq_true, Bool.not_eq_true', decide_eq_false_iff_not] at h
  have h0 : k ≤ n := Int32.not_lt.mp h.1
  have h1 : n ≤ nI rn := Int32.not_lt.mp h.2
  have h2 : ¬ n < 0 := fun q => by
    rw [Int32.lt_iff_toInt_lt] at q; rw [Int32.le_iff_toInt_le] at h0 hk
    have e0 : (0 : Int32).toInt = 0 := rfl
    omega
  obtain ⟨j, hj, e⟩ := nI_of h2
  subst e
  rw [Int32.le_iff_toInt_le, nI_toInt hj] at h0
  rw [Int32.le_iff_toInt_le, nI_toInt hj, nI_toInt hr] at h1
  exact ⟨j, by omega, rfl, h0⟩
theorem isIn_many {rn : Nat} (n k : Int32) : s_isIn n.toInt64 k.toInt64 (nI rn).toInt64 = m_isMany rn n k := by
  have h1 : (n.toInt64 < k.toInt64) ↔ n < k := by rw [Int64.lt_iff_toInt_lt, Int32.lt_iff_toInt_lt, Int32.toInt_toInt64, Int32.toInt_toInt64]
  have h2 : ((nI rn).toInt64 < n.toInt64) ↔ nI rn < n := by rw [Int64.lt_iff_toInt_lt, Int32.lt_iff_toInt_lt, Int32.toInt_toInt64, Int32.toInt_toInt64]
  simp only [s_isIn, m_isMany, h1, h2]
def nx (i N : Nat) : Nat := if i + 1 = N then 0 else i + 1
theorem nx_lt {i N : Nat} (h : i < N) : nx i N < N := by unfold nx; split <;> omega
theorem ixn {k : Nat} (h : k < 2 ^ 31) : ix (nI k) = k := nI_clamp h
def s_refused (σ : Sg) (n k : Int32) : Int32 := if m_isMany σ.rn n k then (if wh σ.rw (ix n) then 0 else -4) else -2
theorem dX2_isWhole_0 : decode cX2_isWhole 0 = .ok (.iconst 1, 1) := by decide +kernel
theorem dX2_isWhole_1 : decode cX2_isWhole 1 = .ok (.istore_n 2, 1) := by decide +kernel
theorem dX2_isWhole_2 : decode cX2_isWhole 2 = .ok (.iconst 0, 1) := by decide +kernel
theorem dX2_isWhole_3 : decode cX2_isWhole 3 = .ok (.istore_n 3, 1) := by decide +kernel
theorem dX2_isWhole_4 : decode cX2_isWhole 4 = .ok (.iload_n 3, 1) := by decide +kernel
theorem dX2_isWhole_5 : decode cX2_isWhole 5 = .ok (.iload_n 1, 1) := by decide +kernel
theorem dX2_isWhole_6 : decode cX2_isWhole 6 = .ok (.if_icmp .ge 29, 3) := by decide +kernel
theorem dX2_isWhole_9 : decode cX2_isWhole 9 = .ok (.iload_n 2, 1) := by decide +kernel
theorem dX2_isWhole_10 : decode cX2_isWhole 10 = .ok (.ifCond .eq 17, 3) := by decide +kernel
theorem dX2_isWhole_13 : decode cX2_isWhole 13 = .ok (.aload_n 0, 1) := by decide +kernel
theorem dX2_isWhole_14 : decode cX2_isWhole 14 = .ok (.getfield 20, 3) := by decide +kernel
theorem dX2_isWhole_17 : decode cX2_isWhole 17 = .ok (.iload_n 3, 1) := by decide +kernel
theorem dX2_isWhole_18 : decode cX2_isWhole 18 = .ok (.iaload, 1) := by decide +kernel
theorem dX2_isWhole_19 : decode cX2_isWhole 19 = .ok (.iconst (-1), 1) := by decide +kernel
theorem dX2_isWhole_20 : decode cX2_isWhole 20 = .ok (.if_icmp .eq 7, 3) := by decide +kernel
theorem dX2_isWhole_23 : decode cX2_isWhole 23 = .ok (.iconst 1, 1) := by decide +kernel
theorem dX2_isWhole_24 : decode cX2_isWhole 24 = .ok (.goto 4, 3) := by decide +kernel
theorem dX2_isWhole_27 : decode cX2_isWhole 27 = .ok (.iconst 0, 1) := by decide +kernel
theorem dX2_isWhole_28 : decode cX2_isWhole 28 = .ok (.istore_n 2, 1) := by decide +kernel
theorem dX2_isWhole_29 : decode cX2_isWhole 29 = .ok (.iinc 3 1, 3) := by decide +kernel
theorem dX2_isWhole_32 : decode cX2_isWhole 32 = .ok (.goto (-28), 3) := by decide +kernel
theorem dX2_isWhole_35 : decode cX2_isWhole 35 = .ok (.iload_n 2, 1) := by decide +kernel
theorem dX2_isWhole_36 : decode cX2_isWhole 36 = .ok (.ireturn, 1) := by decide +kernel
set_option maxHeartbeats 4000000 in
theorem met_X2_isWhole (l : Launch) (G : GG) {H : Heap} {o : Nat} {A : Nat → Nat} {σ : Sg} {th : Int32} {N : Nat} (hM : MW G H o A σ th) (hO : Ok σ) (hN : N ≤ σ.rn) : PM l yX2_isWhole cX2_isWhole 4 (some .boolean) 0 0 G H [.ref o, .int (nI N)] (some (.int (bI (wh σ.rw N)))) := by
  refine pm_intro pl_X2_isWhole (Nat.le_of_ble_eq_true rfl) ?_
  intro pX eX sX mX belX methX cX ls hE hnm hl
  obtain ⟨hx, hb, hr, hlk, hml, hown, hts, hK, hZ, hH⟩ := hE
  have hl : lv_has ls 4 [(0, .ref o), (1, .int (nI N))] := hl
  refine lv_iconst (v := 1) hx hb dX2_isWhole_0 ic_1 ?_
  refine lv_istore_n (lv' := [(2, .int _), (0, .ref _), (1, .int _)]) hx hb dX2_isWhole_1 rfl hl (Nat.le_of_ble_eq_true rfl) rfl (fun ls hl => ?_)
  refine lv_iconst (v := 0) hx hb dX2_isWhole_2 ic_0 ?_
  refine lv_istore_n (lv' := [(3, .int _), (2, .int _), (0, .ref _), (1, .int _)]) hx hb dX2_isWhole_3 rfl hl (Nat.le_of_ble_eq_true rfl) rfl (fun ls hl => ?_)
  refine loopW (N := N) (nL := 4) (lv := fun k => [(0, .ref o), (1, .int (nI N)), (2, .int (bI (wh σ.rw k))), (3, .int (nI k))]) (fun k hk_k ih_k ls hl => ?_) 0 (Nat.zero_le _) ls (lv_sub hl [2, 3, 1, 0] rfl)
  replace hl : lv_has ls 4 [(0, .ref o), (1, .int (nI N)), (2, .int (bI (wh σ.rw k))), (3, .int (nI k))] := hl
  refine lv_iload_n hx hb dX2_isWhole_4 rfl (lv_at hl 3 rfl) ?_
  refine lv_iload_n hx hb dX2_isWhole_5 rfl (lv_at hl 1 rfl) ?_
  refine lv_icmp_ge (tgt := 35) hx hb dX2_isWhole_6 rfl (fun c_6_0 => ?_) (fun c_6_0 => ?_)
  · skip
    have e_k := lp_out hk_k (Nat.lt_of_le_of_lt hN hO.rn31) c_6_0
    subst e_k
    refine lv_iload_n hx hb dX2_isWhole_35 rfl (lv_at hl 2 rfl) ?_
    exact pm_zret hx hb hr hlk hH dX2_isWhole_36 (by first | with_reducible rfl | (simp only [↓reduceIte, Bool.true_and, Bool.and_true, Bool.false_and, Bool.and_false, Bool.true_or, Bool.or_true, Bool.false_or, Bool.or_false, Bool.not_true, Bool.not_false, decide_true, decide_false, bI_t, bI_f, Bool.false_eq_true, not_true_eq_false, not_false_eq_true, eq_self, reduceCtorEq, Bool.true_eq_false, and_true, true_and, and_false, false_and, or_true, true_or, or_false, false_or]; done))
  have h_k := lp_in hk_k (Nat.lt_of_le_of_lt hN hO.rn31) c_6_0
  refine cutI (J := 28) (v := bI (wh σ.rw (k + 1))) ?_ (fun K6 => ?_)
  rotate_left
  · skip
    refine lv_iload_n hx hb dX2_isWhole_9 rfl (lv_at hl 2 rfl) ?_
    refine b_ifeq (tgt := 27) hx hb dX2_isWhole_10 rfl (fun c_10_1 => ?_) (fun c_10_1 => ?_)
    · skip
      refine lv_iconst (v := 0) hx hb dX2_isWhole_27 ic_0 ?_
      exact K6 _ (by first | with_reducible rfl | (simp only [wh, c_10_1, ↓reduceIte, Bool.true_and, Bool.and_true, Bool.false_and, Bool.and_false, Bool.true_or, Bool.or_true, Bool.false_or, Bool.or_false, Bool.not_true, Bool.not_false, decide_true, decide_false, bI_t, bI_f, Bool.false_eq_true, not_true_eq_false, not_false_eq_true, eq_self, reduceCtorEq, Bool.true_eq_false, and_true, true_and, and_false, false_and, or_true, true_or, or_false, false_or]; done))
    refine lv_aload_n hx hb dX2_isWhole_13 rfl (lv_at hl 0 rfl) ?_
    refine gf_X2_20 hx hb hts hown hK hM.1 rfl dX2_isWhole_14 ?_
    refine lv_iload_n hx hb dX2_isWhole_17 rfl (lv_at hl 3 rfl) ?_
    refine r_iald hx hb hK hM.2.2.2.1 dX2_isWhole_18 (k := k) (hO.lt24 (Nat.lt_of_lt_of_le h_k hN)) (by decide) rfl rfl ?_
    refine lv_iconst (v := -1) hx hb dX2_isWhole_19 ic_m1 ?_
    refine lv_icmp_eq (tgt := 27) hx hb dX2_isWhole_20 rfl (fun c_20_2 => ?_) (fun c_20_2 => ?_)
    · skip
      refine lv_iconst (v := 0) hx hb dX2_isWhole_27 ic_0 ?_
      exact K6 _ (by first | with_reducible rfl | (simp only [wh, c_10_1, hO.rIn c_20_2, ↓reduceIte, Bool.true_and, Bool.and_true, Bool.false_and, Bool.and_false, Bool.true_or, Bool.or_true, Bool.false_or, Bool.or_false, Bool.not_true, Bool.not_false, decide_true, decide_false, bI_t, bI_f, Bool.false_eq_true, not_true_eq_false, not_false_eq_true, eq_self, reduceCtorEq, Bool.true_eq_false, and_true, true_and, and_false, false_and, or_true, true_or, or_false, false_or]; done) | (simp only [c_10_1, ↓reduceIte, Bool.true_and, Bool.and_true, Bool.false_and, Bool.and_false, Bool.true_or, Bool.or_true, Bool.false_or, Bool.or_false, Bool.not_true, Bool.not_false, decide_true, decide_false, bI_t, bI_f, Bool.false_eq_true, not_true_eq_false, not_false_eq_true, eq_self, reduceCtorEq, Bool.true_eq_false, and_true, true_and, and_false, false_and, or_true, true_or, or_false, false_or] at c_20_2; done) | (simp only [hO.rIn c_20_2, ↓reduceIte, Bool.true_and, Bool.and_true, Bool.false_and, Bool.and_false, Bool.true_or, Bool.or_true, Bool.false_or, Bool.or_false, Bool.not_true, Bool.not_false, decide_true, decide_false, bI_t, bI_f, Bool.false_eq_true, not_true_eq_false, not_false_eq_true, eq_self, reduceCtorEq, Bool.true_eq_false, and_true, true_and, and_false, false_and, or_true, true_or, or_false, false_or] at c_10_1; done))
    refine lv_iconst (v := 1) hx hb dX2_isWhole_23 ic_1 ?_
    refine lv_goto (tgt := 28) hx hb dX2_isWhole_24 rfl ?_
    exact K6 _ (by first | with_reducible rfl | (simp only [wh, c_10_1, hO.rIs c_20_2, ↓reduceIte, Bool.true_and, Bool.and_true, Bool.false_and, Bool.and_false, Bool.true_or, Bool.or_true, Bool.false_or, Bool.or_false, Bool.not_true, Bool.not_false, decide_true, decide_false, bI_t, bI_f, Bool.false_eq_true, not_true_eq_false, not_false_eq_true, eq_self, reduceCtorEq, Bool.true_eq_false, and_true, true_and, and_false, false_and, or_true, true_or, or_false, false_or]; done) | (simp only [c_10_1, ↓reduceIte, Bool.true_and, Bool.and_true, Bool.false_and, Bool.and_false, Bool.true_or, Bool.or_true, Bool.false_or, Bool.or_false, Bool.not_true, Bool.not_false, decide_true, decide_false, bI_t, bI_f, Bool.false_eq_true, not_true_eq_false, not_false_eq_true, eq_self, reduceCtorEq, Bool.true_eq_false, and_true, true_and, and_false, false_and, or_true, true_or, or_false, false_or] at c_20_2; done) | (simp only [hO.rIs c_20_2, ↓reduceIte, Bool.true_and, Bool.and_true, Bool.false_and, Bool.and_false, Bool.true_or, Bool.or_true, Bool.false_or, Bool.or_false, Bool.not_true, Bool.not_false, decide_true, decide_false, bI_t, bI_f, Bool.false_eq_true, not_true_eq_false, not_false_eq_true, eq_self, reduceCtorEq, Bool.true_eq_false, and_true, true_and, and_false, false_and, or_true, true_or, or_false, false_or] at c_10_1; done))
  refine lv_istore_n (lv' := [(2, .int _), (0, .ref _), (1, .int _), (3, .int _)]) hx hb dX2_isWhole_28 rfl hl (Nat.le_of_ble_eq_true rfl) rfl (fun ls hl => ?_)
  refine lv_iinc (v := nI (k + 1)) (k := 3) (lv' := [(3, .int _), (2, .int _), (0, .ref _), (1, .int _)]) hx hb dX2_isWhole_29 hl rfl (nI_1 _) (Nat.le_of_ble_eq_true rfl) rfl (fun ls hl => ?_)
  refine lv_goto (tgt := 4) hx hb dX2_isWhole_32 rfl ?_
  exact ih_k ls (lv_sub hl [2, 3, 1, 0] rfl) h_k
theorem dX1_refused_0 : decode cX1_refused 0 = .ok (.iload_n 1, 1) := by decide +kernel
theorem dX1_refused_1 : decode cX1_refused 1 = .ok (.i2l, 1) := by decide +kernel
theorem dX1_refused_2 : decode cX1_refused 2 = .ok (.iload_n 2, 1) := by decide +kernel
theorem dX1_refused_3 : decode cX1_refused 3 = .ok (.i2l, 1) := by decide +kernel
theorem dX1_refused_4 : decode cX1_refused 4 = .ok (.aload_n 0, 1) := by decide +kernel
theorem dX1_refused_5 : decode cX1_refused 5 = .ok (.getfield 30, 3) := by decide +kernel
theorem dX1_refused_8 : decode cX1_refused 8 = .ok (.arraylength, 1) := by decide +kernel
theorem dX1_refused_9 : decode cX1_refused 9 = .ok (.i2l, 1) := by decide +kernel
theorem dX1_refused_10 : decode cX1_refused 10 = .ok (.invokestatic 46, 3) := by decide +kernel
theorem dX1_refused_13 : decode cX1_refused 13 = .ok (.ifCond .ne 6, 3) := by decide +kernel
theorem dX1_refused_16 : decode cX1_refused 16 = .ok (.bipush (-2), 2) := by decide +kernel
theorem dX1_refused_18 : decode cX1_refused 18 = .ok (.ireturn, 1) := by decide +kernel
theorem dX1_refused_19 : decode cX1_refused 19 = .ok (.iconst 1, 1) := by decide +kernel
theorem dX1_refused_20 : decode cX1_refused 20 = .ok (.istore_n 3, 1) := by decide +kernel
theorem dX1_refused_21 : decode cX1_refused 21 = .ok (.iconst 0, 1) := by decide +kernel
theorem dX1_refused_22 : decode cX1_refused 22 = .ok (.istore 4, 2) := by decide +kernel
theorem dX1_refused_24 : decode cX1_refused 24 = .ok (.iload 4, 2) := by decide +kernel
theorem dX1_refused_26 : decode cX1_refused 26 = .ok (.iload_n 1, 1) := by decide +kernel
theorem dX1_refused_27 : decode cX1_refused 27 = .ok (.if_icmp .ge 27, 3) := by decide +kernel
theorem dX1_refused_30 : decode cX1_refused 30 = .ok (.iload_n 3, 1) := by decide +kernel
theorem dX1_refused_31 : decode cX1_refused 31 = .ok (.aload_n 0, 1) := by decide +kernel
theorem dX1_refused_32 : decode cX1_refused 32 = .ok (.getfield 30, 3) := by decide +kernel
theorem dX1_refused_35 : decode cX1_refused 35 = .ok (.iload 4, 2) := by decide +kernel
theorem dX1_refused_37 : decode cX1_refused 37 = .ok (.aaload, 1) := by decide +kernel
theorem dX1_refused_38 : decode cX1_refused 38 = .ok (.ifnull 7, 3) := by decide +kernel
theorem dX1_refused_41 : decode cX1_refused 41 = .ok (.iconst 1, 1) := by decide +kernel
theorem dX1_refused_42 : decode cX1_refused 42 = .ok (.goto 4, 3) := by decide +kernel
theorem dX1_refused_45 : decode cX1_refused 45 = .ok (.iconst 0, 1) := by decide +kernel
theorem dX1_refused_46 : decode cX1_refused 46 = .ok (.iand, 1) := by decide +kernel
theorem dX1_refused_47 : decode cX1_refused 47 = .ok (.istore_n 3, 1) := by decide +kernel
theorem dX1_refused_48 : decode cX1_refused 48 = .ok (.iinc 4 1, 3) := by decide +kernel
theorem dX1_refused_51 : decode cX1_refused 51 = .ok (.goto (-27), 3) := by decide +kernel
theorem dX1_refused_54 : decode cX1_refused 54 = .ok (.iload_n 3, 1) := by decide +kernel
theorem dX1_refused_55 : decode cX1_refused 55 = .ok (.ifCond .eq 7, 3) := by decide +kernel
theorem dX1_refused_58 : decode cX1_refused 58 = .ok (.iconst 0, 1) := by decide +kernel
theorem dX1_refused_59 : decode cX1_refused 59 = .ok (.goto 5, 3) := by decide +kernel
theorem dX1_refused_62 : decode cX1_refused 62 = .ok (.bipush (-4), 2) := by decide +kernel
theorem dX1_refused_64 : decode cX1_refused 64 = .ok (.ireturn, 1) := by decide +kernel
set_option maxHeartbeats 4000000 in
theorem met_X1_refused (l : Launch) (G : GG) {H : Heap} {o : Nat} {B P L : Nat → Nat} {σ : Sg} {n k0 : Int32} (hJ : JW G H o B P L σ) (hO : Ok σ) (hk0 : 0 ≤ k0) : PM l yX1_refused cX1_refused 5 (some .int) 1 25 G H [.ref o, .int n, .int k0] (some (.int (s_refused σ n k0))) := by
  refine pm_intro pl_X1_refused (Nat.le_of_ble_eq_true rfl) ?_
  intro pX eX sX mX belX methX cX ls hE hnm hl
  obtain ⟨hx, hb, hr, hlk, hml, hown, hts, hK, hZ, hH⟩ := hE
  have hl : lv_has ls 5 [(0, .ref o), (1, .int n), (2, .int k0)] := hl
  refine lv_iload_n hx hb dX1_refused_0 rfl (lv_at hl 1 rfl) ?_
  refine lv_i2l hx hb dX1_refused_1 rfl ?_
  refine lv_iload_n hx hb dX1_refused_2 rfl (lv_at hl 2 rfl) ?_
  refine lv_i2l hx hb dX1_refused_3 rfl ?_
  refine lv_aload_n hx hb dX1_refused_4 rfl (lv_at hl 0 rfl) ?_
  refine gf_X1_30 hx hb hts hown hK hJ.1 rfl dX1_refused_5 ?_
  refine r_palen hx hb hK hJ.2.2.1 dX1_refused_8 ?_
  refine lv_i2l hx hb dX1_refused_9 rfl ?_
  refine p_callS (As := [.long _, .long _, .long _]) hx hb hml hown hts hK hZ (met_X1_isIn l G ) q110 q111 q42 q112 hd_X1_isIn rfl (by decide) hl.1 rfl (Nat.le_of_ble_eq_true rfl) dX1_refused_10 ⟨Nat.zero_le _, Nat.zero_le _⟩ ?_
  refine b_ifne (tgt := 19) hx hb dX1_refused_13 rfl (fun c_13 => ?_) (fun c_13 => ?_)
  · skip
    rw [isIn_many] at c_13
    obtain ⟨N, hN, rfl, -⟩ := many_elim hk0 hO.rn31 c_13
    refine lv_iconst (v := 1) hx hb dX1_refused_19 ic_1 ?_
    refine lv_istore_n (lv' := [(3, .int _), (0, .ref _), (1, .int _), (2, .int _)]) hx hb dX1_refused_20 rfl hl (Nat.le_of_ble_eq_true rfl) rfl (fun ls hl => ?_)
    refine lv_iconst (v := 0) hx hb dX1_refused_21 ic_0 ?_
    refine lv_istore (lv' := [(4, .int _), (3, .int _), (0, .ref _), (1, .int _), (2, .int _)]) hx hb dX1_refused_22 hl (Nat.le_of_ble_eq_true rfl) rfl (fun ls hl => ?_)
    refine loopW (N := N) (nL := 5) (lv := fun k => [(0, .ref o), (1, .int (nI N)), (3, .int (bI (wh σ.rw k))), (4, .int (nI k))]) (fun k hk_k ih_k ls hl => ?_) 0 (Nat.zero_le _) ls (lv_sub hl [2, 3, 1, 0] rfl)
    replace hl : lv_has ls 5 [(0, .ref o), (1, .int (nI N)), (3, .int (bI (wh σ.rw k))), (4, .int (nI k))] := hl
    refine lv_iload hx hb dX1_refused_24 (lv_at hl 3 rfl) ?_
    refine lv_iload_n hx hb dX1_refused_26 rfl (lv_at hl 1 rfl) ?_
    refine lv_icmp_ge (tgt := 54) hx hb dX1_refused_27 rfl (fun c_27_1 => ?_) (fun c_27_1 => ?_)
    · skip
      have e_k := lp_out hk_k (Nat.lt_of_le_of_lt hN hO.rn31) c_27_1
      subst e_k
      refine lv_iload_n hx hb dX1_refused_54 rfl (lv_at hl 2 rfl) ?_
      refine b_ifeq (tgt := 62) hx hb dX1_refused_55 rfl (fun c_55_2 => ?_) (fun c_55_2 => ?_)
      · skip
        refine lv_bipush (v := -4) hx hb dX1_refused_62 ib_m4 ?_
        exact pm_iret hx hb hr hlk hH dX1_refused_64 (by first | with_reducible rfl | (simp only [s_refused, c_13, ixn (Nat.lt_of_le_of_lt hN hO.rn31), c_55_2, ↓reduceIte, Bool.true_and, Bool.and_true, Bool.false_and, Bool.and_false, Bool.true_or, Bool.or_true, Bool.false_or, Bool.or_false, Bool.not_true, Bool.not_false, decide_true, decide_false, bI_t, bI_f, Bool.false_eq_true, not_true_eq_false, not_false_eq_true, eq_self, reduceCtorEq, Bool.true_eq_false, and_true, true_and, and_false, false_and, or_true, true_or, or_false, false_or]; done) | (simp only [c_13, ixn (Nat.lt_of_le_of_lt hN hO.rn31), ↓reduceIte, Bool.true_and, Bool.and_true, Bool.false_and, Bool.and_false, Bool.true_or, Bool.or_true, Bool.false_or, Bool.or_false, Bool.not_true, Bool.not_false, decide_true, decide_false, bI_t, bI_f, Bool.false_eq_true, not_true_eq_false, not_false_eq_true, eq_self, reduceCtorEq, Bool.true_eq_false, and_true, true_and, and_false, false_and, or_true, true_or, or_false, false_or] at c_55_2; done) | (simp only [ixn (Nat.lt_of_le_of_lt hN hO.rn31), c_55_2, ↓reduceIte, Bool.true_and, Bool.and_true, Bool.false_and, Bool.and_false, Bool.true_or, Bool.or_true, Bool.false_or, Bool.or_false, Bool.not_true, Bool.not_false, decide_true, decide_false, bI_t, bI_f, Bool.false_eq_true, not_true_eq_false, not_false_eq_true, eq_self, reduceCtorEq, Bool.true_eq_false, and_true, true_and, and_false, false_and, or_true, true_or, or_false, false_or] at c_13; done))
      refine lv_iconst (v := 0) hx hb dX1_refused_58 ic_0 ?_
      refine lv_goto (tgt := 64) hx hb dX1_refused_59 rfl ?_
      exact pm_iret hx hb hr hlk hH dX1_refused_64 (by first | with_reducible rfl | (simp only [s_refused, c_13, ixn (Nat.lt_of_le_of_lt hN hO.rn31), c_55_2, ↓reduceIte, Bool.true_and, Bool.and_true, Bool.false_and, Bool.and_false, Bool.true_or, Bool.or_true, Bool.false_or, Bool.or_false, Bool.not_true, Bool.not_false, decide_true, decide_false, bI_t, bI_f, Bool.false_eq_true, not_true_eq_false, not_false_eq_true, eq_self, reduceCtorEq, Bool.true_eq_false, and_true, true_and, and_false, false_and, or_true, true_or, or_false, false_or]; done) | (simp only [c_13, ixn (Nat.lt_of_le_of_lt hN hO.rn31), ↓reduceIte, Bool.true_and, Bool.and_true, Bool.false_and, Bool.and_false, Bool.true_or, Bool.or_true, Bool.false_or, Bool.or_false, Bool.not_true, Bool.not_false, decide_true, decide_false, bI_t, bI_f, Bool.false_eq_true, not_true_eq_false, not_false_eq_true, eq_self, reduceCtorEq, Bool.true_eq_false, and_true, true_and, and_false, false_and, or_true, true_or, or_false, false_or] at c_55_2; done) | (simp only [ixn (Nat.lt_of_le_of_lt hN hO.rn31), c_55_2, ↓reduceIte, Bool.true_and, Bool.and_true, Bool.false_and, Bool.and_false, Bool.true_or, Bool.or_true, Bool.false_or, Bool.or_false, Bool.not_true, Bool.not_false, decide_true, decide_false, bI_t, bI_f, Bool.false_eq_true, not_true_eq_false, not_false_eq_true, eq_self, reduceCtorEq, Bool.true_eq_false, and_true, true_and, and_false, false_and, or_true, true_or, or_false, false_or] at c_13; done))
    have h_k := lp_in hk_k (Nat.lt_of_le_of_lt hN hO.rn31) c_27_1
    refine lv_iload_n hx hb dX1_refused_30 rfl (lv_at hl 2 rfl) ?_
    refine cutI (J := 46) (v := bI ((σ.rw k).isSome)) ?_ (fun K7 => ?_)
    rotate_left
    · skip
      refine lv_aload_n hx hb dX1_refused_31 rfl (lv_at hl 0 rfl) ?_
      refine gf_X1_30 hx hb hts hown hK hJ.1 rfl dX1_refused_32 ?_
      refine lv_iload hx hb dX1_refused_35 (lv_at hl 3 rfl) ?_
      cases hq : σ.rw k with
      | none =>
        refine r_paldq hx hb hK hJ.2.2.1 dX1_refused_37 (k := k) (Nat.lt_of_lt_of_le h_k hN) hO.rn31 rfl (w := .null) (by show va_rf ((σ.rw k).map P) = _; rw [hq]; rfl) ?_
        refine lv_ifnullN (tgt := 45) hx hb dX1_refused_38 rfl ?_
        refine lv_iconst (v := 0) hx hb dX1_refused_45 ic_0 ?_
        exact K7 _ (by first | with_reducible rfl | (simp only [s_refused, Option.isSome_none, Option.isSome_some, c_13, ixn (Nat.lt_of_le_of_lt hN hO.rn31), hq, ↓reduceIte, Bool.true_and, Bool.and_true, Bool.false_and, Bool.and_false, Bool.true_or, Bool.or_true, Bool.false_or, Bool.or_false, Bool.not_true, Bool.not_false, decide_true, decide_false, bI_t, bI_f, Bool.false_eq_true, not_true_eq_false, not_false_eq_true, eq_self, reduceCtorEq, Bool.true_eq_false, and_true, true_and, and_false, false_and, or_true, true_or, or_false, false_or]; done))
      | some A_ =>
        refine r_paldq hx hb hK hJ.2.2.1 dX1_refused_37 (k := k) (Nat.lt_of_lt_of_le h_k hN) hO.rn31 rfl (w := .ref (P A_)) (by show va_rf ((σ.rw k).map P) = _; rw [hq]; rfl) ?_
        refine lv_ifnull hx hb dX1_refused_38 ?_
        refine lv_iconst (v := 1) hx hb dX1_refused_41 ic_1 ?_
        refine lv_goto (tgt := 46) hx hb dX1_refused_42 rfl ?_
        exact K7 _ (by first | with_reducible rfl | (simp only [s_refused, Option.isSome_none, Option.isSome_some, c_13, ixn (Nat.lt_of_le_of_lt hN hO.rn31), hq, ↓reduceIte, Bool.true_and, Bool.and_true, Bool.false_and, Bool.and_false, Bool.true_or, Bool.or_true, Bool.false_or, Bool.or_false, Bool.not_true, Bool.not_false, decide_true, decide_false, bI_t, bI_f, Bool.false_eq_true, not_true_eq_false, not_false_eq_true, eq_self, reduceCtorEq, Bool.true_eq_false, and_true, true_and, and_false, false_and, or_true, true_or, or_false, false_or]; done))
    refine lv_iand hx hb dX1_refused_46 ?_
    refine topi_eq (bI_and _ _) ?_
    refine lv_istore_n (lv' := [(3, .int _), (0, .ref _), (1, .int _), (4, .int _)]) hx hb dX1_refused_47 rfl hl (Nat.le_of_ble_eq_true rfl) rfl (fun ls hl => ?_)
    refine lv_iinc (v := nI (k + 1)) (k := 3) (lv' := [(4, .int _), (3, .int _), (0, .ref _), (1, .int _)]) hx hb dX1_refused_48 hl rfl (nI_1 _) (Nat.le_of_ble_eq_true rfl) rfl (fun ls hl => ?_)
    refine lv_goto (tgt := 24) hx hb dX1_refused_51 rfl ?_
    exact ih_k ls (lv_sub hl [2, 3, 1, 0] rfl) h_k
  rw [isIn_many] at c_13
  refine lv_bipush (v := -2) hx hb dX1_refused_16 ib_m2 ?_
  exact pm_iret hx hb hr hlk hH dX1_refused_18 (by first | with_reducible rfl | (simp only [s_refused, c_13, ↓reduceIte, Bool.true_and, Bool.and_true, Bool.false_and, Bool.and_false, Bool.true_or, Bool.or_true, Bool.false_or, Bool.or_false, Bool.not_true, Bool.not_false, decide_true, decide_false, bI_t, bI_f, Bool.false_eq_true, not_true_eq_false, not_false_eq_true, eq_self, reduceCtorEq, Bool.true_eq_false, and_true, true_and, and_false, false_and, or_true, true_or, or_false, false_or]; done))
theorem dX2_next_0 : decode cX2_next 0 = .ok (.aload_n 0, 1) := by decide +kernel
theorem dX2_next_1 : decode cX2_next 1 = .ok (.getfield 20, 3) := by decide +kernel
theorem dX2_next_4 : decode cX2_next 4 = .ok (.iload_n 1, 1) := by decide +kernel
theorem dX2_next_5 : decode cX2_next 5 = .ok (.iconst 1, 1) := by decide +kernel
theorem dX2_next_6 : decode cX2_next 6 = .ok (.iadd, 1) := by decide +kernel
theorem dX2_next_7 : decode cX2_next 7 = .ok (.iload_n 2, 1) := by decide +kernel
theorem dX2_next_8 : decode cX2_next 8 = .ok (.if_icmp .ne 7, 3) := by decide +kernel
theorem dX2_next_11 : decode cX2_next 11 = .ok (.iconst 0, 1) := by decide +kernel
theorem dX2_next_12 : decode cX2_next 12 = .ok (.goto 6, 3) := by decide +kernel
theorem dX2_next_15 : decode cX2_next 15 = .ok (.iload_n 1, 1) := by decide +kernel
theorem dX2_next_16 : decode cX2_next 16 = .ok (.iconst 1, 1) := by decide +kernel
theorem dX2_next_17 : decode cX2_next 17 = .ok (.iadd, 1) := by decide +kernel
theorem dX2_next_18 : decode cX2_next 18 = .ok (.iaload, 1) := by decide +kernel
theorem dX2_next_19 : decode cX2_next 19 = .ok (.ireturn, 1) := by decide +kernel
set_option maxHeartbeats 4000000 in
theorem met_X2_next (l : Launch) (G : GG) {H : Heap} {o : Nat} {A : Nat → Nat} {σ : Sg} {th : Int32} {i N : Nat} (hM : MW G H o A σ th) (hO : Ok σ) (hN : N ≤ σ.rn) (hR : HR σ N) (hi : i < N) : PM l yX2_next cX2_next 3 (some .int) 0 0 G H [.ref o, .int (nI i), .int (nI N)] (some (.int (nI (σ.ri (nx i N))))) := by
  refine pm_intro pl_X2_next (Nat.le_of_ble_eq_true rfl) ?_
  intro pX eX sX mX belX methX cX ls hE hnm hl
  obtain ⟨hx, hb, hr, hlk, hml, hown, hts, hK, hZ, hH⟩ := hE
  have hl : lv_has ls 3 [(0, .ref o), (1, .int (nI i)), (2, .int (nI N))] := hl
  refine lv_aload_n hx hb dX2_next_0 rfl (lv_at hl 0 rfl) ?_
  refine gf_X2_20 hx hb hts hown hK hM.1 rfl dX2_next_1 ?_
  refine lv_iload_n hx hb dX2_next_4 rfl (lv_at hl 1 rfl) ?_
  refine lv_iconst (v := 1) hx hb dX2_next_5 ic_1 ?_
  refine lv_iadd hx hb dX2_next_6 ?_
  refine lv_iload_n hx hb dX2_next_7 rfl (lv_at hl 2 rfl) ?_
  by_cases hn_ : i + 1 = N
  · have en : nx i N = 0 := by unfold nx; rw [if_pos hn_]
    refine lv_icmp_ne (tgt := 15) hx hb dX2_next_8 rfl (fun c_8 => absurd (by rw [nI_1, hn_]) c_8) (fun _ => ?_)
    refine lv_iconst (v := 0) hx hb dX2_next_11 ic_0 ?_
    refine lv_goto (tgt := 18) hx hb dX2_next_12 rfl ?_
    refine r_iald hx hb hK hM.2.2.2.1 dX2_next_18 (k := 0) (hO.lt24 (Nat.lt_of_lt_of_le (by omega : 0 < N) hN)) (by decide) rfl (rI_some (hR 0 (by omega)).1) ?_
    exact pm_iret hx hb hr hlk hH dX2_next_19 (by rw [en])
  · have en : nx i N = i + 1 := by unfold nx; rw [if_neg hn_]
    refine lv_icmp_ne (tgt := 15) hx hb dX2_next_8 rfl (fun _ => ?_) (fun c_8 => absurd ((nI_eq (by have := hO.rn31; omega) (by have := hO.rn31; omega)).mp (by rw [← nI_1]; exact c_8)) hn_)
    refine lv_iload_n hx hb dX2_next_15 rfl (lv_at hl 1 rfl) ?_
    refine lv_iconst (v := 1) hx hb dX2_next_16 ic_1 ?_
    refine lv_iadd hx hb dX2_next_17 ?_
    refine r_iald hx hb hK hM.2.2.2.1 dX2_next_18 (k := i + 1) (hO.lt24 (Nat.lt_of_lt_of_le (by omega : i + 1 < N) hN)) (by decide) (nI_1 _) (rI_some (hR (i + 1) (by omega)).1) ?_
    exact pm_iret hx hb hr hlk hH dX2_next_19 (by rw [en])
theorem dX1_next_0 : decode cX1_next 0 = .ok (.aload_n 0, 1) := by decide +kernel
theorem dX1_next_1 : decode cX1_next 1 = .ok (.getfield 30, 3) := by decide +kernel
theorem dX1_next_4 : decode cX1_next 4 = .ok (.iload_n 1, 1) := by decide +kernel
theorem dX1_next_5 : decode cX1_next 5 = .ok (.iconst 1, 1) := by decide +kernel
theorem dX1_next_6 : decode cX1_next 6 = .ok (.iadd, 1) := by decide +kernel
theorem dX1_next_7 : decode cX1_next 7 = .ok (.iload_n 2, 1) := by decide +kernel
theorem dX1_next_8 : decode cX1_next 8 = .ok (.if_icmp .ne 7, 3) := by decide +kernel
theorem dX1_next_11 : decode cX1_next 11 = .ok (.iconst 0, 1) := by decide +kernel
theorem dX1_next_12 : decode cX1_next 12 = .ok (.goto 6, 3) := by decide +kernel
theorem dX1_next_15 : decode cX1_next 15 = .ok (.iload_n 1, 1) := by decide +kernel
theorem dX1_next_16 : decode cX1_next 16 = .ok (.iconst 1, 1) := by decide +kernel
theorem dX1_next_17 : decode cX1_next 17 = .ok (.iadd, 1) := by decide +kernel
theorem dX1_next_18 : decode cX1_next 18 = .ok (.aaload, 1) := by decide +kernel
theorem dX1_next_19 : decode cX1_next 19 = .ok (.areturn, 1) := by decide +kernel
set_option maxHeartbeats 4000000 in
theorem met_X1_next (l : Launch) (G : GG) {H : Heap} {o : Nat} {B P L : Nat → Nat} {σ : Sg} {i N : Nat} (hJ : JW G H o B P L σ) (hO : Ok σ) (hN : N ≤ σ.rn) (hR : HR σ N) (hi : i < N) : PM l yX1_next cX1_next 3 (some (.object "OrderJudge$Point")) 0 0 G H [.ref o, .int (nI i), .int (nI N)] (some (.ref (P (σ.ri (nx i N))))) := by
  refine pm_intro pl_X1_next (Nat.le_of_ble_eq_true rfl) ?_
  intro pX eX sX mX belX methX cX ls hE hnm hl
  obtain ⟨hx, hb, hr, hlk, hml, hown, hts, hK, hZ, hH⟩ := hE
  have hl : lv_has ls 3 [(0, .ref o), (1, .int (nI i)), (2, .int (nI N))] := hl
  refine lv_aload_n hx hb dX1_next_0 rfl (lv_at hl 0 rfl) ?_
  refine gf_X1_30 hx hb hts hown hK hJ.1 rfl dX1_next_1 ?_
  refine lv_iload_n hx hb dX1_next_4 rfl (lv_at hl 1 rfl) ?_
  refine lv_iconst (v := 1) hx hb dX1_next_5 ic_1 ?_
  refine lv_iadd hx hb dX1_next_6 ?_
  refine lv_iload_n hx hb dX1_next_7 rfl (lv_at hl 2 rfl) ?_
  by_cases hn_ : i + 1 = N
  · have en : nx i N = 0 := by unfold nx; rw [if_pos hn_]
    refine lv_icmp_ne (tgt := 15) hx hb dX1_next_8 rfl (fun c_8 => absurd (by rw [nI_1, hn_]) c_8) (fun _ => ?_)
    refine lv_iconst (v := 0) hx hb dX1_next_11 ic_0 ?_
    refine lv_goto (tgt := 18) hx hb dX1_next_12 rfl ?_
    refine r_pald hx hb hK hJ.2.2.1 dX1_next_18 (k := 0) (Nat.lt_of_lt_of_le (by omega : 0 < N) hN) hO.rn31 rfl (ra_some (hR 0 (by omega)).1) ?_
    exact pm_aret hx hb hr hlk hH dX1_next_19 (by rw [en])
  · have en : nx i N = i + 1 := by unfold nx; rw [if_neg hn_]
    refine lv_icmp_ne (tgt := 15) hx hb dX1_next_8 rfl (fun _ => ?_) (fun c_8 => absurd ((nI_eq (by have := hO.rn31; omega) (by have := hO.rn31; omega)).mp (by rw [← nI_1]; exact c_8)) hn_)
    refine lv_iload_n hx hb dX1_next_15 rfl (lv_at hl 1 rfl) ?_
    refine lv_iconst (v := 1) hx hb dX1_next_16 ic_1 ?_
    refine lv_iadd hx hb dX1_next_17 ?_
    refine r_pald hx hb hK hJ.2.2.1 dX1_next_18 (k := i + 1) (Nat.lt_of_lt_of_le (by omega : i + 1 < N) hN) hO.rn31 (nI_1 _) (ra_some (hR (i + 1) (by omega)).1) ?_
    exact pm_aret hx hb hr hlk hH dX1_next_19 (by rw [en])
