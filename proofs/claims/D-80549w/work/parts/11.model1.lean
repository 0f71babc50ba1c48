set_option maxRecDepth 100000

def m_isOn (p q r : P2) : Bool := decide (s_turn p q r = 0) && (if s_eq p q then s_eq p r else decide (s_along r p q ≤ 0))
def s_oneway (o p q : P2) : Bool := decide (s_turn o p q = 0) && !decide (s_along o p q ≤ 0)
def m_common (a b d f : P2) : Int32 :=
  let n0 : Int32 := 0 + (if m_isOn a b d then 1 else 0)
  let n1 : Int32 := n0 + (if m_isOn a b f && !s_eq d f then 1 else 0)
  let n2 : Int32 := n1 + (if m_isOn d f a && (!s_eq a d && !s_eq a f) then 1 else 0)
  let n3 : Int32 := n2 + (if m_isOn d f b && (!s_eq b d && (!s_eq b f && !s_eq a b)) then 1 else 0)
  if n3 ≤ 1 then n3 else 2
def m_half (c p : P2) : Int32 := if !decide (p.2 ≤ c.2) || (decide (p.2 = c.2) && !decide (p.1 ≤ c.1)) then 0 else 1
def m_isMany (rn : Nat) (n k : Int32) : Bool := !decide (n < k) && !decide (nI rn < n)
theorem dX2_isPoint_0 : decode cX2_isPoint 0 = .ok (.iload_n 1, 1) := by decide +kernel
theorem dX2_isPoint_1 : decode cX2_isPoint 1 = .ok (.ifCond .lt 15, 3) := by decide +kernel
theorem dX2_isPoint_4 : decode cX2_isPoint 4 = .ok (.iload_n 1, 1) := by decide +kernel
theorem dX2_isPoint_5 : decode cX2_isPoint 5 = .ok (.aload_n 0, 1) := by decide +kernel
theorem dX2_isPoint_6 : decode cX2_isPoint 6 = .ok (.getfield 51, 3) := by decide +kernel
theorem dX2_isPoint_9 : decode cX2_isPoint 9 = .ok (.if_icmp .ge 7, 3) := by decide +kernel
theorem dX2_isPoint_12 : decode cX2_isPoint 12 = .ok (.iconst 1, 1) := by decide +kernel
theorem dX2_isPoint_13 : decode cX2_isPoint 13 = .ok (.goto 4, 3) := by decide +kernel
theorem dX2_isPoint_16 : decode cX2_isPoint 16 = .ok (.iconst 0, 1) := by decide +kernel
theorem dX2_isPoint_17 : decode cX2_isPoint 17 = .ok (.ireturn, 1) := by decide +kernel
set_option maxHeartbeats 4000000 in
theorem met_X2_isPoint (l : Launch) (G : GG) {H : Heap} {o : Nat} {A : Nat → Nat} {σ : Sg} {th : Int32} {a : Int32} (hM : MW G H o A σ th) : PM l yX2_isPoint cX2_isPoint 2 (some .boolean) 0 0 G H [.ref o, .int a] (some (.int (bI (isPt σ.np a)))) := by
  refine pm_intro pl_X2_isPoint (Nat.le_of_ble_eq_true rfl) ?_
  intro pX eX sX mX belX methX cX ls hE hnm hl
  obtain ⟨hx, hb, hr, hlk, hml, hown, hts, hK, hZ, hH⟩ := hE
  have hl : lv_has ls 2 [(0, .ref o), (1, .int a)] := hl
  refine lv_iload_n hx hb dX2_isPoint_0 rfl (lv_at hl 1 rfl) ?_
  refine lv_if_lt (tgt := 16) hx hb dX2_isPoint_1 rfl (fun c_1 => ?_) (fun c_1 => ?_)
  · skip
    refine lv_iconst (v := 0) hx hb dX2_isPoint_16 ic_0 ?_
    exact pm_zret hx hb hr hlk hH dX2_isPoint_17 (by first | with_reducible rfl | (simp only [isPt, c_1, Int32.not_le.mpr c_1, ↓reduceIte, Bool.true_and, Bool.and_true, Bool.false_and, Bool.and_false, Bool.true_or, Bool.or_true, Bool.false_or, Bool.or_false, Bool.not_true, Bool.not_false, decide_true, decide_false, bI_t, bI_f, Bool.false_eq_true, not_true_eq_false, not_false_eq_true, eq_self, reduceCtorEq, Bool.true_eq_false, and_true, true_and, and_false, false_and, or_true, true_or, or_false, false_or]; done))
  refine lv_iload_n hx hb dX2_isPoint_4 rfl (lv_at hl 1 rfl) ?_
  refine lv_aload_n hx hb dX2_isPoint_5 rfl (lv_at hl 0 rfl) ?_
  refine gf_X2_51 hx hb hts hown hK hM.1 rfl dX2_isPoint_6 ?_
  refine lv_icmp_ge (tgt := 16) hx hb dX2_isPoint_9 rfl (fun c_9 => ?_) (fun c_9 => ?_)
  · skip
    refine lv_iconst (v := 0) hx hb dX2_isPoint_16 ic_0 ?_
    exact pm_zret hx hb hr hlk hH dX2_isPoint_17 (by first | with_reducible rfl | (simp only [isPt, c_1, Int32.not_lt.mp c_1, c_9, Int32.not_lt.mpr c_9, ↓reduceIte, Bool.true_and, Bool.and_true, Bool.false_and, Bool.and_false, Bool.true_or, Bool.or_true, Bool.false_or, Bool.or_false, Bool.not_true, Bool.not_false, decide_true, decide_false, bI_t, bI_f, Bool.false_eq_true, not_true_eq_false, not_false_eq_true, eq_self, reduceCtorEq, Bool.true_eq_false, and_true, true_and, and_false, false_and, or_true, true_or, or_false, false_or]; done) | (simp only [c_1, Int32.not_lt.mp c_1, ↓reduceIte, Bool.true_and, Bool.and_true, Bool.false_and, Bool.and_false, Bool.true_or, Bool.or_true, Bool.false_or, Bool.or_false, Bool.not_true, Bool.not_false, decide_true, decide_false, bI_t, bI_f, Bool.false_eq_true, not_true_eq_false, not_false_eq_true, eq_self, reduceCtorEq, Bool.true_eq_false, and_true, true_and, and_false, false_and, or_true, true_or, or_false, false_or] at c_9; done) | (simp only [c_9, Int32.not_lt.mpr c_9, ↓reduceIte, Bool.true_and, Bool.and_true, Bool.false_and, Bool.and_false, Bool.true_or, Bool.or_true, Bool.false_or, Bool.or_false, Bool.not_true, Bool.not_false, decide_true, decide_false, bI_t, bI_f, Bool.false_eq_true, not_true_eq_false, not_false_eq_true, eq_self, reduceCtorEq, Bool.true_eq_false, and_true, true_and, and_false, false_and, or_true, true_or, or_false, false_or] at c_1; done))
  refine lv_iconst (v := 1) hx hb dX2_isPoint_12 ic_1 ?_
  refine lv_goto (tgt := 17) hx hb dX2_isPoint_13 rfl ?_
  exact pm_zret hx hb hr hlk hH dX2_isPoint_17 (by first | with_reducible rfl | (simp only [isPt, c_1, Int32.not_lt.mp c_1, c_9, Int32.not_le.mp c_9, ↓reduceIte, Bool.true_and, Bool.and_true, Bool.false_and, Bool.and_false, Bool.true_or, Bool.or_true, Bool.false_or, Bool.or_false, Bool.not_true, Bool.not_false, decide_true, decide_false, bI_t, bI_f, Bool.false_eq_true, not_true_eq_false, not_false_eq_true, eq_self, reduceCtorEq, Bool.true_eq_false, and_true, true_and, and_false, false_and, or_true, true_or, or_false, false_or]; done) | (simp only [c_1, Int32.not_lt.mp c_1, ↓reduceIte, Bool.true_and, Bool.and_true, Bool.false_and, Bool.and_false, Bool.true_or, Bool.or_true, Bool.false_or, Bool.or_false, Bool.not_true, Bool.not_false, decide_true, decide_false, bI_t, bI_f, Bool.false_eq_true, not_true_eq_false, not_false_eq_true, eq_self, reduceCtorEq, Bool.true_eq_false, and_true, true_and, and_false, false_and, or_true, true_or, or_false, false_or] at c_9; done) | (simp only [c_9, Int32.not_le.mp c_9, ↓reduceIte, Bool.true_and, Bool.and_true, Bool.false_and, Bool.and_false, Bool.true_or, Bool.or_true, Bool.false_or, Bool.or_false, Bool.not_true, Bool.not_false, decide_true, decide_false, bI_t, bI_f, Bool.false_eq_true, not_true_eq_false, not_false_eq_true, eq_self, reduceCtorEq, Bool.true_eq_false, and_true, true_and, and_false, false_and, or_true, true_or, or_false, false_or] at c_1; done))
theorem dX2_areEqual_0 : decode cX2_areEqual 0 = .ok (.aload_n 0, 1) := by decide +kernel
theorem dX2_areEqual_1 : decode cX2_areEqual 1 = .ok (.getfield 13, 3) := by decide +kernel
theorem dX2_areEqual_4 : decode cX2_areEqual 4 = .ok (.iload_n 1, 1) := by decide +kernel
theorem dX2_areEqual_5 : decode cX2_areEqual 5 = .ok (.iaload, 1) := by decide +kernel
theorem dX2_areEqual_6 : decode cX2_areEqual 6 = .ok (.aload_n 0, 1) := by decide +kernel
theorem dX2_areEqual_7 : decode cX2_areEqual 7 = .ok (.getfield 13, 3) := by decide +kernel
theorem dX2_areEqual_10 : decode cX2_areEqual 10 = .ok (.iload_n 2, 1) := by decide +kernel
theorem dX2_areEqual_11 : decode cX2_areEqual 11 = .ok (.iaload, 1) := by decide +kernel
theorem dX2_areEqual_12 : decode cX2_areEqual 12 = .ok (.if_icmp .ne 22, 3) := by decide +kernel
theorem dX2_areEqual_15 : decode cX2_areEqual 15 = .ok (.aload_n 0, 1) := by decide +kernel
theorem dX2_areEqual_16 : decode cX2_areEqual 16 = .ok (.getfield 17, 3) := by decide +kernel
theorem dX2_areEqual_19 : decode cX2_areEqual 19 = .ok (.iload_n 1, 1) := by decide +kernel
theorem dX2_areEqual_20 : decode cX2_areEqual 20 = .ok (.iaload, 1) := by decide +kernel
theorem dX2_areEqual_21 : decode cX2_areEqual 21 = .ok (.aload_n 0, 1) := by decide +kernel
theorem dX2_areEqual_22 : decode cX2_areEqual 22 = .ok (.getfield 17, 3) := by decide +kernel
theorem dX2_areEqual_25 : decode cX2_areEqual 25 = .ok (.iload_n 2, 1) := by decide +kernel
theorem dX2_areEqual_26 : decode cX2_areEqual 26 = .ok (.iaload, 1) := by decide +kernel
theorem dX2_areEqual_27 : decode cX2_areEqual 27 = .ok (.if_icmp .ne 7, 3) := by decide +kernel
theorem dX2_areEqual_30 : decode cX2_areEqual 30 = .ok (.iconst 1, 1) := by decide +kernel
theorem dX2_areEqual_31 : decode cX2_areEqual 31 = .ok (.goto 4, 3) := by decide +kernel
theorem dX2_areEqual_34 : decode cX2_areEqual 34 = .ok (.iconst 0, 1) := by decide +kernel
theorem dX2_areEqual_35 : decode cX2_areEqual 35 = .ok (.ireturn, 1) := by decide +kernel
set_option maxHeartbeats 4000000 in
theorem met_X2_areEqual (l : Launch) (G : GG) {H : Heap} {o : Nat} {A : Nat → Nat} {σ : Sg} {th : Int32} {a b : Nat} (hM : MW G H o A σ th) (hO : Ok σ) (i_a : a < σ.np) (i_b : b < σ.np) : PM l yX2_areEqual cX2_areEqual 3 (some .boolean) 0 0 G H [.ref o, .int (nI a), .int (nI b)] (some (.int (bI (s_eq (σ.pt a) (σ.pt b))))) := by
  refine pm_intro pl_X2_areEqual (Nat.le_of_ble_eq_true rfl) ?_
  intro pX eX sX mX belX methX cX ls hE hnm hl
  obtain ⟨hx, hb, hr, hlk, hml, hown, hts, hK, hZ, hH⟩ := hE
  have hl : lv_has ls 3 [(0, .ref o), (1, .int (nI a)), (2, .int (nI b))] := hl
  refine lv_aload_n hx hb dX2_areEqual_0 rfl (lv_at hl 0 rfl) ?_
  refine gf_X2_13 hx hb hts hown hK hM.1 rfl dX2_areEqual_1 ?_
  refine lv_iload_n hx hb dX2_areEqual_4 rfl (lv_at hl 1 rfl) ?_
  refine r_iald hx hb hK hM.2.1 dX2_areEqual_5 (k := a) (hO.lt60 i_a) (by decide) rfl rfl ?_
  refine lv_aload_n hx hb dX2_areEqual_6 rfl (lv_at hl 0 rfl) ?_
  refine gf_X2_13 hx hb hts hown hK hM.1 rfl dX2_areEqual_7 ?_
  refine lv_iload_n hx hb dX2_areEqual_10 rfl (lv_at hl 2 rfl) ?_
  refine r_iald hx hb hK hM.2.1 dX2_areEqual_11 (k := b) (hO.lt60 i_b) (by decide) rfl rfl ?_
  refine lv_icmp_ne (tgt := 34) hx hb dX2_areEqual_12 rfl (fun c_12 => ?_) (fun c_12 => ?_)
  · skip
    refine lv_iconst (v := 0) hx hb dX2_areEqual_34 ic_0 ?_
    exact pm_zret hx hb hr hlk hH dX2_areEqual_35 (by first | with_reducible rfl | (simp only [s_eq, c_12, ↓reduceIte, Bool.true_and, Bool.and_true, Bool.false_and, Bool.and_false, Bool.true_or, Bool.or_true, Bool.false_or, Bool.or_false, Bool.not_true, Bool.not_false, decide_true, decide_false, bI_t, bI_f, Bool.false_eq_true, not_true_eq_false, not_false_eq_true, eq_self, reduceCtorEq, Bool.true_eq_false, and_true, true_and, and_false, false_and, or_true, true_or, or_false, false_or]; done))
  refine lv_aload_n hx hb dX2_areEqual_15 rfl (lv_at hl 0 rfl) ?_
  refine gf_X2_17 hx hb hts hown hK hM.1 rfl dX2_areEqual_16 ?_
  refine lv_iload_n hx hb dX2_areEqual_19 rfl (lv_at hl 1 rfl) ?_
  refine r_iald hx hb hK hM.2.2.1 dX2_areEqual_20 (k := a) (hO.lt60 i_a) (by decide) rfl rfl ?_
  refine lv_aload_n hx hb dX2_areEqual_21 rfl (lv_at hl 0 rfl) ?_
  refine gf_X2_17 hx hb hts hown hK hM.1 rfl dX2_areEqual_22 ?_
  refine lv_iload_n hx hb dX2_areEqual_25 rfl (lv_at hl 2 rfl) ?_
  refine r_iald hx hb hK hM.2.2.1 dX2_areEqual_26 (k := b) (hO.lt60 i_b) (by decide) rfl rfl ?_
  refine lv_icmp_ne (tgt := 34) hx hb dX2_areEqual_27 rfl (fun c_27 => ?_) (fun c_27 => ?_)
  · skip
    refine lv_iconst (v := 0) hx hb dX2_areEqual_34 ic_0 ?_
    exact pm_zret hx hb hr hlk hH dX2_areEqual_35 (by first | with_reducible rfl | (simp only [s_eq, eq_true c_12, c_27, ↓reduceIte, Bool.true_and, Bool.and_true, Bool.false_and, Bool.and_false, Bool.true_or, Bool.or_true, Bool.false_or, Bool.or_false, Bool.not_true, Bool.not_false, decide_true, decide_false, bI_t, bI_f, Bool.false_eq_true, not_true_eq_false, not_false_eq_true, eq_self, reduceCtorEq, Bool.true_eq_false, and_true, true_and, and_false, false_and, or_true, true_or, or_false, false_or]; done) | (simp only [eq_true c_12, ↓reduceIte, Bool.true_and, Bool.and_true, Bool.false_and, Bool.and_false, Bool.true_or, Bool.or_true, Bool.false_or, Bool.or_false, Bool.not_true, Bool.not_false, decide_true, decide_false, bI_t, bI_f, Bool.false_eq_true, not_true_eq_false, not_false_eq_true, eq_self, reduceCtorEq, Bool.true_eq_false, and_true, true_and, and_false, false_and, or_true, true_or, or_false, false_or] at c_27; done) | (simp only [c_27, ↓reduceIte, Bool.true_and, Bool.and_true, Bool.false_and, Bool.and_false, Bool.true_or, Bool.or_true, Bool.false_or, Bool.or_false, Bool.not_true, Bool.not_false, decide_true, decide_false, bI_t, bI_f, Bool.false_eq_true, not_true_eq_false, not_false_eq_true, eq_self, reduceCtorEq, Bool.true_eq_false, and_true, true_and, and_false, false_and, or_true, true_or, or_false, false_or] at c_12; done))
  refine lv_iconst (v := 1) hx hb dX2_areEqual_30 ic_1 ?_
  refine lv_goto (tgt := 35) hx hb dX2_areEqual_31 rfl ?_
  exact pm_zret hx hb hr hlk hH dX2_areEqual_35 (by first | with_reducible rfl | (simp only [s_eq, eq_true c_12, eq_true c_27, ↓reduceIte, Bool.true_and, Bool.and_true, Bool.false_and, Bool.and_false, Bool.true_or, Bool.or_true, Bool.false_or, Bool.or_false, Bool.not_true, Bool.not_false, decide_true, decide_false, bI_t, bI_f, Bool.false_eq_true, not_true_eq_false, not_false_eq_true, eq_self, reduceCtorEq, Bool.true_eq_false, and_true, true_and, and_false, false_and, or_true, true_or, or_false, false_or]; done) | (simp only [eq_true c_12, ↓reduceIte, Bool.true_and, Bool.and_true, Bool.false_and, Bool.and_false, Bool.true_or, Bool.or_true, Bool.false_or, Bool.or_false, Bool.not_true, Bool.not_false, decide_true, decide_false, bI_t, bI_f, Bool.false_eq_true, not_true_eq_false, not_false_eq_true, eq_self, reduceCtorEq, Bool.true_eq_false, and_true, true_and, and_false, false_and, or_true, true_or, or_false, false_or] at c_27; done) | (simp only [eq_true c_27, ↓reduceIte, Bool.true_and, Bool.and_true, Bool.false_and, Bool.and_false, Bool.true_or, Bool.or_true, Bool.false_or, Bool.or_false, Bool.not_true, Bool.not_false, decide_true, decide_false, bI_t, bI_f, Bool.false_eq_true, not_true_eq_false, not_false_eq_true, eq_self, reduceCtorEq, Bool.true_eq_false, and_true, true_and, and_false, false_and, or_true, true_or, or_false, false_or] at c_12; done))
theorem dX2_signOf_0 : decode cX2_signOf 0 = .ok (.lload_n 0, 1) := by decide +kernel
theorem dX2_signOf_1 : decode cX2_signOf 1 = .ok (.lconst 0, 1) := by decide +kernel
theorem dX2_signOf_2 : decode cX2_signOf 2 = .ok (.lcmp, 1) := by decide +kernel
theorem dX2_signOf_3 : decode cX2_signOf 3 = .ok (.ifCond .le 7, 3) := by decide +kernel
theorem dX2_signOf_6 : decode cX2_signOf 6 = .ok (.iconst 1, 1) := by decide +kernel
theorem dX2_signOf_7 : decode cX2_signOf 7 = .ok (.goto 14, 3) := by decide +kernel
theorem dX2_signOf_10 : decode cX2_signOf 10 = .ok (.lload_n 0, 1) := by decide +kernel
theorem dX2_signOf_11 : decode cX2_signOf 11 = .ok (.lconst 0, 1) := by decide +kernel
theorem dX2_signOf_12 : decode cX2_signOf 12 = .ok (.lcmp, 1) := by decide +kernel
theorem dX2_signOf_13 : decode cX2_signOf 13 = .ok (.ifCond .ge 7, 3) := by decide +kernel
theorem dX2_signOf_16 : decode cX2_signOf 16 = .ok (.iconst (-1), 1) := by decide +kernel
theorem dX2_signOf_17 : decode cX2_signOf 17 = .ok (.goto 4, 3) := by decide +kernel
theorem dX2_signOf_20 : decode cX2_signOf 20 = .ok (.iconst 0, 1) := by decide +kernel
theorem dX2_signOf_21 : decode cX2_signOf 21 = .ok (.ireturn, 1) := by decide +kernel
set_option maxHeartbeats 4000000 in
theorem met_X2_signOf (l : Launch) (G : GG) {H : Heap} {v : Int64}  : PM l yX2_signOf cX2_signOf 2 (some .int) 0 0 G H [.long v] (some (.int (s_sign v))) := by
  refine pm_intro pl_X2_signOf (Nat.le_of_ble_eq_true rfl) ?_
  intro pX eX sX mX belX methX cX ls hE hnm hl
  obtain ⟨hx, hb, hr, hlk, hml, hown, hts, hK, hZ, hH⟩ := hE
  have hl : lv_has ls 2 [(0, .long v)] := hl
  refine lv_lload_n hx hb dX2_signOf_0 rfl (lv_at hl 0 rfl) ?_
  refine lv_lconst (v := 0) hx hb dX2_signOf_1 rfl ?_
  refine lc_le (tgt := 10) hx hb dX2_signOf_2 dX2_signOf_3 rfl (fun c_2 => ?_) (fun c_2 => ?_)
  · skip
    refine lv_lload_n hx hb dX2_signOf_10 rfl (lv_at hl 0 rfl) ?_
    refine lv_lconst (v := 0) hx hb dX2_signOf_11 rfl ?_
    refine lc_ge (tgt := 20) hx hb dX2_signOf_12 dX2_signOf_13 rfl (fun c_12 => ?_) (fun c_12 => ?_)
    · skip
      refine lv_iconst (v := 0) hx hb dX2_signOf_20 ic_0 ?_
      exact pm_iret hx hb hr hlk hH dX2_signOf_21 (by first | with_reducible rfl | (simp only [s_sign, c_2, Int64.not_lt.mpr c_2, c_12, Int64.not_lt.mpr c_12, ↓reduceIte, Bool.true_and, Bool.and_true, Bool.false_and, Bool.and_false, Bool.true_or, Bool.or_true, Bool.false_or, Bool.or_false, Bool.not_true, Bool.not_false, decide_true, decide_false, bI_t, bI_f, Bool.false_eq_true, not_true_eq_false, not_false_eq_true, eq_self, reduceCtorEq, Bool.true_eq_false, and_true, true_and, and_false, false_and, or_true, true_or, or_false, false_or]; done) | (simp only [c_2, Int64.not_lt.mpr c_2, ↓reduceIte, Bool.true_and, Bool.and_true, Bool.false_and, Bool.and_false, Bool.true_or, Bool.or_true, Bool.false_or, Bool.or_false, Bool.not_true, Bool.not_false, decide_true, decide_false, bI_t, bI_f, Bool.false_eq_true, not_true_eq_false, not_false_eq_true, eq_self, reduceCtorEq, Bool.true_eq_false, and_true, true_and, and_false, false_and, or_true, true_or, or_false, false_or] at c_12; done) | (simp only [c_12, Int64.not_lt.mpr c_12, ↓reduceIte, Bool.true_and, Bool.and_true, Bool.false_and, Bool.and_false, Bool.true_or, Bool.or_true, Bool.false_or, Bool.or_false, Bool.not_true, Bool.not_false, decide_true, decide_false, bI_t, bI_f, Bool.false_eq_true, not_true_eq_false, not_false_eq_true, eq_self, reduceCtorEq, Bool.true_eq_false, and_true, true_and, and_false, false_and, or_true, true_or, or_false, false_or] at c_2; done))
    refine lv_iconst (v := -1) hx hb dX2_signOf_16 ic_m1 ?_
    refine lv_goto (tgt := 21) hx hb dX2_signOf_17 rfl ?_
    exact pm_iret hx hb hr hlk hH dX2_signOf_21 (by first | with_reducible rfl | (simp only [s_sign, c_2, Int64.not_lt.mpr c_2, c_12, Int64.not_le.mp c_12, ↓reduceIte, Bool.true_and, Bool.and_true, Bool.false_and, Bool.and_false, Bool.true_or, Bool.or_true, Bool.false_or, Bool.or_false, Bool.not_true, Bool.not_false, decide_true, decide_false, bI_t, bI_f, Bool.false_eq_true, not_true_eq_false, not_false_eq_true, eq_self, reduceCtorEq, Bool.true_eq_false, and_true, true_and, and_false, false_and, or_true, true_or, or_false, false_or]; done) | (simp only [c_2, Int64.not_lt.mpr c_2, ↓reduceIte, Bool.true_and, Bool.and_true, Bool.false_and, Bool.and_false, Bool.true_or, Bool.or_true, Bool.false_or, Bool.or_false, Bool.not_true, Bool.not_false, decide_true, decide_false, bI_t, bI_f, Bool.false_eq_true, not_true_eq_false, not_false_eq_true, eq_self, reduceCtorEq, Bool.true_eq_false, and_true, true_and, and_false, false_and, or_true, true_or, or_false, false_or] at c_12; done) | (simp only [c_12, Int64.not_le.mp c_12, ↓reduceIte, Bool.true_and, Bool.and_true, Bool.false_and, Bool.and_false, Bool.true_or, Bool.or_true, Bool.false_or, Bool.or_false, Bool.not_true, Bool.not_false, decide_true, decide_false, bI_t, bI_f, Bool.false_eq_true, not_true_eq_false, not_false_eq_true, eq_self, reduceCtorEq, Bool.true_eq_false, and_true, true_and, and_false, false_and, or_true, true_or, or_false, false_or] at c_2; done))
  refine lv_iconst (v := 1) hx hb dX2_signOf_6 ic_1 ?_
  refine lv_goto (tgt := 21) hx hb dX2_signOf_7 rfl ?_
  exact pm_iret hx hb hr hlk hH dX2_signOf_21 (by first | with_reducible rfl | (simp only [s_sign, c_2, Int64.not_le.mp c_2, ↓reduceIte, Bool.true_and, Bool.and_true, Bool.false_and, Bool.and_false, Bool.true_or, Bool.or_true, Bool.false_or, Bool.or_false, Bool.not_true, Bool.not_false, decide_true, decide_false, bI_t, bI_f, Bool.false_eq_true, not_true_eq_false, not_false_eq_true, eq_self, reduceCtorEq, Bool.true_eq_false, and_true, true_and, and_false, false_and, or_true, true_or, or_false, false_or]; done))
theorem dX2_turn_0 : decode cX2_turn 0 = .ok (.aload_n 0, 1) := by decide +kernel
theorem dX2_turn_1 : decode cX2_turn 1 = .ok (.getfield 13, 3) := by decide +kernel
theorem dX2_turn_4 : decode cX2_turn 4 = .ok (.iload_n 2, 1) := by decide +kernel
theorem dX2_turn_5 : decode cX2_turn 5 = .ok (.iaload, 1) := by decide +kernel
theorem dX2_turn_6 : decode cX2_turn 6 = .ok (.aload_n 0, 1) := by decide +kernel
theorem dX2_turn_7 : decode cX2_turn 7 = .ok (.getfield 13, 3) := by decide +kernel
theorem dX2_turn_10 : decode cX2_turn 10 = .ok (.iload_n 1, 1) := by decide +kernel
theorem dX2_turn_11 : decode cX2_turn 11 = .ok (.iaload, 1) := by decide +kernel
theorem dX2_turn_12 : decode cX2_turn 12 = .ok (.isub, 1) := by decide +kernel
theorem dX2_turn_13 : decode cX2_turn 13 = .ok (.i2l, 1) := by decide +kernel
theorem dX2_turn_14 : decode cX2_turn 14 = .ok (.aload_n 0, 1) := by decide +kernel
theorem dX2_turn_15 : decode cX2_turn 15 = .ok (.getfield 17, 3) := by decide +kernel
theorem dX2_turn_18 : decode cX2_turn 18 = .ok (.iload_n 3, 1) := by decide +kernel
theorem dX2_turn_19 : decode cX2_turn 19 = .ok (.iaload, 1) := by decide +kernel
theorem dX2_turn_20 : decode cX2_turn 20 = .ok (.aload_n 0, 1) := by decide +kernel
theorem dX2_turn_21 : decode cX2_turn 21 = .ok (.getfield 17, 3) := by decide +kernel
theorem dX2_turn_24 : decode cX2_turn 24 = .ok (.iload_n 1, 1) := by decide +kernel
theorem dX2_turn_25 : decode cX2_turn 25 = .ok (.iaload, 1) := by decide +kernel
theorem dX2_turn_26 : decode cX2_turn 26 = .ok (.isub, 1) := by decide +kernel
theorem dX2_turn_27 : decode cX2_turn 27 = .ok (.i2l, 1) := by decide +kernel
theorem dX2_turn_28 : decode cX2_turn 28 = .ok (.lmul, 1) := by decide +kernel
theorem dX2_turn_29 : decode cX2_turn 29 = .ok (.aload_n 0, 1) := by decide +kernel
theorem dX2_turn_30 : decode cX2_turn 30 = .ok (.getfield 17, 3) := by decide +kernel
theorem dX2_turn_33 : decode cX2_turn 33 = .ok (.iload_n 2, 1) := by decide +kernel
theorem dX2_turn_34 : decode cX2_turn 34 = .ok (.iaload, 1) := by decide +kernel
theorem dX2_turn_35 : decode cX2_turn 35 = .ok (.aload_n 0, 1) := by decide +kernel
theorem dX2_turn_36 : decode cX2_turn 36 = .ok (.getfield 17, 3) := by decide +kernel
theorem dX2_turn_39 : decode cX2_turn 39 = .ok (.iload_n 1, 1) := by decide +kernel
theorem dX2_turn_40 : decode cX2_turn 40 = .ok (.iaload, 1) := by decide +kernel
theorem dX2_turn_41 : decode cX2_turn 41 = .ok (.isub, 1) := by decide +kernel
theorem dX2_turn_42 : decode cX2_turn 42 = .ok (.i2l, 1) := by decide +kernel
theorem dX2_turn_43 : decode cX2_turn 43 = .ok (.aload_n 0, 1) := by decide +kernel
theorem dX2_turn_44 : decode cX2_turn 44 = .ok (.getfield 13, 3) := by decide +kernel
theorem dX2_turn_47 : decode cX2_turn 47 = .ok (.iload_n 3, 1) := by decide +kernel
theorem dX2_turn_48 : decode cX2_turn 48 = .ok (.iaload, 1) := by decide +kernel
theorem dX2_turn_49 : decode cX2_turn 49 = .ok (.aload_n 0, 1) := by decide +kernel
theorem dX2_turn_50 : decode cX2_turn 50 = .ok (.getfield 13, 3) := by decide +kernel
theorem dX2_turn_53 : decode cX2_turn 53 = .ok (.iload_n 1, 1) := by decide +kernel
theorem dX2_turn_54 : decode cX2_turn 54 = .ok (.iaload, 1) := by decide +kernel
theorem dX2_turn_55 : decode cX2_turn 55 = .ok (.isub, 1) := by decide +kernel
theorem dX2_turn_56 : decode cX2_turn 56 = .ok (.i2l, 1) := by decide +kernel
theorem dX2_turn_57 : decode cX2_turn 57 = .ok (.lmul, 1) := by decide +kernel
theorem dX2_turn_58 : decode cX2_turn 58 = .ok (.lsub, 1) := by decide +kernel
theorem dX2_turn_59 : decode cX2_turn 59 = .ok (.invokestatic 54, 3) := by decide +kernel
theorem dX2_turn_62 : decode cX2_turn 62 = .ok (.ireturn, 1) := by decide +kernel
set_option maxHeartbeats 4000000 in
theorem met_X2_turn (l : Launch) (G : GG) {H : Heap} {o : Nat} {A : Nat → Nat} {σ : Sg} {th : Int32} {a b d : Nat} (hM : MW G H o A σ th) (hO : Ok σ) (i_a : a < σ.np) (i_b : b < σ.np) (i_d : d < σ.np) : PM l yX2_turn cX2_turn 4 (some .int) 1 21 G H [.ref o, .int (nI a), .int (nI b), .int (nI d)] (some (.int (s_turn (σ.pt a) (σ.pt b) (σ.pt d)))) := by
  refine pm_intro pl_X2_turn (Nat.le_of_ble_eq_true rfl) ?_
  intro pX eX sX mX belX methX cX ls hE hnm hl
  obtain ⟨hx, hb, hr, hlk, hml, hown, hts, hK, hZ, hH⟩ := hE
  have hl : lv_has ls 4 [(0, .ref o), (1, .int (nI a)), (2, .int (nI b)), (3, .int (nI d))] := hl
  refine lv_aload_n hx hb dX2_turn_0 rfl (lv_at hl 0 rfl) ?_
  refine gf_X2_13 hx hb hts hown hK hM.1 rfl dX2_turn_1 ?_
  refine lv_iload_n hx hb dX2_turn_4 rfl (lv_at hl 2 rfl) ?_
  refine r_iald hx hb hK hM.2.1 dX2_turn_5 (k := b) (hO.lt60 i_b) (by decide) rfl rfl ?_
  refine lv_aload_n hx hb dX2_turn_6 rfl (lv_at hl 0 rfl) ?_
  refine gf_X2_13 hx hb hts hown hK hM.1 rfl dX2_turn_7 ?_
  refine lv_iload_n hx hb dX2_turn_10 rfl (lv_at hl 1 rfl) ?_
  refine r_iald hx hb hK hM.2.1 dX2_turn_11 (k := a) (hO.lt60 i_a) (by decide) rfl rfl ?_
  refine lv_isub hx hb dX2_turn_12 ?_
  refine lv_i2l hx hb dX2_turn_13 rfl ?_
  refine lv_aload_n hx hb dX2_turn_14 rfl (lv_at hl 0 rfl) ?_
  refine gf_X2_17 hx hb hts hown hK hM.1 rfl dX2_turn_15 ?_
  refine lv_iload_n hx hb dX2_turn_18 rfl (lv_at hl 3 rfl) ?_
  refine r_iald hx hb hK hM.2.2.1 dX2_turn_19 (k := d) (hO.lt60 i_d) (by decide) rfl rfl ?_
  refine lv_aload_n hx hb dX2_turn_20 rfl (lv_at hl 0 rfl) ?_
  refine gf_X2_17 hx hb hts hown hK hM.1 rfl dX2_turn_21 ?_
  refine lv_iload_n hx hb dX2_turn_24 rfl (lv_at hl 1 rfl) ?_
  refine r_iald hx hb hK hM.2.2.1 dX2_turn_25 (k := a) (hO.lt60 i_a) (by decide) rfl rfl ?_
  refine lv_isub hx hb dX2_turn_26 ?_
  refine lv_i2l hx hb dX2_turn_27 rfl ?_
  refine lv_lmul hx hb dX2_turn_28 ?_
  refine lv_aload_n hx hb dX2_turn_29 rfl (lv_at hl 0 rfl) ?_
  refine gf_X2_17 hx hb hts hown hK hM.1 rfl dX2_turn_30 ?_
  refine lv_iload_n hx hb dX2_turn_33 rfl (lv_at hl 2 rfl) ?_
  refine r_iald hx hb hK hM.2.2.1 dX2_turn_34 (k := b) (hO.lt60 i_b) (by decide) rfl rfl ?_
  refine lv_aload_n hx hb dX2_turn_35 rfl (lv_at hl 0 rfl) ?_
  refine gf_X2_17 hx hb hts hown hK hM.1 rfl dX2_turn_36 ?_
  refine lv_iload_n hx hb dX2_turn_39 rfl (lv_at hl 1 rfl) ?_
  refine r_iald hx hb hK hM.2.2.1 dX2_turn_40 (k := a) (hO.lt60 i_a) (by decide) rfl rfl ?_
  refine lv_isub hx hb dX2_turn_41 ?_
  refine lv_i2l hx hb dX2_turn_42 rfl ?_
  refine lv_aload_n hx hb dX2_turn_43 rfl (lv_at hl 0 rfl) ?_
  refine gf_X2_13 hx hb hts hown hK hM.1 rfl dX2_turn_44 ?_
  refine lv_iload_n hx hb dX2_turn_47 rfl (lv_at hl 3 rfl) ?_
  refine r_iald hx hb hK hM.2.1 dX2_turn_48 (k := d) (hO.lt60 i_d) (by decide) rfl rfl ?_
  refine lv_aload_n hx hb dX2_turn_49 rfl (lv_at hl 0 rfl) ?_
  refine gf_X2_13 hx hb hts hown hK hM.1 rfl dX2_turn_50 ?_
  refine lv_iload_n hx hb dX2_turn_53 rfl (lv_at hl 1 rfl) ?_
  refine r_iald hx hb hK hM.2.1 dX2_turn_54 (k := a) (hO.lt60 i_a) (by decide) rfl rfl ?_
  refine lv_isub hx hb dX2_turn_55 ?_
  refine lv_i2l hx hb dX2_turn_56 rfl ?_
  refine lv_lmul hx hb dX2_turn_57 ?_
  refine lv_lsub hx hb dX2_turn_58 ?_
  refine p_callS (As := [.long _]) hx hb hml hown hts hK hZ (met_X2_signOf l G ) q776 q777 q43 q778 hd_X2_signOf rfl (by decide) hl.1 rfl (Nat.le_of_ble_eq_true rfl) dX2_turn_59 ⟨Nat.zero_le _, Nat.zero_le _⟩ ?_
  exact pm_iret hx hb hr hlk hH dX2_turn_62 (by first | with_reducible rfl | (simp only [s_turn, s_br, ↓reduceIte, Bool.true_and, Bool.and_true, Bool.false_and, Bool.and_false, Bool.true_or, Bool.or_true, Bool.false_or, Bool.or_false, Bool.not_true, Bool.not_false, decide_true, decide_false, bI_t, bI_f, Bool.false_eq_true, not_true_eq_false, not_false_eq_true, eq_self, reduceCtorEq, Bool.true_eq_false, and_true, true_and, and_false, false_and, or_true, true_or, or_false, false_or]; done))
theorem dX2_along_0 : decode cX2_along 0 = .ok (.aload_n 0, 1) := by decide +kernel
theorem dX2_along_1 : decode cX2_along 1 = .ok (.getfield 13, 3) := by decide +kernel
theorem dX2_along_4 : decode cX2_along 4 = .ok (.iload_n 2, 1) := by decide +kernel
theorem dX2_along_5 : decode cX2_along 5 = .ok (.iaload, 1) := by decide +kernel
theorem dX2_along_6 : decode cX2_along 6 = .ok (.aload_n 0, 1) := by decide +kernel
theorem dX2_along_7 : decode cX2_along 7 = .ok (.getfield 13, 3) := by decide +kernel
theorem dX2_along_10 : decode cX2_along 10 = .ok (.iload_n 1, 1) := by decide +kernel
theorem dX2_along_11 : decode cX2_along 11 = .ok (.iaload, 1) := by decide +kernel
theorem dX2_along_12 : decode cX2_along 12 = .ok (.isub, 1) := by decide +kernel
theorem dX2_along_13 : decode cX2_along 13 = .ok (.i2l, 1) := by decide +kernel
theorem dX2_along_14 : decode cX2_along 14 = .ok (.aload_n 0, 1) := by decide +kernel
theorem dX2_along_15 : decode cX2_along 15 = .ok (.getfield 13, 3) := by decide +kernel
theorem dX2_along_18 : decode cX2_along 18 = .ok (.iload_n 3, 1) := by decide +kernel
theorem dX2_along_19 : decode cX2_along 19 = .ok (.iaload, 1) := by decide +kernel
theorem dX2_along_20 : decode cX2_along 20 = .ok (.aload_n 0, 1) := by decide +kernel
theorem dX2_along_21 : decode cX2_along 21 = .ok (.getfield 13, 3) := by decide +kernel
theorem dX2_along_24 : decode cX2_along 24 = .ok (.iload_n 1, 1) := by decide +kernel
theorem dX2_along_25 : decode cX2_along 25 = .ok (.iaload, 1) := by decide +kernel
theorem dX2_along_26 : decode cX2_along 26 = .ok (.isub, 1) := by decide +kernel
theorem dX2_along_27 : decode cX2_along 27 = .ok (.i2l, 1) := by decide +kernel
theorem dX2_along_28 : decode cX2_along 28 = .ok (.lmul, 1) := by decide +kernel
theorem dX2_along_29 : decode cX2_along 29 = .ok (.aload_n 0, 1) := by decide +kernel
theorem dX2_along_30 : decode cX2_along 30 = .ok (.getfield 17, 3) := by decide +kernel
theorem dX2_along_33 : decode cX2_along 33 = .ok (.iload_n 2, 1) := by decide +kernel
theorem dX2_along_34 : decode cX2_along 34 = .ok (.iaload, 1) := by decide +kernel
theorem dX2_along_35 : decode cX2_along 35 = .ok (.aload_n 0, 1) := by decide +kernel
theorem dX2_along_36 : decode cX2_along 36 = .ok (.getfield 17, 3) := by decide +kernel
theorem dX2_along_39 : decode cX2_along 39 = .ok (.iload_n 1, 1) := by decide +kernel
theorem dX2_along_40 : decode cX2_along 40 = .ok (.iaload, 1) := by decide +kernel
theorem dX2_along_41 : decode cX2_along 41 = .ok (.isub, 1) := by decide +kernel
theorem dX2_along_42 : decode cX2_along 42 = .ok (.i2l, 1) := by decide +kernel
theorem dX2_along_43 : decode cX2_along 43 = .ok (.aload_n 0, 1) := by decide +kernel
theorem dX2_along_44 : decode cX2_along 44 = .ok (.getfield 17, 3) := by decide +kernel
theorem dX2_along_47 : decode cX2_along 47 = .ok (.iload_n 3, 1) := by decide +kernel
theorem dX2_along_48 : decode cX2_along 48 = .ok (.iaload, 1) := by decide +kernel
theorem dX2_along_49 : decode cX2_along 49 = .ok (.aload_n 0, 1) := by decide +kernel
theorem dX2_along_50 : decode cX2_along 50 = .ok (.getfield 17, 3) := by decide +kernel
theorem dX2_along_53 : decode cX2_along 53 = .ok (.iload_n 1, 1) := by decide +kernel
theorem dX2_along_54 : decode cX2_along 54 = .ok (.iaload, 1) := by decide +kernel
theorem dX2_along_55 : decode cX2_along 55 = .ok (.isub, 1) := by decide +kernel
theorem dX2_along_56 : decode cX2_along 56 = .ok (.i2l, 1) := by decide +kernel
theorem dX2_along_57 : decode cX2_along 57 = .ok (.lmul, 1) := by decide +kernel
theorem dX2_along_58 : decode cX2_along 58 = .ok (.ladd, 1) := by decide +kernel
theorem dX2_along_59 : decode cX2_along 59 = .ok (.lreturn, 1) := by decide +kernel
set_option maxHeartbeats 4000000 in
theorem met_X2_along (l : Launch) (G : GG) {H : Heap} {o : Nat} {A : Nat → Nat} {σ : Sg} {th : Int32} {a b d : Nat} (hM : MW G H o A σ th) (hO : Ok σ) (i_a : a < σ.np) (i_b : b < σ.np) (i_d : d < σ.np) : PM l yX2_along cX2_along 4 (some .long) 0 0 G H [.ref o, .int (nI a), .int (nI b), .int (nI d)] (some (.long (s_along (σ.pt a) (σ.pt b) (σ.pt d)))) := by
  refine pm_intro pl_X2_along (Nat.le_of_ble_eq_true rfl) ?_
  intro pX eX sX mX belX methX cX ls hE hnm hl
  obtain ⟨hx, hb, hr, hlk, hml, hown, hts, hK, hZ, hH⟩ := hE
  have hl : lv_has ls 4 [(0, .ref o), (1, .int (nI a)), (2, .int (nI b)), (3, .int (nI d))] := hl
  refine lv_aload_n hx hb dX2_along_0 rfl (lv_at hl 0 rfl) ?_
  refine gf_X2_13 hx hb hts hown hK hM.1 rfl dX2_along_1 ?_
  refine lv_iload_n hx hb dX2_along_4 rfl (lv_at hl 2 rfl) ?_
  refine r_iald hx hb hK hM.2.1 dX2_along_5 (k := b) (hO.lt60 i_b) (by decide) rfl rfl ?_
  refine lv_aload_n hx hb dX2_along_6 rfl (lv_at hl 0 rfl) ?_
  refine gf_X2_13 hx hb hts hown hK hM.1 rfl dX2_along_7 ?_
  refine lv_iload_n hx hb dX2_along_10 rfl (lv_at hl 1 rfl) ?_
  refine r_iald hx hb hK hM.2.1 dX2_along_11 (k := a) (hO.lt60 i_a) (by decide) rfl rfl ?_
  refine lv_isub hx hb dX2_along_12 ?_
  refine lv_i2l hx hb dX2_along_13 rfl ?_
  refine lv_aload_n hx hb dX2_along_14 rfl (lv_at hl 0 rfl) ?_
  refine gf_X2_13 hx hb hts hown hK hM.1 rfl dX2_along_15 ?_
  refine lv_iload_n hx hb dX2_along_18 rfl (lv_at hl 3 rfl) ?_
  refine r_iald hx hb hK hM.2.1 dX2_along_19 (k := d) (hO.lt60 i_d) (by decide) rfl rfl ?_
  refine lv_aload_n hx hb dX2_along_20 rfl (lv_at hl 0 rfl) ?_
  refine gf_X2_13 hx hb hts hown hK hM.1 rfl dX2_along_21 ?_
  refine lv_iload_n hx hb dX2_along_24 rfl (lv_at hl 1 rfl) ?_
  refine r_iald hx hb hK hM.2.1 dX2_along_25 (k := a) (hO.lt60 i_a) (by decide) rfl rfl ?_
  refine lv_isub hx hb dX2_along_26 ?_
  refine lv_i2l hx hb dX2_along_27 rfl ?_
  refine lv_lmul hx hb dX2_along_28 ?_
  refine lv_aload_n hx hb dX2_along_29 rfl (lv_at hl 0 rfl) ?_
  refine gf_X2_17 hx hb hts hown hK hM.1 rfl dX2_along_30 ?_
  refine lv_iload_n hx hb dX2_along_33 rfl (lv_at hl 2 rfl) ?_
  refine r_iald hx hb hK hM.2.2.1 dX2_along_34 (k := b) (hO.lt60 i_b) (by decide) rfl rfl ?_
  refine lv_aload_n hx hb dX2_along_35 rfl (lv_at hl 0 rfl) ?_
  refine gf_X2_17 hx hb hts hown hK hM.1 rfl dX2_along_36 ?_
  refine lv_iload_n hx hb dX2_along_39 rfl (lv_at hl 1 rfl) ?_
  refine r_iald hx hb hK hM.2.2.1 dX2_along_40 (k := a) (hO.lt60 i_a) (by decide) rfl rfl ?_
  refine lv_isub hx hb dX2_along_41 ?_
  refine lv_i2l hx hb dX2_along_42 rfl ?_
  refine lv_aload_n hx hb dX2_along_43 rfl (lv_at hl 0 rfl) ?_
  refine gf_X2_17 hx hb hts hown hK hM.1 rfl dX2_along_44 ?_
  refine lv_iload_n hx hb dX2_along_47 rfl (lv_at hl 3 rfl) ?_
  refine r_iald hx hb hK hM.2.2.1 dX2_along_48 (k := d) (hO.lt60 i_d) (by decide) rfl rfl ?_
  refine lv_aload_n hx hb dX2_along_49 rfl (lv_at hl 0 rfl) ?_
  refine gf_X2_17 hx hb hts hown hK hM.1 rfl dX2_along_50 ?_
  refine lv_iload_n hx hb dX2_along_53 rfl (lv_at hl 1 rfl) ?_
  refine r_iald hx hb hK hM.2.2.1 dX2_along_54 (k := a) (hO.lt60 i_a) (by decide) rfl rfl ?_
  refine lv_isub hx hb dX2_along_55 ?_
  refine lv_i2l hx hb dX2_along_56 rfl ?_
  refine lv_lmul hx hb dX2_along_57 ?_
  refine lv_ladd hx hb dX2_along_58 ?_
  exact pm_lret hx hb hr hlk hH dX2_along_59 (by first | with_reducible rfl | (simp only [s_along, ↓reduceIte, Bool.true_and, Bool.and_true, Bool.false_and, Bool.and_false, Bool.true_or, Bool.or_true, Bool.false_or, Bool.or_false, Bool.not_true, Bool.not_false, decide_true, decide_false, bI_t, bI_f, Bool.false_eq_true, not_true_eq_false, not_false_eq_true, eq_self, reduceCtorEq, Bool.true_eq_false, and_true, true_and, and_false, false_and, or_true, true_or, or_false, false_or]; done))
theorem dX2_ring_0 : decode cX2_ring 0 = .ok (.aload_n 0, 1) := by decide +kernel
theorem dX2_ring_1 : decode cX2_ring 1 = .ok (.getfield 13, 3) := by decide +kernel
theorem dX2_ring_4 : decode cX2_ring 4 = .ok (.iload_n 1, 1) := by decide +kernel
theorem dX2_ring_5 : decode cX2_ring 5 = .ok (.iaload, 1) := by decide +kernel
theorem dX2_ring_6 : decode cX2_ring 6 = .ok (.aload_n 0, 1) := by decide +kernel
theorem dX2_ring_7 : decode cX2_ring 7 = .ok (.getfield 13, 3) := by decide +kernel
theorem dX2_ring_10 : decode cX2_ring 10 = .ok (.iload 4, 2) := by decide +kernel
theorem dX2_ring_12 : decode cX2_ring 12 = .ok (.iaload, 1) := by decide +kernel
theorem dX2_ring_13 : decode cX2_ring 13 = .ok (.isub, 1) := by decide +kernel
theorem dX2_ring_14 : decode cX2_ring 14 = .ok (.i2l, 1) := by decide +kernel
theorem dX2_ring_15 : decode cX2_ring 15 = .ok (.lstore 5, 2) := by decide +kernel
theorem dX2_ring_17 : decode cX2_ring 17 = .ok (.aload_n 0, 1) := by decide +kernel
theorem dX2_ring_18 : decode cX2_ring 18 = .ok (.getfield 17, 3) := by decide +kernel
theorem dX2_ring_21 : decode cX2_ring 21 = .ok (.iload_n 1, 1) := by decide +kernel
theorem dX2_ring_22 : decode cX2_ring 22 = .ok (.iaload, 1) := by decide +kernel
theorem dX2_ring_23 : decode cX2_ring 23 = .ok (.aload_n 0, 1) := by decide +kernel
theorem dX2_ring_24 : decode cX2_ring 24 = .ok (.getfield 17, 3) := by decide +kernel
theorem dX2_ring_27 : decode cX2_ring 27 = .ok (.iload 4, 2) := by decide +kernel
theorem dX2_ring_29 : decode cX2_ring 29 = .ok (.iaload, 1) := by decide +kernel
theorem dX2_ring_30 : decode cX2_ring 30 = .ok (.isub, 1) := by decide +kernel
theorem dX2_ring_31 : decode cX2_ring 31 = .ok (.i2l, 1) := by decide +kernel
theorem dX2_ring_32 : decode cX2_ring 32 = .ok (.lstore 7, 2) := by decide +kernel
theorem dX2_ring_34 : decode cX2_ring 34 = .ok (.aload_n 0, 1) := by decide +kernel
theorem dX2_ring_35 : decode cX2_ring 35 = .ok (.getfield 13, 3) := by decide +kernel
theorem dX2_ring_38 : decode cX2_ring 38 = .ok (.iload_n 2, 1) := by decide +kernel
theorem dX2_ring_39 : decode cX2_ring 39 = .ok (.iaload, 1) := by decide +kernel
theorem dX2_ring_40 : decode cX2_ring 40 = .ok (.aload_n 0, 1) := by decide +kernel
theorem dX2_ring_41 : decode cX2_ring 41 = .ok (.getfield 13, 3) := by decide +kernel
theorem dX2_ring_44 : decode cX2_ring 44 = .ok (.iload 4, 2) := by decide +kernel
theorem dX2_ring_46 : decode cX2_ring 46 = .ok (.iaload, 1) := by decide +kernel
theorem dX2_ring_47 : decode cX2_ring 47 = .ok (.isub, 1) := by decide +kernel
theorem dX2_ring_48 : decode cX2_ring 48 = .ok (.i2l, 1) := by decide +kernel
theorem dX2_ring_49 : decode cX2_ring 49 = .ok (.lstore 9, 2) := by decide +kernel
theorem dX2_ring_51 : decode cX2_ring 51 = .ok (.aload_n 0, 1) := by decide +kernel
theorem dX2_ring_52 : decode cX2_ring 52 = .ok (.getfield 17, 3) := by decide +kernel
theorem dX2_ring_55 : decode cX2_ring 55 = .ok (.iload_n 2, 1) := by decide +kernel
theorem dX2_ring_56 : decode cX2_ring 56 = .ok (.iaload, 1) := by decide +kernel
theorem dX2_ring_57 : decode cX2_ring 57 = .ok (.aload_n 0, 1) := by decide +kernel
theorem dX2_ring_58 : decode cX2_ring 58 = .ok (.getfield 17, 3) := by decide +kernel
theorem dX2_ring_61 : decode cX2_ring 61 = .ok (.iload 4, 2) := by decide +kernel
theorem dX2_ring_63 : decode cX2_ring 63 = .ok (.iaload, 1) := by decide +kernel
theorem dX2_ring_64 : decode cX2_ring 64 = .ok (.isub, 1) := by decide +kernel
theorem dX2_ring_65 : decode cX2_ring 65 = .ok (.i2l, 1) := by decide +kernel
theorem dX2_ring_66 : decode cX2_ring 66 = .ok (.lstore 11, 2) := by decide +kernel
theorem dX2_ring_68 : decode cX2_ring 68 = .ok (.aload_n 0, 1) := by decide +kernel
theorem dX2_ring_69 : decode cX2_ring 69 = .ok (.getfield 13, 3) := by decide +kernel
theorem dX2_ring_72 : decode cX2_ring 72 = .ok (.iload_n 3, 1) := by decide +kernel
theorem dX2_ring_73 : decode cX2_ring 73 = .ok (.iaload, 1) := by decide +kernel
theorem dX2_ring_74 : decode cX2_ring 74 = .ok (.aload_n 0, 1) := by decide +kernel
theorem dX2_ring_75 : decode cX2_ring 75 = .ok (.getfield 13, 3) := by decide +kernel
theorem dX2_ring_78 : decode cX2_ring 78 = .ok (.iload 4, 2) := by decide +kernel
theorem dX2_ring_80 : decode cX2_ring 80 = .ok (.iaload, 1) := by decide +kernel
theorem dX2_ring_81 : decode cX2_ring 81 = .ok (.isub, 1) := by decide +kernel
theorem dX2_ring_82 : decode cX2_ring 82 = .ok (.i2l, 1) := by decide +kernel
theorem dX2_ring_83 : decode cX2_ring 83 = .ok (.lstore 13, 2) := by decide +kernel
theorem dX2_ring_85 : decode cX2_ring 85 = .ok (.aload_n 0, 1) := by decide +kernel
theorem dX2_ring_86 : decode cX2_ring 86 = .ok (.getfield 17, 3) := by decide +kernel
theorem dX2_ring_89 : decode cX2_ring 89 = .ok (.iload_n 3, 1) := by decide +kernel
theorem dX2_ring_90 : decode cX2_ring 90 = .ok (.iaload, 1) := by decide +kernel
theorem dX2_ring_91 : decode cX2_ring 91 = .ok (.aload_n 0, 1) := by decide +kernel
theorem dX2_ring_92 : decode cX2_ring 92 = .ok (.getfield 17, 3) := by decide +kernel
theorem dX2_ring_95 : decode cX2_ring 95 = .ok (.iload 4, 2) := by decide +kernel
theorem dX2_ring_97 : decode cX2_ring 97 = .ok (.iaload, 1) := by decide +kernel
theorem dX2_ring_98 : decode cX2_ring 98 = .ok (.isub, 1) := by decide +kernel
theorem dX2_ring_99 : decode cX2_ring 99 = .ok (.i2l, 1) := by decide +kernel
theorem dX2_ring_100 : decode cX2_ring 100 = .ok (.lstore 15, 2) := by decide +kernel
theorem dX2_ring_102 : decode cX2_ring 102 = .ok (.lload 5, 2) := by decide +kernel
theorem dX2_ring_104 : decode cX2_ring 104 = .ok (.lload 5, 2) := by decide +kernel
theorem dX2_ring_106 : decode cX2_ring 106 = .ok (.lmul, 1) := by decide +kernel
theorem dX2_ring_107 : decode cX2_ring 107 = .ok (.lload 7, 2) := by decide +kernel
theorem dX2_ring_109 : decode cX2_ring 109 = .ok (.lload 7, 2) := by decide +kernel
theorem dX2_ring_111 : decode cX2_ring 111 = .ok (.lmul, 1) := by decide +kernel
theorem dX2_ring_112 : decode cX2_ring 112 = .ok (.ladd, 1) := by decide +kernel
theorem dX2_ring_113 : decode cX2_ring 113 = .ok (.lstore 17, 2) := by decide +kernel
theorem dX2_ring_115 : decode cX2_ring 115 = .ok (.lload 9, 2) := by decide +kernel
theorem dX2_ring_117 : decode cX2_ring 117 = .ok (.lload 9, 2) := by decide +kernel
theorem dX2_ring_119 : decode cX2_ring 119 = .ok (.lmul, 1) := by decide +kernel
theorem dX2_ring_120 : decode cX2_ring 120 = .ok (.lload 11, 2) := by decide +kernel
theorem dX2_ring_122 : decode cX2_ring 122 = .ok (.lload 11, 2) := by decide +kernel
theorem dX2_ring_124 : decode cX2_ring 124 = .ok (.lmul, 1) := by decide +kernel
theorem dX2_ring_125 : decode cX2_ring 125 = .ok (.ladd, 1) := by decide +kernel
theorem dX2_ring_126 : decode cX2_ring 126 = .ok (.lstore 19, 2) := by decide +kernel
theorem dX2_ring_128 : decode cX2_ring 128 = .ok (.lload 13, 2) := by decide +kernel
theorem dX2_ring_130 : decode cX2_ring 130 = .ok (.lload 13, 2) := by decide +kernel
theorem dX2_ring_132 : decode cX2_ring 132 = .ok (.lmul, 1) := by decide +kernel
theorem dX2_ring_133 : decode cX2_ring 133 = .ok (.lload 15, 2) := by decide +kernel
theorem dX2_ring_135 : decode cX2_ring 135 = .ok (.lload 15, 2) := by decide +kernel
theorem dX2_ring_137 : decode cX2_ring 137 = .ok (.lmul, 1) := by decide +kernel
theorem dX2_ring_138 : decode cX2_ring 138 = .ok (.ladd, 1) := by decide +kernel
theorem dX2_ring_139 : decode cX2_ring 139 = .ok (.lstore 21, 2) := by decide +kernel
theorem dX2_ring_141 : decode cX2_ring 141 = .ok (.aload_n 0, 1) := by decide +kernel
theorem dX2_ring_142 : decode cX2_ring 142 = .ok (.iload_n 1, 1) := by decide +kernel
theorem dX2_ring_143 : decode cX2_ring 143 = .ok (.iload_n 2, 1) := by decide +kernel
theorem dX2_ring_144 : decode cX2_ring 144 = .ok (.iload_n 3, 1) := by decide +kernel
theorem dX2_ring_145 : decode cX2_ring 145 = .ok (.invokevirtual 58, 3) := by decide +kernel
theorem dX2_ring_148 : decode cX2_ring 148 = .ok (.lload 17, 2) := by decide +kernel
theorem dX2_ring_150 : decode cX2_ring 150 = .ok (.lload 9, 2) := by decide +kernel
theorem dX2_ring_152 : decode cX2_ring 152 = .ok (.lload 15, 2) := by decide +kernel
theorem dX2_ring_154 : decode cX2_ring 154 = .ok (.lmul, 1) := by decide +kernel
theorem dX2_ring_155 : decode cX2_ring 155 = .ok (.lload 11, 2) := by decide +kernel
theorem dX2_ring_157 : decode cX2_ring 157 = .ok (.lload 13, 2) := by decide +kernel
theorem dX2_ring_159 : decode cX2_ring 159 = .ok (.lmul, 1) := by decide +kernel
theorem dX2_ring_160 : decode cX2_ring 160 = .ok (.lsub, 1) := by decide +kernel
theorem dX2_ring_161 : decode cX2_ring 161 = .ok (.lmul, 1) := by decide +kernel
theorem dX2_ring_162 : decode cX2_ring 162 = .ok (.lload 19, 2) := by decide +kernel
theorem dX2_ring_164 : decode cX2_ring 164 = .ok (.lload 13, 2) := by decide +kernel
theorem dX2_ring_166 : decode cX2_ring 166 = .ok (.lload 7, 2) := by decide +kernel
theorem dX2_ring_168 : decode cX2_ring 168 = .ok (.lmul, 1) := by decide +kernel
theorem dX2_ring_169 : decode cX2_ring 169 = .ok (.lload 15, 2) := by decide +kernel
theorem dX2_ring_171 : decode cX2_ring 171 = .ok (.lload 5, 2) := by decide +kernel
theorem dX2_ring_173 : decode cX2_ring 173 = .ok (.lmul, 1) := by decide +kernel
theorem dX2_ring_174 : decode cX2_ring 174 = .ok (.lsub, 1) := by decide +kernel
theorem dX2_ring_175 : decode cX2_ring 175 = .ok (.lmul, 1) := by decide +kernel
theorem dX2_ring_176 : decode cX2_ring 176 = .ok (.ladd, 1) := by decide +kernel
theorem dX2_ring_177 : decode cX2_ring 177 = .ok (.lload 21, 2) := by decide +kernel
theorem dX2_ring_179 : decode cX2_ring 179 = .ok (.lload 5, 2) := by decide +kernel
theorem dX2_ring_181 : decode cX2_ring 181 = .ok (.lload 11, 2) := by decide +kernel
theorem dX2_ring_183 : decode cX2_ring 183 = .ok (.lmul, 1) := by decide +kernel
theorem dX2_ring_184 : decode cX2_ring 184 = .ok (.lload 7, 2) := by decide +kernel
theorem dX2_ring_186 : decode cX2_ring 186 = .ok (.lload 9, 2) := by decide +kernel
theorem dX2_ring_188 : decode cX2_ring 188 = .ok (.lmul, 1) := by decide +kernel
theorem dX2_ring_189 : decode cX2_ring 189 = .ok (.lsub, 1) := by decide +kernel
theorem dX2_ring_190 : decode cX2_ring 190 = .ok (.lmul, 1) := by decide +kernel
theorem dX2_ring_191 : decode cX2_ring 191 = .ok (.ladd, 1) := by decide +kernel
theorem dX2_ring_192 : decode cX2_ring 192 = .ok (.invokestatic 54, 3) := by decide +kernel
theorem dX2_ring_195 : decode cX2_ring 195 = .ok (.imul, 1) := by decide +kernel
theorem dX2_ring_196 : decode cX2_ring 196 = .ok (.ireturn, 1) := by decide +kernel
set_option maxHeartbeats 4000000 in
theorem met_X2_ring (l : Launch) (G : GG) {H : Heap} {o : Nat} {A : Nat → Nat} {σ : Sg} {th : Int32} {a b d f : Nat} (hM : MW G H o A σ th) (hO : Ok σ) (i_a : a < σ.np) (i_b : b < σ.np) (i_d : d < σ.np) (i_f : f < σ.np) : PM l yX2_ring cX2_ring 23 (some .int) 2 44 G H [.ref o, .int (nI a), .int (nI b), .int (nI d), .int (nI f)] (some (.int (s_turn (σ.pt a) (σ.pt b) (σ.pt d) * s_ring (σ.pt a) (σ.pt b) (σ.pt d) (σ.pt f)))) := by
  refine pm_intro pl_X2_ring (Nat.le_of_ble_eq_true rfl) ?_
  intro pX eX sX mX belX methX cX ls hE hnm hl
  obtain ⟨hx, hb, hr, hlk, hml, hown, hts, hK, hZ, hH⟩ := hE
  have hl : lv_has ls 23 [(0, .ref o), (1, .int (nI a)), (2, .int (nI b)), (3, .int (nI d)), (4, .int (nI f))] := hl
  refine lv_aload_n hx hb dX2_ring_0 rfl (lv_at hl 0 rfl) ?_
  refine gf_X2_13 hx hb hts hown hK hM.1 rfl dX2_ring_1 ?_
  refine lv_iload_n hx hb dX2_ring_4 rfl (lv_at hl 1 rfl) ?_
  refine r_iald hx hb hK hM.2.1 dX2_ring_5 (k := a) (hO.lt60 i_a) (by decide) rfl rfl ?_
  refine lv_aload_n hx hb dX2_ring_6 rfl (lv_at hl 0 rfl) ?_
  refine gf_X2_13 hx hb hts hown hK hM.1 rfl dX2_ring_7 ?_
  refine lv_iload hx hb dX2_ring_10 (lv_at hl 4 rfl) ?_
  refine r_iald hx hb hK hM.2.1 dX2_ring_12 (k := f) (hO.lt60 i_f) (by decide) rfl rfl ?_
  refine lv_isub hx hb dX2_ring_13 ?_
  refine lv_i2l hx hb dX2_ring_14 rfl ?_
  refine lv_lstore (lv' := [(5, .long _), (0, .ref _), (1, .int _), (2, .int _), (3, .int _), (4, .int _)]) hx hb dX2_ring_15 hl (Nat.le_of_ble_eq_true rfl) rfl (fun ls hl => ?_)
  refine lv_aload_n hx hb dX2_ring_17 rfl (lv_at hl 1 rfl) ?_
  refine gf_X2_17 hx hb hts hown hK hM.1 rfl dX2_ring_18 ?_
  refine lv_iload_n hx hb dX2_ring_21 rfl (lv_at hl 2 rfl) ?_
  refine r_iald hx hb hK hM.2.2.1 dX2_ring_22 (k := a) (hO.lt60 i_a) (by decide) rfl rfl ?_
  refine lv_aload_n hx hb dX2_ring_23 rfl (lv_at hl 1 rfl) ?_
  refine gf_X2_17 hx hb hts hown hK hM.1 rfl dX2_ring_24 ?_
  refine lv_iload hx hb dX2_ring_27 (lv_at hl 5 rfl) ?_
  refine r_iald hx hb hK hM.2.2.1 dX2_ring_29 (k := f) (hO.lt60 i_f) (by decide) rfl rfl ?_
  refine lv_isub hx hb dX2_ring_30 ?_
  refine lv_i2l hx hb dX2_ring_31 rfl ?_
  refine lv_lstore (lv' := [(7, .long _), (5, .long _), (0, .ref _), (1, .int _), (2, .int _), (3, .int _), (4, .int _)]) hx hb dX2_ring_32 hl (Nat.le_of_ble_eq_true rfl) rfl (fun ls hl => ?_)
  refine lv_aload_n hx hb dX2_ring_34 rfl (lv_at hl 2 rfl) ?_
  refine gf_X2_13 hx hb hts hown hK hM.1 rfl dX2_ring_35 ?_
  refine lv_iload_n hx hb dX2_ring_38 rfl (lv_at hl 4 rfl) ?_
  refine r_iald hx hb hK hM.2.1 dX2_ring_39 (k := b) (hO.lt60 i_b) (by decide) rfl rfl ?_
  refine lv_aload_n hx hb dX2_ring_40 rfl (lv_at hl 2 rfl) ?_
  refine gf_X2_13 hx hb hts hown hK hM.1 rfl dX2_ring_41 ?_
  refine lv_iload hx hb dX2_ring_44 (lv_at hl 6 rfl) ?_
  refine r_iald hx hb hK hM.2.1 dX2_ring_46 (k := f) (hO.lt60 i_f) (by decide) rfl rfl ?_
  refine lv_isub hx hb dX2_ring_47 ?_
  refine lv_i2l hx hb dX2_ring_48 rfl ?_
  refine lv_lstore (lv' := [(9, .long _), (7, .long _), (5, .long _), (0, .ref _), (1, .int _), (2, .int _), (3, .int _), (4, .int _)]) hx hb dX2_ring_49 hl (Nat.le_of_ble_eq_true rfl) rfl (fun ls hl => ?_)
  refine lv_aload_n hx hb dX2_ring_51 rfl (lv_at hl 3 rfl) ?_
  refine gf_X2_17 hx hb hts hown hK hM.1 rfl dX2_ring_52 ?_
  refine lv_iload_n hx hb dX2_ring_55 rfl (lv_at hl 5 rfl) ?_
  refine r_iald hx hb hK hM.2.2.1 dX2_ring_56 (k := b) (hO.lt60 i_b) (by decide) rfl rfl ?_
  refine lv_aload_n hx hb dX2_ring_57 rfl (lv_at hl 3 rfl) ?_
  refine gf_X2_17 hx hb hts hown hK hM.1 rfl dX2_ring_58 ?_
  refine lv_iload hx hb dX2_ring_61 (lv_at hl 7 rfl) ?_
  refine r_iald hx hb hK hM.2.2.1 dX2_ring_63 (k := f) (hO.lt60 i_f) (by decide) rfl rfl ?_
  refine lv_isub hx hb dX2_ring_64 ?_
  refine lv_i2l hx hb dX2_ring_65 rfl ?_
  refine lv_lstore (lv' := [(11, .long _), (9, .long _), (7, .long _), (5, .long _), (0, .ref _), (1, .int _), (2, .int _), (3, .int _), (4, .int _)]) hx hb dX2_ring_66 hl (Nat.le_of_ble_eq_true rfl) rfl (fun ls hl => ?_)
  refine lv_aload_n hx hb dX2_ring_68 rfl (lv_at hl 4 rfl) ?_
  refine gf_X2_13 hx hb hts hown hK hM.1 rfl dX2_ring_69 ?_
  refine lv_iload_n hx hb dX2_ring_72 rfl (lv_at hl 7 rfl) ?_
  refine r_iald hx hb hK hM.2.1 dX2_ring_73 (k := d) (hO.lt60 i_d) (by decide) rfl rfl ?_
  refine lv_aload_n hx hb dX2_ring_74 rfl (lv_at hl 4 rfl) ?_
  refine gf_X2_13 hx hb hts hown hK hM.1 rfl dX2_ring_75 ?_
  refine lv_iload hx hb dX2_ring_78 (lv_at hl 8 rfl) ?_
  refine r_iald hx hb hK hM.2.1 dX2_ring_80 (k := f) (hO.lt60 i_f) (by decide) rfl rfl ?_
  refine lv_isub hx hb dX2_ring_81 ?_
  refine lv_i2l hx hb dX2_ring_82 rfl ?_
  refine lv_lstore (lv' := [(13, .long _), (11, .long _), (9, .long _), (7, .long _), (5, .long _), (0, .ref _), (1, .int _), (2, .int _), (3, .int _), (4, .int _)]) hx hb dX2_ring_83 hl (Nat.le_of_ble_eq_true rfl) rfl (fun ls hl => ?_)
  refine lv_aload_n hx hb dX2_ring_85 rfl (lv_at hl 5 rfl) ?_
  refine gf_X2_17 hx hb hts hown hK hM.1 rfl dX2_ring_86 ?_
  refine lv_iload_n hx hb dX2_ring_89 rfl (lv_at hl 8 rfl) ?_
  refine r_iald hx hb hK hM.2.2.1 dX2_ring_90 (k := d) (hO.lt60 i_d) (by decide) rfl rfl ?_
  refine lv_aload_n hx hb dX2_ring_91 rfl (lv_at hl 5 rfl) ?_
  refine gf_X2_17 hx hb hts hown hK hM.1 rfl dX2_ring_92 ?_
  refine lv_iload hx hb dX2_ring_95 (lv_at hl 9 rfl) ?_
  refine r_iald hx hb hK hM.2.2.1 dX2_ring_97 (k := f) (hO.lt60 i_f) (by decide) rfl rfl ?_
  refine lv_isub hx hb dX2_ring_98 ?_
  refine lv_i2l hx hb dX2_ring_99 rfl ?_
  refine lv_lstore (lv' := [(15, .long _), (13, .long _), (11, .long _), (9, .long _), (7, .long _), (5, .long _), (0, .ref _), (1, .int _), (2, .int _), (3, .int _), (4, .int _)]) hx hb dX2_ring_100 hl (Nat.le_of_ble_eq_true rfl) rfl (fun ls hl => ?_)
  refine lv_lload hx hb dX2_ring_102 (lv_at hl 5 rfl) ?_
  refine lv_lload hx hb dX2_ring_104 (lv_at hl 5 rfl) ?_
  refine lv_lmul hx hb dX2_ring_106 ?_
  refine lv_lload hx hb dX2_ring_107 (lv_at hl 4 rfl) ?_
  refine lv_lload hx hb dX2_ring_109 (lv_at hl 4 rfl) ?_
  refine lv_lmul hx hb dX2_ring_111 ?_
  refine lv_ladd hx hb dX2_ring_112 ?_
  refine lv_lstore (lv' := [(17, .long _), (15, .long _), (13, .long _), (11, .long _), (9, .long _), (7, .long _), (5, .long _), (0, .ref _), (1, .int _), (2, .int _), (3, .int _), (4, .int _)]) hx hb dX2_ring_113 hl (Nat.le_of_ble_eq_true rfl) rfl (fun ls hl => ?_)
  refine lv_lload hx hb dX2_ring_115 (lv_at hl 4 rfl) ?_
  refine lv_lload hx hb dX2_ring_117 (lv_at hl 4 rfl) ?_
  refine lv_lmul hx hb dX2_ring_119 ?_
  refine lv_lload hx hb dX2_ring_120 (lv_at hl 3 rfl) ?_
  refine lv_lload hx hb dX2_ring_122 (lv_at hl 3 rfl) ?_
  refine lv_lmul hx hb dX2_ring_124 ?_
  refine lv_ladd hx hb dX2_ring_125 ?_
  refine lv_lstore (lv' := [(19, .long _), (17, .long _), (15, .long _), (13, .long _), (11, .long _), (9, .long _), (7, .long _), (5, .long _), (0, .ref _), (1, .int _), (2, .int _), (3, .int _), (4, .int _)]) hx hb dX2_ring_126 hl (Nat.le_of_ble_eq_true rfl) rfl (fun ls hl => ?_)
  refine lv_lload hx hb dX2_ring_128 (lv_at hl 3 rfl) ?_
  refine lv_lload hx hb dX2_ring_130 (lv_at hl 3 rfl) ?_
  refine lv_lmul hx hb dX2_ring_132 ?_
  refine lv_lload hx hb dX2_ring_133 (lv_at hl 2 rfl) ?_
  refine lv_lload hx hb dX2_ring_135 (lv_at hl 2 rfl) ?_
  refine lv_lmul hx hb dX2_ring_137 ?_
  refine lv_ladd hx hb dX2_ring_138 ?_
  refine lv_lstore (lv' := [(21, .long _), (19, .long _), (17, .long _), (15, .long _), (13, .long _), (11, .long _), (9, .long _), (7, .long _), (5, .long _), (0, .ref _), (1, .int _), (2, .int _), (3, .int _), (4, .int _)]) hx hb dX2_ring_139 hl (Nat.le_of_ble_eq_true rfl) rfl (fun ls hl => ?_)
  refine lv_aload_n hx hb dX2_ring_141 rfl (lv_at hl 9 rfl) ?_
  refine lv_iload_n hx hb dX2_ring_142 rfl (lv_at hl 10 rfl) ?_
  refine lv_iload_n hx hb dX2_ring_143 rfl (lv_at hl 11 rfl) ?_
  refine lv_iload_n hx hb dX2_ring_144 rfl (lv_at hl 12 rfl) ?_
  refine p_callV (As := [.int _, .int _, .int _]) hx hb hml hown hts hK hZ (met_X2_turn l G hM hO i_a i_b i_d) q772 q774 qs20 q43 q775 hv_X2_turn rfl hM.1 rfl (by decide) hl.1 rfl (Nat.le_of_ble_eq_true rfl) dX2_ring_145 ⟨Nat.zero_le _, Nat.zero_le _⟩ ?_
  refine lv_lload hx hb dX2_ring_148 (lv_at hl 2 rfl) ?_
  refine lv_lload hx hb dX2_ring_150 (lv_at hl 6 rfl) ?_
  refine lv_lload hx hb dX2_ring_152 (lv_at hl 3 rfl) ?_
  refine lv_lmul hx hb dX2_ring_154 ?_
  refine lv_lload hx hb dX2_ring_155 (lv_at hl 5 rfl) ?_
  refine lv_lload hx hb dX2_ring_157 (lv_at hl 4 rfl) ?_
  refine lv_lmul hx hb dX2_ring_159 ?_
  refine lv_lsub hx hb dX2_ring_160 ?_
  refine lv_lmul hx hb dX2_ring_161 ?_
  refine lv_lload hx hb dX2_ring_162 (lv_at hl 1 rfl) ?_
  refine lv_lload hx hb dX2_ring_164 (lv_at hl 4 rfl) ?_
  refine lv_lload hx hb dX2_ring_166 (lv_at hl 7 rfl) ?_
  refine lv_lmul hx hb dX2_ring_168 ?_
  refine lv_lload hx hb dX2_ring_169 (lv_at hl 3 rfl) ?_
  refine lv_lload hx hb dX2_ring_171 (lv_at hl 8 rfl) ?_
  refine lv_lmul hx hb dX2_ring_173 ?_
  refine lv_lsub hx hb dX2_ring_174 ?_
  refine lv_lmul hx hb dX2_ring_175 ?_
  refine lv_ladd hx hb dX2_ring_176 ?_
  refine lv_lload hx hb dX2_ring_177 (lv_at hl 0 rfl) ?_
  refine lv_lload hx hb dX2_ring_179 (lv_at hl 8 rfl) ?_
  refine lv_lload hx hb dX2_ring_181 (lv_at hl 5 rfl) ?_
  refine lv_lmul hx hb dX2_ring_183 ?_
  refine lv_lload hx hb dX2_ring_184 (lv_at hl 7 rfl) ?_
  refine lv_lload hx hb dX2_ring_186 (lv_at hl 6 rfl) ?_
  refine lv_lmul hx hb dX2_ring_188 ?_
  refine lv_lsub hx hb dX2_ring_189 ?_
  refine lv_lmul hx hb dX2_ring_190 ?_
  refine lv_ladd hx hb dX2_ring_191 ?_
  refine p_callS (As := [.long _]) hx hb hml hown hts hK hZ (met_X2_signOf l G ) q776 q777 q43 q778 hd_X2_signOf rfl (by decide) hl.1 rfl (Nat.le_of_ble_eq_true rfl) dX2_ring_192 ⟨Nat.zero_le _, Nat.zero_le _⟩ ?_
  refine lv_imul hx hb dX2_ring_195 ?_
  exact pm_iret hx hb hr hlk hH dX2_ring_196 (by first | with_reducible rfl | (simp only [s_ring, s_ringV, ↓reduceIte, Bool.true_and, Bool.and_true, Bool.false_and, Bool.and_false, Bool.true_or, Bool.or_true, Bool.false_or, Bool.or_false, Bool.not_true, Bool.not_false, decide_true, decide_false, bI_t, bI_f, Bool.false_eq_true, not_true_eq_false, not_false_eq_true, eq_self, reduceCtorEq, Bool.true_eq_false, and_true, true_and, and_false, false_and, or_true, true_or, or_false, false_or]; done))
theorem dX2_isOn_0 : decode cX2_isOn 0 = .ok (.aload_n 0, 1) := by decide +kernel
theorem dX2_isOn_1 : decode cX2_isOn 1 = .ok (.iload_n 1, 1) := by decide +kernel
theorem dX2_isOn_2 : decode cX2_isOn 2 = .ok (.iload_n 2, 1) := by decide +kernel
theorem dX2_isOn_3 : decode cX2_isOn 3 = .ok (.iload_n 3, 1) := by decide +kernel
theorem dX2_isOn_4 : decode cX2_isOn 4 = .ok (.invokevirtual 58, 3) := by decide +kernel
theorem dX2_isOn_7 : decode cX2_isOn 7 = .ok (.ifCond .ne 40, 3) := by decide +kernel
theorem dX2_isOn_10 : decode cX2_isOn 10 = .ok (.aload_n 0, 1) := by decide +kernel
theorem dX2_isOn_11 : decode cX2_isOn 11 = .ok (.iload_n 1, 1) := by decide +kernel
theorem dX2_isOn_12 : decode cX2_isOn 12 = .ok (.iload_n 2, 1) := by decide +kernel
theorem dX2_isOn_13 : decode cX2_isOn 13 = .ok (.invokevirtual 107, 3) := by decide +kernel
theorem dX2_isOn_16 : decode cX2_isOn 16 = .ok (.ifCond .eq 15, 3) := by decide +kernel
theorem dX2_isOn_19 : decode cX2_isOn 19 = .ok (.aload_n 0, 1) := by decide +kernel
theorem dX2_isOn_20 : decode cX2_isOn 20 = .ok (.iload_n 1, 1) := by decide +kernel
theorem dX2_isOn_21 : decode cX2_isOn 21 = .ok (.iload_n 3, 1) := by decide +kernel
theorem dX2_isOn_22 : decode cX2_isOn 22 = .ok (.invokevirtual 107, 3) := by decide +kernel
theorem dX2_isOn_25 : decode cX2_isOn 25 = .ok (.ifCond .eq 22, 3) := by decide +kernel
theorem dX2_isOn_28 : decode cX2_isOn 28 = .ok (.goto 15, 3) := by decide +kernel
theorem dX2_isOn_31 : decode cX2_isOn 31 = .ok (.aload_n 0, 1) := by decide +kernel
theorem dX2_isOn_32 : decode cX2_isOn 32 = .ok (.iload_n 3, 1) := by decide +kernel
theorem dX2_isOn_33 : decode cX2_isOn 33 = .ok (.iload_n 1, 1) := by decide +kernel
theorem dX2_isOn_34 : decode cX2_isOn 34 = .ok (.iload_n 2, 1) := by decide +kernel
theorem dX2_isOn_35 : decode cX2_isOn 35 = .ok (.invokevirtual 127, 3) := by decide +kernel
theorem dX2_isOn_38 : decode cX2_isOn 38 = .ok (.lconst 0, 1) := by decide +kernel
theorem dX2_isOn_39 : decode cX2_isOn 39 = .ok (.lcmp, 1) := by decide +kernel
theorem dX2_isOn_40 : decode cX2_isOn 40 = .ok (.ifCond .gt 7, 3) := by decide +kernel
theorem dX2_isOn_43 : decode cX2_isOn 43 = .ok (.iconst 1, 1) := by decide +kernel
theorem dX2_isOn_44 : decode cX2_isOn 44 = .ok (.goto 4, 3) := by decide +kernel
theorem dX2_isOn_47 : decode cX2_isOn 47 = .ok (.iconst 0, 1) := by decide +kernel
theorem dX2_isOn_48 : decode cX2_isOn 48 = .ok (.ireturn, 1) := by decide +kernel
set_option maxHeartbeats 4000000 in
theorem met_X2_isOn (l : Launch) (G : GG) {H : Heap} {o : Nat} {A : Nat → Nat} {σ : Sg} {th : Int32} {a b d : Nat} (hM : MW G H o A σ th) (hO : Ok σ) (i_a : a < σ.np) (i_b : b < σ.np) (i_d : d < σ.np) : PM l yX2_isOn cX2_isOn 4 (some .boolean) 2 44 G H [.ref o, .int (nI a), .int (nI b), .int (nI d)] (some (.int (bI (m_isOn (σ.pt a) (σ.pt b) (σ.pt d))))) := by
  refine pm_intro pl_X2_isOn (Nat.le_of_ble_eq_true rfl) ?_
  intro pX eX sX mX belX methX cX ls hE hnm hl
  obtain ⟨hx, hb, hr, hlk, hml, hown, hts, hK, hZ, hH⟩ := hE
  have hl : lv_has ls 4 [(0, .ref o), (1, .int (nI a)), (2, .int (nI b)), (3, .int (nI d))] := hl
  refine lv_aload_n hx hb dX2_isOn_0 rfl (lv_at hl 0 rfl) ?_
  refine lv_iload_n hx hb dX2_isOn_1 rfl (lv_at hl 1 rfl) ?_
  refine lv_iload_n hx hb dX2_isOn_2 rfl (lv_at hl 2 rfl) ?_
  refine lv_iload_n hx hb dX2_isOn_3 rfl (lv_at hl 3 rfl) ?_
  refine p_callV (As := [.int _, .int _, .int _]) hx hb hml hown hts hK hZ (met_X2_turn l G hM hO i_a i_b i_d) q772 q774 qs20 q43 q775 hv_X2_turn rfl hM.1 rfl (by decide) hl.1 rfl (Nat.le_of_ble_eq_true rfl) dX2_isOn_4 ⟨Nat.zero_le _, Nat.zero_le _⟩ ?_
  refine lv_if_ne (tgt := 47) hx hb dX2_isOn_7 rfl (fun c_7 => ?_) (fun c_7 => ?_)
  · skip
    refine lv_iconst (v := 0) hx hb dX2_isOn_47 ic_0 ?_
    exact pm_zret hx hb hr hlk hH dX2_isOn_48 (by first | with_reducible rfl | (simp only [m_isOn, c_7, ↓reduceIte, Bool.true_and, Bool.and_true, Bool.false_and, Bool.and_false, Bool.true_or, Bool.or_true, Bool.false_or, Bool.or_false, Bool.not_true, Bool.not_false, decide_true, decide_false, bI_t, bI_f, Bool.false_eq_true, not_true_eq_false, not_false_eq_true, eq_self, reduceCtorEq, Bool.true_eq_false, and_true, true_and, and_false, false_and, or_true, true_or, or_false, false_or]; done))
  refine lv_aload_n hx hb dX2_isOn_10 rfl (lv_at hl 0 rfl) ?_
  refine lv_iload_n hx hb dX2_isOn_11 rfl (lv_at hl 1 rfl) ?_
  refine lv_iload_n hx hb dX2_isOn_12 rfl (lv_at hl 2 rfl) ?_
  refine p_callV (As := [.int _, .int _]) hx hb hml hown hts hK hZ (met_X2_areEqual l G hM hO i_a i_b) q744 q746 qs15 q43 q747 hv_X2_areEqual rfl hM.1 rfl (by decide) hl.1 rfl (Nat.le_of_ble_eq_true rfl) dX2_isOn_13 ⟨Nat.zero_le _, Nat.zero_le _⟩ ?_
  refine b_ifeq (tgt := 31) hx hb dX2_isOn_16 rfl (fun c_16 => ?_) (fun c_16 => ?_)
  · skip
    refine lv_aload_n hx hb dX2_isOn_31 rfl (lv_at hl 0 rfl) ?_
    refine lv_iload_n hx hb dX2_isOn_32 rfl (lv_at hl 3 rfl) ?_
    refine lv_iload_n hx hb dX2_isOn_33 rfl (lv_at hl 1 rfl) ?_
    refine lv_iload_n hx hb dX2_isOn_34 rfl (lv_at hl 2 rfl) ?_
    refine p_callV (As := [.int _, .int _, .int _]) hx hb hml hown hts hK hZ (met_X2_along l G hM hO i_d i_a i_b) q812 q814 qs25 q43 q815 hv_X2_along rfl hM.1 rfl (by decide) hl.1 rfl (Nat.le_of_ble_eq_true rfl) dX2_isOn_35 ⟨Nat.zero_le _, Nat.zero_le _⟩ ?_
    refine lv_lconst (v := 0) hx hb dX2_isOn_38 rfl ?_
    refine lc_gt (tgt := 47) hx hb dX2_isOn_39 dX2_isOn_40 rfl (fun c_39 => ?_) (fun c_39 => ?_)
    · skip
      refine lv_iconst (v := 0) hx hb dX2_isOn_47 ic_0 ?_
      exact pm_zret hx hb hr hlk hH dX2_isOn_48 (by first | with_reducible rfl | (simp only [m_isOn, eq_true c_7, c_16, c_39, Int64.not_le.mpr c_39, ↓reduceIte, Bool.true_and, Bool.and_true, Bool.false_and, Bool.and_false, Bool.true_or, Bool.or_true, Bool.false_or, Bool.or_false, Bool.not_true, Bool.not_false, decide_true, decide_false, bI_t, bI_f, Bool.false_eq_true, not_true_eq_false, not_false_eq_true, eq_self, reduceCtorEq, Bool.true_eq_false, and_true, true_and, and_false, false_and, or_true, true_or, or_false, false_or]; done) | (simp only [eq_true c_7, c_16, ↓reduceIte, Bool.true_and, Bool.and_true, Bool.false_and, Bool.and_false, Bool.true_or, Bool.or_true, Bool.false_or, Bool.or_false, Bool.not_true, Bool.not_false, decide_true, decide_false, bI_t, bI_f, Bool.false_eq_true, not_true_eq_false, not_false_eq_true, eq_self, reduceCtorEq, Bool.true_eq_false, and_true, true_and, and_false, false_and, or_true, true_or, or_false, false_or] at c_39; done) | (simp only [eq_true c_7, c_39, Int64.not_le.mpr c_39, ↓reduceIte, Bool.true_and, Bool.and_true, Bool.false_and, Bool.and_false, Bool.true_or, Bool.or_true, Bool.false_or, Bool.or_false, Bool.not_true, Bool.not_false, decide_true, decide_false, bI_t, bI_f, Bool.false_eq_true, not_true_eq_false, not_false_eq_true, eq_self, reduceCtorEq, Bool.true_eq_false, and_true, true_and, and_false, false_and, or_true, true_or, or_false, false_or] at c_16; done) | (simp only [c_16, c_39, Int64.not_le.mpr c_39, ↓reduceIte, Bool.true_and, Bool.and_true, Bool.false_and, Bool.and_false, Bool.true_or, Bool.or_true, Bool.false_or, Bool.or_false, Bool.not_true, Bool.not_false, decide_true, decide_false, bI_t, bI_f, Bool.false_eq_true, not_true_eq_false, not_false_eq_true, eq_self, reduceCtorEq, Bool.true_eq_false, and_true, true_and, and_false, false_and, or_true, true_or, or_false, false_or] at c_7; done))
    refine lv_iconst (v := 1) hx hb dX2_isOn_43 ic_1 ?_
    refine lv_goto (tgt := 48) hx hb dX2_isOn_44 rfl ?_
    exact pm_zret hx hb hr hlk hH dX2_isOn_48 (by first | with_reducible rfl | (simp only [m_isOn, eq_true c_7, c_16, c_39, Int64.not_lt.mp c_39, ↓reduceIte, Bool.true_and, Bool.and_true, Bool.false_and, Bool.and_false, Bool.true_or, Bool.or_true, Bool.false_or, Bool.or_false, Bool.not_true, Bool.not_false, decide_true, decide_false, bI_t, bI_f, Bool.false_eq_true, not_true_eq_false, not_false_eq_true, eq_self, reduceCtorEq, Bool.true_eq_false, and_true, true_and, and_false, false_and, or_true, true_or, or_false, false_or]; done) | (simp only [eq_true c_7, c_16, ↓reduceIte, Bool.true_and, Bool.and_true, Bool.false_and, Bool.and_false, Bool.true_or, Bool.or_true, Bool.false_or, Bool.or_false, Bool.not_true, Bool.not_false, decide_true, decide_false, bI_t, bI_f, Bool.false_eq_true, not_true_eq_false, not_false_eq_true, eq_self, reduceCtorEq, Bool.true_eq_false, and_true, true_and, and_false, false_and, or_true, true_or, or_false, false_or] at c_39; done) | (simp only [eq_true c_7, c_39, Int64.not_lt.mp c_39, ↓reduceIte, Bool.true_and, Bool.and_true, Bool.false_and, Bool.and_false, Bool.true_or, Bool.or_true, Bool.false_or, Bool.or_false, Bool.not_true, Bool.not_false, decide_true, decide_false, bI_t, bI_f, Bool.false_eq_true, not_true_eq_false, not_false_eq_true, eq_self, reduceCtorEq, Bool.true_eq_false, and_true, true_and, and_false, false_and, or_true, true_or, or_false, false_or] at c_16; done) | (simp only [c_16, c_39, Int64.not_lt.mp c_39, ↓reduceIte, Bool.true_and, Bool.and_true, Bool.false_and, Bool.and_false, Bool.true_or, Bool.or_true, Bool.false_or, Bool.or_false, Bool.not_true, Bool.not_false, decide_true, decide_false, bI_t, bI_f, Bool.false_eq_true, not_true_eq_false, not_false_eq_true, eq_self, reduceCtorEq, Bool.true_eq_false, and_true, true_and, and_false, false_and, or_true, true_or, or_false, false_or] at c_7; done))
  refine lv_aload_n hx hb dX2_isOn_19 rfl (lv_at hl 0 rfl) ?_
  refine lv_iload_n hx hb dX2_isOn_20 rfl (lv_at hl 1 rfl) ?_
  refine lv_iload_n hx hb dX2_isOn_21 rfl (lv_at hl 3 rfl) ?_
  refine p_callV (As := [.int _, .int _]) hx hb hml hown hts hK hZ (met_X2_areEqual l G hM hO i_a i_d) q744 q746 qs15 q43 q747 hv_X2_areEqual rfl hM.1 rfl (by decide) hl.1 rfl (Nat.le_of_ble_eq_true rfl) dX2_isOn_22 ⟨Nat.zero_le _, Nat.zero_le _⟩ ?_
  refine b_ifeq (tgt := 47) hx hb dX2_isOn_25 rfl (fun c_25 => ?_) (fun c_25 => ?_)
  · skip
    refine lv_iconst (v := 0) hx hb dX2_isOn_47 ic_0 ?_
    exact pm_zret hx hb hr hlk hH dX2_isOn_48 (by first | with_reducible rfl | (simp only [m_isOn, eq_true c_7, c_16, c_25, ↓reduceIte, Bool.true_and, Bool.and_true, Bool.false_and, Bool.and_false, Bool.true_or, Bool.or_true, Bool.false_or, Bool.or_false, Bool.not_true, Bool.not_false, decide_true, decide_false, bI_t, bI_f, Bool.false_eq_true, not_true_eq_false, not_false_eq_true, eq_self, reduceCtorEq, Bool.true_eq_false, and_true, true_and, and_false, false_and, or_true, true_or, or_false, false_or]; done) | (simp only [eq_true c_7, c_16, ↓reduceIte, Bool.true_and, Bool.and_true, Bool.false_and, Bool.and_false, Bool.true_or, Bool.or_true, Bool.false_or, Bool.or_false, Bool.not_true, Bool.not_false, decide_true, decide_false, bI_t, bI_f, Bool.false_eq_true, not_true_eq_false, not_false_eq_true, eq_self, reduceCtorEq, Bool.true_eq_false, and_true, true_and, and_false, false_and, or_true, true_or, or_false, false_or] at c_25; done) | (simp only [eq_true c_7, c_25, ↓reduceIte, Bool.true_and, Bool.and_true, Bool.false_and, Bool.and_false, Bool.true_or, Bool.or_true, Bool.false_or, Bool.or_false, Bool.not_true, Bool.not_false, decide_true, decide_false, bI_t, bI_f, Bool.false_eq_true, not_true_eq_false, not_false_eq_true, eq_self, reduceCtorEq, Bool.true_eq_false, and_true, true_and, and_false, false_and, or_true, true_or, or_false, false_or] at c_16; done) | (simp only [c_16, c_25, ↓reduceIte, Bool.true_and, Bool.and_true, Bool.false_and, Bool.and_false, Bool.true_or, Bool.or_true, Bool.false_or, Bool.or_false, Bool.not_true, Bool.not_false, decide_true, decide_false, bI_t, bI_f, Bool.false_eq_true, not_true_eq_false, not_false_eq_true, eq_self, reduceCtorEq, Bool.true_eq_false, and_true, true_and, and_false, false_and, or_true, true_or, or_false, false_or] at c_7; done))
  refine lv_goto (tgt := 43) hx hb dX2_isOn_28 rfl ?_
  refine lv_iconst (v := 1) hx hb dX2_isOn_43 ic_1 ?_
  refine lv_goto (tgt := 48) hx hb dX2_isOn_44 rfl ?_
  exact pm_zret hx hb hr hlk hH dX2_isOn_48 (by first | with_reducible rfl | (simp only [m_isOn, eq_true c_7, c_16, c_25, ↓reduceIte, Bool.true_and, Bool.and_true, Bool.false_and, Bool.and_false, Bool.true_or, Bool.or_true, Bool.false_or, Bool.or_false, Bool.not_true, Bool.not_false, decide_true, decide_false, bI_t, bI_f, Bool.false_eq_true, not_true_eq_false, not_false_eq_true, eq_self, reduceCtorEq, Bool.true_eq_false, and_true, true_and, and_false, false_and, or_true, true_or, or_false, false_or]; done) | (simp only [eq_true c_7, c_16, ↓reduceIte, Bool.true_and, Bool.and_true, Bool.false_and, Bool.and_false, Bool.true_or, Bool.or_true, Bool.false_or, Bool.or_false, Bool.not_true, Bool.not_false, decide_true, decide_false, bI_t, bI_f, Bool.false_eq_true, not_true_eq_false, not_false_eq_true, eq_self, reduceCtorEq, Bool.true_eq_false, and_true, true_and, and_false, false_and, or_true, true_or, or_false, false_or] at c_25; done) | (simp only [eq_true c_7, c_25, ↓reduceIte, Bool.true_and, Bool.and_true, Bool.false_and, Bool.and_false, Bool.true_or, Bool.or_true, Bool.false_or, Bool.or_false, Bool.not_true, Bool.not_false, decide_true, decide_false, bI_t, bI_f, Bool.false_eq_true, not_true_eq_false, not_false_eq_true, eq_self, reduceCtorEq, Bool.true_eq_false, and_true, true_and, and_false, false_and, or_true, true_or, or_false, false_or] at c_16; done) | (simp only [c_16, c_25, ↓reduceIte, Bool.true_and, Bool.and_true, Bool.false_and, Bool.and_false, Bool.true_or, Bool.or_true, Bool.false_or, Bool.or_false, Bool.not_true, Bool.not_false, decide_true, decide_false, bI_t, bI_f, Bool.false_eq_true, not_true_eq_false, not_false_eq_true, eq_self, reduceCtorEq, Bool.true_eq_false, and_true, true_and, and_false, false_and, or_true, true_or, or_false, false_or] at c_7; done))
theorem dX2_isOneWay_0 : decode cX2_isOneWay 0 = .ok (.aload_n 0, 1) := by decide +kernel
theorem dX2_isOneWay_1 : decode cX2_isOneWay 1 = .ok (.iload_n 1, 1) := by decide +kernel
theorem dX2_isOneWay_2 : decode cX2_isOneWay 2 = .ok (.iload_n 2, 1) := by decide +kernel
theorem dX2_isOneWay_3 : decode cX2_isOneWay 3 = .ok (.iload_n 3, 1) := by decide +kernel
theorem dX2_isOneWay_4 : decode cX2_isOneWay 4 = .ok (.invokevirtual 58, 3) := by decide +kernel
theorem dX2_isOneWay_7 : decode cX2_isOneWay 7 = .ok (.ifCond .ne 19, 3) := by decide +kernel
theorem dX2_isOneWay_10 : decode cX2_isOneWay 10 = .ok (.aload_n 0, 1) := by decide +kernel
theorem dX2_isOneWay_11 : decode cX2_isOneWay 11 = .ok (.iload_n 1, 1) := by decide +kernel
theorem dX2_isOneWay_12 : decode cX2_isOneWay 12 = .ok (.iload_n 2, 1) := by decide +kernel
theorem dX2_isOneWay_13 : decode cX2_isOneWay 13 = .ok (.iload_n 3, 1) := by decide +kernel
theorem dX2_isOneWay_14 : decode cX2_isOneWay 14 = .ok (.invokevirtual 127, 3) := by decide +kernel
theorem dX2_isOneWay_17 : decode cX2_isOneWay 17 = .ok (.lconst 0, 1) := by decide +kernel
theorem dX2_isOneWay_18 : decode cX2_isOneWay 18 = .ok (.lcmp, 1) := by decide +kernel
theorem dX2_isOneWay_19 : decode cX2_isOneWay 19 = .ok (.ifCond .le 7, 3) := by decide +kernel
theorem dX2_isOneWay_22 : decode cX2_isOneWay 22 = .ok (.iconst 1, 1) := by decide +kernel
theorem dX2_isOneWay_23 : decode cX2_isOneWay 23 = .ok (.goto 4, 3) := by decide +kernel
theorem dX2_isOneWay_26 : decode cX2_isOneWay 26 = .ok (.iconst 0, 1) := by decide +kernel
theorem dX2_isOneWay_27 : decode cX2_isOneWay 27 = .ok (.ireturn, 1) := by decide +kernel
set_option maxHeartbeats 4000000 in
theorem met_X2_isOneWay (l : Launch) (G : GG) {H : Heap} {o : Nat} {A : Nat → Nat} {σ : Sg} {th : Int32} {a b d : Nat} (hM : MW G H o A σ th) (hO : Ok σ) (i_a : a < σ.np) (i_b : b < σ.np) (i_d : d < σ.np) : PM l yX2_isOneWay cX2_isOneWay 4 (some .boolean) 2 44 G H [.ref o, .int (nI a), .int (nI b), .int (nI d)] (some (.int (bI (s_oneway (σ.pt a) (σ.pt b) (σ.pt d))))) := by
  refine pm_intro pl_X2_isOneWay (Nat.le_of_ble_eq_true rfl) ?_
  intro pX eX sX mX belX methX cX ls hE hnm hl
  obtain ⟨hx, hb, hr, hlk, hml, hown, hts, hK, hZ, hH⟩ := hE
  have hl : lv_has ls 4 [(0, .ref o), (1, .int (nI a)), (2, .int (nI b)), (3, .int (nI d))] := hl
  refine lv_aload_n hx hb dX2_isOneWay_0 rfl (lv_at hl 0 rfl) ?_
  refine lv_iload_n hx hb dX2_isOneWay_1 rfl (lv_at hl 1 rfl) ?_
  refine lv_iload_n hx hb dX2_isOneWay_2 rfl (lv_at hl 2 rfl) ?_
  refine lv_iload_n hx hb dX2_isOneWay_3 rfl (lv_at hl 3 rfl) ?_
  refine p_callV (As := [.int _, .int _, .int _]) hx hb hml hown hts hK hZ (met_X2_turn l G hM hO i_a i_b i_d) q772 q774 qs20 q43 q775 hv_X2_turn rfl hM.1 rfl (by decide) hl.1 rfl (Nat.le_of_ble_eq_true rfl) dX2_isOneWay_4 ⟨Nat.zero_le _, Nat.zero_le _⟩ ?_
  refine lv_if_ne (tgt := 26) hx hb dX2_isOneWay_7 rfl (fun c_7 => ?_) (fun c_7 => ?_)
  · skip
    refine lv_iconst (v := 0) hx hb dX2_isOneWay_26 ic_0 ?_
    exact pm_zret hx hb hr hlk hH dX2_isOneWay_27 (by first | with_reducible rfl | (simp only [s_oneway, c_7, ↓reduceIte, Bool.true_and, Bool.and_true, Bool.false_and, Bool.and_false, Bool.true_or, Bool.or_true, Bool.false_or, Bool.or_false, Bool.not_true, Bool.not_false, decide_true, decide_false, bI_t, bI_f, Bool.false_eq_true, not_true_eq_false, not_false_eq_true, eq_self, reduceCtorEq, Bool.true_eq_false, and_true, true_and, and_false, false_and, or_true, true_or, or_false, false_or]; done))
  refine lv_aload_n hx hb dX2_isOneWay_10 rfl (lv_at hl 0 rfl) ?_
  refine lv_iload_n hx hb dX2_isOneWay_11 rfl (lv_at hl 1 rfl) ?_
  refine lv_iload_n hx hb dX2_isOneWay_12 rfl (lv_at hl 2 rfl) ?_
  refine lv_iload_n hx hb dX2_isOneWay_13 rfl (lv_at hl 3 rfl) ?_
  refine p_callV (As := [.int _, .int _, .int _]) hx hb hml hown hts hK hZ (met_X2_along l G hM hO i_a i_b i_d) q812 q814 qs25 q43 q815 hv_X2_along rfl hM.1 rfl (by decide) hl.1 rfl (Nat.le_of_ble_eq_true rfl) dX2_isOneWay_14 ⟨Nat.zero_le _, Nat.zero_le _⟩ ?_
  refine lv_lconst (v := 0) hx hb dX2_isOneWay_17 rfl ?_
  refine lc_le (tgt := 26) hx hb dX2_isOneWay_18 dX2_isOneWay_19 rfl (fun c_18 => ?_) (fun c_18 => ?_)
  · skip
    refine lv_iconst (v := 0) hx hb dX2_isOneWay_26 ic_0 ?_
    exact pm_zret hx hb hr hlk hH dX2_isOneWay_27 (by first | with_reducible rfl | (simp only [s_oneway, eq_true c_7, c_18, Int64.not_lt.mpr c_18, ↓reduceIte, Bool.true_and, Bool.and_true, Bool.false_and, Bool.and_false, Bool.true_or, Bool.or_true, Bool.false_or, Bool.or_false, Bool.not_true, Bool.not_false, decide_true, decide_false, bI_t, bI_f, Bool.false_eq_true, not_true_eq_false, not_false_eq_true, eq_self, reduceCtorEq, Bool.true_eq_false, and_true, true_and, and_false, false_and, or_true, true_or, or_false, false_or]; done) | (simp only [eq_true c_7, ↓reduceIte, Bool.true_and, Bool.and_true, Bool.false_and, Bool.and_false, Bool.true_or, Bool.or_true, Bool.false_or, Bool.or_false, Bool.not_true, Bool.not_false, decide_true, decide_false, bI_t, bI_f, Bool.false_eq_true, not_true_eq_false, not_false_eq_true, eq_self, reduceCtorEq, Bool.true_eq_false, and_true, true_and, and_false, false_and, or_true, true_or, or_false, false_or] at c_18; done) | (simp only [c_18, Int64.not_lt.mpr c_18, ↓reduceIte, Bool.true_and, Bool.and_true, Bool.false_and, Bool.and_false, Bool.true_or, Bool.or_true, Bool.false_or, Bool.or_false, Bool.not_true, Bool.not_false, decide_true, decide_false, bI_t, bI_f, Bool.false_eq_true, not_true_eq_false, not_false_eq_true, eq_self, reduceCtorEq, Bool.true_eq_false, and_true, true_and, and_false, false_and, or_true, true_or, or_false, false_or] at c_7; done))
  refine lv_iconst (v := 1) hx hb dX2_isOneWay_22 ic_1 ?_
  refine lv_goto (tgt := 27) hx hb dX2_isOneWay_23 rfl ?_
  exact pm_zret hx hb hr hlk hH dX2_isOneWay_27 (by first | with_reducible rfl | (simp only [s_oneway, eq_true c_7, c_18, Int64.not_le.mp c_18, ↓reduceIte, Bool.true_and, Bool.and_true, Bool.false_and, Bool.and_false, Bool.true_or, Bool.or_true, Bool.false_or, Bool.or_false, Bool.not_true, Bool.not_false, decide_true, decide_false, bI_t, bI_f, Bool.false_eq_true, not_true_eq_false, not_false_eq_true, eq_self, reduceCtorEq, Bool.true_eq_false, and_true, true_and, and_false, false_and, or_true, true_or, or_false, false_or]; done) | (simp only [eq_true c_7, ↓reduceIte, Bool.true_and, Bool.and_true, Bool.false_and, Bool.and_false, Bool.true_or, Bool.or_true, Bool.false_or, Bool.or_false, Bool.not_true, Bool.not_false, decide_true, decide_false, bI_t, bI_f, Bool.false_eq_true, not_true_eq_false, not_false_eq_true, eq_self, reduceCtorEq, Bool.true_eq_false, and_true, true_and, and_false, false_and, or_true, true_or, or_false, false_or] at c_18; done) | (simp only [c_18, Int64.not_le.mp c_18, ↓reduceIte, Bool.true_and, Bool.and_true, Bool.false_and, Bool.and_false, Bool.true_or, Bool.or_true, Bool.false_or, Bool.or_false, Bool.not_true, Bool.not_false, decide_true, decide_false, bI_t, bI_f, Bool.false_eq_true, not_true_eq_false, not_false_eq_true, eq_self, reduceCtorEq, Bool.true_eq_false, and_true, true_and, and_false, false_and, or_true, true_or, or_false, false_or] at c_7; done))
theorem dX2_common_0 : decode cX2_common 0 = .ok (.iconst 0, 1) := by decide +kernel
theorem dX2_common_1 : decode cX2_common 1 = .ok (.istore 5, 2) := by decide +kernel
theorem dX2_common_3 : decode cX2_common 3 = .ok (.aload_n 0, 1) := by decide +kernel
theorem dX2_common_4 : decode cX2_common 4 = .ok (.iload_n 1, 1) := by decide +kernel
theorem dX2_common_5 : decode cX2_common 5 = .ok (.iload_n 2, 1) := by decide +kernel
theorem dX2_common_6 : decode cX2_common 6 = .ok (.iload_n 3, 1) := by decide +kernel
theorem dX2_common_7 : decode cX2_common 7 = .ok (.invokevirtual 131, 3) := by decide +kernel
theorem dX2_common_10 : decode cX2_common 10 = .ok (.istore 6, 2) := by decide +kernel
theorem dX2_common_12 : decode cX2_common 12 = .ok (.aload_n 0, 1) := by decide +kernel
theorem dX2_common_13 : decode cX2_common 13 = .ok (.iload_n 1, 1) := by decide +kernel
theorem dX2_common_14 : decode cX2_common 14 = .ok (.iload_n 2, 1) := by decide +kernel
theorem dX2_common_15 : decode cX2_common 15 = .ok (.iload 4, 2) := by decide +kernel
theorem dX2_common_17 : decode cX2_common 17 = .ok (.invokevirtual 131, 3) := by decide +kernel
theorem dX2_common_20 : decode cX2_common 20 = .ok (.istore 7, 2) := by decide +kernel
theorem dX2_common_22 : decode cX2_common 22 = .ok (.aload_n 0, 1) := by decide +kernel
theorem dX2_common_23 : decode cX2_common 23 = .ok (.iload_n 3, 1) := by decide +kernel
theorem dX2_common_24 : decode cX2_common 24 = .ok (.iload 4, 2) := by decide +kernel
theorem dX2_common_26 : decode cX2_common 26 = .ok (.iload_n 1, 1) := by decide +kernel
theorem dX2_common_27 : decode cX2_common 27 = .ok (.invokevirtual 131, 3) := by decide +kernel
theorem dX2_common_30 : decode cX2_common 30 = .ok (.istore 8, 2) := by decide +kernel
theorem dX2_common_32 : decode cX2_common 32 = .ok (.aload_n 0, 1) := by decide +kernel
theorem dX2_common_33 : decode cX2_common 33 = .ok (.iload_n 3, 1) := by decide +kernel
theorem dX2_common_34 : decode cX2_common 34 = .ok (.iload 4, 2) := by decide +kernel
theorem dX2_common_36 : decode cX2_common 36 = .ok (.iload_n 2, 1) := by decide +kernel
theorem dX2_common_37 : decode cX2_common 37 = .ok (.invokevirtual 131, 3) := by decide +kernel
theorem dX2_common_40 : decode cX2_common 40 = .ok (.istore 9, 2) := by decide +kernel
theorem dX2_common_42 : decode cX2_common 42 = .ok (.iload 5, 2) := by decide +kernel
theorem dX2_common_44 : decode cX2_common 44 = .ok (.iload 6, 2) := by decide +kernel
theorem dX2_common_46 : decode cX2_common 46 = .ok (.ifCond .eq 7, 3) := by decide +kernel
theorem dX2_common_49 : decode cX2_common 49 = .ok (.iconst 1, 1) := by decide +kernel
theorem dX2_common_50 : decode cX2_common 50 = .ok (.goto 4, 3) := by decide +kernel
theorem dX2_common_53 : decode cX2_common 53 = .ok (.iconst 0, 1) := by decide +kernel
theorem dX2_common_54 : decode cX2_common 54 = .ok (.iadd, 1) := by decide +kernel
theorem dX2_common_55 : decode cX2_common 55 = .ok (.istore 5, 2) := by decide +kernel
theorem dX2_common_57 : decode cX2_common 57 = .ok (.iload 5, 2) := by decide +kernel
theorem dX2_common_59 : decode cX2_common 59 = .ok (.iload 7, 2) := by decide +kernel
theorem dX2_common_61 : decode cX2_common 61 = .ok (.ifCond .eq 17, 3) := by decide +kernel
theorem dX2_common_64 : decode cX2_common 64 = .ok (.aload_n 0, 1) := by decide +kernel
theorem dX2_common_65 : decode cX2_common 65 = .ok (.iload_n 3, 1) := by decide +kernel
theorem dX2_common_66 : decode cX2_common 66 = .ok (.iload 4, 2) := by decide +kernel
theorem dX2_common_68 : decode cX2_common 68 = .ok (.invokevirtual 107, 3) := by decide +kernel
theorem dX2_common_71 : decode cX2_common 71 = .ok (.ifCond .ne 7, 3) := by decide +kernel
theorem dX2_common_74 : decode cX2_common 74 = .ok (.iconst 1, 1) := by decide +kernel
theorem dX2_common_75 : decode cX2_common 75 = .ok (.goto 4, 3) := by decide +kernel
theorem dX2_common_78 : decode cX2_common 78 = .ok (.iconst 0, 1) := by decide +kernel
theorem dX2_common_79 : decode cX2_common 79 = .ok (.iadd, 1) := by decide +kernel
theorem dX2_common_80 : decode cX2_common 80 = .ok (.istore 5, 2) := by decide +kernel
theorem dX2_common_82 : decode cX2_common 82 = .ok (.iload 5, 2) := by decide +kernel
theorem dX2_common_84 : decode cX2_common 84 = .ok (.iload 8, 2) := by decide +kernel
theorem dX2_common_86 : decode cX2_common 86 = .ok (.ifCond .eq 26, 3) := by decide +kernel
theorem dX2_common_89 : decode cX2_common 89 = .ok (.aload_n 0, 1) := by decide +kernel
theorem dX2_common_90 : decode cX2_common 90 = .ok (.iload_n 1, 1) := by decide +kernel
theorem dX2_common_91 : decode cX2_common 91 = .ok (.iload_n 3, 1) := by decide +kernel
theorem dX2_common_92 : decode cX2_common 92 = .ok (.invokevirtual 107, 3) := by decide +kernel
theorem dX2_common_95 : decode cX2_common 95 = .ok (.ifCond .ne 17, 3) := by decide +kernel
theorem dX2_common_98 : decode cX2_common 98 = .ok (.aload_n 0, 1) := by decide +kernel
theorem dX2_common_99 : decode cX2_common 99 = .ok (.iload_n 1, 1) := by decide +kernel
theorem dX2_common_100 : decode cX2_common 100 = .ok (.iload 4, 2) := by decide +kernel
theorem dX2_common_102 : decode cX2_common 102 = .ok (.invokevirtual 107, 3) := by decide +kernel
theorem dX2_common_105 : decode cX2_common 105 = .ok (.ifCond .ne 7, 3) := by decide +kernel
theorem dX2_common_108 : decode cX2_common 108 = .ok (.iconst 1, 1) := by decide +kernel
theorem dX2_common_109 : decode cX2_common 109 = .ok (.goto 4, 3) := by decide +kernel
theorem dX2_common_112 : decode cX2_common 112 = .ok (.iconst 0, 1) := by decide +kernel
theorem dX2_common_113 : decode cX2_common 113 = .ok (.iadd, 1) := by decide +kernel
theorem dX2_common_114 : decode cX2_common 114 = .ok (.istore 5, 2) := by decide +kernel
theorem dX2_common_116 : decode cX2_common 116 = .ok (.iload 5, 2) := by decide +kernel
theorem dX2_common_118 : decode cX2_common 118 = .ok (.iload 9, 2) := by decide +kernel
theorem dX2_common_120 : decode cX2_common 120 = .ok (.ifCond .eq 35, 3) := by decide +kernel
theorem dX2_common_123 : decode cX2_common 123 = .ok (.aload_n 0, 1) := by decide +kernel
theorem dX2_common_124 : decode cX2_common 124 = .ok (.iload_n 2, 1) := by decide +kernel
theorem dX2_common_125 : decode cX2_common 125 = .ok (.iload_n 3, 1) := by decide +kernel
theorem dX2_common_126 : decode cX2_common 126 = .ok (.invokevirtual 107, 3) := by decide +kernel
theorem dX2_common_129 : decode cX2_common 129 = .ok (.ifCond .ne 26, 3) := by decide +kernel
theorem dX2_common_132 : decode cX2_common 132 = .ok (.aload_n 0, 1) := by decide +kernel
theorem dX2_common_133 : decode cX2_common 133 = .ok (.iload_n 2, 1) := by decide +kernel
theorem dX2_common_134 : decode cX2_common 134 = .ok (.iload 4, 2) := by decide +kernel
theorem dX2_common_136 : decode cX2_common 136 = .ok (.invokevirtual 107, 3) := by decide +kernel
theorem dX2_common_139 : decode cX2_common 139 = .ok (.ifCond .ne 16, 3) := by decide +kernel
theorem dX2_common_142 : decode cX2_common 142 = .ok (.aload_n 0, 1) := by decide +kernel
theorem dX2_common_143 : decode cX2_common 143 = .ok (.iload_n 1, 1) := by decide +kernel
theorem dX2_common_144 : decode cX2_common 144 = .ok (.iload_n 2, 1) := by decide +kernel
theorem dX2_common_145 : decode cX2_common 145 = .ok (.invokevirtual 107, 3) := by decide +kernel
theorem dX2_common_148 : decode cX2_common 148 = .ok (.ifCond .ne 7, 3) := by decide +kernel
theorem dX2_common_151 : decode cX2_common 151 = .ok (.iconst 1, 1) := by decide +kernel
theorem dX2_common_152 : decode cX2_common 152 = .ok (.goto 4, 3) := by decide +kernel
theorem dX2_common_155 : decode cX2_common 155 = .ok (.iconst 0, 1) := by decide +kernel
theorem dX2_common_156 : decode cX2_common 156 = .ok (.iadd, 1) := by decide +kernel
theorem dX2_common_157 : decode cX2_common 157 = .ok (.istore 5, 2) := by decide +kernel
theorem dX2_common_159 : decode cX2_common 159 = .ok (.iload 5, 2) := by decide +kernel
theorem dX2_common_161 : decode cX2_common 161 = .ok (.iconst 1, 1) := by decide +kernel
theorem dX2_common_162 : decode cX2_common 162 = .ok (.if_icmp .le 7, 3) := by decide +kernel
theorem dX2_common_165 : decode cX2_common 165 = .ok (.iconst 2, 1) := by decide +kernel
theorem dX2_common_166 : decode cX2_common 166 = .ok (.goto 5, 3) := by decide +kernel
theorem dX2_common_169 : decode cX2_common 169 = .ok (.iload 5, 2) := by decide +kernel
theorem dX2_common_171 : decode cX2_common 171 = .ok (.ireturn, 1) := by decide +kernel
set_option maxHeartbeats 4000000 in
theorem met_X2_common (l : Launch) (G : GG) {H : Heap} {o : Nat} {A : Nat → Nat} {σ : Sg} {th : Int32} {a b d f : Nat} (hM : MW G H o A σ th) (hO : Ok σ) (i_a : a < σ.np) (i_b : b < σ.np) (i_d : d < σ.np) (i_f : f < σ.np) : PM l yX2_common cX2_common 10 (some .int) 3 67 G H [.ref o, .int (nI a), .int (nI b), .int (nI d), .int (nI f)] (some (.int (m_common (σ.pt a) (σ.pt b) (σ.pt d) (σ.pt f)))) := by
  refine pm_intro pl_X2_common (Nat.le_of_ble_eq_true rfl) ?_
  intro pX eX sX mX belX methX cX ls hE hnm hl
  obtain ⟨hx, hb, hr, hlk, hml, hown, hts, hK, hZ, hH⟩ := hE
  have hl : lv_has ls 10 [(0, .ref o), (1, .int (nI a)), (2, .int (nI b)), (3, .int (nI d)), (4, .int (nI f))] := hl
  refine lv_iconst (v := 0) hx hb dX2_common_0 ic_0 ?_
  refine lv_istore (lv' := [(5, .int _), (0, .ref _), (1, .int _), (2, .int _), (3, .int _), (4, .int _)]) hx hb dX2_common_1 hl (Nat.le_of_ble_eq_true rfl) rfl (fun ls hl => ?_)
  refine lv_aload_n hx hb dX2_common_3 rfl (lv_at hl 1 rfl) ?_
  refine lv_iload_n hx hb dX2_common_4 rfl (lv_at hl 2 rfl) ?_
  refine lv_iload_n hx hb dX2_common_5 rfl (lv_at hl 3 rfl) ?_
  refine lv_iload_n hx hb dX2_common_6 rfl (lv_at hl 4 rfl) ?_
  refine p_callV (As := [.int _, .int _, .int _]) hx hb hml hown hts hK hZ (met_X2_isOn l G hM hO i_a i_b i_d) q808 q810 qs24 q43 q811 hv_X2_isOn rfl hM.1 rfl (by decide) hl.1 rfl (Nat.le_of_ble_eq_true rfl) dX2_common_7 ⟨Nat.zero_le _, Nat.zero_le _⟩ ?_
  refine lv_istore (lv' := [(6, .int _), (5, .int _), (0, .ref _), (1, .int _), (2, .int _), (3, .int _), (4, .int _)]) hx hb dX2_common_10 hl (Nat.le_of_ble_eq_true rfl) rfl (fun ls hl => ?_)
  refine lv_aload_n hx hb dX2_common_12 rfl (lv_at hl 2 rfl) ?_
  refine lv_iload_n hx hb dX2_common_13 rfl (lv_at hl 3 rfl) ?_
  refine lv_iload_n hx hb dX2_common_14 rfl (lv_at hl 4 rfl) ?_
  refine lv_iload hx hb dX2_common_15 (lv_at hl 6 rfl) ?_
  refine p_callV (As := [.int _, .int _, .int _]) hx hb hml hown hts hK hZ (met_X2_isOn l G hM hO i_a i_b i_f) q808 q810 qs24 q43 q811 hv_X2_isOn rfl hM.1 rfl (by decide) hl.1 rfl (Nat.le_of_ble_eq_true rfl) dX2_common_17 ⟨Nat.zero_le _, Nat.zero_le _⟩ ?_
  refine lv_istore (lv' := [(7, .int _), (6, .int _), (5, .int _), (0, .ref _), (1, .int _), (2, .int _), (3, .int _), (4, .int _)]) hx hb dX2_common_20 hl (Nat.le_of_ble_eq_true rfl) rfl (fun ls hl => ?_)
  refine lv_aload_n hx hb dX2_common_22 rfl (lv_at hl 3 rfl) ?_
  refine lv_iload_n hx hb dX2_common_23 rfl (lv_at hl 6 rfl) ?_
  refine lv_iload hx hb dX2_common_24 (lv_at hl 7 rfl) ?_
  refine lv_iload_n hx hb dX2_common_26 rfl (lv_at hl 4 rfl) ?_
  refine p_callV (As := [.int _, .int _, .int _]) hx hb hml hown hts hK hZ (met_X2_isOn l G hM hO i_d i_f i_a) q808 q810 qs24 q43 q811 hv_X2_isOn rfl hM.1 rfl (by decide) hl.1 rfl (Nat.le_of_ble_eq_true rfl) dX2_common_27 ⟨Nat.zero_le _, Nat.zero_le _⟩ ?_
  refine lv_istore (lv' := [(8, .int _), (7, .int _), (6, .int _), (5, .int _), (0, .ref _), (1, .int _), (2, .int _), (3, .int _), (4, .int _)]) hx hb dX2_common_30 hl (Nat.le_of_ble_eq_true rfl) rfl (fun ls hl => ?_)
  refine lv_aload_n hx hb dX2_common_32 rfl (lv_at hl 4 rfl) ?_
  refine lv_iload_n hx hb dX2_common_33 rfl (lv_at hl 7 rfl) ?_
  refine lv_iload hx hb dX2_common_34 (lv_at hl 8 rfl) ?_
  refine lv_iload_n hx hb dX2_common_36 rfl (lv_at hl 6 rfl) ?_
  refine p_callV (As := [.int _, .int _, .int _]) hx hb hml hown hts hK hZ (met_X2_isOn l G hM hO i_d i_f i_b) q808 q810 qs24 q43 q811 hv_X2_isOn rfl hM.1 rfl (by decide) hl.1 rfl (Nat.le_of_ble_eq_true rfl) dX2_common_37 ⟨Nat.zero_le _, Nat.zero_le _⟩ ?_
  refine lv_istore (lv' := [(9, .int _), (8, .int _), (7, .int _), (6, .int _), (5, .int _), (0, .ref _), (1, .int _), (2, .int _), (3, .int _), (4, .int _)]) hx hb dX2_common_40 hl (Nat.le_of_ble_eq_true rfl) rfl (fun ls hl => ?_)
  refine lv_iload hx hb dX2_common_42 (lv_at hl 4 rfl) ?_
  refine cutI (J := 54) (v := if m_isOn (σ.pt a) (σ.pt b) (σ.pt d) then 1 else 0) ?_ (fun K1 => ?_)
  rotate_left
  · skip
    refine lv_iload hx hb dX2_common_44 (lv_at hl 3 rfl) ?_
    refine b_ifeq (tgt := 53) hx hb dX2_common_46 rfl (fun c_46 => ?_) (fun c_46 => ?_)
    · skip
      refine lv_iconst (v := 0) hx hb dX2_common_53 ic_0 ?_
      exact K1 _ (by first | with_reducible rfl | (simp only [m_common, c_46, ↓reduceIte, Bool.true_and, Bool.and_true, Bool.false_and, Bool.and_false, Bool.true_or, Bool.or_true, Bool.false_or, Bool.or_false, Bool.not_true, Bool.not_false, decide_true, decide_false, bI_t, bI_f, Bool.false_eq_true, not_true_eq_false, not_false_eq_true, eq_self, reduceCtorEq, Bool.true_eq_false, and_true, true_and, and_false, false_and, or_true, true_or, or_false, false_or]; done))
    refine lv_iconst (v := 1) hx hb dX2_common_49 ic_1 ?_
    refine lv_goto (tgt := 54) hx hb dX2_common_50 rfl ?_
    exact K1 _ (by first | with_reducible rfl | (simp only [m_common, c_46, ↓reduceIte, Bool.true_and, Bool.and_true, Bool.false_and, Bool.and_false, Bool.true_or, Bool.or_true, Bool.false_or, Bool.or_false, Bool.not_true, Bool.not_false, decide_true, decide_false, bI_t, bI_f, Bool.false_eq_true, not_true_eq_false, not_false_eq_true, eq_self, reduceCtorEq, Bool.true_eq_false, and_true, true_and, and_false, false_and, or_true, true_or, or_false, false_or]; done))
  refine lv_iadd hx hb dX2_common_54 ?_
  refine lv_istore (lv' := [(5, .int _), (9, .int _), (8, .int _), (7, .int _), (6, .int _), (0, .ref _), (1, .int _), (2, .int _), (3, .int _), (4, .int _)]) hx hb dX2_common_55 hl (Nat.le_of_ble_eq_true rfl) rfl (fun ls hl => ?_)
  refine lv_iload hx hb dX2_common_57 (lv_at hl 0 rfl) ?_
  refine cutI (J := 79) (v := if m_isOn (σ.pt a) (σ.pt b) (σ.pt f) && !s_eq (σ.pt d) (σ.pt f) then 1 else 0) ?_ (fun K2 => ?_)
  rotate_left
  · skip
    refine lv_iload hx hb dX2_common_59 (lv_at hl 3 rfl) ?_
    refine b_ifeq (tgt := 78) hx hb dX2_common_61 rfl (fun c_61 => ?_) (fun c_61 => ?_)
    · skip
      refine lv_iconst (v := 0) hx hb dX2_common_78 ic_0 ?_
      exact K2 _ (by first | with_reducible rfl | (simp only [m_common, c_61, ↓reduceIte, Bool.true_and, Bool.and_true, Bool.false_and, Bool.and_false, Bool.true_or, Bool.or_true, Bool.false_or, Bool.or_false, Bool.not_true, Bool.not_false, decide_true, decide_false, bI_t, bI_f, Bool.false_eq_true, not_true_eq_false, not_false_eq_true, eq_self, reduceCtorEq, Bool.true_eq_false, and_true, true_and, and_false, false_and, or_true, true_or, or_false, false_or]; done))
    refine lv_aload_n hx hb dX2_common_64 rfl (lv_at hl 5 rfl) ?_
    refine lv_iload_n hx hb dX2_common_65 rfl (lv_at hl 8 rfl) ?_
    refine lv_iload hx hb dX2_common_66 (lv_at hl 9 rfl) ?_
    refine p_callV (As := [.int _, .int _]) hx hb hml hown hts hK hZ (met_X2_areEqual l G hM hO i_d i_f) q744 q746 qs15 q43 q747 hv_X2_areEqual rfl hM.1 rfl (by decide) hl.1 rfl (Nat.le_of_ble_eq_true rfl) dX2_common_68 ⟨Nat.zero_le _, Nat.zero_le _⟩ ?_
    refine b_ifne (tgt := 78) hx hb dX2_common_71 rfl (fun c_71 => ?_) (fun c_71 => ?_)
    · skip
      refine lv_iconst (v := 0) hx hb dX2_common_78 ic_0 ?_
      exact K2 _ (by first | with_reducible rfl | (simp only [m_common, c_61, c_71, ↓reduceIte, Bool.true_and, Bool.and_true, Bool.false_and, Bool.and_false, Bool.true_or, Bool.or_true, Bool.false_or, Bool.or_false, Bool.not_true, Bool.not_false, decide_true, decide_false, bI_t, bI_f, Bool.false_eq_true, not_true_eq_false, not_false_eq_true, eq_self, reduceCtorEq, Bool.true_eq_false, and_true, true_and, and_false, false_and, or_true, true_or, or_false, false_or]; done) | (simp only [c_61, ↓reduceIte, Bool.true_and, Bool.and_true, Bool.false_and, Bool.and_false, Bool.true_or, Bool.or_true, Bool.false_or, Bool.or_false, Bool.not_true, Bool.not_false, decide_true, decide_false, bI_t, bI_f, Bool.false_eq_true, not_true_eq_false, not_false_eq_true, eq_self, reduceCtorEq, Bool.true_eq_false, and_true, true_and, and_false, false_and, or_true, true_or, or_false, false_or] at c_71; done) | (simp only [c_71, ↓reduceIte, Bool.true_and, Bool.and_true, Bool.false_and, Bool.and_false, Bool.true_or, Bool.or_true, Bool.false_or, Bool.or_false, Bool.not_true, Bool.not_false, decide_true, decide_false, bI_t, bI_f, Bool.false_eq_true, not_true_eq_false, not_false_eq_true, eq_self, reduceCtorEq, Bool.true_eq_false, and_true, true_and, and_false, false_and, or_true, true_or, or_false, false_or] at c_61; done))
    refine lv_iconst (v := 1) hx hb dX2_common_74 ic_1 ?_
    refine lv_goto (tgt := 79) hx hb dX2_common_75 rfl ?_
    exact K2 _ (by first | with_reducible rfl | (simp only [m_common, c_61, c_71, ↓reduceIte, Bool.true_and, Bool.and_true, Bool.false_and, Bool.and_false, Bool.true_or, Bool.or_true, Bool.false_or, Bool.or_false, Bool.not_true, Bool.not_false, decide_true, decide_false, bI_t, bI_f, Bool.false_eq_true, not_true_eq_false, not_false_eq_true, eq_self, reduceCtorEq, Bool.true_eq_false, and_true, true_and, and_false, false_and, or_true, true_or, or_false, false_or]; done) | (simp only [c_61, ↓reduceIte, Bool.true_and, Bool.and_true, Bool.false_and, Bool.and_false, Bool.true_or, Bool.or_true, Bool.false_or, Bool.or_false, Bool.not_true, Bool.not_false, decide_true, decide_false, bI_t, bI_f, Bool.false_eq_true, not_true_eq_false, not_false_eq_true, eq_self, reduceCtorEq, Bool.true_eq_false, and_true, true_and, and_false, false_and, or_true, true_or, or_false, false_or] at c_71; done) | (simp only [c_71, ↓reduceIte, Bool.true_and, Bool.and_true, Bool.false_and, Bool.and_false, Bool.true_or, Bool.or_true, Bool.false_or, Bool.or_false, Bool.not_true, Bool.not_false, decide_true, decide_false, bI_t, bI_f, Bool.false_eq_true, not_true_eq_false, not_false_eq_true, eq_self, reduceCtorEq, Bool.true_eq_false, and_true, true_and, and_false, false_and, or_true, true_or, or_false, false_or] at c_61; done))
  refine lv_iadd hx hb dX2_common_79 ?_
  refine lv_istore (lv' := [(5, .int _), (9, .int _), (8, .int _), (7, .int _), (6, .int _), (0, .ref _), (1, .int _), (2, .int _), (3, .int _), (4, .int _)]) hx hb dX2_common_80 hl (Nat.le_of_ble_eq_true rfl) rfl (fun ls hl => ?_)
  refine lv_iload hx hb dX2_common_82 (lv_at hl 0 rfl) ?_
  refine cutI (J := 113) (v := if m_isOn (σ.pt d) (σ.pt f) (σ.pt a) && (!s_eq (σ.pt a) (σ.pt d) && !s_eq (σ.pt a) (σ.pt f)) then 1 else 0) ?_ (fun K3 => ?_)
  rotate_left
  · skip
    refine lv_iload hx hb dX2_common_84 (lv_at hl 2 rfl) ?_
    refine b_ifeq (tgt := 112) hx hb dX2_common_86 rfl (fun c_86 => ?_) (fun c_86 => ?_)
    · skip
      refine lv_iconst (v := 0) hx hb dX2_common_112 ic_0 ?_
      exact K3 _ (by first | with_reducible rfl | (simp only [m_common, c_86, ↓reduceIte, Bool.true_and, Bool.and_true, Bool.false_and, Bool.and_false, Bool.true_or, Bool.or_true, Bool.false_or, Bool.or_false, Bool.not_true, Bool.not_false, decide_true, decide_false, bI_t, bI_f, Bool.false_eq_true, not_true_eq_false, not_false_eq_true, eq_self, reduceCtorEq, Bool.true_eq_false, and_true, true_and, and_false, false_and, or_true, true_or, or_false, false_or]; done))
    refine lv_aload_n hx hb dX2_common_89 rfl (lv_at hl 5 rfl) ?_
    refine lv_iload_n hx hb dX2_common_90 rfl (lv_at hl 6 rfl) ?_
    refine lv_iload_n hx hb dX2_common_91 rfl (lv_at hl 8 rfl) ?_
    refine p_callV (As := [.int _, .int _]) hx hb hml hown hts hK hZ (met_X2_areEqual l G hM hO i_a i_d) q744 q746 qs15 q43 q747 hv_X2_areEqual rfl hM.1 rfl (by decide) hl.1 rfl (Nat.le_of_ble_eq_true rfl) dX2_common_92 ⟨Nat.zero_le _, Nat.zero_le _⟩ ?_
    refine b_ifne (tgt := 112) hx hb dX2_common_95 rfl (fun c_95 => ?_) (fun c_95 => ?_)
    · skip
      refine lv_iconst (v := 0) hx hb dX2_common_112 ic_0 ?_
      exact K3 _ (by first | with_reducible rfl | (simp only [m_common, c_86, c_95, ↓reduceIte, Bool.true_and, Bool.and_true, Bool.false_and, Bool.and_false, Bool.true_or, Bool.or_true, Bool.false_or, Bool.or_false, Bool.not_true, Bool.not_false, decide_true, decide_false, bI_t, bI_f, Bool.false_eq_true, not_true_eq_false, not_false_eq_true, eq_self, reduceCtorEq, Bool.true_eq_false, and_true, true_and, and_false, false_and, or_true, true_or, or_false, false_or]; done) | (simp only [c_86, ↓reduceIte, Bool.true_and, Bool.and_true, Bool.false_and, Bool.and_false, Bool.true_or, Bool.or_true, Bool.false_or, Bool.or_false, Bool.not_true, Bool.not_false, decide_true, decide_false, bI_t, bI_f, Bool.false_eq_true, not_true_eq_false, not_false_eq_true, eq_self, reduceCtorEq, Bool.true_eq_false, and_true, true_and, and_false, false_and, or_true, true_or, or_false, false_or] at c_95; done) | (simp only [c_95, ↓reduceIte, Bool.true_and, Bool.and_true, Bool.false_and, Bool.and_false, Bool.true_or, Bool.or_true, Bool.false_or, Bool.or_false, Bool.not_true, Bool.not_false, decide_true, decide_false, bI_t, bI_f, Bool.false_eq_true, not_true_eq_false, not_false_eq_true, eq_self, reduceCtorEq, Bool.true_eq_false, and_true, true_and, and_false, false_and, or_true, true_or, or_false, false_or] at c_86; done))
    refine lv_aload_n hx hb dX2_common_98 rfl (lv_at hl 5 rfl) ?_
    refine lv_iload_n hx hb dX2_common_99 rfl (lv_at hl 6 rfl) ?_
    refine lv_iload hx hb dX2_common_100 (lv_at hl 9 rfl) ?_
    refine p_callV (As := [.int _, .int _]) hx hb hml hown hts hK hZ (met_X2_areEqual l G hM hO i_a i_f) q744 q746 qs15 q43 q747 hv_X2_areEqual rfl hM.1 rfl (by decide) hl.1 rfl (Nat.le_of_ble_eq_true rfl) dX2_common_102 ⟨Nat.zero_le _, Nat.zero_le _⟩ ?_
    refine b_ifne (tgt := 112) hx hb dX2_common_105 rfl (fun c_105 => ?_) (fun c_105 => ?_)
    · skip
      refine lv_iconst (v := 0) hx hb dX2_common_112 ic_0 ?_
      exact K3 _ (by first | with_reducible rfl | (simp only [m_common, c_86, c_95, c_105, ↓reduceIte, Bool.true_and, Bool.and_true, Bool.false_and, Bool.and_false, Bool.true_or, Bool.or_true, Bool.false_or, Bool.or_false, Bool.not_true, Bool.not_false, decide_true, decide_false, bI_t, bI_f, Bool.false_eq_true, not_true_eq_false, not_false_eq_true, eq_self, reduceCtorEq, Bool.true_eq_false, and_true, true_and, and_false, false_and, or_true, true_or, or_false, false_or]; done) | (simp only [c_86, c_95, ↓reduceIte, Bool.true_and, Bool.and_true, Bool.false_and, Bool.and_false, Bool.true_or, Bool.or_true, Bool.false_or, Bool.or_false, Bool.not_true, Bool.not_false, decide_true, decide_false, bI_t, bI_f, Bool.false_eq_true, not_true_eq_false, not_false_eq_true, eq_self, reduceCtorEq, Bool.true_eq_false, and_true, true_and, and_false, false_and, or_true, true_or, or_false, false_or] at c_105; done) | (simp only [c_86, c_105, ↓reduceIte, Bool.true_and, Bool.and_true, Bool.false_and, Bool.and_false, Bool.true_or, Bool.or_true, Bool.false_or, Bool.or_false, Bool.not_true, Bool.not_false, decide_true, decide_false, bI_t, bI_f, Bool.false_eq_true, not_true_eq_false, not_false_eq_true, eq_self, reduceCtorEq, Bool.true_eq_false, and_true, true_and, and_false, false_and, or_true, true_or, or_false, false_or] at c_95; done) | (simp only [c_95, c_105, ↓reduceIte, Bool.true_and, Bool.and_true, Bool.false_and, Bool.and_false, Bool.true_or, Bool.or_true, Bool.false_or, Bool.or_false, Bool.not_true, Bool.not_false, decide_true, decide_false, bI_t, bI_f, Bool.false_eq_true, not_true_eq_false, not_false_eq_true, eq_self, reduceCtorEq, Bool.true_eq_false, and_true, true_and, and_false, false_and, or_true, true_or, or_false, false_or] at c_86; done))
    refine lv_iconst (v := 1) hx hb dX2_common_108 ic_1 ?_
    refine lv_goto (tgt := 113) hx hb dX2_common_109 rfl ?_
    exact K3 _ (by first | with_reducible rfl | (simp only [m_common, c_86, c_95, c_105, ↓reduceIte, Bool.true_and, Bool.and_true, Bool.false_and, Bool.and_false, Bool.true_or, Bool.or_true, Bool.false_or, Bool.or_false, Bool.not_true, Bool.not_false, decide_true, decide_false, bI_t, bI_f, Bool.false_eq_true, not_true_eq_false, not_false_eq_true, eq_self, reduceCtorEq, Bool.true_eq_false, and_true, true_and, and_false, false_and, or_true, true_or, or_false, false_or]; done) | (simp only [c_86, c_95, ↓reduceIte, Bool.true_and, Bool.and_true, Bool.false_and, Bool.and_false, Bool.true_or, Bool.or_true, Bool.false_or, Bool.or_false, Bool.not_true, Bool.not_false, decide_true, decide_false, bI_t, bI_f, Bool.false_eq_true, not_true_eq_false, not_false_eq_true, eq_self, reduceCtorEq, Bool.true_eq_false, and_true, true_and, and_false, false_and, or_true, true_or, or_false, false_or] at c_105; done) | (simp only [c_86, c_105, ↓reduceIte, Bool.true_and, Bool.and_true, Bool.false_and, Bool.and_false, Bool.true_or, Bool.or_true, Bool.false_or, Bool.or_false, Bool.not_true, Bool.not_false, decide_true, decide_false, bI_t, bI_f, Bool.false_eq_true, not_true_eq_false, not_false_eq_true, eq_self, reduceCtorEq, Bool.true_eq_false, and_true, true_and, and_false, false_and, or_true, true_or, or_false, false_or] at c_95; done) | (simp only [c_95, c_105, ↓reduceIte, Bool.true_and, Bool.and_true, Bool.false_and, Bool.and_false, Bool.true_or, Bool.or_true, Bool.false_or, Bool.or_false, Bool.not_true, Bool.not_false, decide_true, decide_false, bI_t, bI_f, Bool.false_eq_true, not_true_eq_false, not_false_eq_true, eq_self, reduceCtorEq, Bool.true_eq_false, and_true, true_and, and_false, false_and, or_true, true_or, or_false, false_or] at c_86; done))
  refine lv_iadd hx hb dX2_common_113 ?_
  refine lv_istore (lv' := [(5, .int _), (9, .int _), (8, .int _), (7, .int _), (6, .int _), (0, .ref _), (1, .int _), (2, .int _), (3, .int _), (4, .int _)]) hx hb dX2_common_114 hl (Nat.le_of_ble_eq_true rfl) rfl (fun ls hl => ?_)
  refine lv_iload hx hb dX2_common_116 (lv_at hl 0 rfl) ?_
  refine cutI (J := 156) (v := if m_isOn (σ.pt d) (σ.pt f) (σ.pt b) && (!s_eq (σ.pt b) (σ.pt d) && (!s_eq (σ.pt b) (σ.pt f) && !s_eq (σ.pt a) (σ.pt b))) then 1 else 0) ?_ (fun K4 => ?_)
  rotate_left
  · skip
    refine lv_iload hx hb dX2_common_118 (lv_at hl 1 rfl) ?_
    refine b_ifeq (tgt := 155) hx hb dX2_common_120 rfl (fun c_120 => ?_) (fun c_120 => ?_)
    · skip
      refine lv_iconst (v := 0) hx hb dX2_common_155 ic_0 ?_
      exact K4 _ (by first | with_reducible rfl | (simp only [m_common, c_120, ↓reduceIte, Bool.true_and, Bool.and_true, Bool.false_and, Bool.and_false, Bool.true_or, Bool.or_true, Bool.false_or, Bool.or_false, Bool.not_true, Bool.not_false, decide_true, decide_false, bI_t, bI_f, Bool.false_eq_true, not_true_eq_false, not_false_eq_true, eq_self, reduceCtorEq, Bool.true_eq_false, and_true, true_and, and_false, false_and, or_true, true_or, or_false, false_or]; done))
    refine lv_aload_n hx hb dX2_common_123 rfl (lv_at hl 5 rfl) ?_
    refine lv_iload_n hx hb dX2_common_124 rfl (lv_at hl 7 rfl) ?_
    refine lv_iload_n hx hb dX2_common_125 rfl (lv_at hl 8 rfl) ?_
    refine p_callV (As := [.int _, .int _]) hx hb hml hown hts hK hZ (met_X2_areEqual l G hM hO i_b i_d) q744 q746 qs15 q43 q747 hv_X2_areEqual rfl hM.1 rfl (by decide) hl.1 rfl (Nat.le_of_ble_eq_true rfl) dX2_common_126 ⟨Nat.zero_le _, Nat.zero_le _⟩ ?_
    refine b_ifne (tgt := 155) hx hb dX2_common_129 rfl (fun c_129 => ?_) (fun c_129 => ?_)
    · skip
      refine lv_iconst (v := 0) hx hb dX2_common_155 ic_0 ?_
      exact K4 _ (by first | with_reducible rfl | (simp only [m_common, c_120, c_129, ↓reduceIte, Bool.true_and, Bool.and_true, Bool.false_and, Bool.and_false, Bool.true_or, Bool.or_true, Bool.false_or, Bool.or_false, Bool.not_true, Bool.not_false, decide_true, decide_false, bI_t, bI_f, Bool.false_eq_true, not_true_eq_false, not_false_eq_true, eq_self, reduceCtorEq, Bool.true_eq_false, and_true, true_and, and_false, false_and, or_true, true_or, or_false, false_or]; done) | (simp only [c_120, ↓reduceIte, Bool.true_and, Bool.and_true, Bool.false_and, Bool.and_false, Bool.true_or, Bool.or_true, Bool.false_or, Bool.or_false, Bool.not_true, Bool.not_false, decide_true, decide_false, bI_t, bI_f, Bool.false_eq_true, not_true_eq_false, not_false_eq_true, eq_self, reduceCtorEq, Bool.true_eq_false, and_true, true_and, and_false, false_and, or_true, true_or, or_false, false_or] at c_129; done) | (simp only [c_129, ↓reduceIte, Bool.true_and, Bool.and_true, Bool.false_and, Bool.and_false, Bool.true_or, Bool.or_true, Bool.false_or, Bool.or_false, Bool.not_true, Bool.not_false, decide_true, decide_false, bI_t, bI_f, Bool.false_eq_true, not_true_eq_false, not_false_eq_true, eq_self, reduceCtorEq, Bool.true_eq_false, and_true, true_and, and_false, false_and, or_true, true_or, or_false, false_or] at c_120; done))
    refine lv_aload_n hx hb dX2_common_132 rfl (lv_at hl 5 rfl) ?_
    refine lv_iload_n hx hb dX2_common_133 rfl (lv_at hl 7 rfl) ?_
    refine lv_iload hx hb dX2_common_134 (lv_at hl 9 rfl) ?_
    refine p_callV (As := [.int _, .int _]) hx hb hml hown hts hK hZ (met_X2_areEqual l G hM hO i_b i_f) q744 q746 qs15 q43 q747 hv_X2_areEqual rfl hM.1 rfl (by decide) hl.1 rfl (Nat.le_of_ble_eq_true rfl) dX2_common_136 ⟨Nat.zero_le _, Nat.zero_le _⟩ ?_
    refine b_ifne (tgt := 155) hx hb dX2_common_139 rfl (fun c_139 => ?_) (fun c_139 => ?_)
    · skip
      refine lv_iconst (v := 0) hx hb dX2_common_155 ic_0 ?_
      exact K4 _ (by first | with_reducible rfl | (simp only [m_common, c_120, c_129, c_139, ↓reduceIte, Bool.true_and, Bool.and_true, Bool.false_and, Bool.and_false, Bool.true_or, Bool.or_true, Bool.false_or, Bool.or_false, Bool.not_true, Bool.not_false, decide_true, decide_false, bI_t, bI_f, Bool.false_eq_true, not_true_eq_false, not_false_eq_true, eq_self, reduceCtorEq, Bool.true_eq_false, and_true, true_and, and_false, false_and, or_true, true_or, or_false, false_or]; done) | (simp only [c_120, c_129, ↓reduceIte, Bool.true_and, Bool.and_true, Bool.false_and, Bool.and_false, Bool.true_or, Bool.or_true, Bool.false_or, Bool.or_false, Bool.not_true, Bool.not_false, decide_true, decide_false, bI_t, bI_f, Bool.false_eq_true, not_true_eq_false, not_false_eq_true, eq_self, reduceCtorEq, Bool.true_eq_false, and_true, true_and, and_false, false_and, or_true, true_or, or_false, false_or] at c_139; done) | (simp only [c_120, c_139, ↓reduceIte, Bool.true_and, Bool.and_true, Bool.false_and, Bool.and_false, Bool.true_or, Bool.or_true, Bool.false_or, Bool.or_false, Bool.not_true, Bool.not_false, decide_true, decide_false, bI_t, bI_f, Bool.false_eq_true, not_true_eq_false, not_false_eq_true, eq_self, reduceCtorEq, Bool.true_eq_false, and_true, true_and, and_false, false_and, or_true, true_or, or_false, false_or] at c_129; done) | (simp only [c_129, c_139, ↓reduceIte, Bool.true_and, Bool.and_true, Bool.false_and, Bool.and_false, Bool.true_or, Bool.or_true, Bool.false_or, Bool.or_false, Bool.not_true, Bool.not_false, decide_true, decide_false, bI_t, bI_f, Bool.false_eq_true, not_true_eq_false, not_false_eq_true, eq_self, reduceCtorEq, Bool.true_eq_false, and_true, true_and, and_false, false_and, or_true, true_or, or_false, false_or] at c_120; done))
    refine lv_aload_n hx hb dX2_common_142 rfl (lv_at hl 5 rfl) ?_
    refine lv_iload_n hx hb dX2_common_143 rfl (lv_at hl 6 rfl) ?_
    refine lv_iload_n hx hb dX2_common_144 rfl (lv_at hl 7 rfl) ?_
    refine p_callV (As := [.int _, .int _]) hx hb hml hown hts hK hZ (met_X2_areEqual l G hM hO i_a i_b) q744 q746 qs15 q43 q747 hv_X2_areEqual rfl hM.1 rfl (by decide) hl.1 rfl (Nat.le_of_ble_eq_true rfl) dX2_common_145 ⟨Nat.zero_le _, Nat.zero_le _⟩ ?_
    refine b_ifne (tgt := 155) hx hb dX2_common_148 rfl (fun c_148 => ?_) (fun c_148 => ?_)
    · skip
      refine lv_iconst (v := 0) hx hb dX2_common_155 ic_0 ?_
      exact K4 _ (by first | with_reducible rfl | (simp only [m_common, c_120, c_129, c_139, c_148, ↓reduceIte, Bool.true_and, Bool.and_true, Bool.false_and, Bool.and_false, Bool.true_or, Bool.or_true, Bool.false_or, Bool.or_false, Bool.not_true, Bool.not_false, decide_true, decide_false, bI_t, bI_f, Bool.false_eq_true, not_true_eq_false, not_false_eq_true, eq_self, reduceCtorEq, Bool.true_eq_false, and_true, true_and, and_false, false_and, or_true, true_or, or_false, false_or]; done) | (simp only [c_120, c_129, c_139, ↓reduceIte, Bool.true_and, Bool.and_true, Bool.false_and, Bool.and_false, Bool.true_or, Bool.or_true, Bool.false_or, Bool.or_false, Bool.not_true, Bool.not_false, decide_true, decide_false, bI_t, bI_f, Bool.false_eq_true, not_true_eq_false, not_false_eq_true, eq_self, reduceCtorEq, Bool.true_eq_false, and_true, true_and, and_false, false_and, or_true, true_or, or_false, false_or] at c_148; done) | (simp only [c_120, c_129, c_148, ↓reduceIte, Bool.true_and, Bool.and_true, Bool.false_and, Bool.and_false, Bool.true_or, Bool.or_true, Bool.false_or, Bool.or_false, Bool.not_true, Bool.not_false, decide_true, decide_false, bI_t, bI_f, Bool.false_eq_true, not_true_eq_false, not_false_eq_true, eq_self, reduceCtorEq, Bool.true_eq_false, and_true, true_and, and_false, false_and, or_true, true_or, or_false, false_or] at c_139; done) | (simp only [c_120, c_139, c_148, ↓reduceIte, Bool.true_and, Bool.and_true, Bool.false_and, Bool.and_false, Bool.true_or, Bool.or_true, Bool.false_or, Bool.or_false, Bool.not_true, Bool.not_false, decide_true, decide_false, bI_t, bI_f, Bool.false_eq_true, not_true_eq_false, not_false_eq_true, eq_self, reduceCtorEq, Bool.true_eq_false, and_true, true_and, and_false, false_and, or_true, true_or, or_false, false_or] at c_129; done) | (simp only [c_129, c_139, c_148, ↓reduceIte, Bool.true_and, Bool.and_true, Bool.false_and, Bool.and_false, Bool.true_or, Bool.or_true, Bool.false_or, Bool.or_false, Bool.not_true, Bool.not_false, decide_true, decide_false, bI_t, bI_f, Bool.false_eq_true, not_true_eq_false, not_false_eq_true, eq_self, reduceCtorEq, Bool.true_eq_false, and_true, true_and, and_false, false_and, or_true, true_or, or_false, false_or] at c_120; done))
    refine lv_iconst (v := 1) hx hb dX2_common_151 ic_1 ?_
    refine lv_goto (tgt := 156) hx hb dX2_common_152 rfl ?_
    exact K4 _ (by first | with_reducible rfl | (simp only [m_common, c_120, c_129, c_139, c_148, ↓reduceIte, Bool.true_and, Bool.and_true, Bool.false_and, Bool.and_false, Bool.true_or, Bool.or_true, Bool.false_or, Bool.or_false, Bool.not_true, Bool.not_false, decide_true, decide_false, bI_t, bI_f, Bool.false_eq_true, not_true_eq_false, not_false_eq_true, eq_self, reduceCtorEq, Bool.true_eq_false, and_true, true_and, and_false, false_and, or_true, true_or, or_false, false_or]; done) | (simp only [c_120, c_129, c_139, ↓reduceIte, Bool.true_and, Bool.and_true, Bool.false_and, Bool.and_false, Bool.true_or, Bool.or_true, Bool.false_or, Bool.or_false, Bool.not_true, Bool.not_false, decide_true, decide_false, bI_t, bI_f, Bool.false_eq_true, not_true_eq_false, not_false_eq_true, eq_self, reduceCtorEq, Bool.true_eq_false, and_true, true_and, and_false, false_and, or_true, true_or, or_false, false_or] at c_148; done) | (simp only [c_120, c_129, c_148, ↓reduceIte, Bool.true_and, Bool.and_true, Bool.false_and, Bool.and_false, Bool.true_or, Bool.or_true, Bool.false_or, Bool.or_false, Bool.not_true, Bool.not_false, decide_true, decide_false, bI_t, bI_f, Bool.false_eq_true, not_true_eq_false, not_false_eq_true, eq_self, reduceCtorEq, Bool.true_eq_false, and_true, true_and, and_false, false_and, or_true, true_or, or_false, false_or] at c_139; done) | (simp only [c_120, c_139, c_148, ↓reduceIte, Bool.true_and, Bool.and_true, Bool.false_and, Bool.and_false, Bool.true_or, Bool.or_true, Bool.false_or, Bool.or_false, Bool.not_true, Bool.not_false, decide_true, decide_false, bI_t, bI_f, Bool.false_eq_true, not_true_eq_false, not_false_eq_true, eq_self, reduceCtorEq, Bool.true_eq_false, and_true, true_and, and_false, false_and, or_true, true_or, or_false, false_or] at c_129; done) | (simp only [c_129, c_139, c_148, ↓reduceIte, Bool.true_and, Bool.and_true, Bool.false_and, Bool.and_false, Bool.true_or, Bool.or_true, Bool.false_or, Bool.or_false, Bool.not_true, Bool.not_false, decide_true, decide_false, bI_t, bI_f, Bool.false_eq_true, not_true_eq_false, not_false_eq_true, eq_self, reduceCtorEq, Bool.true_eq_false, and_true, true_and, and_false, false_and, or_true, true_or, or_false, false_or] at c_120; done))
  refine lv_iadd hx hb dX2_common_156 ?_
  refine lv_istore (lv' := [(5, .int _), (9, .int _), (8, .int _), (7, .int _), (6, .int _), (0, .ref _), (1, .int _), (2, .int _), (3, .int _), (4, .int _)]) hx hb dX2_common_157 hl (Nat.le_of_ble_eq_true rfl) rfl (fun ls hl => ?_)
  refine lv_iload hx hb dX2_common_159 (lv_at hl 0 rfl) ?_
  refine lv_iconst (v := 1) hx hb dX2_common_161 ic_1 ?_
  refine lv_icmp_le (tgt := 169) hx hb dX2_common_162 rfl (fun c_162 => ?_) (fun c_162 => ?_)
  · skip
    refine lv_iload hx hb dX2_common_169 (lv_at hl 0 rfl) ?_
    exact pm_iret hx hb hr hlk hH dX2_common_171 (by first | with_reducible rfl | (simp only [m_common, c_162, Int32.not_lt.mpr c_162, ↓reduceIte, Bool.true_and, Bool.and_true, Bool.false_and, Bool.and_false, Bool.true_or, Bool.or_true, Bool.false_or, Bool.or_false, Bool.not_true, Bool.not_false, decide_true, decide_false, bI_t, bI_f, Bool.false_eq_true, not_true_eq_false, not_false_eq_true, eq_self, reduceCtorEq, Bool.true_eq_false, and_true, true_and, and_false, false_and, or_true, true_or, or_false, false_or]; done))
  refine lv_iconst (v := 2) hx hb dX2_common_165 ic_2 ?_
  refine lv_goto (tgt := 171) hx hb dX2_common_166 rfl ?_
  exact pm_iret hx hb hr hlk hH dX2_common_171 (by first | with_reducible rfl | (simp only [m_common, c_162, Int32.not_le.mp c_162, ↓reduceIte, Bool.true_and, Bool.and_true, Bool.false_and, Bool.and_false, Bool.true_or, Bool.or_true, Bool.false_or, Bool.or_false, Bool.not_true, Bool.not_false, decide_true, decide_false, bI_t, bI_f, Bool.false_eq_true, not_true_eq_false, not_false_eq_true, eq_self, reduceCtorEq, Bool.true_eq_false, and_true, true_and, and_false, false_and, or_true, true_or, or_false, false_or]; done))
theorem dX2_far_0 : decode cX2_far 0 = .ok (.aload_n 0, 1) := by decide +kernel
theorem dX2_far_1 : decode cX2_far 1 = .ok (.iload_n 1, 1) := by decide +kernel
theorem dX2_far_2 : decode cX2_far 2 = .ok (.iload_n 2, 1) := by decide +kernel
theorem dX2_far_3 : decode cX2_far 3 = .ok (.iload_n 2, 1) := by decide +kernel
theorem dX2_far_4 : decode cX2_far 4 = .ok (.invokevirtual 127, 3) := by decide +kernel
theorem dX2_far_7 : decode cX2_far 7 = .ok (.lreturn, 1) := by decide +kernel
set_option maxHeartbeats 4000000 in
theorem met_X2_far (l : Launch) (G : GG) {H : Heap} {o : Nat} {A : Nat → Nat} {σ : Sg} {th : Int32} {a b : Nat} (hM : MW G H o A σ th) (hO : Ok σ) (i_a : a < σ.np) (i_b : b < σ.np) : PM l yX2_far cX2_far 3 (some .long) 1 23 G H [.ref o, .int (nI a), .int (nI b)] (some (.long (s_far (σ.pt a) (σ.pt b)))) := by
  refine pm_intro pl_X2_far (Nat.le_of_ble_eq_true rfl) ?_
  intro pX eX sX mX belX methX cX ls hE hnm hl
  obtain ⟨hx, hb, hr, hlk, hml, hown, hts, hK, hZ, hH⟩ := hE
  have hl : lv_has ls 3 [(0, .ref o), (1, .int (nI a)), (2, .int (nI b))] := hl
  refine lv_aload_n hx hb dX2_far_0 rfl (lv_at hl 0 rfl) ?_
  refine lv_iload_n hx hb dX2_far_1 rfl (lv_at hl 1 rfl) ?_
  refine lv_iload_n hx hb dX2_far_2 rfl (lv_at hl 2 rfl) ?_
  refine lv_iload_n hx hb dX2_far_3 rfl (lv_at hl 2 rfl) ?_
  refine p_callV (As := [.int _, .int _, .int _]) hx hb hml hown hts hK hZ (met_X2_along l G hM hO i_a i_b i_b) q812 q814 qs25 q43 q815 hv_X2_along rfl hM.1 rfl (by decide) hl.1 rfl (Nat.le_of_ble_eq_true rfl) dX2_far_4 ⟨Nat.zero_le _, Nat.zero_le _⟩ ?_
  exact pm_lret hx hb hr hlk hH dX2_far_7 (by first | with_reducible rfl | (simp only [s_far, s_along, ↓reduceIte, Bool.true_and, Bool.and_true, Bool.false_and, Bool.and_false, Bool.true_or, Bool.or_true, Bool.false_or, Bool.or_false, Bool.not_true, Bool.not_false, decide_true, decide_false, bI_t, bI_f, Bool.false_eq_true, not_true_eq_false, not_false_eq_true, eq_self, reduceCtorEq, Bool.true_eq_false, and_true, true_and, and_false, false_and, or_true, true_or, or_false, false_or]; done))
theorem dX2_half_0 : decode cX2_half 0 = .ok (.aload_n 0, 1) := by decide +kernel
theorem dX2_half_1 : decode cX2_half 1 = .ok (.getfield 17, 3) := by decide +kernel
theorem dX2_half_4 : decode cX2_half 4 = .ok (.iload_n 2, 1) := by decide +kernel
theorem dX2_half_5 : decode cX2_half 5 = .ok (.iaload, 1) := by decide +kernel
theorem dX2_half_6 : decode cX2_half 6 = .ok (.aload_n 0, 1) := by decide +kernel
theorem dX2_half_7 : decode cX2_half 7 = .ok (.getfield 17, 3) := by decide +kernel
theorem dX2_half_10 : decode cX2_half 10 = .ok (.iload_n 1, 1) := by decide +kernel
theorem dX2_half_11 : decode cX2_half 11 = .ok (.iaload, 1) := by decide +kernel
theorem dX2_half_12 : decode cX2_half 12 = .ok (.if_icmp .gt 33, 3) := by decide +kernel
theorem dX2_half_15 : decode cX2_half 15 = .ok (.aload_n 0, 1) := by decide +kernel
theorem dX2_half_16 : decode cX2_half 16 = .ok (.getfield 17, 3) := by decide +kernel
theorem dX2_half_19 : decode cX2_half 19 = .ok (.iload_n 2, 1) := by decide +kernel
theorem dX2_half_20 : decode cX2_half 20 = .ok (.iaload, 1) := by decide +kernel
theorem dX2_half_21 : decode cX2_half 21 = .ok (.aload_n 0, 1) := by decide +kernel
theorem dX2_half_22 : decode cX2_half 22 = .ok (.getfield 17, 3) := by decide +kernel
theorem dX2_half_25 : decode cX2_half 25 = .ok (.iload_n 1, 1) := by decide +kernel
theorem dX2_half_26 : decode cX2_half 26 = .ok (.iaload, 1) := by decide +kernel
theorem dX2_half_27 : decode cX2_half 27 = .ok (.if_icmp .ne 22, 3) := by decide +kernel
theorem dX2_half_30 : decode cX2_half 30 = .ok (.aload_n 0, 1) := by decide +kernel
theorem dX2_half_31 : decode cX2_half 31 = .ok (.getfield 13, 3) := by decide +kernel
theorem dX2_half_34 : decode cX2_half 34 = .ok (.iload_n 2, 1) := by decide +kernel
theorem dX2_half_35 : decode cX2_half 35 = .ok (.iaload, 1) := by decide +kernel
theorem dX2_half_36 : decode cX2_half 36 = .ok (.aload_n 0, 1) := by decide +kernel
theorem dX2_half_37 : decode cX2_half 37 = .ok (.getfield 13, 3) := by decide +kernel
theorem dX2_half_40 : decode cX2_half 40 = .ok (.iload_n 1, 1) := by decide +kernel
theorem dX2_half_41 : decode cX2_half 41 = .ok (.iaload, 1) := by decide +kernel
theorem dX2_half_42 : decode cX2_half 42 = .ok (.if_icmp .le 7, 3) := by decide +kernel
theorem dX2_half_45 : decode cX2_half 45 = .ok (.iconst 0, 1) := by decide +kernel
theorem dX2_half_46 : decode cX2_half 46 = .ok (.goto 4, 3) := by decide +kernel
theorem dX2_half_49 : decode cX2_half 49 = .ok (.iconst 1, 1) := by decide +kernel
theorem dX2_half_50 : decode cX2_half 50 = .ok (.ireturn, 1) := by decide +kernel
set_option maxHeartbeats 4000000 in
theorem met_X2_half (l : Launch) (G : GG) {H : Heap} {o : Nat} {A : Nat → Nat} {σ : Sg} {th : Int32} {a b : Nat} (hM : MW G H o A σ th) (hO : Ok σ) (i_a : a < σ.np) (i_b : b < σ.np) : PM l yX2_half cX2_half 3 (some .int) 0 0 G H [.ref o, .int (nI a), .int (nI b)] (some (.int (m_half (σ.pt a) (σ.pt b)))) := by
  refine pm_intro pl_X2_half (Nat.le_of_ble_eq_true rfl) ?_
  intro pX eX sX mX belX methX cX ls hE hnm hl
  obtain ⟨hx, hb, hr, hlk, hml, hown, hts, hK, hZ, hH⟩ := hE
  have hl : lv_has ls 3 [(0, .ref o), (1, .int (nI a)), (2, .int (nI b))] := hl
  refine lv_aload_n hx hb dX2_half_0 rfl (lv_at hl 0 rfl) ?_
  refine gf_X2_17 hx hb hts hown hK hM.1 rfl dX2_half_1 ?_
  refine lv_iload_n hx hb dX2_half_4 rfl (lv_at hl 2 rfl) ?_
  refine r_iald hx hb hK hM.2.2.1 dX2_half_5 (k := b) (hO.lt60 i_b) (by decide) rfl rfl ?_
  refine lv_aload_n hx hb dX2_half_6 rfl (lv_at hl 0 rfl) ?_
  refine gf_X2_17 hx hb hts hown hK hM.1 rfl dX2_half_7 ?_
  refine lv_iload_n hx hb dX2_half_10 rfl (lv_at hl 1 rfl) ?_
  refine r_iald hx hb hK hM.2.2.1 dX2_half_11 (k := a) (hO.lt60 i_a) (by decide) rfl rfl ?_
  refine lv_icmp_gt (tgt := 45) hx hb dX2_half_12 rfl (fun c_12 => ?_) (fun c_12 => ?_)
  · skip
    refine lv_iconst (v := 0) hx hb dX2_half_45 ic_0 ?_
    refine lv_goto (tgt := 50) hx hb dX2_half_46 rfl ?_
    exact pm_iret hx hb hr hlk hH dX2_half_50 (by first | with_reducible rfl | (simp only [m_half, c_12, Int32.not_le.mpr c_12, ↓reduceIte, Bool.true_and, Bool.and_true, Bool.false_and, Bool.and_false, Bool.true_or, Bool.or_true, Bool.false_or, Bool.or_false, Bool.not_true, Bool.not_false, decide_true, decide_false, bI_t, bI_f, Bool.false_eq_true, not_true_eq_false, not_false_eq_true, eq_self, reduceCtorEq, Bool.true_eq_false, and_true, true_and, and_false, false_and, or_true, true_or, or_false, false_or]; done))
  refine lv_aload_n hx hb dX2_half_15 rfl (lv_at hl 0 rfl) ?_
  refine gf_X2_17 hx hb hts hown hK hM.1 rfl dX2_half_16 ?_
  refine lv_iload_n hx hb dX2_half_19 rfl (lv_at hl 2 rfl) ?_
  refine r_iald hx hb hK hM.2.2.1 dX2_half_20 (k := b) (hO.lt60 i_b) (by decide) rfl rfl ?_
  refine lv_aload_n hx hb dX2_half_21 rfl (lv_at hl 0 rfl) ?_
  refine gf_X2_17 hx hb hts hown hK hM.1 rfl dX2_half_22 ?_
  refine lv_iload_n hx hb dX2_half_25 rfl (lv_at hl 1 rfl) ?_
  refine r_iald hx hb hK hM.2.2.1 dX2_half_26 (k := a) (hO.lt60 i_a) (by decide) rfl rfl ?_
  refine lv_icmp_ne (tgt := 49) hx hb dX2_half_27 rfl (fun c_27 => ?_) (fun c_27 => ?_)
  · skip
    refine lv_iconst (v := 1) hx hb dX2_half_49 ic_1 ?_
    exact pm_iret hx hb hr hlk hH dX2_half_50 (by first | with_reducible rfl | (simp only [m_half, c_12, Int32.not_lt.mp c_12, c_27, ↓reduceIte, Bool.true_and, Bool.and_true, Bool.false_and, Bool.and_false, Bool.true_or, Bool.or_true, Bool.false_or, Bool.or_false, Bool.not_true, Bool.not_false, decide_true, decide_false, bI_t, bI_f, Bool.false_eq_true, not_true_eq_false, not_false_eq_true, eq_self, reduceCtorEq, Bool.true_eq_false, and_true, true_and, and_false, false_and, or_true, true_or, or_false, false_or]; done) | (simp only [c_12, Int32.not_lt.mp c_12, ↓reduceIte, Bool.true_and, Bool.and_true, Bool.false_and, Bool.and_false, Bool.true_or, Bool.or_true, Bool.false_or, Bool.or_false, Bool.not_true, Bool.not_false, decide_true, decide_false, bI_t, bI_f, Bool.false_eq_true, not_true_eq_false, not_false_eq_true, eq_self, reduceCtorEq, Bool.true_eq_false, and_true, true_and, and_false, false_and, or_true, true_or, or_false, false_or] at c_27; done) | (simp only [c_27, ↓reduceIte, Bool.true_and, Bool.and_true, Bool.false_and, Bool.and_false, Bool.true_or, Bool.or_true, Bool.false_or, Bool.or_false, Bool.not_true, Bool.not_false, decide_true, decide_false, bI_t, bI_f, Bool.false_eq_true, not_true_eq_false, not_false_eq_true, eq_self, reduceCtorEq, Bool.true_eq_false, and_true, true_and, and_false, false_and, or_true, true_or, or_false, false_or] at c_12; done))
  refine lv_aload_n hx hb dX2_half_30 rfl (lv_at hl 0 rfl) ?_
  refine gf_X2_13 hx hb hts hown hK hM.1 rfl dX2_half_31 ?_
  refine lv_iload_n hx hb dX2_half_34 rfl (lv_at hl 2 rfl) ?_
  refine r_iald hx hb hK hM.2.1 dX2_half_35 (k := b) (hO.lt60 i_b) (by decide) rfl rfl ?_
  refine lv_aload_n hx hb dX2_half_36 rfl (lv_at hl 0 rfl) ?_
  refine gf_X2_13 hx hb hts hown hK hM.1 rfl dX2_half_37 ?_
  refine lv_iload_n hx hb dX2_half_40 rfl (lv_at hl 1 rfl) ?_
  refine r_iald hx hb hK hM.2.1 dX2_half_41 (k := a) (hO.lt60 i_a) (by decide) rfl rfl ?_
  refine lv_icmp_le (tgt := 49) hx hb dX2_half_42 rfl (fun c_42 => ?_) (fun c_42 => ?_)
  · skip
    refine lv_iconst (v := 1) hx hb dX2_half_49 ic_1 ?_
    exact pm_iret hx hb hr hlk hH dX2_half_50 (by first | with_reducible rfl | (simp only [m_half, c_12, Int32.not_lt.mp c_12, eq_true c_27, c_42, Int32.not_lt.mpr c_42, ↓reduceIte, Bool.true_and, Bool.and_true, Bool.false_and, Bool.and_false, Bool.true_or, Bool.or_true, Bool.false_or, Bool.or_false, Bool.not_true, Bool.not_false, decide_true, decide_false, bI_t, bI_f, Bool.false_eq_true, not_true_eq_false, not_false_eq_true, eq_self, reduceCtorEq, Bool.true_eq_false, and_true, true_and, and_false, false_and, or_true, true_or, or_false, false_or]; done) | (simp only [c_12, Int32.not_lt.mp c_12, eq_true c_27, ↓reduceIte, Bool.true_and, Bool.and_true, Bool.false_and, Bool.and_false, Bool.true_or, Bool.or_true, Bool.false_or, Bool.or_false, Bool.not_true, Bool.not_false, decide_true, decide_false, bI_t, bI_f, Bool.false_eq_true, not_true_eq_false, not_false_eq_true, eq_self, reduceCtorEq, Bool.true_eq_false, and_true, true_and, and_false, false_and, or_true, true_or, or_false, false_or] at c_42; done) | (simp only [c_12, Int32.not_lt.mp c_12, c_42, Int32.not_lt.mpr c_42, ↓reduceIte, Bool.true_and, Bool.and_true, Bool.false_and, Bool.and_false, Bool.true_or, Bool.or_true, Bool.false_or, Bool.or_false, Bool.not_true, Bool.not_false, decide_true, decide_false, bI_t, bI_f, Bool.false_eq_true, not_true_eq_false, not_false_eq_true, eq_self, reduceCtorEq, Bool.true_eq_false, and_true, true_and, and_false, false_and, or_true, true_or, or_false, false_or] at c_27; done) | (simp only [eq_true c_27, c_42, Int32.not_lt.mpr c_42, ↓reduceIte, Bool.true_and, Bool.and_true, Bool.false_and, Bool.and_false, Bool.true_or, Bool.or_true, Bool.false_or, Bool.or_false, Bool.not_true, Bool.not_false, decide_true, decide_false, bI_t, bI_f, Bool.false_eq_true, not_true_eq_false, not_false_eq_true, eq_self, reduceCtorEq, Bool.true_eq_false, and_true, true_and, and_false, false_and, or_true, true_or, or_false, false_or] at c_12; done))
  refine lv_iconst (v := 0) hx hb dX2_half_45 ic_0 ?_
  refine lv_goto (tgt := 50) hx hb dX2_half_46 rfl ?_
  exact pm_iret hx hb hr hlk hH dX2_half_50 (by first | with_reducible rfl | (simp only [m_half, c_12, Int32.not_lt.mp c_12, eq_true c_27, c_42, Int32.not_le.mp c_42, ↓reduceIte, Bool.true_and, Bool.and_true, Bool.false_and, Bool.and_false, Bool.true_or, Bool.or_true, Bool.false_or, Bool.or_false, Bool.not_true, Bool.not_false, decide_true, decide_false, bI_t, bI_f, Bool.false_eq_true, not_true_eq_false, not_false_eq_true, eq_self, reduceCtorEq, Bool.true_eq_false, and_true, true_and, and_false, false_and, or_true, true_or, or_false, false_or]; done) | (simp only [c_12, Int32.not_lt.mp c_12, eq_true c_27, ↓reduceIte, Bool.true_and, Bool.and_true, Bool.false_and, Bool.and_false, Bool.true_or, Bool.or_true, Bool.false_or, Bool.or_false, Bool.not_true, Bool.not_false, decide_true, decide_false, bI_t, bI_f, Bool.false_eq_true, not_true_eq_false, not_false_eq_true, eq_self, reduceCtorEq, Bool.true_eq_false, and_true, true_and, and_false, false_and, or_true, true_or, or_false, false_or] at c_42; done) | (simp only [c_12, Int32.not_lt.mp c_12, c_42, Int32.not_le.mp c_42, ↓reduceIte, Bool.true_and, Bool.and_true, Bool.false_and, Bool.and_false, Bool.true_or, Bool.or_true, Bool.false_or, Bool.or_false, Bool.not_true, Bool.not_false, decide_true, decide_false, bI_t, bI_f, Bool.false_eq_true, not_true_eq_false, not_false_eq_true, eq_self, reduceCtorEq, Bool.true_eq_false, and_true, true_and, and_false, false_and, or_true, true_or, or_false, false_or] at c_27; done) | (simp only [eq_true c_27, c_42, Int32.not_le.mp c_42, ↓reduceIte, Bool.true_and, Bool.and_true, Bool.false_and, Bool.and_false, Bool.true_or, Bool.or_true, Bool.false_or, Bool.or_false, Bool.not_true, Bool.not_false, decide_true, decide_false, bI_t, bI_f, Bool.false_eq_true, not_true_eq_false, not_false_eq_true, eq_self, reduceCtorEq, Bool.true_eq_false, and_true, true_and, and_false, false_and, or_true, true_or, or_false, false_or] at c_12; done))
theorem dX2_isMany_0 : decode cX2_isMany 0 = .ok (.iload_n 1, 1) := by decide +kernel
theorem dX2_isMany_1 : decode cX2_isMany 1 = .ok (.iload_n 2, 1) := by decide +kernel
theorem dX2_isMany_2 : decode cX2_isMany 2 = .ok (.if_icmp .lt 15, 3) := by decide +kernel
theorem dX2_isMany_5 : decode cX2_isMany 5 = .ok (.iload_n 1, 1) := by decide +kernel
theorem dX2_isMany_6 : decode cX2_isMany 6 = .ok (.aload_n 0, 1) := by decide +kernel
theorem dX2_isMany_7 : decode cX2_isMany 7 = .ok (.getfield 66, 3) := by decide +kernel
theorem dX2_isMany_10 : decode cX2_isMany 10 = .ok (.if_icmp .gt 7, 3) := by decide +kernel
theorem dX2_isMany_13 : decode cX2_isMany 13 = .ok (.iconst 1, 1) := by decide +kernel
theorem dX2_isMany_14 : decode cX2_isMany 14 = .ok (.goto 4, 3) := by decide +kernel
theorem dX2_isMany_17 : decode cX2_isMany 17 = .ok (.iconst 0, 1) := by decide +kernel
theorem dX2_isMany_18 : decode cX2_isMany 18 = .ok (.ireturn, 1) := by decide +kernel
set_option maxHeartbeats 4000000 in
theorem met_X2_isMany (l : Launch) (G : GG) {H : Heap} {o : Nat} {A : Nat → Nat} {σ : Sg} {th : Int32} {n k : Int32} (hM : MW G H o A σ th) : PM l yX2_isMany cX2_isMany 3 (some .boolean) 0 0 G H [.ref o, .int n, .int k] (some (.int (bI (m_isMany σ.rn n k)))) := by
  refine pm_intro pl_X2_isMany (Nat.le_of_ble_eq_true rfl) ?_
  intro pX eX sX mX belX methX cX ls hE hnm hl
  obtain ⟨hx, hb, hr, hlk, hml, hown, hts, hK, hZ, hH⟩ := hE
  have hl : lv_has ls 3 [(0, .ref o), (1, .int n), (2, .int k)] := hl
  refine lv_iload_n hx hb dX2_isMany_0 rfl (lv_at hl 1 rfl) ?_
  refine lv_iload_n hx hb dX2_isMany_1 rfl (lv_at hl 2 rfl) ?_
  refine lv_icmp_lt (tgt := 17) hx hb dX2_isMany_2 rfl (fun c_2 => ?_) (fun c_2 => ?_)
  · skip
    refine lv_iconst (v := 0) hx hb dX2_isMany_17 ic_0 ?_
    exact pm_zret hx hb hr hlk hH dX2_isMany_18 (by first | with_reducible rfl | (simp only [m_isMany, c_2, Int32.not_le.mpr c_2, ↓reduceIte, Bool.true_and, Bool.and_true, Bool.false_and, Bool.and_false, Bool.true_or, Bool.or_true, Bool.false_or, Bool.or_false, Bool.not_true, Bool.not_false, decide_true, decide_false, bI_t, bI_f, Bool.false_eq_true, not_true_eq_false, not_false_eq_true, eq_self, reduceCtorEq, Bool.true_eq_false, and_true, true_and, and_false, false_and, or_true, true_or, or_false, false_or]; done))
  refine lv_iload_n hx hb dX2_isMany_5 rfl (lv_at hl 1 rfl) ?_
  refine lv_aload_n hx hb dX2_isMany_6 rfl (lv_at hl 0 rfl) ?_
  refine gf_X2_66 hx hb hts hown hK hM.1 rfl dX2_isMany_7 ?_
  refine lv_icmp_gt (tgt := 17) hx hb dX2_isMany_10 rfl (fun c_10 => ?_) (fun c_10 => ?_)
  · skip
    refine lv_iconst (v := 0) hx hb dX2_isMany_17 ic_0 ?_
    exact pm_zret hx hb hr hlk hH dX2_isMany_18 (by first | with_reducible rfl | (simp only [m_isMany, c_2, Int32.not_lt.mp c_2, c_10, Int32.not_le.mpr c_10, ↓reduceIte, Bool.true_and, Bool.and_true, Bool.false_and, Bool.and_false, Bool.true_or, Bool.or_true, Bool.false_or, Bool.or_false, Bool.not_true, Bool.not_false, decide_true, decide_false, bI_t, bI_f, Bool.false_eq_true, not_true_eq_false, not_false_eq_true, eq_self, reduceCtorEq, Bool.true_eq_false, and_true, true_and, and_false, false_and, or_true, true_or, or_false, false_or]; done) | (simp only [c_2, Int32.not_lt.mp c_2, ↓reduceIte, Bool.true_and, Bool.and_true, Bool.false_and, Bool.and_false, Bool.true_or, Bool.or_true, Bool.false_or, Bool.or_false, Bool.not_true, Bool.not_false, decide_true, decide_false, bI_t, bI_f, Bool.false_eq_true, not_true_eq_false, not_false_eq_true, eq_self, reduceCtorEq, Bool.true_eq_false, and_true, true_and, and_false, false_and, or_true, true_or, or_false, false_or] at c_10; done) | (simp only [c_10, Int32.not_le.mpr c_10, ↓reduceIte, Bool.true_and, Bool.and_true, Bool.false_and, Bool.and_false, Bool.true_or, Bool.or_true, Bool.false_or, Bool.or_false, Bool.not_true, Bool.not_false, decide_true, decide_false, bI_t, bI_f, Bool.false_eq_true, not_true_eq_false, not_false_eq_true, eq_self, reduceCtorEq, Bool.true_eq_false, and_true, true_and, and_false, false_and, or_true, true_or, or_false, false_or] at c_2; done))
  refine lv_iconst (v := 1) hx hb dX2_isMany_13 ic_1 ?_
  refine lv_goto (tgt := 18) hx hb dX2_isMany_14 rfl ?_
  exact pm_zret hx hb hr hlk hH dX2_isMany_18 (by first | with_reducible rfl | (simp only [m_isMany, c_2, Int32.not_lt.mp c_2, c_10, Int32.not_lt.mp c_10, ↓reduceIte, Bool.true_and, Bool.and_true, Bool.false_and, Bool.and_false, Bool.true_or, Bool.or_true, Bool.false_or, Bool.or_false, Bool.not_true, Bool.not_false, decide_true, decide_false, bI_t, bI_f, Bool.false_eq_true, not_true_eq_false, not_false_eq_true, eq_self, reduceCtorEq, Bool.true_eq_false, and_true, true_and, and_false, false_and, or_true, true_or, or_false, false_or]; done) | (simp only [c_2, Int32.not_lt.mp c_2, ↓reduceIte, Bool.true_and, Bool.and_true, Bool.false_and, Bool.and_false, Bool.true_or, Bool.or_true, Bool.false_or, Bool.or_false, Bool.not_true, Bool.not_false, decide_true, decide_false, bI_t, bI_f, Bool.false_eq_true, not_true_eq_false, not_false_eq_true, eq_self, reduceCtorEq, Bool.true_eq_false, and_true, true_and, and_false, false_and, or_true, true_or, or_false, false_or] at c_10; done) | (simp only [c_10, Int32.not_lt.mp c_10, ↓reduceIte, Bool.true_and, Bool.and_true, Bool.false_and, Bool.and_false, Bool.true_or, Bool.or_true, Bool.false_or, Bool.or_false, Bool.not_true, Bool.not_false, decide_true, decide_false, bI_t, bI_f, Bool.false_eq_true, not_true_eq_false, not_false_eq_true, eq_self, reduceCtorEq, Bool.true_eq_false, and_true, true_and, and_false, false_and, or_true, true_or, or_false, false_or] at c_2; done))
theorem dX2_isPlace_0 : decode cX2_isPlace 0 = .ok (.iload_n 1, 1) := by decide +kernel
theorem dX2_isPlace_1 : decode cX2_isPlace 1 = .ok (.ifCond .lt 15, 3) := by decide +kernel
theorem dX2_isPlace_4 : decode cX2_isPlace 4 = .ok (.iload_n 1, 1) := by decide +kernel
theorem dX2_isPlace_5 : decode cX2_isPlace 5 = .ok (.aload_n 0, 1) := by decide +kernel
theorem dX2_isPlace_6 : decode cX2_isPlace 6 = .ok (.getfield 66, 3) := by decide +kernel
theorem dX2_isPlace_9 : decode cX2_isPlace 9 = .ok (.if_icmp .ge 7, 3) := by decide +kernel
theorem dX2_isPlace_12 : decode cX2_isPlace 12 = .ok (.iconst 1, 1) := by decide +kernel
theorem dX2_isPlace_13 : decode cX2_isPlace 13 = .ok (.goto 4, 3) := by decide +kernel
theorem dX2_isPlace_16 : decode cX2_isPlace 16 = .ok (.iconst 0, 1) := by decide +kernel
theorem dX2_isPlace_17 : decode cX2_isPlace 17 = .ok (.ireturn, 1) := by decide +kernel
set_option maxHeartbeats 4000000 in
theorem met_X2_isPlace (l : Launch) (G : GG) {H : Heap} {o : Nat} {A : Nat → Nat} {σ : Sg} {th : Int32} {a : Int32} (hM : MW G H o A σ th) : PM l yX2_isPlace cX2_isPlace 2 (some .boolean) 0 0 G H [.ref o, .int a] (some (.int (bI (isPt σ.rn a)))) := by
  refine pm_intro pl_X2_isPlace (Nat.le_of_ble_eq_true rfl) ?_
  intro pX eX sX mX belX methX cX ls hE hnm hl
  obtain ⟨hx, hb, hr, hlk, hml, hown, hts, hK, hZ, hH⟩ := hE
  have hl : lv_has ls 2 [(0, .ref o), (1, .int a)] := hl
  refine lv_iload_n hx hb dX2_isPlace_0 rfl (lv_at hl 1 rfl) ?_
  refine lv_if_lt (tgt := 16) hx hb dX2_isPlace_1 rfl (fun c_1 => ?_) (fun c_1 => ?_)
  · skip
    refine lv_iconst (v := 0) hx hb dX2_isPlace_16 ic_0 ?_
    exact pm_zret hx hb hr hlk hH dX2_isPlace_17 (by first | with_reducible rfl | (simp only [isPt, c_1, Int32.not_le.mpr c_1, ↓reduceIte, Bool.true_and, Bool.and_true, Bool.false_and, Bool.and_false, Bool.true_or, Bool.or_true, Bool.false_or, Bool.or_false, Bool.not_true, Bool.not_false, decide_true, decide_false, bI_t, bI_f, Bool.false_eq_true, not_true_eq_false, not_false_eq_true, eq_self, reduceCtorEq, Bool.true_eq_false, and_true, true_and, and_false, false_and, or_true, true_or, or_false, false_or]; done))
  refine lv_iload_n hx hb dX2_isPlace_4 rfl (lv_at hl 1 rfl) ?_
  refine lv_aload_n hx hb dX2_isPlace_5 rfl (lv_at hl 0 rfl) ?_
  refine gf_X2_66 hx hb hts hown hK hM.1 rfl dX2_isPlace_6 ?_
  refine lv_icmp_ge (tgt := 16) hx hb dX2_isPlace_9 rfl (fun c_9 => ?_) (fun c_9 => ?_)
  · skip
    refine lv_iconst (v := 0) hx hb dX2_isPlace_16 ic_0 ?_
    exact pm_zret hx hb hr hlk hH dX2_isPlace_17 (by first | with_reducible rfl | (simp only [isPt, c_1, Int32.not_lt.mp c_1, c_9, Int32.not_lt.mpr c_9, ↓reduceIte, Bool.true_and, Bool.and_true, Bool.false_and, Bool.and_false, Bool.true_or, Bool.or_true, Bool.false_or, Bool.or_false, Bool.not_true, Bool.not_false, decide_true, decide_false, bI_t, bI_f, Bool.false_eq_true, not_true_eq_false, not_false_eq_true, eq_self, reduceCtorEq, Bool.true_eq_false, and_true, true_and, and_false, false_and, or_true, true_or, or_false, false_or]; done) | (simp only [c_1, Int32.not_lt.mp c_1, ↓reduceIte, Bool.true_and, Bool.and_true, Bool.false_and, Bool.and_false, Bool.true_or, Bool.or_true, Bool.false_or, Bool.or_false, Bool.not_true, Bool.not_false, decide_true, decide_false, bI_t, bI_f, Bool.false_eq_true, not_true_eq_false, not_false_eq_true, eq_self, reduceCtorEq, Bool.true_eq_false, and_true, true_and, and_false, false_and, or_true, true_or, or_false, false_or] at c_9; done) | (simp only [c_9, Int32.not_lt.mpr c_9, ↓reduceIte, Bool.true_and, Bool.and_true, Bool.false_and, Bool.and_false, Bool.true_or, Bool.or_true, Bool.false_or, Bool.or_false, Bool.not_true, Bool.not_false, decide_true, decide_false, bI_t, bI_f, Bool.false_eq_true, not_true_eq_false, not_false_eq_true, eq_self, reduceCtorEq, Bool.true_eq_false, and_true, true_and, and_false, false_and, or_true, true_or, or_false, false_or] at c_1; done))
  refine lv_iconst (v := 1) hx hb dX2_isPlace_12 ic_1 ?_
  refine lv_goto (tgt := 17) hx hb dX2_isPlace_13 rfl ?_
  exact pm_zret hx hb hr hlk hH dX2_isPlace_17 (by first | with_reducible rfl | (simp only [isPt, c_1, Int32.not_lt.mp c_1, c_9, Int32.not_le.mp c_9, ↓reduceIte, Bool.true_and, Bool.and_true, Bool.false_and, Bool.and_false, Bool.true_or, Bool.or_true, Bool.false_or, Bool.or_false, Bool.not_true, Bool.not_false, decide_true, decide_false, bI_t, bI_f, Bool.false_eq_true, not_true_eq_false, not_false_eq_true, eq_self, reduceCtorEq, Bool.true_eq_false, and_true, true_and, and_false, false_and, or_true, true_or, or_false, false_or]; done) | (simp only [c_1, Int32.not_lt.mp c_1, ↓reduceIte, Bool.true_and, Bool.and_true, Bool.false_and, Bool.and_false, Bool.true_or, Bool.or_true, Bool.false_or, Bool.or_false, Bool.not_true, Bool.not_false, decide_true, decide_false, bI_t, bI_f, Bool.false_eq_true, not_true_eq_false, not_false_eq_true, eq_self, reduceCtorEq, Bool.true_eq_false, and_true, true_and, and_false, false_and, or_true, true_or, or_false, false_or] at c_9; done) | (simp only [c_9, Int32.not_le.mp c_9, ↓reduceIte, Bool.true_and, Bool.and_true, Bool.false_and, Bool.and_false, Bool.true_or, Bool.or_true, Bool.false_or, Bool.or_false, Bool.not_true, Bool.not_false, decide_true, decide_false, bI_t, bI_f, Bool.false_eq_true, not_true_eq_false, not_false_eq_true, eq_self, reduceCtorEq, Bool.true_eq_false, and_true, true_and, and_false, false_and, or_true, true_or, or_false, false_or] at c_1; done))
