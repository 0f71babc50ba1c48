set_option maxRecDepth 100000
theorem dX3_isEqual_0 : decode cX3_isEqual 0 = .ok (.aload_n 0, 1) := by decide +kernel
theorem dX3_isEqual_1 : decode cX3_isEqual 1 = .ok (.getfield 13, 3) := by decide +kernel
theorem dX3_isEqual_4 : decode cX3_isEqual 4 = .ok (.aload_n 1, 1) := by decide +kernel
theorem dX3_isEqual_5 : decode cX3_isEqual 5 = .ok (.getfield 13, 3) := by decide +kernel
theorem dX3_isEqual_8 : decode cX3_isEqual 8 = .ok (.if_icmp .ne 18, 3) := by decide +kernel
theorem dX3_isEqual_11 : decode cX3_isEqual 11 = .ok (.aload_n 0, 1) := by decide +kernel
theorem dX3_isEqual_12 : decode cX3_isEqual 12 = .ok (.getfield 16, 3) := by decide +kernel
theorem dX3_isEqual_15 : decode cX3_isEqual 15 = .ok (.aload_n 1, 1) := by decide +kernel
theorem dX3_isEqual_16 : decode cX3_isEqual 16 = .ok (.getfield 16, 3) := by decide +kernel
theorem dX3_isEqual_19 : decode cX3_isEqual 19 = .ok (.if_icmp .ne 7, 3) := by decide +kernel
theorem dX3_isEqual_22 : decode cX3_isEqual 22 = .ok (.iconst 1, 1) := by decide +kernel
theorem dX3_isEqual_23 : decode cX3_isEqual 23 = .ok (.goto 4, 3) := by decide +kernel
theorem dX3_isEqual_26 : decode cX3_isEqual 26 = .ok (.iconst 0, 1) := by decide +kernel
theorem dX3_isEqual_27 : decode cX3_isEqual 27 = .ok (.ireturn, 1) := by decide +kernel
set_option maxHeartbeats 4000000 in
theorem met_X3_isEqual (l : Launch) (G : GG) {H : Heap} {a b : Nat} {n k : Int32} {p q : P2} (ha : PtAt G H a n p) (hb' : PtAt G H b k q) : PM l yX3_isEqual cX3_isEqual 2 (some .boolean) 0 0 G H [.ref a, .ref b] (some (.int (bI (s_eq p q)))) := by
  refine pm_intro pl_X3_isEqual (Nat.le_of_ble_eq_true rfl) ?_
  intro pX eX sX mX belX methX cX ls hE hnm hl
  obtain ⟨hx, hb, hr, hlk, hml, hown, hts, hK, hZ, hH⟩ := hE
  have hl : lv_has ls 2 [(0, .ref a), (1, .ref b)] := hl
  refine lv_aload_n hx hb dX3_isEqual_0 rfl (lv_at hl 0 rfl) ?_
  refine gf_X3_13 hx hb hts hown hK ha rfl dX3_isEqual_1 ?_
  refine lv_aload_n hx hb dX3_isEqual_4 rfl (lv_at hl 1 rfl) ?_
  refine gf_X3_13 hx hb hts hown hK hb' rfl dX3_isEqual_5 ?_
  refine lv_icmp_ne (tgt := 26) hx hb dX3_isEqual_8 rfl (fun c_8 => ?_) (fun c_8 => ?_)
  · skip
    refine lv_iconst (v := 0) hx hb dX3_isEqual_26 ic_0 ?_
    exact pm_zret hx hb hr hlk hH dX3_isEqual_27 (by first | with_reducible rfl | (simp only [s_eq, c_8, ↓reduceIte, Bool.true_and, Bool.and_true, Bool.false_and, Bool.and_false, Bool.true_or, Bool.or_true, Bool.false_or, Bool.or_false, Bool.not_true, Bool.not_false, decide_true, decide_false, bI_t, bI_f, Bool.false_eq_true, not_true_eq_false, not_false_eq_true, eq_self, reduceCtorEq, Bool.true_eq_false, and_true, true_and, and_false, false_and, or_true, true_or, or_false, false_or]; done))
  refine lv_aload_n hx hb dX3_isEqual_11 rfl (lv_at hl 0 rfl) ?_
  refine gf_X3_16 hx hb hts hown hK ha rfl dX3_isEqual_12 ?_
  refine lv_aload_n hx hb dX3_isEqual_15 rfl (lv_at hl 1 rfl) ?_
  refine gf_X3_16 hx hb hts hown hK hb' rfl dX3_isEqual_16 ?_
  refine lv_icmp_ne (tgt := 26) hx hb dX3_isEqual_19 rfl (fun c_19 => ?_) (fun c_19 => ?_)
  · skip
    refine lv_iconst (v := 0) hx hb dX3_isEqual_26 ic_0 ?_
    exact pm_zret hx hb hr hlk hH dX3_isEqual_27 (by first | with_reducible rfl | (simp only [s_eq, eq_true c_8, c_19, ↓reduceIte, Bool.true_and, Bool.and_true, Bool.false_and, Bool.and_false, Bool.true_or, Bool.or_true, Bool.false_or, Bool.or_false, Bool.not_true, Bool.not_false, decide_true, decide_false, bI_t, bI_f, Bool.false_eq_true, not_true_eq_false, not_false_eq_true, eq_self, reduceCtorEq, Bool.true_eq_false, and_true, true_and, and_false, false_and, or_true, true_or, or_false, false_or]; done))
  refine lv_iconst (v := 1) hx hb dX3_isEqual_22 ic_1 ?_
  refine lv_goto (tgt := 27) hx hb dX3_isEqual_23 rfl ?_
  exact pm_zret hx hb hr hlk hH dX3_isEqual_27 (by first | with_reducible rfl | (simp only [s_eq, eq_true c_8, eq_true c_19, ↓reduceIte, Bool.true_and, Bool.and_true, Bool.false_and, Bool.and_false, Bool.true_or, Bool.or_true, Bool.false_or, Bool.or_false, Bool.not_true, Bool.not_false, decide_true, decide_false, bI_t, bI_f, Bool.false_eq_true, not_true_eq_false, not_false_eq_true, eq_self, reduceCtorEq, Bool.true_eq_false, and_true, true_and, and_false, false_and, or_true, true_or, or_false, false_or]; done))
theorem dX3_far_0 : decode cX3_far 0 = .ok (.aload_n 1, 1) := by decide +kernel
theorem dX3_far_1 : decode cX3_far 1 = .ok (.getfield 13, 3) := by decide +kernel
theorem dX3_far_4 : decode cX3_far 4 = .ok (.aload_n 0, 1) := by decide +kernel
theorem dX3_far_5 : decode cX3_far 5 = .ok (.getfield 13, 3) := by decide +kernel
theorem dX3_far_8 : decode cX3_far 8 = .ok (.isub, 1) := by decide +kernel
theorem dX3_far_9 : decode cX3_far 9 = .ok (.i2l, 1) := by decide +kernel
theorem dX3_far_10 : decode cX3_far 10 = .ok (.lstore_n 2, 1) := by decide +kernel
theorem dX3_far_11 : decode cX3_far 11 = .ok (.aload_n 1, 1) := by decide +kernel
theorem dX3_far_12 : decode cX3_far 12 = .ok (.getfield 16, 3) := by decide +kernel
theorem dX3_far_15 : decode cX3_far 15 = .ok (.aload_n 0, 1) := by decide +kernel
theorem dX3_far_16 : decode cX3_far 16 = .ok (.getfield 16, 3) := by decide +kernel
theorem dX3_far_19 : decode cX3_far 19 = .ok (.isub, 1) := by decide +kernel
theorem dX3_far_20 : decode cX3_far 20 = .ok (.i2l, 1) := by decide +kernel
theorem dX3_far_21 : decode cX3_far 21 = .ok (.lstore 4, 2) := by decide +kernel
theorem dX3_far_23 : decode cX3_far 23 = .ok (.lload_n 2, 1) := by decide +kernel
theorem dX3_far_24 : decode cX3_far 24 = .ok (.lload_n 2, 1) := by decide +kernel
theorem dX3_far_25 : decode cX3_far 25 = .ok (.lmul, 1) := by decide +kernel
theorem dX3_far_26 : decode cX3_far 26 = .ok (.lload 4, 2) := by decide +kernel
theorem dX3_far_28 : decode cX3_far 28 = .ok (.lload 4, 2) := by decide +kernel
theorem dX3_far_30 : decode cX3_far 30 = .ok (.lmul, 1) := by decide +kernel
theorem dX3_far_31 : decode cX3_far 31 = .ok (.ladd, 1) := by decide +kernel
theorem dX3_far_32 : decode cX3_far 32 = .ok (.lreturn, 1) := by decide +kernel
set_option maxHeartbeats 4000000 in
theorem met_X3_far (l : Launch) (G : GG) {H : Heap} {a b : Nat} {n k : Int32} {p q : P2} (ha : PtAt G H a n p) (hb' : PtAt G H b k q) : PM l yX3_far cX3_far 6 (some .long) 0 0 G H [.ref a, .ref b] (some (.long (s_far p q))) := by
  refine pm_intro pl_X3_far (Nat.le_of_ble_eq_true rfl) ?_
  intro pX eX sX mX belX methX cX ls hE hnm hl
  obtain ⟨hx, hb, hr, hlk, hml, hown, hts, hK, hZ, hH⟩ := hE
  have hl : lv_has ls 6 [(0, .ref a), (1, .ref b)] := hl
  refine lv_aload_n hx hb dX3_far_0 rfl (lv_at hl 1 rfl) ?_
  refine gf_X3_13 hx hb hts hown hK hb' rfl dX3_far_1 ?_
  refine lv_aload_n hx hb dX3_far_4 rfl (lv_at hl 0 rfl) ?_
  refine gf_X3_13 hx hb hts hown hK ha rfl dX3_far_5 ?_
  refine lv_isub hx hb dX3_far_8 ?_
  refine lv_i2l hx hb dX3_far_9 rfl ?_
  refine lv_lstore_n (lv' := [(2, .long _), (0, .ref _), (1, .ref _)]) hx hb dX3_far_10 rfl hl (Nat.le_of_ble_eq_true rfl) rfl (fun ls hl => ?_)
  refine lv_aload_n hx hb dX3_far_11 rfl (lv_at hl 2 rfl) ?_
  refine gf_X3_16 hx hb hts hown hK hb' rfl dX3_far_12 ?_
  refine lv_aload_n hx hb dX3_far_15 rfl (lv_at hl 1 rfl) ?_
  refine gf_X3_16 hx hb hts hown hK ha rfl dX3_far_16 ?_
  refine lv_isub hx hb dX3_far_19 ?_
  refine lv_i2l hx hb dX3_far_20 rfl ?_
  refine lv_lstore (lv' := [(4, .long _), (2, .long _), (0, .ref _), (1, .ref _)]) hx hb dX3_far_21 hl (Nat.le_of_ble_eq_true rfl) rfl (fun ls hl => ?_)
  refine lv_lload_n hx hb dX3_far_23 rfl (lv_at hl 1 rfl) ?_
  refine lv_lload_n hx hb dX3_far_24 rfl (lv_at hl 1 rfl) ?_
  refine lv_lmul hx hb dX3_far_25 ?_
  refine lv_lload hx hb dX3_far_26 (lv_at hl 0 rfl) ?_
  refine lv_lload hx hb dX3_far_28 (lv_at hl 0 rfl) ?_
  refine lv_lmul hx hb dX3_far_30 ?_
  refine lv_ladd hx hb dX3_far_31 ?_
  exact pm_lret hx hb hr hlk hH dX3_far_32 (by first | with_reducible rfl | (simp only [s_far, ↓reduceIte, Bool.true_and, Bool.and_true, Bool.false_and, Bool.and_false, Bool.true_or, Bool.or_true, Bool.false_or, Bool.or_false, Bool.not_true, Bool.not_false, decide_true, decide_false, bI_t, bI_f, Bool.false_eq_true, not_true_eq_false, not_false_eq_true, eq_self, reduceCtorEq, Bool.true_eq_false, and_true, true_and, and_false, false_and, or_true, true_or, or_false, false_or]; done))
theorem dX3_along_0 : decode cX3_along 0 = .ok (.aload_n 1, 1) := by decide +kernel
theorem dX3_along_1 : decode cX3_along 1 = .ok (.getfield 13, 3) := by decide +kernel
theorem dX3_along_4 : decode cX3_along 4 = .ok (.aload_n 0, 1) := by decide +kernel
theorem dX3_along_5 : decode cX3_along 5 = .ok (.getfield 13, 3) := by decide +kernel
theorem dX3_along_8 : decode cX3_along 8 = .ok (.isub, 1) := by decide +kernel
theorem dX3_along_9 : decode cX3_along 9 = .ok (.i2l, 1) := by decide +kernel
theorem dX3_along_10 : decode cX3_along 10 = .ok (.aload_n 2, 1) := by decide +kernel
theorem dX3_along_11 : decode cX3_along 11 = .ok (.getfield 13, 3) := by decide +kernel
theorem dX3_along_14 : decode cX3_along 14 = .ok (.aload_n 0, 1) := by decide +kernel
theorem dX3_along_15 : decode cX3_along 15 = .ok (.getfield 13, 3) := by decide +kernel
theorem dX3_along_18 : decode cX3_along 18 = .ok (.isub, 1) := by decide +kernel
theorem dX3_along_19 : decode cX3_along 19 = .ok (.i2l, 1) := by decide +kernel
theorem dX3_along_20 : decode cX3_along 20 = .ok (.lmul, 1) := by decide +kernel
theorem dX3_along_21 : decode cX3_along 21 = .ok (.aload_n 1, 1) := by decide +kernel
theorem dX3_along_22 : decode cX3_along 22 = .ok (.getfield 16, 3) := by decide +kernel
theorem dX3_along_25 : decode cX3_along 25 = .ok (.aload_n 0, 1) := by decide +kernel
theorem dX3_along_26 : decode cX3_along 26 = .ok (.getfield 16, 3) := by decide +kernel
theorem dX3_along_29 : decode cX3_along 29 = .ok (.isub, 1) := by decide +kernel
theorem dX3_along_30 : decode cX3_along 30 = .ok (.i2l, 1) := by decide +kernel
theorem dX3_along_31 : decode cX3_along 31 = .ok (.aload_n 2, 1) := by decide +kernel
theorem dX3_along_32 : decode cX3_along 32 = .ok (.getfield 16, 3) := by decide +kernel
theorem dX3_along_35 : decode cX3_along 35 = .ok (.aload_n 0, 1) := by decide +kernel
theorem dX3_along_36 : decode cX3_along 36 = .ok (.getfield 16, 3) := by decide +kernel
theorem dX3_along_39 : decode cX3_along 39 = .ok (.isub, 1) := by decide +kernel
theorem dX3_along_40 : decode cX3_along 40 = .ok (.i2l, 1) := by decide +kernel
theorem dX3_along_41 : decode cX3_along 41 = .ok (.lmul, 1) := by decide +kernel
theorem dX3_along_42 : decode cX3_along 42 = .ok (.ladd, 1) := by decide +kernel
theorem dX3_along_43 : decode cX3_along 43 = .ok (.lreturn, 1) := by decide +kernel
set_option maxHeartbeats 4000000 in
theorem met_X3_along (l : Launch) (G : GG) {H : Heap} {a b d : Nat} {n k j : Int32} {p q r : P2} (ha : PtAt G H a n p) (hb' : PtAt G H b k q) (hd' : PtAt G H d j r) : PM l yX3_along cX3_along 3 (some .long) 0 0 G H [.ref a, .ref b, .ref d] (some (.long (s_along p q r))) := by
  refine pm_intro pl_X3_along (Nat.le_of_ble_eq_true rfl) ?_
  intro pX eX sX mX belX methX cX ls hE hnm hl
  obtain ⟨hx, hb, hr, hlk, hml, hown, hts, hK, hZ, hH⟩ := hE
  have hl : lv_has ls 3 [(0, .ref a), (1, .ref b), (2, .ref d)] := hl
  refine lv_aload_n hx hb dX3_along_0 rfl (lv_at hl 1 rfl) ?_
  refine gf_X3_13 hx hb hts hown hK hb' rfl dX3_along_1 ?_
  refine lv_aload_n hx hb dX3_along_4 rfl (lv_at hl 0 rfl) ?_
  refine gf_X3_13 hx hb hts hown hK ha rfl dX3_along_5 ?_
  refine lv_isub hx hb dX3_along_8 ?_
  refine lv_i2l hx hb dX3_along_9 rfl ?_
  refine lv_aload_n hx hb dX3_along_10 rfl (lv_at hl 2 rfl) ?_
  refine gf_X3_13 hx hb hts hown hK hd' rfl dX3_along_11 ?_
  refine lv_aload_n hx hb dX3_along_14 rfl (lv_at hl 0 rfl) ?_
  refine gf_X3_13 hx hb hts hown hK ha rfl dX3_along_15 ?_
  refine lv_isub hx hb dX3_along_18 ?_
  refine lv_i2l hx hb dX3_along_19 rfl ?_
  refine lv_lmul hx hb dX3_along_20 ?_
  refine lv_aload_n hx hb dX3_along_21 rfl (lv_at hl 1 rfl) ?_
  refine gf_X3_16 hx hb hts hown hK hb' rfl dX3_along_22 ?_
  refine lv_aload_n hx hb dX3_along_25 rfl (lv_at hl 0 rfl) ?_
  refine gf_X3_16 hx hb hts hown hK ha rfl dX3_along_26 ?_
  refine lv_isub hx hb dX3_along_29 ?_
  refine lv_i2l hx hb dX3_along_30 rfl ?_
  refine lv_aload_n hx hb dX3_along_31 rfl (lv_at hl 2 rfl) ?_
  refine gf_X3_16 hx hb hts hown hK hd' rfl dX3_along_32 ?_
  refine lv_aload_n hx hb dX3_along_35 rfl (lv_at hl 0 rfl) ?_
  refine gf_X3_16 hx hb hts hown hK ha rfl dX3_along_36 ?_
  refine lv_isub hx hb dX3_along_39 ?_
  refine lv_i2l hx hb dX3_along_40 rfl ?_
  refine lv_lmul hx hb dX3_along_41 ?_
  refine lv_ladd hx hb dX3_along_42 ?_
  exact pm_lret hx hb hr hlk hH dX3_along_43 (by first | with_reducible rfl | (simp only [s_along, ↓reduceIte, Bool.true_and, Bool.and_true, Bool.false_and, Bool.and_false, Bool.true_or, Bool.or_true, Bool.false_or, Bool.or_false, Bool.not_true, Bool.not_false, decide_true, decide_false, bI_t, bI_f, Bool.false_eq_true, not_true_eq_false, not_false_eq_true, eq_self, reduceCtorEq, Bool.true_eq_false, and_true, true_and, and_false, false_and, or_true, true_or, or_false, false_or]; done))
theorem dX1_isIn_0 : decode cX1_isIn 0 = .ok (.lload_n 0, 1) := by decide +kernel
theorem dX1_isIn_1 : decode cX1_isIn 1 = .ok (.lload_n 2, 1) := by decide +kernel
theorem dX1_isIn_2 : decode cX1_isIn 2 = .ok (.lcmp, 1) := by decide +kernel
theorem dX1_isIn_3 : decode cX1_isIn 3 = .ok (.ifCond .lt 14, 3) := by decide +kernel
theorem dX1_isIn_6 : decode cX1_isIn 6 = .ok (.lload_n 0, 1) := by decide +kernel
theorem dX1_isIn_7 : decode cX1_isIn 7 = .ok (.lload 4, 2) := by decide +kernel
theorem dX1_isIn_9 : decode cX1_isIn 9 = .ok (.lcmp, 1) := by decide +kernel
theorem dX1_isIn_10 : decode cX1_isIn 10 = .ok (.ifCond .gt 7, 3) := by decide +kernel
theorem dX1_isIn_13 : decode cX1_isIn 13 = .ok (.iconst 1, 1) := by decide +kernel
theorem dX1_isIn_14 : decode cX1_isIn 14 = .ok (.goto 4, 3) := by decide +kernel
theorem dX1_isIn_17 : decode cX1_isIn 17 = .ok (.iconst 0, 1) := by decide +kernel
theorem dX1_isIn_18 : decode cX1_isIn 18 = .ok (.ireturn, 1) := by decide +kernel
set_option maxHeartbeats 4000000 in
theorem met_X1_isIn (l : Launch) (G : GG) {H : Heap} {v lo hi : Int64}  : PM l yX1_isIn cX1_isIn 6 (some .boolean) 0 0 G H [.long v, .long lo, .long hi] (some (.int (bI (s_isIn v lo hi)))) := by
  refine pm_intro pl_X1_isIn (Nat.le_of_ble_eq_true rfl) ?_
  intro pX eX sX mX belX methX cX ls hE hnm hl
  obtain ⟨hx, hb, hr, hlk, hml, hown, hts, hK, hZ, hH⟩ := hE
  have hl : lv_has ls 6 [(0, .long v), (2, .long lo), (4, .long hi)] := hl
  refine lv_lload_n hx hb dX1_isIn_0 rfl (lv_at hl 0 rfl) ?_
  refine lv_lload_n hx hb dX1_isIn_1 rfl (lv_at hl 1 rfl) ?_
  refine lc_lt (tgt := 17) hx hb dX1_isIn_2 dX1_isIn_3 rfl (fun c_2 => ?_) (fun c_2 => ?_)
  · skip
    refine lv_iconst (v := 0) hx hb dX1_isIn_17 ic_0 ?_
    exact pm_zret hx hb hr hlk hH dX1_isIn_18 (by first | with_reducible rfl | (simp only [s_isIn, c_2, Int64.not_le.mpr c_2, ↓reduceIte, Bool.true_and, Bool.and_true, Bool.false_and, Bool.and_false, Bool.true_or, Bool.or_true, Bool.false_or, Bool.or_false, Bool.not_true, Bool.not_false, decide_true, decide_false, bI_t, bI_f, Bool.false_eq_true, not_true_eq_false, not_false_eq_true, eq_self, reduceCtorEq, Bool.true_eq_false, and_true, true_and, and_false, false_and, or_true, true_or, or_false, false_or]; done))
  refine lv_lload_n hx hb dX1_isIn_6 rfl (lv_at hl 0 rfl) ?_
  refine lv_lload hx hb dX1_isIn_7 (lv_at hl 2 rfl) ?_
  refine lc_gt (tgt := 17) hx hb dX1_isIn_9 dX1_isIn_10 rfl (fun c_9 => ?_) (fun c_9 => ?_)
  · skip
    refine lv_iconst (v := 0) hx hb dX1_isIn_17 ic_0 ?_
    exact pm_zret hx hb hr hlk hH dX1_isIn_18 (by first | with_reducible rfl | (simp only [s_isIn, c_2, Int64.not_lt.mp c_2, c_9, Int64.not_le.mpr c_9, ↓reduceIte, Bool.true_and, Bool.and_true, Bool.false_and, Bool.and_false, Bool.true_or, Bool.or_true, Bool.false_or, Bool.or_false, Bool.not_true, Bool.not_false, decide_true, decide_false, bI_t, bI_f, Bool.false_eq_true, not_true_eq_false, not_false_eq_true, eq_self, reduceCtorEq, Bool.true_eq_false, and_true, true_and, and_false, false_and, or_true, true_or, or_false, false_or]; done))
  refine lv_iconst (v := 1) hx hb dX1_isIn_13 ic_1 ?_
  refine lv_goto (tgt := 18) hx hb dX1_isIn_14 rfl ?_
  exact pm_zret hx hb hr hlk hH dX1_isIn_18 (by first | with_reducible rfl | (simp only [s_isIn, c_2, Int64.not_lt.mp c_2, c_9, Int64.not_lt.mp c_9, ↓reduceIte, Bool.true_and, Bool.and_true, Bool.false_and, Bool.and_false, Bool.true_or, Bool.or_true, Bool.false_or, Bool.or_false, Bool.not_true, Bool.not_false, decide_true, decide_false, bI_t, bI_f, Bool.false_eq_true, not_true_eq_false, not_false_eq_true, eq_self, reduceCtorEq, Bool.true_eq_false, and_true, true_and, and_false, false_and, or_true, true_or, or_false, false_or]; done))
theorem dX1_signOf_0 : decode cX1_signOf 0 = .ok (.lload_n 0, 1) := by decide +kernel
theorem dX1_signOf_1 : decode cX1_signOf 1 = .ok (.lconst 0, 1) := by decide +kernel
theorem dX1_signOf_2 : decode cX1_signOf 2 = .ok (.lcmp, 1) := by decide +kernel
theorem dX1_signOf_3 : decode cX1_signOf 3 = .ok (.ifCond .le 7, 3) := by decide +kernel
theorem dX1_signOf_6 : decode cX1_signOf 6 = .ok (.iconst 1, 1) := by decide +kernel
theorem dX1_signOf_7 : decode cX1_signOf 7 = .ok (.goto 14, 3) := by decide +kernel
theorem dX1_signOf_10 : decode cX1_signOf 10 = .ok (.lload_n 0, 1) := by decide +kernel
theorem dX1_signOf_11 : decode cX1_signOf 11 = .ok (.lconst 0, 1) := by decide +kernel
theorem dX1_signOf_12 : decode cX1_signOf 12 = .ok (.lcmp, 1) := by decide +kernel
theorem dX1_signOf_13 : decode cX1_signOf 13 = .ok (.ifCond .ge 7, 3) := by decide +kernel
theorem dX1_signOf_16 : decode cX1_signOf 16 = .ok (.iconst (-1), 1) := by decide +kernel
theorem dX1_signOf_17 : decode cX1_signOf 17 = .ok (.goto 4, 3) := by decide +kernel
theorem dX1_signOf_20 : decode cX1_signOf 20 = .ok (.iconst 0, 1) := by decide +kernel
theorem dX1_signOf_21 : decode cX1_signOf 21 = .ok (.ireturn, 1) := by decide +kernel
set_option maxHeartbeats 4000000 in
theorem met_X1_signOf (l : Launch) (G : GG) {H : Heap} {v : Int64}  : PM l yX1_signOf cX1_signOf 2 (some .int) 0 0 G H [.long v] (some (.int (s_sign v))) := by
  refine pm_intro pl_X1_signOf (Nat.le_of_ble_eq_true rfl) ?_
  intro pX eX sX mX belX methX cX ls hE hnm hl
  obtain ⟨hx, hb, hr, hlk, hml, hown, hts, hK, hZ, hH⟩ := hE
  have hl : lv_has ls 2 [(0, .long v)] := hl
  refine lv_lload_n hx hb dX1_signOf_0 rfl (lv_at hl 0 rfl) ?_
  refine lv_lconst (v := 0) hx hb dX1_signOf_1 rfl ?_
  refine lc_le (tgt := 10) hx hb dX1_signOf_2 dX1_signOf_3 rfl (fun c_2 => ?_) (fun c_2 => ?_)
  · skip
    refine lv_lload_n hx hb dX1_signOf_10 rfl (lv_at hl 0 rfl) ?_
    refine lv_lconst (v := 0) hx hb dX1_signOf_11 rfl ?_
    refine lc_ge (tgt := 20) hx hb dX1_signOf_12 dX1_signOf_13 rfl (fun c_12 => ?_) (fun c_12 => ?_)
    · skip
      refine lv_iconst (v := 0) hx hb dX1_signOf_20 ic_0 ?_
      exact pm_iret hx hb hr hlk hH dX1_signOf_21 (by first | with_reducible rfl | (simp only [s_sign, c_2, Int64.not_lt.mpr c_2, c_12, Int64.not_lt.mpr c_12, ↓reduceIte, Bool.true_and, Bool.and_true, Bool.false_and, Bool.and_false, Bool.true_or, Bool.or_true, Bool.false_or, Bool.or_false, Bool.not_true, Bool.not_false, decide_true, decide_false, bI_t, bI_f, Bool.false_eq_true, not_true_eq_false, not_false_eq_true, eq_self, reduceCtorEq, Bool.true_eq_false, and_true, true_and, and_false, false_and, or_true, true_or, or_false, false_or]; done))
    refine lv_iconst (v := -1) hx hb dX1_signOf_16 ic_m1 ?_
    refine lv_goto (tgt := 21) hx hb dX1_signOf_17 rfl ?_
    exact pm_iret hx hb hr hlk hH dX1_signOf_21 (by first | with_reducible rfl | (simp only [s_sign, c_2, Int64.not_lt.mpr c_2, c_12, Int64.not_le.mp c_12, ↓reduceIte, Bool.true_and, Bool.and_true, Bool.false_and, Bool.and_false, Bool.true_or, Bool.or_true, Bool.false_or, Bool.or_false, Bool.not_true, Bool.not_false, decide_true, decide_false, bI_t, bI_f, Bool.false_eq_true, not_true_eq_false, not_false_eq_true, eq_self, reduceCtorEq, Bool.true_eq_false, and_true, true_and, and_false, false_and, or_true, true_or, or_false, false_or]; done))
  refine lv_iconst (v := 1) hx hb dX1_signOf_6 ic_1 ?_
  refine lv_goto (tgt := 21) hx hb dX1_signOf_7 rfl ?_
  exact pm_iret hx hb hr hlk hH dX1_signOf_21 (by first | with_reducible rfl | (simp only [s_sign, c_2, Int64.not_le.mp c_2, ↓reduceIte, Bool.true_and, Bool.and_true, Bool.false_and, Bool.and_false, Bool.true_or, Bool.or_true, Bool.false_or, Bool.or_false, Bool.not_true, Bool.not_false, decide_true, decide_false, bI_t, bI_f, Bool.false_eq_true, not_true_eq_false, not_false_eq_true, eq_self, reduceCtorEq, Bool.true_eq_false, and_true, true_and, and_false, false_and, or_true, true_or, or_false, false_or]; done))
theorem dX1_bracket_0 : decode cX1_bracket 0 = .ok (.lload_n 0, 1) := by decide +kernel
theorem dX1_bracket_1 : decode cX1_bracket 1 = .ok (.lload 6, 2) := by decide +kernel
theorem dX1_bracket_3 : decode cX1_bracket 3 = .ok (.lmul, 1) := by decide +kernel
theorem dX1_bracket_4 : decode cX1_bracket 4 = .ok (.lload_n 2, 1) := by decide +kernel
theorem dX1_bracket_5 : decode cX1_bracket 5 = .ok (.lload 4, 2) := by decide +kernel
theorem dX1_bracket_7 : decode cX1_bracket 7 = .ok (.lmul, 1) := by decide +kernel
theorem dX1_bracket_8 : decode cX1_bracket 8 = .ok (.lsub, 1) := by decide +kernel
theorem dX1_bracket_9 : decode cX1_bracket 9 = .ok (.lreturn, 1) := by decide +kernel
set_option maxHeartbeats 4000000 in
theorem met_X1_bracket (l : Launch) (G : GG) {H : Heap} {a b d f : Int64}  : PM l yX1_bracket cX1_bracket 8 (some .long) 0 0 G H [.long a, .long b, .long d, .long f] (some (.long (s_br a b d f))) := by
  refine pm_intro pl_X1_bracket (Nat.le_of_ble_eq_true rfl) ?_
  intro pX eX sX mX belX methX cX ls hE hnm hl
  obtain ⟨hx, hb, hr, hlk, hml, hown, hts, hK, hZ, hH⟩ := hE
  have hl : lv_has ls 8 [(0, .long a), (2, .long b), (4, .long d), (6, .long f)] := hl
  refine lv_lload_n hx hb dX1_bracket_0 rfl (lv_at hl 0 rfl) ?_
  refine lv_lload hx hb dX1_bracket_1 (lv_at hl 3 rfl) ?_
  refine lv_lmul hx hb dX1_bracket_3 ?_
  refine lv_lload_n hx hb dX1_bracket_4 rfl (lv_at hl 1 rfl) ?_
  refine lv_lload hx hb dX1_bracket_5 (lv_at hl 2 rfl) ?_
  refine lv_lmul hx hb dX1_bracket_7 ?_
  refine lv_lsub hx hb dX1_bracket_8 ?_
  exact pm_lret hx hb hr hlk hH dX1_bracket_9 (by first | with_reducible rfl | (simp only [s_br, ↓reduceIte, Bool.true_and, Bool.and_true, Bool.false_and, Bool.and_false, Bool.true_or, Bool.or_true, Bool.false_or, Bool.or_false, Bool.not_true, Bool.not_false, decide_true, decide_false, bI_t, bI_f, Bool.false_eq_true, not_true_eq_false, not_false_eq_true, eq_self, reduceCtorEq, Bool.true_eq_false, and_true, true_and, and_false, false_and, or_true, true_or, or_false, false_or]; done))
theorem dX1_turn_0 : decode cX1_turn 0 = .ok (.aload_n 1, 1) := by decide +kernel
theorem dX1_turn_1 : decode cX1_turn 1 = .ok (.getfield 1, 3) := by decide +kernel
theorem dX1_turn_4 : decode cX1_turn 4 = .ok (.aload_n 0, 1) := by decide +kernel
theorem dX1_turn_5 : decode cX1_turn 5 = .ok (.getfield 1, 3) := by decide +kernel
theorem dX1_turn_8 : decode cX1_turn 8 = .ok (.isub, 1) := by decide +kernel
theorem dX1_turn_9 : decode cX1_turn 9 = .ok (.i2l, 1) := by decide +kernel
theorem dX1_turn_10 : decode cX1_turn 10 = .ok (.aload_n 1, 1) := by decide +kernel
theorem dX1_turn_11 : decode cX1_turn 11 = .ok (.getfield 7, 3) := by decide +kernel
theorem dX1_turn_14 : decode cX1_turn 14 = .ok (.aload_n 0, 1) := by decide +kernel
theorem dX1_turn_15 : decode cX1_turn 15 = .ok (.getfield 7, 3) := by decide +kernel
theorem dX1_turn_18 : decode cX1_turn 18 = .ok (.isub, 1) := by decide +kernel
theorem dX1_turn_19 : decode cX1_turn 19 = .ok (.i2l, 1) := by decide +kernel
theorem dX1_turn_20 : decode cX1_turn 20 = .ok (.aload_n 2, 1) := by decide +kernel
theorem dX1_turn_21 : decode cX1_turn 21 = .ok (.getfield 1, 3) := by decide +kernel
theorem dX1_turn_24 : decode cX1_turn 24 = .ok (.aload_n 0, 1) := by decide +kernel
theorem dX1_turn_25 : decode cX1_turn 25 = .ok (.getfield 1, 3) := by decide +kernel
theorem dX1_turn_28 : decode cX1_turn 28 = .ok (.isub, 1) := by decide +kernel
theorem dX1_turn_29 : decode cX1_turn 29 = .ok (.i2l, 1) := by decide +kernel
theorem dX1_turn_30 : decode cX1_turn 30 = .ok (.aload_n 2, 1) := by decide +kernel
theorem dX1_turn_31 : decode cX1_turn 31 = .ok (.getfield 7, 3) := by decide +kernel
theorem dX1_turn_34 : decode cX1_turn 34 = .ok (.aload_n 0, 1) := by decide +kernel
theorem dX1_turn_35 : decode cX1_turn 35 = .ok (.getfield 7, 3) := by decide +kernel
theorem dX1_turn_38 : decode cX1_turn 38 = .ok (.isub, 1) := by decide +kernel
theorem dX1_turn_39 : decode cX1_turn 39 = .ok (.i2l, 1) := by decide +kernel
theorem dX1_turn_40 : decode cX1_turn 40 = .ok (.invokestatic 10, 3) := by decide +kernel
theorem dX1_turn_43 : decode cX1_turn 43 = .ok (.invokestatic 16, 3) := by decide +kernel
theorem dX1_turn_46 : decode cX1_turn 46 = .ok (.ireturn, 1) := by decide +kernel
set_option maxHeartbeats 4000000 in
theorem met_X1_turn (l : Launch) (G : GG) {H : Heap} {a b d : Nat} {n k j : Int32} {p q r : P2} (ha : PtAt G H a n p) (hb' : PtAt G H b k q) (hd' : PtAt G H d j r) : PM l yX1_turn cX1_turn 3 (some .int) 1 27 G H [.ref a, .ref b, .ref d] (some (.int (s_turn p q r))) := by
  refine pm_intro pl_X1_turn (Nat.le_of_ble_eq_true rfl) ?_
  intro pX eX sX mX belX methX cX ls hE hnm hl
  obtain ⟨hx, hb, hr, hlk, hml, hown, hts, hK, hZ, hH⟩ := hE
  have hl : lv_has ls 3 [(0, .ref a), (1, .ref b), (2, .ref d)] := hl
  refine lv_aload_n hx hb dX1_turn_0 rfl (lv_at hl 1 rfl) ?_
  refine gf_X1_1 hx hb hts hown hK hb' rfl dX1_turn_1 ?_
  refine lv_aload_n hx hb dX1_turn_4 rfl (lv_at hl 0 rfl) ?_
  refine gf_X1_1 hx hb hts hown hK ha rfl dX1_turn_5 ?_
  refine lv_isub hx hb dX1_turn_8 ?_
  refine lv_i2l hx hb dX1_turn_9 rfl ?_
  refine lv_aload_n hx hb dX1_turn_10 rfl (lv_at hl 1 rfl) ?_
  refine gf_X1_7 hx hb hts hown hK hb' rfl dX1_turn_11 ?_
  refine lv_aload_n hx hb dX1_turn_14 rfl (lv_at hl 0 rfl) ?_
  refine gf_X1_7 hx hb hts hown hK ha rfl dX1_turn_15 ?_
  refine lv_isub hx hb dX1_turn_18 ?_
  refine lv_i2l hx hb dX1_turn_19 rfl ?_
  refine lv_aload_n hx hb dX1_turn_20 rfl (lv_at hl 2 rfl) ?_
  refine gf_X1_1 hx hb hts hown hK hd' rfl dX1_turn_21 ?_
  refine lv_aload_n hx hb dX1_turn_24 rfl (lv_at hl 0 rfl) ?_
  refine gf_X1_1 hx hb hts hown hK ha rfl dX1_turn_25 ?_
  refine lv_isub hx hb dX1_turn_28 ?_
  refine lv_i2l hx hb dX1_turn_29 rfl ?_
  refine lv_aload_n hx hb dX1_turn_30 rfl (lv_at hl 2 rfl) ?_
  refine gf_X1_7 hx hb hts hown hK hd' rfl dX1_turn_31 ?_
  refine lv_aload_n hx hb dX1_turn_34 rfl (lv_at hl 0 rfl) ?_
  refine gf_X1_7 hx hb hts hown hK ha rfl dX1_turn_35 ?_
  refine lv_isub hx hb dX1_turn_38 ?_
  refine lv_i2l hx hb dX1_turn_39 rfl ?_
  refine p_callS (As := [.long _, .long _, .long _, .long _]) hx hb hml hown hts hK hZ (met_X1_bracket l G ) q195 q196 q42 q197 hd_X1_bracket rfl (by decide) hl.1 rfl (Nat.le_of_ble_eq_true rfl) dX1_turn_40 ⟨Nat.zero_le _, Nat.zero_le _⟩ ?_
  refine p_callS (As := [.long _]) hx hb hml hown hts hK hZ (met_X1_signOf l G ) q198 q199 q42 q200 hd_X1_signOf rfl (by decide) hl.1 rfl (Nat.le_of_ble_eq_true rfl) dX1_turn_43 ⟨Nat.zero_le _, Nat.zero_le _⟩ ?_
  exact pm_iret hx hb hr hlk hH dX1_turn_46 (by first | with_reducible rfl | (simp only [s_turn, ↓reduceIte, Bool.true_and, Bool.and_true, Bool.false_and, Bool.and_false, Bool.true_or, Bool.or_true, Bool.false_or, Bool.or_false, Bool.not_true, Bool.not_false, decide_true, decide_false, bI_t, bI_f, Bool.false_eq_true, not_true_eq_false, not_false_eq_true, eq_self, reduceCtorEq, Bool.true_eq_false, and_true, true_and, and_false, false_and, or_true, true_or, or_false, false_or]; done))
theorem dX1_ring_0 : decode cX1_ring 0 = .ok (.aload_n 0, 1) := by decide +kernel
theorem dX1_ring_1 : decode cX1_ring 1 = .ok (.getfield 1, 3) := by decide +kernel
theorem dX1_ring_4 : decode cX1_ring 4 = .ok (.aload_n 3, 1) := by decide +kernel
theorem dX1_ring_5 : decode cX1_ring 5 = .ok (.getfield 1, 3) := by decide +kernel
theorem dX1_ring_8 : decode cX1_ring 8 = .ok (.isub, 1) := by decide +kernel
theorem dX1_ring_9 : decode cX1_ring 9 = .ok (.i2l, 1) := by decide +kernel
theorem dX1_ring_10 : decode cX1_ring 10 = .ok (.lstore 4, 2) := by decide +kernel
theorem dX1_ring_12 : decode cX1_ring 12 = .ok (.aload_n 0, 1) := by decide +kernel
theorem dX1_ring_13 : decode cX1_ring 13 = .ok (.getfield 7, 3) := by decide +kernel
theorem dX1_ring_16 : decode cX1_ring 16 = .ok (.aload_n 3, 1) := by decide +kernel
theorem dX1_ring_17 : decode cX1_ring 17 = .ok (.getfield 7, 3) := by decide +kernel
theorem dX1_ring_20 : decode cX1_ring 20 = .ok (.isub, 1) := by decide +kernel
theorem dX1_ring_21 : decode cX1_ring 21 = .ok (.i2l, 1) := by decide +kernel
theorem dX1_ring_22 : decode cX1_ring 22 = .ok (.lstore 6, 2) := by decide +kernel
theorem dX1_ring_24 : decode cX1_ring 24 = .ok (.aload_n 1, 1) := by decide +kernel
theorem dX1_ring_25 : decode cX1_ring 25 = .ok (.getfield 1, 3) := by decide +kernel
theorem dX1_ring_28 : decode cX1_ring 28 = .ok (.aload_n 3, 1) := by decide +kernel
theorem dX1_ring_29 : decode cX1_ring 29 = .ok (.getfield 1, 3) := by decide +kernel
theorem dX1_ring_32 : decode cX1_ring 32 = .ok (.isub, 1) := by decide +kernel
theorem dX1_ring_33 : decode cX1_ring 33 = .ok (.i2l, 1) := by decide +kernel
theorem dX1_ring_34 : decode cX1_ring 34 = .ok (.lstore 8, 2) := by decide +kernel
theorem dX1_ring_36 : decode cX1_ring 36 = .ok (.aload_n 1, 1) := by decide +kernel
theorem dX1_ring_37 : decode cX1_ring 37 = .ok (.getfield 7, 3) := by decide +kernel
theorem dX1_ring_40 : decode cX1_ring 40 = .ok (.aload_n 3, 1) := by decide +kernel
theorem dX1_ring_41 : decode cX1_ring 41 = .ok (.getfield 7, 3) := by decide +kernel
theorem dX1_ring_44 : decode cX1_ring 44 = .ok (.isub, 1) := by decide +kernel
theorem dX1_ring_45 : decode cX1_ring 45 = .ok (.i2l, 1) := by decide +kernel
theorem dX1_ring_46 : decode cX1_ring 46 = .ok (.lstore 10, 2) := by decide +kernel
theorem dX1_ring_48 : decode cX1_ring 48 = .ok (.aload_n 2, 1) := by decide +kernel
theorem dX1_ring_49 : decode cX1_ring 49 = .ok (.getfield 1, 3) := by decide +kernel
theorem dX1_ring_52 : decode cX1_ring 52 = .ok (.aload_n 3, 1) := by decide +kernel
theorem dX1_ring_53 : decode cX1_ring 53 = .ok (.getfield 1, 3) := by decide +kernel
theorem dX1_ring_56 : decode cX1_ring 56 = .ok (.isub, 1) := by decide +kernel
theorem dX1_ring_57 : decode cX1_ring 57 = .ok (.i2l, 1) := by decide +kernel
theorem dX1_ring_58 : decode cX1_ring 58 = .ok (.lstore 12, 2) := by decide +kernel
theorem dX1_ring_60 : decode cX1_ring 60 = .ok (.aload_n 2, 1) := by decide +kernel
theorem dX1_ring_61 : decode cX1_ring 61 = .ok (.getfield 7, 3) := by decide +kernel
theorem dX1_ring_64 : decode cX1_ring 64 = .ok (.aload_n 3, 1) := by decide +kernel
theorem dX1_ring_65 : decode cX1_ring 65 = .ok (.getfield 7, 3) := by decide +kernel
theorem dX1_ring_68 : decode cX1_ring 68 = .ok (.isub, 1) := by decide +kernel
theorem dX1_ring_69 : decode cX1_ring 69 = .ok (.i2l, 1) := by decide +kernel
theorem dX1_ring_70 : decode cX1_ring 70 = .ok (.lstore 14, 2) := by decide +kernel
theorem dX1_ring_72 : decode cX1_ring 72 = .ok (.lload 4, 2) := by decide +kernel
theorem dX1_ring_74 : decode cX1_ring 74 = .ok (.lload 4, 2) := by decide +kernel
theorem dX1_ring_76 : decode cX1_ring 76 = .ok (.lmul, 1) := by decide +kernel
theorem dX1_ring_77 : decode cX1_ring 77 = .ok (.lload 6, 2) := by decide +kernel
theorem dX1_ring_79 : decode cX1_ring 79 = .ok (.lload 6, 2) := by decide +kernel
theorem dX1_ring_81 : decode cX1_ring 81 = .ok (.lmul, 1) := by decide +kernel
theorem dX1_ring_82 : decode cX1_ring 82 = .ok (.ladd, 1) := by decide +kernel
theorem dX1_ring_83 : decode cX1_ring 83 = .ok (.lload 8, 2) := by decide +kernel
theorem dX1_ring_85 : decode cX1_ring 85 = .ok (.lload 10, 2) := by decide +kernel
theorem dX1_ring_87 : decode cX1_ring 87 = .ok (.lload 12, 2) := by decide +kernel
theorem dX1_ring_89 : decode cX1_ring 89 = .ok (.lload 14, 2) := by decide +kernel
theorem dX1_ring_91 : decode cX1_ring 91 = .ok (.invokestatic 10, 3) := by decide +kernel
theorem dX1_ring_94 : decode cX1_ring 94 = .ok (.lmul, 1) := by decide +kernel
theorem dX1_ring_95 : decode cX1_ring 95 = .ok (.lload 8, 2) := by decide +kernel
theorem dX1_ring_97 : decode cX1_ring 97 = .ok (.lload 8, 2) := by decide +kernel
theorem dX1_ring_99 : decode cX1_ring 99 = .ok (.lmul, 1) := by decide +kernel
theorem dX1_ring_100 : decode cX1_ring 100 = .ok (.lload 10, 2) := by decide +kernel
theorem dX1_ring_102 : decode cX1_ring 102 = .ok (.lload 10, 2) := by decide +kernel
theorem dX1_ring_104 : decode cX1_ring 104 = .ok (.lmul, 1) := by decide +kernel
theorem dX1_ring_105 : decode cX1_ring 105 = .ok (.ladd, 1) := by decide +kernel
theorem dX1_ring_106 : decode cX1_ring 106 = .ok (.lload 12, 2) := by decide +kernel
theorem dX1_ring_108 : decode cX1_ring 108 = .ok (.lload 14, 2) := by decide +kernel
theorem dX1_ring_110 : decode cX1_ring 110 = .ok (.lload 4, 2) := by decide +kernel
theorem dX1_ring_112 : decode cX1_ring 112 = .ok (.lload 6, 2) := by decide +kernel
theorem dX1_ring_114 : decode cX1_ring 114 = .ok (.invokestatic 10, 3) := by decide +kernel
theorem dX1_ring_117 : decode cX1_ring 117 = .ok (.lmul, 1) := by decide +kernel
theorem dX1_ring_118 : decode cX1_ring 118 = .ok (.ladd, 1) := by decide +kernel
theorem dX1_ring_119 : decode cX1_ring 119 = .ok (.lload 12, 2) := by decide +kernel
theorem dX1_ring_121 : decode cX1_ring 121 = .ok (.lload 12, 2) := by decide +kernel
theorem dX1_ring_123 : decode cX1_ring 123 = .ok (.lmul, 1) := by decide +kernel
theorem dX1_ring_124 : decode cX1_ring 124 = .ok (.lload 14, 2) := by decide +kernel
theorem dX1_ring_126 : decode cX1_ring 126 = .ok (.lload 14, 2) := by decide +kernel
theorem dX1_ring_128 : decode cX1_ring 128 = .ok (.lmul, 1) := by decide +kernel
theorem dX1_ring_129 : decode cX1_ring 129 = .ok (.ladd, 1) := by decide +kernel
theorem dX1_ring_130 : decode cX1_ring 130 = .ok (.lload 4, 2) := by decide +kernel
theorem dX1_ring_132 : decode cX1_ring 132 = .ok (.lload 6, 2) := by decide +kernel
theorem dX1_ring_134 : decode cX1_ring 134 = .ok (.lload 8, 2) := by decide +kernel
theorem dX1_ring_136 : decode cX1_ring 136 = .ok (.lload 10, 2) := by decide +kernel
theorem dX1_ring_138 : decode cX1_ring 138 = .ok (.invokestatic 10, 3) := by decide +kernel
theorem dX1_ring_141 : decode cX1_ring 141 = .ok (.lmul, 1) := by decide +kernel
theorem dX1_ring_142 : decode cX1_ring 142 = .ok (.ladd, 1) := by decide +kernel
theorem dX1_ring_143 : decode cX1_ring 143 = .ok (.invokestatic 16, 3) := by decide +kernel
theorem dX1_ring_146 : decode cX1_ring 146 = .ok (.ireturn, 1) := by decide +kernel
set_option maxHeartbeats 4000000 in
theorem met_X1_ring (l : Launch) (G : GG) {H : Heap} {a b d f : Nat} {n k j i : Int32} {p q r u : P2} (ha : PtAt G H a n p) (hb' : PtAt G H b k q) (hd' : PtAt G H d j r) (hf' : PtAt G H f i u) : PM l yX1_ring cX1_ring 16 (some .int) 1 27 G H [.ref a, .ref b, .ref d, .ref f] (some (.int (s_ring p q r u))) := by
  refine pm_intro pl_X1_ring (Nat.le_of_ble_eq_true rfl) ?_
  intro pX eX sX mX belX methX cX ls hE hnm hl
  obtain ⟨hx, hb, hr, hlk, hml, hown, hts, hK, hZ, hH⟩ := hE
  have hl : lv_has ls 16 [(0, .ref a), (1, .ref b), (2, .ref d), (3, .ref f)] := hl
  refine lv_aload_n hx hb dX1_ring_0 rfl (lv_at hl 0 rfl) ?_
  refine gf_X1_1 hx hb hts hown hK ha rfl dX1_ring_1 ?_
  refine lv_aload_n hx hb dX1_ring_4 rfl (lv_at hl 3 rfl) ?_
  refine gf_X1_1 hx hb hts hown hK hf' rfl dX1_ring_5 ?_
  refine lv_isub hx hb dX1_ring_8 ?_
  refine lv_i2l hx hb dX1_ring_9 rfl ?_
  refine lv_lstore (lv' := [(4, .long _), (0, .ref _), (1, .ref _), (2, .ref _), (3, .ref _)]) hx hb dX1_ring_10 hl (Nat.le_of_ble_eq_true rfl) rfl (fun ls hl => ?_)
  refine lv_aload_n hx hb dX1_ring_12 rfl (lv_at hl 1 rfl) ?_
  refine gf_X1_7 hx hb hts hown hK ha rfl dX1_ring_13 ?_
  refine lv_aload_n hx hb dX1_ring_16 rfl (lv_at hl 4 rfl) ?_
  refine gf_X1_7 hx hb hts hown hK hf' rfl dX1_ring_17 ?_
  refine lv_isub hx hb dX1_ring_20 ?_
  refine lv_i2l hx hb dX1_ring_21 rfl ?_
  refine lv_lstore (lv' := [(6, .long _), (4, .long _), (0, .ref _), (1, .ref _), (2, .ref _), (3, .ref _)]) hx hb dX1_ring_22 hl (Nat.le_of_ble_eq_true rfl) rfl (fun ls hl => ?_)
  refine lv_aload_n hx hb dX1_ring_24 rfl (lv_at hl 3 rfl) ?_
  refine gf_X1_1 hx hb hts hown hK hb' rfl dX1_ring_25 ?_
  refine lv_aload_n hx hb dX1_ring_28 rfl (lv_at hl 5 rfl) ?_
  refine gf_X1_1 hx hb hts hown hK hf' rfl dX1_ring_29 ?_
  refine lv_isub hx hb dX1_ring_32 ?_
  refine lv_i2l hx hb dX1_ring_33 rfl ?_
  refine lv_lstore (lv' := [(8, .long _), (6, .long _), (4, .long _), (0, .ref _), (1, .ref _), (2, .ref _), (3, .ref _)]) hx hb dX1_ring_34 hl (Nat.le_of_ble_eq_true rfl) rfl (fun ls hl => ?_)
  refine lv_aload_n hx hb dX1_ring_36 rfl (lv_at hl 4 rfl) ?_
  refine gf_X1_7 hx hb hts hown hK hb' rfl dX1_ring_37 ?_
  refine lv_aload_n hx hb dX1_ring_40 rfl (lv_at hl 6 rfl) ?_
  refine gf_X1_7 hx hb hts hown hK hf' rfl dX1_ring_41 ?_
  refine lv_isub hx hb dX1_ring_44 ?_
  refine lv_i2l hx hb dX1_ring_45 rfl ?_
  refine lv_lstore (lv' := [(10, .long _), (8, .long _), (6, .long _), (4, .long _), (0, .ref _), (1, .ref _), (2, .ref _), (3, .ref _)]) hx hb dX1_ring_46 hl (Nat.le_of_ble_eq_true rfl) rfl (fun ls hl => ?_)
  refine lv_aload_n hx hb dX1_ring_48 rfl (lv_at hl 6 rfl) ?_
  refine gf_X1_1 hx hb hts hown hK hd' rfl dX1_ring_49 ?_
  refine lv_aload_n hx hb dX1_ring_52 rfl (lv_at hl 7 rfl) ?_
  refine gf_X1_1 hx hb hts hown hK hf' rfl dX1_ring_53 ?_
  refine lv_isub hx hb dX1_ring_56 ?_
  refine lv_i2l hx hb dX1_ring_57 rfl ?_
  refine lv_lstore (lv' := [(12, .long _), (10, .long _), (8, .long _), (6, .long _), (4, .long _), (0, .ref _), (1, .ref _), (2, .ref _), (3, .ref _)]) hx hb dX1_ring_58 hl (Nat.le_of_ble_eq_true rfl) rfl (fun ls hl => ?_)
  refine lv_aload_n hx hb dX1_ring_60 rfl (lv_at hl 7 rfl) ?_
  refine gf_X1_7 hx hb hts hown hK hd' rfl dX1_ring_61 ?_
  refine lv_aload_n hx hb dX1_ring_64 rfl (lv_at hl 8 rfl) ?_
  refine gf_X1_7 hx hb hts hown hK hf' rfl dX1_ring_65 ?_
  refine lv_isub hx hb dX1_ring_68 ?_
  refine lv_i2l hx hb dX1_ring_69 rfl ?_
  refine lv_lstore (lv' := [(14, .long _), (12, .long _), (10, .long _), (8, .long _), (6, .long _), (4, .long _), (0, .ref _), (1, .ref _), (2, .ref _), (3, .ref _)]) hx hb dX1_ring_70 hl (Nat.le_of_ble_eq_true rfl) rfl (fun ls hl => ?_)
  refine lv_lload hx hb dX1_ring_72 (lv_at hl 5 rfl) ?_
  refine lv_lload hx hb dX1_ring_74 (lv_at hl 5 rfl) ?_
  refine lv_lmul hx hb dX1_ring_76 ?_
  refine lv_lload hx hb dX1_ring_77 (lv_at hl 4 rfl) ?_
  refine lv_lload hx hb dX1_ring_79 (lv_at hl 4 rfl) ?_
  refine lv_lmul hx hb dX1_ring_81 ?_
  refine lv_ladd hx hb dX1_ring_82 ?_
  refine lv_lload hx hb dX1_ring_83 (lv_at hl 3 rfl) ?_
  refine lv_lload hx hb dX1_ring_85 (lv_at hl 2 rfl) ?_
  refine lv_lload hx hb dX1_ring_87 (lv_at hl 1 rfl) ?_
  refine lv_lload hx hb dX1_ring_89 (lv_at hl 0 rfl) ?_
  refine p_callS (As := [.long _, .long _, .long _, .long _]) hx hb hml hown hts hK hZ (met_X1_bracket l G ) q195 q196 q42 q197 hd_X1_bracket rfl (by decide) hl.1 rfl (Nat.le_of_ble_eq_true rfl) dX1_ring_91 ⟨Nat.zero_le _, Nat.zero_le _⟩ ?_
  refine lv_lmul hx hb dX1_ring_94 ?_
  refine lv_lload hx hb dX1_ring_95 (lv_at hl 3 rfl) ?_
  refine lv_lload hx hb dX1_ring_97 (lv_at hl 3 rfl) ?_
  refine lv_lmul hx hb dX1_ring_99 ?_
  refine lv_lload hx hb dX1_ring_100 (lv_at hl 2 rfl) ?_
  refine lv_lload hx hb dX1_ring_102 (lv_at hl 2 rfl) ?_
  refine lv_lmul hx hb dX1_ring_104 ?_
  refine lv_ladd hx hb dX1_ring_105 ?_
  refine lv_lload hx hb dX1_ring_106 (lv_at hl 1 rfl) ?_
  refine lv_lload hx hb dX1_ring_108 (lv_at hl 0 rfl) ?_
  refine lv_lload hx hb dX1_ring_110 (lv_at hl 5 rfl) ?_
  refine lv_lload hx hb dX1_ring_112 (lv_at hl 4 rfl) ?_
  refine p_callS (As := [.long _, .long _, .long _, .long _]) hx hb hml hown hts hK hZ (met_X1_bracket l G ) q195 q196 q42 q197 hd_X1_bracket rfl (by decide) hl.1 rfl (Nat.le_of_ble_eq_true rfl) dX1_ring_114 ⟨Nat.zero_le _, Nat.zero_le _⟩ ?_
  refine lv_lmul hx hb dX1_ring_117 ?_
  refine lv_ladd hx hb dX1_ring_118 ?_
  refine lv_lload hx hb dX1_ring_119 (lv_at hl 1 rfl) ?_
  refine lv_lload hx hb dX1_ring_121 (lv_at hl 1 rfl) ?_
  refine lv_lmul hx hb dX1_ring_123 ?_
  refine lv_lload hx hb dX1_ring_124 (lv_at hl 0 rfl) ?_
  refine lv_lload hx hb dX1_ring_126 (lv_at hl 0 rfl) ?_
  refine lv_lmul hx hb dX1_ring_128 ?_
  refine lv_ladd hx hb dX1_ring_129 ?_
  refine lv_lload hx hb dX1_ring_130 (lv_at hl 5 rfl) ?_
  refine lv_lload hx hb dX1_ring_132 (lv_at hl 4 rfl) ?_
  refine lv_lload hx hb dX1_ring_134 (lv_at hl 3 rfl) ?_
  refine lv_lload hx hb dX1_ring_136 (lv_at hl 2 rfl) ?_
  refine p_callS (As := [.long _, .long _, .long _, .long _]) hx hb hml hown hts hK hZ (met_X1_bracket l G ) q195 q196 q42 q197 hd_X1_bracket rfl (by decide) hl.1 rfl (Nat.le_of_ble_eq_true rfl) dX1_ring_138 ⟨Nat.zero_le _, Nat.zero_le _⟩ ?_
  refine lv_lmul hx hb dX1_ring_141 ?_
  refine lv_ladd hx hb dX1_ring_142 ?_
  refine p_callS (As := [.long _]) hx hb hml hown hts hK hZ (met_X1_signOf l G ) q198 q199 q42 q200 hd_X1_signOf rfl (by decide) hl.1 rfl (Nat.le_of_ble_eq_true rfl) dX1_ring_143 ⟨Nat.zero_le _, Nat.zero_le _⟩ ?_
  exact pm_iret hx hb hr hlk hH dX1_ring_146 (by first | with_reducible rfl | (simp only [s_ring, s_ringV, s_br, ↓reduceIte, Bool.true_and, Bool.and_true, Bool.false_and, Bool.and_false, Bool.true_or, Bool.or_true, Bool.false_or, Bool.or_false, Bool.not_true, Bool.not_false, decide_true, decide_false, bI_t, bI_f, Bool.false_eq_true, not_true_eq_false, not_false_eq_true, eq_self, reduceCtorEq, Bool.true_eq_false, and_true, true_and, and_false, false_and, or_true, true_or, or_false, false_or]; done))
