set_option maxRecDepth 100000

theorem fc0 : FP.fconst0 = 0 := rfl
theorem sz_N {p : P2} (hp : OkP p) : FP.fIsNaN (fSz p) = false := by
  obtain ⟨cx, cy, -, -, -, ⟨f, -⟩, -⟩ := pt_F hp
  exact f.isN
theorem mx_N {p q : P2} (hp : OkP p) (hq : OkP q) : FP.fIsNaN (fMax (fSz p) (fSz q)) = false := by
  obtain ⟨cx, cy, -, -, -, ⟨f, n⟩, -⟩ := pt_F hp
  obtain ⟨dx, dy, -, -, -, ⟨g, k⟩, -⟩ := pt_F hq
  exact (fMax_FV f g n k).1.isN
theorem ptx_nn {p : P2} (hp : OkP p) : vf_n32 (FP.fdiv (FP.i2f p.1) 1094713344) := by
  obtain ⟨cx, cy, ⟨f, g⟩, -⟩ := pt_F hp
  exact f.nn
theorem pty_nn {p : P2} (hp : OkP p) : vf_n32 (FP.fdiv (FP.i2f p.2) 1094713344) := by
  obtain ⟨cx, cy, ⟨f, g⟩, -⟩ := pt_F hp
  exact g.nn
theorem dX3_size_0 : decode cX3_size 0 = .ok (.aload_n 0, 1) := by decide +kernel
theorem dX3_size_1 : decode cX3_size 1 = .ok (.getfield 20, 3) := by decide +kernel
theorem dX3_size_4 : decode cX3_size 4 = .ok (.invokestatic 27, 3) := by decide +kernel
theorem dX3_size_7 : decode cX3_size 7 = .ok (.aload_n 0, 1) := by decide +kernel
theorem dX3_size_8 : decode cX3_size 8 = .ok (.getfield 24, 3) := by decide +kernel
theorem dX3_size_11 : decode cX3_size 11 = .ok (.invokestatic 27, 3) := by decide +kernel
theorem dX3_size_14 : decode cX3_size 14 = .ok (.invokestatic 33, 3) := by decide +kernel
theorem dX3_size_17 : decode cX3_size 17 = .ok (.freturn, 1) := by decide +kernel
set_option maxHeartbeats 4000000 in
theorem met_X3_size (l : Launch) (G : GG) {H : Heap} {a : Nat} {n : Int32} {p : P2} (ha : PtAt G H a n p) (hp : OkP p) : PM l yX3_size cX3_size 1 (some .float) 1 21 G H [.ref a] (some (.float (fSz p))) := by
  refine pm_intro pl_X3_size (Nat.le_of_ble_eq_true rfl) ?_
  intro pX eX sX mX belX methX cX ls hE hnm hl
  obtain ⟨hx, hb, hr, hlk, hml, hown, hts, hK, hZ, hH⟩ := hE
  have hl : lv_has ls 1 [(0, .ref a)] := hl
  obtain ⟨cx, cy, ⟨f1, f2⟩, -, -, -, -⟩ := pt_F hp
  refine lv_aload_n hx hb dX3_size_0 rfl (lv_at hl 0 rfl) ?_
  refine gf_X3_20 hx hb hts hown hK ha rfl dX3_size_1 ?_
  refine n_absF hx hb hml hown hts q171 hl.1 (Nat.le_of_ble_eq_true rfl) dX3_size_4 (by decide) f1.nn ?_
  refine lv_aload_n hx hb dX3_size_7 rfl (lv_at hl 0 rfl) ?_
  refine gf_X3_24 hx hb hts hown hK ha rfl dX3_size_8 ?_
  refine n_absF hx hb hml hown hts q171 hl.1 (Nat.le_of_ble_eq_true rfl) dX3_size_11 (by decide) f2.nn ?_
  refine n_maxF hx hb hml hown hts q181 hl.1 (Nat.le_of_ble_eq_true rfl) dX3_size_14 (by decide) (fAbs_FV f1).1.isN (fAbs_FV f2).1.isN ?_
  exact pm_fret hx hb hr hlk hH dX3_size_17 (by first | with_reducible rfl | (simp only [fSz, ↓reduceIte, Bool.true_and, Bool.and_true, Bool.false_and, Bool.and_false, Bool.true_or, Bool.or_true, Bool.false_or, Bool.or_false, Bool.not_true, Bool.not_false, decide_true, decide_false, bI_t, bI_f, Bool.false_eq_true, not_true_eq_false, not_false_eq_true, eq_self, reduceCtorEq, Bool.true_eq_false, and_true, true_and, and_false, false_and, or_true, true_or, or_false, false_or]; done))
theorem dX4_decided_0 : decode cX4_decided 0 = .ok (.fload_n 0, 1) := by decide +kernel
theorem dX4_decided_1 : decode cX4_decided 1 = .ok (.invokestatic 7, 3) := by decide +kernel
theorem dX4_decided_4 : decode cX4_decided 4 = .ok (.fload_n 1, 1) := by decide +kernel
theorem dX4_decided_5 : decode cX4_decided 5 = .ok (.fcmp .l, 1) := by decide +kernel
theorem dX4_decided_6 : decode cX4_decided 6 = .ok (.ifCond .le 17, 3) := by decide +kernel
theorem dX4_decided_9 : decode cX4_decided 9 = .ok (.fload_n 0, 1) := by decide +kernel
theorem dX4_decided_10 : decode cX4_decided 10 = .ok (.fconst 0, 1) := by decide +kernel
theorem dX4_decided_11 : decode cX4_decided 11 = .ok (.fcmp .l, 1) := by decide +kernel
theorem dX4_decided_12 : decode cX4_decided 12 = .ok (.ifCond .le 7, 3) := by decide +kernel
theorem dX4_decided_15 : decode cX4_decided 15 = .ok (.iconst 1, 1) := by decide +kernel
theorem dX4_decided_16 : decode cX4_decided 16 = .ok (.goto 8, 3) := by decide +kernel
theorem dX4_decided_19 : decode cX4_decided 19 = .ok (.iconst (-1), 1) := by decide +kernel
theorem dX4_decided_20 : decode cX4_decided 20 = .ok (.goto 4, 3) := by decide +kernel
theorem dX4_decided_23 : decode cX4_decided 23 = .ok (.iconst 0, 1) := by decide +kernel
theorem dX4_decided_24 : decode cX4_decided 24 = .ok (.ireturn, 1) := by decide +kernel
set_option maxHeartbeats 4000000 in
theorem met_X4_decided (l : Launch) (G : GG) {H : Heap} {v b : UInt32} (hv : vf_n32 v) : PM l yX4_decided cX4_decided 2 (some .int) 1 20 G H [.float v, .float b] (some (.int (j_dec v b))) := by
  refine pm_intro pl_X4_decided (Nat.le_of_ble_eq_true rfl) ?_
  intro pX eX sX mX belX methX cX ls hE hnm hl
  obtain ⟨hx, hb, hr, hlk, hml, hown, hts, hK, hZ, hH⟩ := hE
  have hl : lv_has ls 2 [(0, .float v), (1, .float b)] := hl
  refine lv_fload_n hx hb dX4_decided_0 rfl (lv_at hl 0 rfl) ?_
  refine n_absF hx hb hml hown hts q191 hl.1 (Nat.le_of_ble_eq_true rfl) dX4_decided_1 (by decide) hv ?_
  refine lv_fload_n hx hb dX4_decided_4 rfl (lv_at hl 1 rfl) ?_
  refine fc_l_le (tgt := 23) hx hb dX4_decided_5 dX4_decided_6 rfl (fun c_5 => ?_) (fun c_5 => ?_)
  · skip
    refine lv_iconst (v := 0) hx hb dX4_decided_23 ic_0 ?_
    exact pm_iret hx hb hr hlk hH dX4_decided_24 (by first | with_reducible rfl | (simp only [j_dec, c_5, fc0, ↓reduceIte, Bool.true_and, Bool.and_true, Bool.false_and, Bool.and_false, Bool.true_or, Bool.or_true, Bool.false_or, Bool.or_false, Bool.not_true, Bool.not_false, decide_true, decide_false, bI_t, bI_f, Bool.false_eq_true, not_true_eq_false, not_false_eq_true, eq_self, reduceCtorEq, Bool.true_eq_false, and_true, true_and, and_false, false_and, or_true, true_or, or_false, false_or]; done))
  refine lv_fload_n hx hb dX4_decided_9 rfl (lv_at hl 0 rfl) ?_
  refine lv_fconst0 hx hb dX4_decided_10 ?_
  refine fc_l_le (tgt := 19) hx hb dX4_decided_11 dX4_decided_12 rfl (fun c_11 => ?_) (fun c_11 => ?_)
  · skip
    rw [fc0] at c_11
    refine lv_iconst (v := -1) hx hb dX4_decided_19 ic_m1 ?_
    refine lv_goto (tgt := 24) hx hb dX4_decided_20 rfl ?_
    exact pm_iret hx hb hr hlk hH dX4_decided_24 (by first | with_reducible rfl | (simp only [j_dec, c_5, c_11, fc0, ↓reduceIte, Bool.true_and, Bool.and_true, Bool.false_and, Bool.and_false, Bool.true_or, Bool.or_true, Bool.false_or, Bool.or_false, Bool.not_true, Bool.not_false, decide_true, decide_false, bI_t, bI_f, Bool.false_eq_true, not_true_eq_false, not_false_eq_true, eq_self, reduceCtorEq, Bool.true_eq_false, and_true, true_and, and_false, false_and, or_true, true_or, or_false, false_or]; done) | (simp only [c_5, ↓reduceIte, Bool.true_and, Bool.and_true, Bool.false_and, Bool.and_false, Bool.true_or, Bool.or_true, Bool.false_or, Bool.or_false, Bool.not_true, Bool.not_false, decide_true, decide_false, bI_t, bI_f, Bool.false_eq_true, not_true_eq_false, not_false_eq_true, eq_self, reduceCtorEq, Bool.true_eq_false, and_true, true_and, and_false, false_and, or_true, true_or, or_false, false_or] at c_11; done) | (simp only [c_11, ↓reduceIte, Bool.true_and, Bool.and_true, Bool.false_and, Bool.and_false, Bool.true_or, Bool.or_true, Bool.false_or, Bool.or_false, Bool.not_true, Bool.not_false, decide_true, decide_false, bI_t, bI_f, Bool.false_eq_true, not_true_eq_false, not_false_eq_true, eq_self, reduceCtorEq, Bool.true_eq_false, and_true, true_and, and_false, false_and, or_true, true_or, or_false, false_or] at c_5; done))
  rw [fc0] at c_11
  refine lv_iconst (v := 1) hx hb dX4_decided_15 ic_1 ?_
  refine lv_goto (tgt := 24) hx hb dX4_decided_16 rfl ?_
  exact pm_iret hx hb hr hlk hH dX4_decided_24 (by first | with_reducible rfl | (simp only [j_dec, c_5, c_11, fc0, ↓reduceIte, Bool.true_and, Bool.and_true, Bool.false_and, Bool.and_false, Bool.true_or, Bool.or_true, Bool.false_or, Bool.or_false, Bool.not_true, Bool.not_false, decide_true, decide_false, bI_t, bI_f, Bool.false_eq_true, not_true_eq_false, not_false_eq_true, eq_self, reduceCtorEq, Bool.true_eq_false, and_true, true_and, and_false, false_and, or_true, true_or, or_false, false_or]; done) | (simp only [c_5, ↓reduceIte, Bool.true_and, Bool.and_true, Bool.false_and, Bool.and_false, Bool.true_or, Bool.or_true, Bool.false_or, Bool.or_false, Bool.not_true, Bool.not_false, decide_true, decide_false, bI_t, bI_f, Bool.false_eq_true, not_true_eq_false, not_false_eq_true, eq_self, reduceCtorEq, Bool.true_eq_false, and_true, true_and, and_false, false_and, or_true, true_or, or_false, false_or] at c_11; done) | (simp only [c_11, ↓reduceIte, Bool.true_and, Bool.and_true, Bool.false_and, Bool.and_false, Bool.true_or, Bool.or_true, Bool.false_or, Bool.or_false, Bool.not_true, Bool.not_false, decide_true, decide_false, bI_t, bI_f, Bool.false_eq_true, not_true_eq_false, not_false_eq_true, eq_self, reduceCtorEq, Bool.true_eq_false, and_true, true_and, and_false, false_and, or_true, true_or, or_false, false_or] at c_5; done))
theorem dX4_turn_0 : decode cX4_turn 0 = .ok (.aload_n 0, 1) := by decide +kernel
theorem dX4_turn_1 : decode cX4_turn 1 = .ok (.invokevirtual 13, 3) := by decide +kernel
theorem dX4_turn_4 : decode cX4_turn 4 = .ok (.aload_n 1, 1) := by decide +kernel
theorem dX4_turn_5 : decode cX4_turn 5 = .ok (.invokevirtual 13, 3) := by decide +kernel
theorem dX4_turn_8 : decode cX4_turn 8 = .ok (.aload_n 2, 1) := by decide +kernel
theorem dX4_turn_9 : decode cX4_turn 9 = .ok (.invokevirtual 13, 3) := by decide +kernel
theorem dX4_turn_12 : decode cX4_turn 12 = .ok (.invokestatic 19, 3) := by decide +kernel
theorem dX4_turn_15 : decode cX4_turn 15 = .ok (.invokestatic 19, 3) := by decide +kernel
theorem dX4_turn_18 : decode cX4_turn 18 = .ok (.fstore_n 3, 1) := by decide +kernel
theorem dX4_turn_19 : decode cX4_turn 19 = .ok (.aload_n 1, 1) := by decide +kernel
theorem dX4_turn_20 : decode cX4_turn 20 = .ok (.getfield 23, 3) := by decide +kernel
theorem dX4_turn_23 : decode cX4_turn 23 = .ok (.aload_n 0, 1) := by decide +kernel
theorem dX4_turn_24 : decode cX4_turn 24 = .ok (.getfield 23, 3) := by decide +kernel
theorem dX4_turn_27 : decode cX4_turn 27 = .ok (.fsub, 1) := by decide +kernel
theorem dX4_turn_28 : decode cX4_turn 28 = .ok (.aload_n 2, 1) := by decide +kernel
theorem dX4_turn_29 : decode cX4_turn 29 = .ok (.getfield 27, 3) := by decide +kernel
theorem dX4_turn_32 : decode cX4_turn 32 = .ok (.aload_n 0, 1) := by decide +kernel
theorem dX4_turn_33 : decode cX4_turn 33 = .ok (.getfield 27, 3) := by decide +kernel
theorem dX4_turn_36 : decode cX4_turn 36 = .ok (.fsub, 1) := by decide +kernel
theorem dX4_turn_37 : decode cX4_turn 37 = .ok (.fmul, 1) := by decide +kernel
theorem dX4_turn_38 : decode cX4_turn 38 = .ok (.aload_n 1, 1) := by decide +kernel
theorem dX4_turn_39 : decode cX4_turn 39 = .ok (.getfield 27, 3) := by decide +kernel
theorem dX4_turn_42 : decode cX4_turn 42 = .ok (.aload_n 0, 1) := by decide +kernel
theorem dX4_turn_43 : decode cX4_turn 43 = .ok (.getfield 27, 3) := by decide +kernel
theorem dX4_turn_46 : decode cX4_turn 46 = .ok (.fsub, 1) := by decide +kernel
theorem dX4_turn_47 : decode cX4_turn 47 = .ok (.aload_n 2, 1) := by decide +kernel
theorem dX4_turn_48 : decode cX4_turn 48 = .ok (.getfield 23, 3) := by decide +kernel
theorem dX4_turn_51 : decode cX4_turn 51 = .ok (.aload_n 0, 1) := by decide +kernel
theorem dX4_turn_52 : decode cX4_turn 52 = .ok (.getfield 23, 3) := by decide +kernel
theorem dX4_turn_55 : decode cX4_turn 55 = .ok (.fsub, 1) := by decide +kernel
theorem dX4_turn_56 : decode cX4_turn 56 = .ok (.fmul, 1) := by decide +kernel
theorem dX4_turn_57 : decode cX4_turn 57 = .ok (.fsub, 1) := by decide +kernel
theorem dX4_turn_58 : decode cX4_turn 58 = .ok (.fload_n 3, 1) := by decide +kernel
theorem dX4_turn_59 : decode cX4_turn 59 = .ok (.fload_n 3, 1) := by decide +kernel
theorem dX4_turn_60 : decode cX4_turn 60 = .ok (.fmul, 1) := by decide +kernel
theorem dX4_turn_61 : decode cX4_turn 61 = .ok (.ldc 32, 2) := by decide +kernel
theorem dX4_turn_63 : decode cX4_turn 63 = .ok (.fmul, 1) := by decide +kernel
theorem dX4_turn_64 : decode cX4_turn 64 = .ok (.invokestatic 33, 3) := by decide +kernel
theorem dX4_turn_67 : decode cX4_turn 67 = .ok (.ireturn, 1) := by decide +kernel
set_option maxHeartbeats 4000000 in
theorem met_X4_turn (l : Launch) (G : GG) {H : Heap} {a b d : Nat} {n k j : Int32} {p q r : P2} (ha : PtAt G H a n p) (hb' : PtAt G H b k q) (hd' : PtAt G H d j r) (hp : OkP p) (hq : OkP q) (hr' : OkP r) : PM l yX4_turn cX4_turn 4 (some .int) 2 41 G H [.ref a, .ref b, .ref d] (some (.int (j_ft p q r))) := by
  refine pm_intro pl_X4_turn (Nat.le_of_ble_eq_true rfl) ?_
  intro pX eX sX mX belX methX cX ls hE hnm hl
  obtain ⟨hx, hb, hr, hlk, hml, hown, hts, hK, hZ, hH⟩ := hE
  have hl : lv_has ls 4 [(0, .ref a), (1, .ref b), (2, .ref d)] := hl
  obtain ⟨⟨n1, n2, n3, n4, n5, n6, n7⟩, ⟨n8, n9⟩, -, -, -⟩ := ft_F hp hq hr'
  refine lv_aload_n hx hb dX4_turn_0 rfl (lv_at hl 0 rfl) ?_
  refine p_callV (As := []) hx hb hml hown hts hK hZ (met_X3_size l G ha hp) q167 q168 q169 q44 q170 hv_X3_size rfl ha rfl (by decide) hl.1 rfl (Nat.le_of_ble_eq_true rfl) dX4_turn_1 ⟨Nat.zero_le _, Nat.zero_le _⟩ ?_
  refine lv_aload_n hx hb dX4_turn_4 rfl (lv_at hl 1 rfl) ?_
  refine p_callV (As := []) hx hb hml hown hts hK hZ (met_X3_size l G hb' hq) q167 q168 q169 q44 q170 hv_X3_size rfl hb' rfl (by decide) hl.1 rfl (Nat.le_of_ble_eq_true rfl) dX4_turn_5 ⟨Nat.zero_le _, Nat.zero_le _⟩ ?_
  refine lv_aload_n hx hb dX4_turn_8 rfl (lv_at hl 2 rfl) ?_
  refine p_callV (As := []) hx hb hml hown hts hK hZ (met_X3_size l G hd' hr') q167 q168 q169 q44 q170 hv_X3_size rfl hd' rfl (by decide) hl.1 rfl (Nat.le_of_ble_eq_true rfl) dX4_turn_9 ⟨Nat.zero_le _, Nat.zero_le _⟩ ?_
  refine n_maxF hx hb hml hown hts q186 hl.1 (Nat.le_of_ble_eq_true rfl) dX4_turn_12 (by decide) (sz_N hq) (sz_N hr') ?_
  refine n_maxF hx hb hml hown hts q186 hl.1 (Nat.le_of_ble_eq_true rfl) dX4_turn_15 (by decide) (sz_N hp) (mx_N hq hr') ?_
  refine lv_fstore_n (lv' := [(3, .float _), (0, .ref _), (1, .ref _), (2, .ref _)]) hx hb dX4_turn_18 rfl hl (Nat.le_of_ble_eq_true rfl) rfl (fun ls hl => ?_)
  refine lv_aload_n hx hb dX4_turn_19 rfl (lv_at hl 2 rfl) ?_
  refine gf_X4_23 hx hb hts hown hK hb' rfl dX4_turn_20 ?_
  refine lv_aload_n hx hb dX4_turn_23 rfl (lv_at hl 1 rfl) ?_
  refine gf_X4_23 hx hb hts hown hK ha rfl dX4_turn_24 ?_
  refine lv_fsub hx hb dX4_turn_27 n1 ?_
  refine lv_aload_n hx hb dX4_turn_28 rfl (lv_at hl 3 rfl) ?_
  refine gf_X4_27 hx hb hts hown hK hd' rfl dX4_turn_29 ?_
  refine lv_aload_n hx hb dX4_turn_32 rfl (lv_at hl 1 rfl) ?_
  refine gf_X4_27 hx hb hts hown hK ha rfl dX4_turn_33 ?_
  refine lv_fsub hx hb dX4_turn_36 n2 ?_
  refine lv_fmul hx hb dX4_turn_37 n5 ?_
  refine lv_aload_n hx hb dX4_turn_38 rfl (lv_at hl 2 rfl) ?_
  refine gf_X4_27 hx hb hts hown hK hb' rfl dX4_turn_39 ?_
  refine lv_aload_n hx hb dX4_turn_42 rfl (lv_at hl 1 rfl) ?_
  refine gf_X4_27 hx hb hts hown hK ha rfl dX4_turn_43 ?_
  refine lv_fsub hx hb dX4_turn_46 n3 ?_
  refine lv_aload_n hx hb dX4_turn_47 rfl (lv_at hl 3 rfl) ?_
  refine gf_X4_23 hx hb hts hown hK hd' rfl dX4_turn_48 ?_
  refine lv_aload_n hx hb dX4_turn_51 rfl (lv_at hl 1 rfl) ?_
  refine gf_X4_23 hx hb hts hown hK ha rfl dX4_turn_52 ?_
  refine lv_fsub hx hb dX4_turn_55 n4 ?_
  refine lv_fmul hx hb dX4_turn_56 n6 ?_
  refine lv_fsub hx hb dX4_turn_57 n7 ?_
  refine lv_fload_n hx hb dX4_turn_58 rfl (lv_at hl 0 rfl) ?_
  refine lv_fload_n hx hb dX4_turn_59 rfl (lv_at hl 0 rfl) ?_
  refine lv_fmul hx hb dX4_turn_60 n8 ?_
  refine lv_ldcf hx hb hown (hts _ q187) dX4_turn_61 ?_
  refine lv_fmul hx hb dX4_turn_63 n9 ?_
  refine p_callS (As := [.float _, .float _]) hx hb hml hown hts hK hZ (met_X4_decided l G n7) q188 q189 q53 q190 hd_X4_decided rfl (by decide) hl.1 rfl (Nat.le_of_ble_eq_true rfl) dX4_turn_64 ⟨Nat.zero_le _, Nat.zero_le _⟩ ?_
  exact pm_iret hx hb hr hlk hH dX4_turn_67 (by first | with_reducible rfl | (simp only [j_ft, fV3, fB3, jS3, ↓reduceIte, Bool.true_and, Bool.and_true, Bool.false_and, Bool.and_false, Bool.true_or, Bool.or_true, Bool.false_or, Bool.or_false, Bool.not_true, Bool.not_false, decide_true, decide_false, bI_t, bI_f, Bool.false_eq_true, not_true_eq_false, not_false_eq_true, eq_self, reduceCtorEq, Bool.true_eq_false, and_true, true_and, and_false, false_and, or_true, true_or, or_false, false_or]; done))
theorem dX4_ring_0 : decode cX4_ring 0 = .ok (.aload_n 0, 1) := by decide +kernel
theorem dX4_ring_1 : decode cX4_ring 1 = .ok (.invokevirtual 13, 3) := by decide +kernel
theorem dX4_ring_4 : decode cX4_ring 4 = .ok (.aload_n 1, 1) := by decide +kernel
theorem dX4_ring_5 : decode cX4_ring 5 = .ok (.invokevirtual 13, 3) := by decide +kernel
theorem dX4_ring_8 : decode cX4_ring 8 = .ok (.invokestatic 19, 3) := by decide +kernel
theorem dX4_ring_11 : decode cX4_ring 11 = .ok (.aload_n 2, 1) := by decide +kernel
theorem dX4_ring_12 : decode cX4_ring 12 = .ok (.invokevirtual 13, 3) := by decide +kernel
theorem dX4_ring_15 : decode cX4_ring 15 = .ok (.aload_n 3, 1) := by decide +kernel
theorem dX4_ring_16 : decode cX4_ring 16 = .ok (.invokevirtual 13, 3) := by decide +kernel
theorem dX4_ring_19 : decode cX4_ring 19 = .ok (.invokestatic 19, 3) := by decide +kernel
theorem dX4_ring_22 : decode cX4_ring 22 = .ok (.invokestatic 19, 3) := by decide +kernel
theorem dX4_ring_25 : decode cX4_ring 25 = .ok (.fstore 4, 2) := by decide +kernel
theorem dX4_ring_27 : decode cX4_ring 27 = .ok (.aload_n 0, 1) := by decide +kernel
theorem dX4_ring_28 : decode cX4_ring 28 = .ok (.getfield 23, 3) := by decide +kernel
theorem dX4_ring_31 : decode cX4_ring 31 = .ok (.aload_n 3, 1) := by decide +kernel
theorem dX4_ring_32 : decode cX4_ring 32 = .ok (.getfield 23, 3) := by decide +kernel
theorem dX4_ring_35 : decode cX4_ring 35 = .ok (.fsub, 1) := by decide +kernel
theorem dX4_ring_36 : decode cX4_ring 36 = .ok (.fstore 5, 2) := by decide +kernel
theorem dX4_ring_38 : decode cX4_ring 38 = .ok (.aload_n 0, 1) := by decide +kernel
theorem dX4_ring_39 : decode cX4_ring 39 = .ok (.getfield 27, 3) := by decide +kernel
theorem dX4_ring_42 : decode cX4_ring 42 = .ok (.aload_n 3, 1) := by decide +kernel
theorem dX4_ring_43 : decode cX4_ring 43 = .ok (.getfield 27, 3) := by decide +kernel
theorem dX4_ring_46 : decode cX4_ring 46 = .ok (.fsub, 1) := by decide +kernel
theorem dX4_ring_47 : decode cX4_ring 47 = .ok (.fstore 6, 2) := by decide +kernel
theorem dX4_ring_49 : decode cX4_ring 49 = .ok (.aload_n 1, 1) := by decide +kernel
theorem dX4_ring_50 : decode cX4_ring 50 = .ok (.getfield 23, 3) := by decide +kernel
theorem dX4_ring_53 : decode cX4_ring 53 = .ok (.aload_n 3, 1) := by decide +kernel
theorem dX4_ring_54 : decode cX4_ring 54 = .ok (.getfield 23, 3) := by decide +kernel
theorem dX4_ring_57 : decode cX4_ring 57 = .ok (.fsub, 1) := by decide +kernel
theorem dX4_ring_58 : decode cX4_ring 58 = .ok (.fstore 7, 2) := by decide +kernel
theorem dX4_ring_60 : decode cX4_ring 60 = .ok (.aload_n 1, 1) := by decide +kernel
theorem dX4_ring_61 : decode cX4_ring 61 = .ok (.getfield 27, 3) := by decide +kernel
theorem dX4_ring_64 : decode cX4_ring 64 = .ok (.aload_n 3, 1) := by decide +kernel
theorem dX4_ring_65 : decode cX4_ring 65 = .ok (.getfield 27, 3) := by decide +kernel
theorem dX4_ring_68 : decode cX4_ring 68 = .ok (.fsub, 1) := by decide +kernel
theorem dX4_ring_69 : decode cX4_ring 69 = .ok (.fstore 8, 2) := by decide +kernel
theorem dX4_ring_71 : decode cX4_ring 71 = .ok (.aload_n 2, 1) := by decide +kernel
theorem dX4_ring_72 : decode cX4_ring 72 = .ok (.getfield 23, 3) := by decide +kernel
theorem dX4_ring_75 : decode cX4_ring 75 = .ok (.aload_n 3, 1) := by decide +kernel
theorem dX4_ring_76 : decode cX4_ring 76 = .ok (.getfield 23, 3) := by decide +kernel
theorem dX4_ring_79 : decode cX4_ring 79 = .ok (.fsub, 1) := by decide +kernel
theorem dX4_ring_80 : decode cX4_ring 80 = .ok (.fstore 9, 2) := by decide +kernel
theorem dX4_ring_82 : decode cX4_ring 82 = .ok (.aload_n 2, 1) := by decide +kernel
theorem dX4_ring_83 : decode cX4_ring 83 = .ok (.getfield 27, 3) := by decide +kernel
theorem dX4_ring_86 : decode cX4_ring 86 = .ok (.aload_n 3, 1) := by decide +kernel
theorem dX4_ring_87 : decode cX4_ring 87 = .ok (.getfield 27, 3) := by decide +kernel
theorem dX4_ring_90 : decode cX4_ring 90 = .ok (.fsub, 1) := by decide +kernel
theorem dX4_ring_91 : decode cX4_ring 91 = .ok (.fstore 10, 2) := by decide +kernel
theorem dX4_ring_93 : decode cX4_ring 93 = .ok (.fload 5, 2) := by decide +kernel
theorem dX4_ring_95 : decode cX4_ring 95 = .ok (.fload 5, 2) := by decide +kernel
theorem dX4_ring_97 : decode cX4_ring 97 = .ok (.fmul, 1) := by decide +kernel
theorem dX4_ring_98 : decode cX4_ring 98 = .ok (.fload 6, 2) := by decide +kernel
theorem dX4_ring_100 : decode cX4_ring 100 = .ok (.fload 6, 2) := by decide +kernel
theorem dX4_ring_102 : decode cX4_ring 102 = .ok (.fmul, 1) := by decide +kernel
theorem dX4_ring_103 : decode cX4_ring 103 = .ok (.fadd, 1) := by decide +kernel
theorem dX4_ring_104 : decode cX4_ring 104 = .ok (.fstore 11, 2) := by decide +kernel
theorem dX4_ring_106 : decode cX4_ring 106 = .ok (.fload 7, 2) := by decide +kernel
theorem dX4_ring_108 : decode cX4_ring 108 = .ok (.fload 7, 2) := by decide +kernel
theorem dX4_ring_110 : decode cX4_ring 110 = .ok (.fmul, 1) := by decide +kernel
theorem dX4_ring_111 : decode cX4_ring 111 = .ok (.fload 8, 2) := by decide +kernel
theorem dX4_ring_113 : decode cX4_ring 113 = .ok (.fload 8, 2) := by decide +kernel
theorem dX4_ring_115 : decode cX4_ring 115 = .ok (.fmul, 1) := by decide +kernel
theorem dX4_ring_116 : decode cX4_ring 116 = .ok (.fadd, 1) := by decide +kernel
theorem dX4_ring_117 : decode cX4_ring 117 = .ok (.fstore 12, 2) := by decide +kernel
theorem dX4_ring_119 : decode cX4_ring 119 = .ok (.fload 9, 2) := by decide +kernel
theorem dX4_ring_121 : decode cX4_ring 121 = .ok (.fload 9, 2) := by decide +kernel
theorem dX4_ring_123 : decode cX4_ring 123 = .ok (.fmul, 1) := by decide +kernel
theorem dX4_ring_124 : decode cX4_ring 124 = .ok (.fload 10, 2) := by decide +kernel
theorem dX4_ring_126 : decode cX4_ring 126 = .ok (.fload 10, 2) := by decide +kernel
theorem dX4_ring_128 : decode cX4_ring 128 = .ok (.fmul, 1) := by decide +kernel
theorem dX4_ring_129 : decode cX4_ring 129 = .ok (.fadd, 1) := by decide +kernel
theorem dX4_ring_130 : decode cX4_ring 130 = .ok (.fstore 13, 2) := by decide +kernel
theorem dX4_ring_132 : decode cX4_ring 132 = .ok (.fload 11, 2) := by decide +kernel
theorem dX4_ring_134 : decode cX4_ring 134 = .ok (.fload 7, 2) := by decide +kernel
theorem dX4_ring_136 : decode cX4_ring 136 = .ok (.fload 10, 2) := by decide +kernel
theorem dX4_ring_138 : decode cX4_ring 138 = .ok (.fmul, 1) := by decide +kernel
theorem dX4_ring_139 : decode cX4_ring 139 = .ok (.fload 8, 2) := by decide +kernel
theorem dX4_ring_141 : decode cX4_ring 141 = .ok (.fload 9, 2) := by decide +kernel
theorem dX4_ring_143 : decode cX4_ring 143 = .ok (.fmul, 1) := by decide +kernel
theorem dX4_ring_144 : decode cX4_ring 144 = .ok (.fsub, 1) := by decide +kernel
theorem dX4_ring_145 : decode cX4_ring 145 = .ok (.fmul, 1) := by decide +kernel
theorem dX4_ring_146 : decode cX4_ring 146 = .ok (.fload 12, 2) := by decide +kernel
theorem dX4_ring_148 : decode cX4_ring 148 = .ok (.fload 9, 2) := by decide +kernel
theorem dX4_ring_150 : decode cX4_ring 150 = .ok (.fload 6, 2) := by decide +kernel
theorem dX4_ring_152 : decode cX4_ring 152 = .ok (.fmul, 1) := by decide +kernel
theorem dX4_ring_153 : decode cX4_ring 153 = .ok (.fload 10, 2) := by decide +kernel
theorem dX4_ring_155 : decode cX4_ring 155 = .ok (.fload 5, 2) := by decide +kernel
theorem dX4_ring_157 : decode cX4_ring 157 = .ok (.fmul, 1) := by decide +kernel
theorem dX4_ring_158 : decode cX4_ring 158 = .ok (.fsub, 1) := by decide +kernel
theorem dX4_ring_159 : decode cX4_ring 159 = .ok (.fmul, 1) := by decide +kernel
theorem dX4_ring_160 : decode cX4_ring 160 = .ok (.fadd, 1) := by decide +kernel
theorem dX4_ring_161 : decode cX4_ring 161 = .ok (.fload 13, 2) := by decide +kernel
theorem dX4_ring_163 : decode cX4_ring 163 = .ok (.fload 5, 2) := by decide +kernel
theorem dX4_ring_165 : decode cX4_ring 165 = .ok (.fload 8, 2) := by decide +kernel
theorem dX4_ring_167 : decode cX4_ring 167 = .ok (.fmul, 1) := by decide +kernel
theorem dX4_ring_168 : decode cX4_ring 168 = .ok (.fload 6, 2) := by decide +kernel
theorem dX4_ring_170 : decode cX4_ring 170 = .ok (.fload 7, 2) := by decide +kernel
theorem dX4_ring_172 : decode cX4_ring 172 = .ok (.fmul, 1) := by decide +kernel
theorem dX4_ring_173 : decode cX4_ring 173 = .ok (.fsub, 1) := by decide +kernel
theorem dX4_ring_174 : decode cX4_ring 174 = .ok (.fmul, 1) := by decide +kernel
theorem dX4_ring_175 : decode cX4_ring 175 = .ok (.fadd, 1) := by decide +kernel
theorem dX4_ring_176 : decode cX4_ring 176 = .ok (.fstore 14, 2) := by decide +kernel
theorem dX4_ring_178 : decode cX4_ring 178 = .ok (.fload 14, 2) := by decide +kernel
theorem dX4_ring_180 : decode cX4_ring 180 = .ok (.fload 4, 2) := by decide +kernel
theorem dX4_ring_182 : decode cX4_ring 182 = .ok (.fload 4, 2) := by decide +kernel
theorem dX4_ring_184 : decode cX4_ring 184 = .ok (.fmul, 1) := by decide +kernel
theorem dX4_ring_185 : decode cX4_ring 185 = .ok (.fload 4, 2) := by decide +kernel
theorem dX4_ring_187 : decode cX4_ring 187 = .ok (.fload 4, 2) := by decide +kernel
theorem dX4_ring_189 : decode cX4_ring 189 = .ok (.fmul, 1) := by decide +kernel
theorem dX4_ring_190 : decode cX4_ring 190 = .ok (.fmul, 1) := by decide +kernel
theorem dX4_ring_191 : decode cX4_ring 191 = .ok (.ldc 37, 2) := by decide +kernel
theorem dX4_ring_193 : decode cX4_ring 193 = .ok (.fmul, 1) := by decide +kernel
theorem dX4_ring_194 : decode cX4_ring 194 = .ok (.invokestatic 33, 3) := by decide +kernel
theorem dX4_ring_197 : decode cX4_ring 197 = .ok (.ireturn, 1) := by decide +kernel
set_option maxHeartbeats 4000000 in
theorem met_X4_ring (l : Launch) (G : GG) {H : Heap} {a b d f : Nat} {n k j i : Int32} {p q r u : P2} (ha : PtAt G H a n p) (hb' : PtAt G H b k q) (hd' : PtAt G H d j r) (hf' : PtAt G H f i u) (hp : OkP p) (hq : OkP q) (hr' : OkP r) (hu : OkP u) : PM l yX4_ring cX4_ring 15 (some .int) 2 41 G H [.ref a, .ref b, .ref d, .ref f] (some (.int (j_fr p q r u))) := by
  refine pm_intro pl_X4_ring (Nat.le_of_ble_eq_true rfl) ?_
  intro pX eX sX mX belX methX cX ls hE hnm hl
  obtain ⟨hx, hb, hr, hlk, hml, hown, hts, hK, hZ, hH⟩ := hE
  have hl : lv_has ls 15 [(0, .ref a), (1, .ref b), (2, .ref d), (3, .ref f)] := hl
  obtain ⟨⟨⟨a1, a2⟩, ⟨b1, b2⟩, ⟨c1, c2⟩⟩, ⟨⟨⟨s1, s2, s3⟩, ⟨s4, s5, s6⟩, ⟨s7, s8, s9⟩⟩, ⟨⟨k1, k2, k3⟩, ⟨k4, k5, k6⟩, ⟨k7, k8, k9⟩⟩, ⟨m1, m2, m3⟩, z1, z2⟩, ⟨⟨e1, e2⟩, e3⟩, -, -, -⟩ := fr_F hp hq hr' hu
  refine lv_aload_n hx hb dX4_ring_0 rfl (lv_at hl 0 rfl) ?_
  refine p_callV (As := []) hx hb hml hown hts hK hZ (met_X3_size l G ha hp) q167 q168 q169 q44 q170 hv_X3_size rfl ha rfl (by decide) hl.1 rfl (Nat.le_of_ble_eq_true rfl) dX4_ring_1 ⟨Nat.zero_le _, Nat.zero_le _⟩ ?_
  refine lv_aload_n hx hb dX4_ring_4 rfl (lv_at hl 1 rfl) ?_
  refine p_callV (As := []) hx hb hml hown hts hK hZ (met_X3_size l G hb' hq) q167 q168 q169 q44 q170 hv_X3_size rfl hb' rfl (by decide) hl.1 rfl (Nat.le_of_ble_eq_true rfl) dX4_ring_5 ⟨Nat.zero_le _, Nat.zero_le _⟩ ?_
  refine n_maxF hx hb hml hown hts q186 hl.1 (Nat.le_of_ble_eq_true rfl) dX4_ring_8 (by decide) (sz_N hp) (sz_N hq) ?_
  refine lv_aload_n hx hb dX4_ring_11 rfl (lv_at hl 2 rfl) ?_
  refine p_callV (As := []) hx hb hml hown hts hK hZ (met_X3_size l G hd' hr') q167 q168 q169 q44 q170 hv_X3_size rfl hd' rfl (by decide) hl.1 rfl (Nat.le_of_ble_eq_true rfl) dX4_ring_12 ⟨Nat.zero_le _, Nat.zero_le _⟩ ?_
  refine lv_aload_n hx hb dX4_ring_15 rfl (lv_at hl 3 rfl) ?_
  refine p_callV (As := []) hx hb hml hown hts hK hZ (met_X3_size l G hf' hu) q167 q168 q169 q44 q170 hv_X3_size rfl hf' rfl (by decide) hl.1 rfl (Nat.le_of_ble_eq_true rfl) dX4_ring_16 ⟨Nat.zero_le _, Nat.zero_le _⟩ ?_
  refine n_maxF hx hb hml hown hts q186 hl.1 (Nat.le_of_ble_eq_true rfl) dX4_ring_19 (by decide) (sz_N hr') (sz_N hu) ?_
  refine n_maxF hx hb hml hown hts q186 hl.1 (Nat.le_of_ble_eq_true rfl) dX4_ring_22 (by decide) (mx_N hp hq) (mx_N hr' hu) ?_
  refine lv_fstore (lv' := [(4, .float _), (0, .ref _), (1, .ref _), (2, .ref _), (3, .ref _)]) hx hb dX4_ring_25 hl (Nat.le_of_ble_eq_true rfl) rfl (fun ls hl => ?_)
  refine lv_aload_n hx hb dX4_ring_27 rfl (lv_at hl 1 rfl) ?_
  refine gf_X4_23 hx hb hts hown hK ha rfl dX4_ring_28 ?_
  refine lv_aload_n hx hb dX4_ring_31 rfl (lv_at hl 4 rfl) ?_
  refine gf_X4_23 hx hb hts hown hK hf' rfl dX4_ring_32 ?_
  refine lv_fsub hx hb dX4_ring_35 a1 ?_
  refine lv_fstore (lv' := [(5, .float _), (4, .float _), (0, .ref _), (1, .ref _), (2, .ref _), (3, .ref _)]) hx hb dX4_ring_36 hl (Nat.le_of_ble_eq_true rfl) rfl (fun ls hl => ?_)
  refine lv_aload_n hx hb dX4_ring_38 rfl (lv_at hl 2 rfl) ?_
  refine gf_X4_27 hx hb hts hown hK ha rfl dX4_ring_39 ?_
  refine lv_aload_n hx hb dX4_ring_42 rfl (lv_at hl 5 rfl) ?_
  refine gf_X4_27 hx hb hts hown hK hf' rfl dX4_ring_43 ?_
  refine lv_fsub hx hb dX4_ring_46 a2 ?_
  refine lv_fstore (lv' := [(6, .float _), (5, .float _), (4, .float _), (0, .ref _), (1, .ref _), (2, .ref _), (3, .ref _)]) hx hb dX4_ring_47 hl (Nat.le_of_ble_eq_true rfl) rfl (fun ls hl => ?_)
  refine lv_aload_n hx hb dX4_ring_49 rfl (lv_at hl 4 rfl) ?_
  refine gf_X4_23 hx hb hts hown hK hb' rfl dX4_ring_50 ?_
  refine lv_aload_n hx hb dX4_ring_53 rfl (lv_at hl 6 rfl) ?_
  refine gf_X4_23 hx hb hts hown hK hf' rfl dX4_ring_54 ?_
  refine lv_fsub hx hb dX4_ring_57 b1 ?_
  refine lv_fstore (lv' := [(7, .float _), (6, .float _), (5, .float _), (4, .float _), (0, .ref _), (1, .ref _), (2, .ref _), (3, .ref _)]) hx hb dX4_ring_58 hl (Nat.le_of_ble_eq_true rfl) rfl (fun ls hl => ?_)
  refine lv_aload_n hx hb dX4_ring_60 rfl (lv_at hl 5 rfl) ?_
  refine gf_X4_27 hx hb hts hown hK hb' rfl dX4_ring_61 ?_
  refine lv_aload_n hx hb dX4_ring_64 rfl (lv_at hl 7 rfl) ?_
  refine gf_X4_27 hx hb hts hown hK hf' rfl dX4_ring_65 ?_
  refine lv_fsub hx hb dX4_ring_68 b2 ?_
  refine lv_fstore (lv' := [(8, .float _), (7, .float _), (6, .float _), (5, .float _), (4, .float _), (0, .ref _), (1, .ref _), (2, .ref _), (3, .ref _)]) hx hb dX4_ring_69 hl (Nat.le_of_ble_eq_true rfl) rfl (fun ls hl => ?_)
  refine lv_aload_n hx hb dX4_ring_71 rfl (lv_at hl 7 rfl) ?_
  refine gf_X4_23 hx hb hts hown hK hd' rfl dX4_ring_72 ?_
  refine lv_aload_n hx hb dX4_ring_75 rfl (lv_at hl 8 rfl) ?_
  refine gf_X4_23 hx hb hts hown hK hf' rfl dX4_ring_76 ?_
  refine lv_fsub hx hb dX4_ring_79 c1 ?_
  refine lv_fstore (lv' := [(9, .float _), (8, .float _), (7, .float _), (6, .float _), (5, .float _), (4, .float _), (0, .ref _), (1, .ref _), (2, .ref _), (3, .ref _)]) hx hb dX4_ring_80 hl (Nat.le_of_ble_eq_true rfl) rfl (fun ls hl => ?_)
  refine lv_aload_n hx hb dX4_ring_82 rfl (lv_at hl 8 rfl) ?_
  refine gf_X4_27 hx hb hts hown hK hd' rfl dX4_ring_83 ?_
  refine lv_aload_n hx hb dX4_ring_86 rfl (lv_at hl 9 rfl) ?_
  refine gf_X4_27 hx hb hts hown hK hf' rfl dX4_ring_87 ?_
  refine lv_fsub hx hb dX4_ring_90 c2 ?_
  refine lv_fstore (lv' := [(10, .float _), (9, .float _), (8, .float _), (7, .float _), (6, .float _), (5, .float _), (4, .float _), (0, .ref _), (1, .ref _), (2, .ref _), (3, .ref _)]) hx hb dX4_ring_91 hl (Nat.le_of_ble_eq_true rfl) rfl (fun ls hl => ?_)
  refine lv_fload hx hb dX4_ring_93 (lv_at hl 5 rfl) ?_
  refine lv_fload hx hb dX4_ring_95 (lv_at hl 5 rfl) ?_
  refine lv_fmul hx hb dX4_ring_97 s1 ?_
  refine lv_fload hx hb dX4_ring_98 (lv_at hl 4 rfl) ?_
  refine lv_fload hx hb dX4_ring_100 (lv_at hl 4 rfl) ?_
  refine lv_fmul hx hb dX4_ring_102 s2 ?_
  refine lv_fadd hx hb dX4_ring_103 s3 ?_
  refine lv_fstore (lv' := [(11, .float _), (10, .float _), (9, .float _), (8, .float _), (7, .float _), (6, .float _), (5, .float _), (4, .float _), (0, .ref _), (1, .ref _), (2, .ref _), (3, .ref _)]) hx hb dX4_ring_104 hl (Nat.le_of_ble_eq_true rfl) rfl (fun ls hl => ?_)
  refine lv_fload hx hb dX4_ring_106 (lv_at hl 4 rfl) ?_
  refine lv_fload hx hb dX4_ring_108 (lv_at hl 4 rfl) ?_
  refine lv_fmul hx hb dX4_ring_110 s4 ?_
  refine lv_fload hx hb dX4_ring_111 (lv_at hl 3 rfl) ?_
  refine lv_fload hx hb dX4_ring_113 (lv_at hl 3 rfl) ?_
  refine lv_fmul hx hb dX4_ring_115 s5 ?_
  refine lv_fadd hx hb dX4_ring_116 s6 ?_
  refine lv_fstore (lv' := [(12, .float _), (11, .float _), (10, .float _), (9, .float _), (8, .float _), (7, .float _), (6, .float _), (5, .float _), (4, .float _), (0, .ref _), (1, .ref _), (2, .ref _), (3, .ref _)]) hx hb dX4_ring_117 hl (Nat.le_of_ble_eq_true rfl) rfl (fun ls hl => ?_)
  refine lv_fload hx hb dX4_ring_119 (lv_at hl 3 rfl) ?_
  refine lv_fload hx hb dX4_ring_121 (lv_at hl 3 rfl) ?_
  refine lv_fmul hx hb dX4_ring_123 s7 ?_
  refine lv_fload hx hb dX4_ring_124 (lv_at hl 2 rfl) ?_
  refine lv_fload hx hb dX4_ring_126 (lv_at hl 2 rfl) ?_
  refine lv_fmul hx hb dX4_ring_128 s8 ?_
  refine lv_fadd hx hb dX4_ring_129 s9 ?_
  refine lv_fstore (lv' := [(13, .float _), (12, .float _), (11, .float _), (10, .float _), (9, .float _), (8, .float _), (7, .float _), (6, .float _), (5, .float _), (4, .float _), (0, .ref _), (1, .ref _), (2, .ref _), (3, .ref _)]) hx hb dX4_ring_130 hl (Nat.le_of_ble_eq_true rfl) rfl (fun ls hl => ?_)
  refine lv_fload hx hb dX4_ring_132 (lv_at hl 2 rfl) ?_
  refine lv_fload hx hb dX4_ring_134 (lv_at hl 6 rfl) ?_
  refine lv_fload hx hb dX4_ring_136 (lv_at hl 3 rfl) ?_
  refine lv_fmul hx hb dX4_ring_138 k1 ?_
  refine lv_fload hx hb dX4_ring_139 (lv_at hl 5 rfl) ?_
  refine lv_fload hx hb dX4_ring_141 (lv_at hl 4 rfl) ?_
  refine lv_fmul hx hb dX4_ring_143 k2 ?_
  refine lv_fsub hx hb dX4_ring_144 k3 ?_
  refine lv_fmul hx hb dX4_ring_145 m1 ?_
  refine lv_fload hx hb dX4_ring_146 (lv_at hl 1 rfl) ?_
  refine lv_fload hx hb dX4_ring_148 (lv_at hl 4 rfl) ?_
  refine lv_fload hx hb dX4_ring_150 (lv_at hl 7 rfl) ?_
  refine lv_fmul hx hb dX4_ring_152 k4 ?_
  refine lv_fload hx hb dX4_ring_153 (lv_at hl 3 rfl) ?_
  refine lv_fload hx hb dX4_ring_155 (lv_at hl 8 rfl) ?_
  refine lv_fmul hx hb dX4_ring_157 k5 ?_
  refine lv_fsub hx hb dX4_ring_158 k6 ?_
  refine lv_fmul hx hb dX4_ring_159 m2 ?_
  refine lv_fadd hx hb dX4_ring_160 z1 ?_
  refine lv_fload hx hb dX4_ring_161 (lv_at hl 0 rfl) ?_
  refine lv_fload hx hb dX4_ring_163 (lv_at hl 8 rfl) ?_
  refine lv_fload hx hb dX4_ring_165 (lv_at hl 5 rfl) ?_
  refine lv_fmul hx hb dX4_ring_167 k7 ?_
  refine lv_fload hx hb dX4_ring_168 (lv_at hl 7 rfl) ?_
  refine lv_fload hx hb dX4_ring_170 (lv_at hl 6 rfl) ?_
  refine lv_fmul hx hb dX4_ring_172 k8 ?_
  refine lv_fsub hx hb dX4_ring_173 k9 ?_
  refine lv_fmul hx hb dX4_ring_174 m3 ?_
  refine lv_fadd hx hb dX4_ring_175 z2 ?_
  refine lv_fstore (lv' := [(14, .float _), (13, .float _), (12, .float _), (11, .float _), (10, .float _), (9, .float _), (8, .float _), (7, .float _), (6, .float _), (5, .float _), (4, .float _), (0, .ref _), (1, .ref _), (2, .ref _), (3, .ref _)]) hx hb dX4_ring_176 hl (Nat.le_of_ble_eq_true rfl) rfl (fun ls hl => ?_)
  refine lv_fload hx hb dX4_ring_178 (lv_at hl 0 rfl) ?_
  refine lv_fload hx hb dX4_ring_180 (lv_at hl 10 rfl) ?_
  refine lv_fload hx hb dX4_ring_182 (lv_at hl 10 rfl) ?_
  refine lv_fmul hx hb dX4_ring_184 e1 ?_
  refine lv_fload hx hb dX4_ring_185 (lv_at hl 10 rfl) ?_
  refine lv_fload hx hb dX4_ring_187 (lv_at hl 10 rfl) ?_
  refine lv_fmul hx hb dX4_ring_189 e1 ?_
  refine lv_fmul hx hb dX4_ring_190 e2 ?_
  refine lv_ldcf hx hb hown (hts _ q212) dX4_ring_191 ?_
  refine lv_fmul hx hb dX4_ring_193 e3 ?_
  refine p_callS (As := [.float _, .float _]) hx hb hml hown hts hK hZ (met_X4_decided l G z2) q188 q189 q53 q190 hd_X4_decided rfl (by decide) hl.1 rfl (Nat.le_of_ble_eq_true rfl) dX4_ring_194 ⟨Nat.zero_le _, Nat.zero_le _⟩ ?_
  exact pm_iret hx hb hr hlk hH dX4_ring_197 (by first | with_reducible rfl | (simp only [j_fr, fV4, fVV, fB4, jS4, ↓reduceIte, Bool.true_and, Bool.and_true, Bool.false_and, Bool.and_false, Bool.true_or, Bool.or_true, Bool.false_or, Bool.or_false, Bool.not_true, Bool.not_false, decide_true, decide_false, bI_t, bI_f, Bool.false_eq_true, not_true_eq_false, not_false_eq_true, eq_self, reduceCtorEq, Bool.true_eq_false, and_true, true_and, and_false, false_and, or_true, true_or, or_false, false_or]; done))
theorem dX2_size_2_0 : decode cX2_size_2 0 = .ok (.fload_n 0, 1) := by decide +kernel
theorem dX2_size_2_1 : decode cX2_size_2 1 = .ok (.fconst 0, 1) := by decide +kernel
theorem dX2_size_2_2 : decode cX2_size_2 2 = .ok (.fcmp .g, 1) := by decide +kernel
theorem dX2_size_2_3 : decode cX2_size_2 3 = .ok (.ifCond .ge 8, 3) := by decide +kernel
theorem dX2_size_2_6 : decode cX2_size_2 6 = .ok (.fload_n 0, 1) := by decide +kernel
theorem dX2_size_2_7 : decode cX2_size_2 7 = .ok (.fneg, 1) := by decide +kernel
theorem dX2_size_2_8 : decode cX2_size_2 8 = .ok (.goto 4, 3) := by decide +kernel
theorem dX2_size_2_11 : decode cX2_size_2 11 = .ok (.fload_n 0, 1) := by decide +kernel
theorem dX2_size_2_12 : decode cX2_size_2 12 = .ok (.freturn, 1) := by decide +kernel
set_option maxHeartbeats 4000000 in
theorem met_X2_size_2 (l : Launch) (G : GG) {H : Heap} {v : UInt32}  : PM l yX2_size_2 cX2_size_2 1 (some .float) 0 0 G H [.float v] (some (.float (mSz v))) := by
  refine pm_intro pl_X2_size_2 (Nat.le_of_ble_eq_true rfl) ?_
  intro pX eX sX mX belX methX cX ls hE hnm hl
  obtain ⟨hx, hb, hr, hlk, hml, hown, hts, hK, hZ, hH⟩ := hE
  have hl : lv_has ls 1 [(0, .float v)] := hl
  refine lv_fload_n hx hb dX2_size_2_0 rfl (lv_at hl 0 rfl) ?_
  refine lv_fconst0 hx hb dX2_size_2_1 ?_
  refine fc_g_ge (tgt := 11) hx hb dX2_size_2_2 dX2_size_2_3 rfl (fun c_2 => ?_) (fun c_2 => ?_)
  · skip
    rw [fc0] at c_2
    refine lv_fload_n hx hb dX2_size_2_11 rfl (lv_at hl 0 rfl) ?_
    exact pm_fret hx hb hr hlk hH dX2_size_2_12 (by first | with_reducible rfl | (simp only [mSz, c_2, fc0, ↓reduceIte, Bool.true_and, Bool.and_true, Bool.false_and, Bool.and_false, Bool.true_or, Bool.or_true, Bool.false_or, Bool.or_false, Bool.not_true, Bool.not_false, decide_true, decide_false, bI_t, bI_f, Bool.false_eq_true, not_true_eq_false, not_false_eq_true, eq_self, reduceCtorEq, Bool.true_eq_false, and_true, true_and, and_false, false_and, or_true, true_or, or_false, false_or]; done))
  rw [fc0] at c_2
  refine lv_fload_n hx hb dX2_size_2_6 rfl (lv_at hl 0 rfl) ?_
  refine lv_fneg hx hb dX2_size_2_7 ?_
  refine lv_goto (tgt := 12) hx hb dX2_size_2_8 rfl ?_
  exact pm_fret hx hb hr hlk hH dX2_size_2_12 (by first | with_reducible rfl | (simp only [mSz, c_2, fc0, ↓reduceIte, Bool.true_and, Bool.and_true, Bool.false_and, Bool.and_false, Bool.true_or, Bool.or_true, Bool.false_or, Bool.or_false, Bool.not_true, Bool.not_false, decide_true, decide_false, bI_t, bI_f, Bool.false_eq_true, not_true_eq_false, not_false_eq_true, eq_self, reduceCtorEq, Bool.true_eq_false, and_true, true_and, and_false, false_and, or_true, true_or, or_false, false_or]; done))
theorem dX2_greater_0 : decode cX2_greater 0 = .ok (.fload_n 0, 1) := by decide +kernel
theorem dX2_greater_1 : decode cX2_greater 1 = .ok (.fload_n 1, 1) := by decide +kernel
theorem dX2_greater_2 : decode cX2_greater 2 = .ok (.fcmp .l, 1) := by decide +kernel
theorem dX2_greater_3 : decode cX2_greater 3 = .ok (.ifCond .le 7, 3) := by decide +kernel
theorem dX2_greater_6 : decode cX2_greater 6 = .ok (.fload_n 0, 1) := by decide +kernel
theorem dX2_greater_7 : decode cX2_greater 7 = .ok (.goto 4, 3) := by decide +kernel
theorem dX2_greater_10 : decode cX2_greater 10 = .ok (.fload_n 1, 1) := by decide +kernel
theorem dX2_greater_11 : decode cX2_greater 11 = .ok (.freturn, 1) := by decide +kernel
set_option maxHeartbeats 4000000 in
theorem met_X2_greater (l : Launch) (G : GG) {H : Heap} {v b : UInt32}  : PM l yX2_greater cX2_greater 2 (some .float) 0 0 G H [.float v, .float b] (some (.float (mGr v b))) := by
  refine pm_intro pl_X2_greater (Nat.le_of_ble_eq_true rfl) ?_
  intro pX eX sX mX belX methX cX ls hE hnm hl
  obtain ⟨hx, hb, hr, hlk, hml, hown, hts, hK, hZ, hH⟩ := hE
  have hl : lv_has ls 2 [(0, .float v), (1, .float b)] := hl
  refine lv_fload_n hx hb dX2_greater_0 rfl (lv_at hl 0 rfl) ?_
  refine lv_fload_n hx hb dX2_greater_1 rfl (lv_at hl 1 rfl) ?_
  refine fc_l_le (tgt := 10) hx hb dX2_greater_2 dX2_greater_3 rfl (fun c_2 => ?_) (fun c_2 => ?_)
  · skip
    refine lv_fload_n hx hb dX2_greater_10 rfl (lv_at hl 1 rfl) ?_
    exact pm_fret hx hb hr hlk hH dX2_greater_11 (by first | with_reducible rfl | (simp only [mGr, c_2, ↓reduceIte, Bool.true_and, Bool.and_true, Bool.false_and, Bool.and_false, Bool.true_or, Bool.or_true, Bool.false_or, Bool.or_false, Bool.not_true, Bool.not_false, decide_true, decide_false, bI_t, bI_f, Bool.false_eq_true, not_true_eq_false, not_false_eq_true, eq_self, reduceCtorEq, Bool.true_eq_false, and_true, true_and, and_false, false_and, or_true, true_or, or_false, false_or]; done))
  refine lv_fload_n hx hb dX2_greater_6 rfl (lv_at hl 0 rfl) ?_
  refine lv_goto (tgt := 11) hx hb dX2_greater_7 rfl ?_
  exact pm_fret hx hb hr hlk hH dX2_greater_11 (by first | with_reducible rfl | (simp only [mGr, c_2, ↓reduceIte, Bool.true_and, Bool.and_true, Bool.false_and, Bool.and_false, Bool.true_or, Bool.or_true, Bool.false_or, Bool.or_false, Bool.not_true, Bool.not_false, decide_true, decide_false, bI_t, bI_f, Bool.false_eq_true, not_true_eq_false, not_false_eq_true, eq_self, reduceCtorEq, Bool.true_eq_false, and_true, true_and, and_false, false_and, or_true, true_or, or_false, false_or]; done))
theorem dX2_fx_0 : decode cX2_fx 0 = .ok (.aload_n 0, 1) := by decide +kernel
theorem dX2_fx_1 : decode cX2_fx 1 = .ok (.getfield 13, 3) := by decide +kernel
theorem dX2_fx_4 : decode cX2_fx 4 = .ok (.iload_n 1, 1) := by decide +kernel
theorem dX2_fx_5 : decode cX2_fx 5 = .ok (.iaload, 1) := by decide +kernel
theorem dX2_fx_6 : decode cX2_fx 6 = .ok (.i2f, 1) := by decide +kernel
theorem dX2_fx_7 : decode cX2_fx 7 = .ok (.ldc 76, 2) := by decide +kernel
theorem dX2_fx_9 : decode cX2_fx 9 = .ok (.fdiv, 1) := by decide +kernel
theorem dX2_fx_10 : decode cX2_fx 10 = .ok (.freturn, 1) := by decide +kernel
set_option maxHeartbeats 4000000 in
theorem met_X2_fx (l : Launch) (G : GG) {H : Heap} {o : Nat} {A : Nat → Nat} {σ : Sg} {th : Int32} {a : Nat} (hM : MW G H o A σ th) (hO : Ok σ) (i_a : a < σ.np) : PM l yX2_fx cX2_fx 2 (some .float) 0 0 G H [.ref o, .int (nI a)] (some (.float (fF (σ.pt a).1))) := by
  refine pm_intro pl_X2_fx (Nat.le_of_ble_eq_true rfl) ?_
  intro pX eX sX mX belX methX cX ls hE hnm hl
  obtain ⟨hx, hb, hr, hlk, hml, hown, hts, hK, hZ, hH⟩ := hE
  have hl : lv_has ls 2 [(0, .ref o), (1, .int (nI a))] := hl
  refine lv_aload_n hx hb dX2_fx_0 rfl (lv_at hl 0 rfl) ?_
  refine gf_X2_13 hx hb hts hown hK hM.1 rfl dX2_fx_1 ?_
  refine lv_iload_n hx hb dX2_fx_4 rfl (lv_at hl 1 rfl) ?_
  refine r_iald hx hb hK hM.2.1 dX2_fx_5 (k := a) (hO.lt60 i_a) (by decide) rfl rfl ?_
  refine lv_i2f hx hb dX2_fx_6 ?_
  refine lv_ldcf hx hb hown (hts _ q756) dX2_fx_7 ?_
  refine lv_fdiv hx hb dX2_fx_9 (ptx_nn (hO.2.2.1 a)) ?_
  exact pm_fret hx hb hr hlk hH dX2_fx_10 (by first | with_reducible rfl | (simp only [fF, ↓reduceIte, Bool.true_and, Bool.and_true, Bool.false_and, Bool.and_false, Bool.true_or, Bool.or_true, Bool.false_or, Bool.or_false, Bool.not_true, Bool.not_false, decide_true, decide_false, bI_t, bI_f, Bool.false_eq_true, not_true_eq_false, not_false_eq_true, eq_self, reduceCtorEq, Bool.true_eq_false, and_true, true_and, and_false, false_and, or_true, true_or, or_false, false_or]; done))
theorem dX2_fy_0 : decode cX2_fy 0 = .ok (.aload_n 0, 1) := by decide +kernel
theorem dX2_fy_1 : decode cX2_fy 1 = .ok (.getfield 17, 3) := by decide +kernel
theorem dX2_fy_4 : decode cX2_fy 4 = .ok (.iload_n 1, 1) := by decide +kernel
theorem dX2_fy_5 : decode cX2_fy 5 = .ok (.iaload, 1) := by decide +kernel
theorem dX2_fy_6 : decode cX2_fy 6 = .ok (.i2f, 1) := by decide +kernel
theorem dX2_fy_7 : decode cX2_fy 7 = .ok (.ldc 76, 2) := by decide +kernel
theorem dX2_fy_9 : decode cX2_fy 9 = .ok (.fdiv, 1) := by decide +kernel
theorem dX2_fy_10 : decode cX2_fy 10 = .ok (.freturn, 1) := by decide +kernel
set_option maxHeartbeats 4000000 in
theorem met_X2_fy (l : Launch) (G : GG) {H : Heap} {o : Nat} {A : Nat → Nat} {σ : Sg} {th : Int32} {a : Nat} (hM : MW G H o A σ th) (hO : Ok σ) (i_a : a < σ.np) : PM l yX2_fy cX2_fy 2 (some .float) 0 0 G H [.ref o, .int (nI a)] (some (.float (fF (σ.pt a).2))) := by
  refine pm_intro pl_X2_fy (Nat.le_of_ble_eq_true rfl) ?_
  intro pX eX sX mX belX methX cX ls hE hnm hl
  obtain ⟨hx, hb, hr, hlk, hml, hown, hts, hK, hZ, hH⟩ := hE
  have hl : lv_has ls 2 [(0, .ref o), (1, .int (nI a))] := hl
  refine lv_aload_n hx hb dX2_fy_0 rfl (lv_at hl 0 rfl) ?_
  refine gf_X2_17 hx hb hts hown hK hM.1 rfl dX2_fy_1 ?_
  refine lv_iload_n hx hb dX2_fy_4 rfl (lv_at hl 1 rfl) ?_
  refine r_iald hx hb hK hM.2.2.1 dX2_fy_5 (k := a) (hO.lt60 i_a) (by decide) rfl rfl ?_
  refine lv_i2f hx hb dX2_fy_6 ?_
  refine lv_ldcf hx hb hown (hts _ q756) dX2_fy_7 ?_
  refine lv_fdiv hx hb dX2_fy_9 (pty_nn (hO.2.2.1 a)) ?_
  exact pm_fret hx hb hr hlk hH dX2_fy_10 (by first | with_reducible rfl | (simp only [fF, ↓reduceIte, Bool.true_and, Bool.and_true, Bool.false_and, Bool.and_false, Bool.true_or, Bool.or_true, Bool.false_or, Bool.or_false, Bool.not_true, Bool.not_false, decide_true, decide_false, bI_t, bI_f, Bool.false_eq_true, not_true_eq_false, not_false_eq_true, eq_self, reduceCtorEq, Bool.true_eq_false, and_true, true_and, and_false, false_and, or_true, true_or, or_false, false_or]; done))
theorem dX2_most_0 : decode cX2_most 0 = .ok (.aload_n 0, 1) := by decide +kernel
theorem dX2_most_1 : decode cX2_most 1 = .ok (.iload_n 1, 1) := by decide +kernel
theorem dX2_most_2 : decode cX2_most 2 = .ok (.invokevirtual 77, 3) := by decide +kernel
theorem dX2_most_5 : decode cX2_most 5 = .ok (.invokestatic 81, 3) := by decide +kernel
theorem dX2_most_8 : decode cX2_most 8 = .ok (.aload_n 0, 1) := by decide +kernel
theorem dX2_most_9 : decode cX2_most 9 = .ok (.iload_n 1, 1) := by decide +kernel
theorem dX2_most_10 : decode cX2_most 10 = .ok (.invokevirtual 85, 3) := by decide +kernel
theorem dX2_most_13 : decode cX2_most 13 = .ok (.invokestatic 81, 3) := by decide +kernel
theorem dX2_most_16 : decode cX2_most 16 = .ok (.invokestatic 88, 3) := by decide +kernel
theorem dX2_most_19 : decode cX2_most 19 = .ok (.aload_n 0, 1) := by decide +kernel
theorem dX2_most_20 : decode cX2_most 20 = .ok (.iload_n 2, 1) := by decide +kernel
theorem dX2_most_21 : decode cX2_most 21 = .ok (.invokevirtual 77, 3) := by decide +kernel
theorem dX2_most_24 : decode cX2_most 24 = .ok (.invokestatic 81, 3) := by decide +kernel
theorem dX2_most_27 : decode cX2_most 27 = .ok (.aload_n 0, 1) := by decide +kernel
theorem dX2_most_28 : decode cX2_most 28 = .ok (.iload_n 2, 1) := by decide +kernel
theorem dX2_most_29 : decode cX2_most 29 = .ok (.invokevirtual 85, 3) := by decide +kernel
theorem dX2_most_32 : decode cX2_most 32 = .ok (.invokestatic 81, 3) := by decide +kernel
theorem dX2_most_35 : decode cX2_most 35 = .ok (.invokestatic 88, 3) := by decide +kernel
theorem dX2_most_38 : decode cX2_most 38 = .ok (.invokestatic 88, 3) := by decide +kernel
theorem dX2_most_41 : decode cX2_most 41 = .ok (.aload_n 0, 1) := by decide +kernel
theorem dX2_most_42 : decode cX2_most 42 = .ok (.iload_n 3, 1) := by decide +kernel
theorem dX2_most_43 : decode cX2_most 43 = .ok (.invokevirtual 77, 3) := by decide +kernel
theorem dX2_most_46 : decode cX2_most 46 = .ok (.invokestatic 81, 3) := by decide +kernel
theorem dX2_most_49 : decode cX2_most 49 = .ok (.aload_n 0, 1) := by decide +kernel
theorem dX2_most_50 : decode cX2_most 50 = .ok (.iload_n 3, 1) := by decide +kernel
theorem dX2_most_51 : decode cX2_most 51 = .ok (.invokevirtual 85, 3) := by decide +kernel
theorem dX2_most_54 : decode cX2_most 54 = .ok (.invokestatic 81, 3) := by decide +kernel
theorem dX2_most_57 : decode cX2_most 57 = .ok (.invokestatic 88, 3) := by decide +kernel
theorem dX2_most_60 : decode cX2_most 60 = .ok (.invokestatic 88, 3) := by decide +kernel
theorem dX2_most_63 : decode cX2_most 63 = .ok (.freturn, 1) := by decide +kernel
set_option maxHeartbeats 4000000 in
theorem met_X2_most (l : Launch) (G : GG) {H : Heap} {o : Nat} {A : Nat → Nat} {σ : Sg} {th : Int32} {a b d : Nat} (hM : MW G H o A σ th) (hO : Ok σ) (i_a : a < σ.np) (i_b : b < σ.np) (i_d : d < σ.np) : PM l yX2_most cX2_most 4 (some .float) 1 21 G H [.ref o, .int (nI a), .int (nI b), .int (nI d)] (some (.float (mS3 (σ.pt a) (σ.pt b) (σ.pt d)))) := by
  refine pm_intro pl_X2_most (Nat.le_of_ble_eq_true rfl) ?_
  intro pX eX sX mX belX methX cX ls hE hnm hl
  obtain ⟨hx, hb, hr, hlk, hml, hown, hts, hK, hZ, hH⟩ := hE
  have hl : lv_has ls 4 [(0, .ref o), (1, .int (nI a)), (2, .int (nI b)), (3, .int (nI d))] := hl
  refine lv_aload_n hx hb dX2_most_0 rfl (lv_at hl 0 rfl) ?_
  refine lv_iload_n hx hb dX2_most_1 rfl (lv_at hl 1 rfl) ?_
  refine p_callV (As := [.int _]) hx hb hml hown hts hK hZ (met_X2_fx l G hM hO i_a) q752 q754 qs17 q43 q755 hv_X2_fx rfl hM.1 rfl (by decide) hl.1 rfl (Nat.le_of_ble_eq_true rfl) dX2_most_2 ⟨Nat.zero_le _, Nat.zero_le _⟩ ?_
  refine p_callS (As := [.float _]) hx hb hml hown hts hK hZ (met_X2_size_2 l G ) q765 q766 q43 q767 hd_X2_size_2 rfl (by decide) hl.1 rfl (Nat.le_of_ble_eq_true rfl) dX2_most_5 ⟨Nat.zero_le _, Nat.zero_le _⟩ ?_
  refine lv_aload_n hx hb dX2_most_8 rfl (lv_at hl 0 rfl) ?_
  refine lv_iload_n hx hb dX2_most_9 rfl (lv_at hl 1 rfl) ?_
  refine p_callV (As := [.int _]) hx hb hml hown hts hK hZ (met_X2_fy l G hM hO i_a) q757 q759 qs18 q43 q760 hv_X2_fy rfl hM.1 rfl (by decide) hl.1 rfl (Nat.le_of_ble_eq_true rfl) dX2_most_10 ⟨Nat.zero_le _, Nat.zero_le _⟩ ?_
  refine p_callS (As := [.float _]) hx hb hml hown hts hK hZ (met_X2_size_2 l G ) q765 q766 q43 q767 hd_X2_size_2 rfl (by decide) hl.1 rfl (Nat.le_of_ble_eq_true rfl) dX2_most_13 ⟨Nat.zero_le _, Nat.zero_le _⟩ ?_
  refine p_callS (As := [.float _, .float _]) hx hb hml hown hts hK hZ (met_X2_greater l G ) q768 q769 q43 q770 hd_X2_greater rfl (by decide) hl.1 rfl (Nat.le_of_ble_eq_true rfl) dX2_most_16 ⟨Nat.zero_le _, Nat.zero_le _⟩ ?_
  refine lv_aload_n hx hb dX2_most_19 rfl (lv_at hl 0 rfl) ?_
  refine lv_iload_n hx hb dX2_most_20 rfl (lv_at hl 2 rfl) ?_
  refine p_callV (As := [.int _]) hx hb hml hown hts hK hZ (met_X2_fx l G hM hO i_b) q752 q754 qs17 q43 q755 hv_X2_fx rfl hM.1 rfl (by decide) hl.1 rfl (Nat.le_of_ble_eq_true rfl) dX2_most_21 ⟨Nat.zero_le _, Nat.zero_le _⟩ ?_
  refine p_callS (As := [.float _]) hx hb hml hown hts hK hZ (met_X2_size_2 l G ) q765 q766 q43 q767 hd_X2_size_2 rfl (by decide) hl.1 rfl (Nat.le_of_ble_eq_true rfl) dX2_most_24 ⟨Nat.zero_le _, Nat.zero_le _⟩ ?_
  refine lv_aload_n hx hb dX2_most_27 rfl (lv_at hl 0 rfl) ?_
  refine lv_iload_n hx hb dX2_most_28 rfl (lv_at hl 2 rfl) ?_
  refine p_callV (As := [.int _]) hx hb hml hown hts hK hZ (met_X2_fy l G hM hO i_b) q757 q759 qs18 q43 q760 hv_X2_fy rfl hM.1 rfl (by decide) hl.1 rfl (Nat.le_of_ble_eq_true rfl) dX2_most_29 ⟨Nat.zero_le _, Nat.zero_le _⟩ ?_
  refine p_callS (As := [.float _]) hx hb hml hown hts hK hZ (met_X2_size_2 l G ) q765 q766 q43 q767 hd_X2_size_2 rfl (by decide) hl.1 rfl (Nat.le_of_ble_eq_true rfl) dX2_most_32 ⟨Nat.zero_le _, Nat.zero_le _⟩ ?_
  refine p_callS (As := [.float _, .float _]) hx hb hml hown hts hK hZ (met_X2_greater l G ) q768 q769 q43 q770 hd_X2_greater rfl (by decide) hl.1 rfl (Nat.le_of_ble_eq_true rfl) dX2_most_35 ⟨Nat.zero_le _, Nat.zero_le _⟩ ?_
  refine p_callS (As := [.float _, .float _]) hx hb hml hown hts hK hZ (met_X2_greater l G ) q768 q769 q43 q770 hd_X2_greater rfl (by decide) hl.1 rfl (Nat.le_of_ble_eq_true rfl) dX2_most_38 ⟨Nat.zero_le _, Nat.zero_le _⟩ ?_
  refine lv_aload_n hx hb dX2_most_41 rfl (lv_at hl 0 rfl) ?_
  refine lv_iload_n hx hb dX2_most_42 rfl (lv_at hl 3 rfl) ?_
  refine p_callV (As := [.int _]) hx hb hml hown hts hK hZ (met_X2_fx l G hM hO i_d) q752 q754 qs17 q43 q755 hv_X2_fx rfl hM.1 rfl (by decide) hl.1 rfl (Nat.le_of_ble_eq_true rfl) dX2_most_43 ⟨Nat.zero_le _, Nat.zero_le _⟩ ?_
  refine p_callS (As := [.float _]) hx hb hml hown hts hK hZ (met_X2_size_2 l G ) q765 q766 q43 q767 hd_X2_size_2 rfl (by decide) hl.1 rfl (Nat.le_of_ble_eq_true rfl) dX2_most_46 ⟨Nat.zero_le _, Nat.zero_le _⟩ ?_
  refine lv_aload_n hx hb dX2_most_49 rfl (lv_at hl 0 rfl) ?_
  refine lv_iload_n hx hb dX2_most_50 rfl (lv_at hl 3 rfl) ?_
  refine p_callV (As := [.int _]) hx hb hml hown hts hK hZ (met_X2_fy l G hM hO i_d) q757 q759 qs18 q43 q760 hv_X2_fy rfl hM.1 rfl (by decide) hl.1 rfl (Nat.le_of_ble_eq_true rfl) dX2_most_51 ⟨Nat.zero_le _, Nat.zero_le _⟩ ?_
  refine p_callS (As := [.float _]) hx hb hml hown hts hK hZ (met_X2_size_2 l G ) q765 q766 q43 q767 hd_X2_size_2 rfl (by decide) hl.1 rfl (Nat.le_of_ble_eq_true rfl) dX2_most_54 ⟨Nat.zero_le _, Nat.zero_le _⟩ ?_
  refine p_callS (As := [.float _, .float _]) hx hb hml hown hts hK hZ (met_X2_greater l G ) q768 q769 q43 q770 hd_X2_greater rfl (by decide) hl.1 rfl (Nat.le_of_ble_eq_true rfl) dX2_most_57 ⟨Nat.zero_le _, Nat.zero_le _⟩ ?_
  refine p_callS (As := [.float _, .float _]) hx hb hml hown hts hK hZ (met_X2_greater l G ) q768 q769 q43 q770 hd_X2_greater rfl (by decide) hl.1 rfl (Nat.le_of_ble_eq_true rfl) dX2_most_60 ⟨Nat.zero_le _, Nat.zero_le _⟩ ?_
  exact pm_fret hx hb hr hlk hH dX2_most_63 (by first | with_reducible rfl | (simp only [mS3, mP, ↓reduceIte, Bool.true_and, Bool.and_true, Bool.false_and, Bool.and_false, Bool.true_or, Bool.or_true, Bool.false_or, Bool.or_false, Bool.not_true, Bool.not_false, decide_true, decide_false, bI_t, bI_f, Bool.false_eq_true, not_true_eq_false, not_false_eq_true, eq_self, reduceCtorEq, Bool.true_eq_false, and_true, true_and, and_false, false_and, or_true, true_or, or_false, false_or]; done))
theorem dX2_decidesTurn_0 : decode cX2_decidesTurn 0 = .ok (.aload_n 0, 1) := by decide +kernel
theorem dX2_decidesTurn_1 : decode cX2_decidesTurn 1 = .ok (.iload_n 2, 1) := by decide +kernel
theorem dX2_decidesTurn_2 : decode cX2_decidesTurn 2 = .ok (.invokevirtual 77, 3) := by decide +kernel
theorem dX2_decidesTurn_5 : decode cX2_decidesTurn 5 = .ok (.aload_n 0, 1) := by decide +kernel
theorem dX2_decidesTurn_6 : decode cX2_decidesTurn 6 = .ok (.iload_n 1, 1) := by decide +kernel
theorem dX2_decidesTurn_7 : decode cX2_decidesTurn 7 = .ok (.invokevirtual 77, 3) := by decide +kernel
theorem dX2_decidesTurn_10 : decode cX2_decidesTurn 10 = .ok (.fsub, 1) := by decide +kernel
theorem dX2_decidesTurn_11 : decode cX2_decidesTurn 11 = .ok (.aload_n 0, 1) := by decide +kernel
theorem dX2_decidesTurn_12 : decode cX2_decidesTurn 12 = .ok (.iload_n 3, 1) := by decide +kernel
theorem dX2_decidesTurn_13 : decode cX2_decidesTurn 13 = .ok (.invokevirtual 85, 3) := by decide +kernel
theorem dX2_decidesTurn_16 : decode cX2_decidesTurn 16 = .ok (.aload_n 0, 1) := by decide +kernel
theorem dX2_decidesTurn_17 : decode cX2_decidesTurn 17 = .ok (.iload_n 1, 1) := by decide +kernel
theorem dX2_decidesTurn_18 : decode cX2_decidesTurn 18 = .ok (.invokevirtual 85, 3) := by decide +kernel
theorem dX2_decidesTurn_21 : decode cX2_decidesTurn 21 = .ok (.fsub, 1) := by decide +kernel
theorem dX2_decidesTurn_22 : decode cX2_decidesTurn 22 = .ok (.fmul, 1) := by decide +kernel
theorem dX2_decidesTurn_23 : decode cX2_decidesTurn 23 = .ok (.fstore 4, 2) := by decide +kernel
theorem dX2_decidesTurn_25 : decode cX2_decidesTurn 25 = .ok (.aload_n 0, 1) := by decide +kernel
theorem dX2_decidesTurn_26 : decode cX2_decidesTurn 26 = .ok (.iload_n 2, 1) := by decide +kernel
theorem dX2_decidesTurn_27 : decode cX2_decidesTurn 27 = .ok (.invokevirtual 85, 3) := by decide +kernel
theorem dX2_decidesTurn_30 : decode cX2_decidesTurn 30 = .ok (.aload_n 0, 1) := by decide +kernel
theorem dX2_decidesTurn_31 : decode cX2_decidesTurn 31 = .ok (.iload_n 1, 1) := by decide +kernel
theorem dX2_decidesTurn_32 : decode cX2_decidesTurn 32 = .ok (.invokevirtual 85, 3) := by decide +kernel
theorem dX2_decidesTurn_35 : decode cX2_decidesTurn 35 = .ok (.fsub, 1) := by decide +kernel
theorem dX2_decidesTurn_36 : decode cX2_decidesTurn 36 = .ok (.aload_n 0, 1) := by decide +kernel
theorem dX2_decidesTurn_37 : decode cX2_decidesTurn 37 = .ok (.iload_n 3, 1) := by decide +kernel
theorem dX2_decidesTurn_38 : decode cX2_decidesTurn 38 = .ok (.invokevirtual 77, 3) := by decide +kernel
theorem dX2_decidesTurn_41 : decode cX2_decidesTurn 41 = .ok (.aload_n 0, 1) := by decide +kernel
theorem dX2_decidesTurn_42 : decode cX2_decidesTurn 42 = .ok (.iload_n 1, 1) := by decide +kernel
theorem dX2_decidesTurn_43 : decode cX2_decidesTurn 43 = .ok (.invokevirtual 77, 3) := by decide +kernel
theorem dX2_decidesTurn_46 : decode cX2_decidesTurn 46 = .ok (.fsub, 1) := by decide +kernel
theorem dX2_decidesTurn_47 : decode cX2_decidesTurn 47 = .ok (.fmul, 1) := by decide +kernel
theorem dX2_decidesTurn_48 : decode cX2_decidesTurn 48 = .ok (.fstore 5, 2) := by decide +kernel
theorem dX2_decidesTurn_50 : decode cX2_decidesTurn 50 = .ok (.fload 4, 2) := by decide +kernel
theorem dX2_decidesTurn_52 : decode cX2_decidesTurn 52 = .ok (.fload 5, 2) := by decide +kernel
theorem dX2_decidesTurn_54 : decode cX2_decidesTurn 54 = .ok (.fsub, 1) := by decide +kernel
theorem dX2_decidesTurn_55 : decode cX2_decidesTurn 55 = .ok (.fstore 6, 2) := by decide +kernel
theorem dX2_decidesTurn_57 : decode cX2_decidesTurn 57 = .ok (.aload_n 0, 1) := by decide +kernel
theorem dX2_decidesTurn_58 : decode cX2_decidesTurn 58 = .ok (.iload_n 1, 1) := by decide +kernel
theorem dX2_decidesTurn_59 : decode cX2_decidesTurn 59 = .ok (.iload_n 2, 1) := by decide +kernel
theorem dX2_decidesTurn_60 : decode cX2_decidesTurn 60 = .ok (.iload_n 3, 1) := by decide +kernel
theorem dX2_decidesTurn_61 : decode cX2_decidesTurn 61 = .ok (.invokevirtual 92, 3) := by decide +kernel
theorem dX2_decidesTurn_64 : decode cX2_decidesTurn 64 = .ok (.fstore 7, 2) := by decide +kernel
theorem dX2_decidesTurn_66 : decode cX2_decidesTurn 66 = .ok (.fload 7, 2) := by decide +kernel
theorem dX2_decidesTurn_68 : decode cX2_decidesTurn 68 = .ok (.fload 7, 2) := by decide +kernel
theorem dX2_decidesTurn_70 : decode cX2_decidesTurn 70 = .ok (.fmul, 1) := by decide +kernel
theorem dX2_decidesTurn_71 : decode cX2_decidesTurn 71 = .ok (.ldc 96, 2) := by decide +kernel
theorem dX2_decidesTurn_73 : decode cX2_decidesTurn 73 = .ok (.fmul, 1) := by decide +kernel
theorem dX2_decidesTurn_74 : decode cX2_decidesTurn 74 = .ok (.fstore 8, 2) := by decide +kernel
theorem dX2_decidesTurn_76 : decode cX2_decidesTurn 76 = .ok (.fload 6, 2) := by decide +kernel
theorem dX2_decidesTurn_78 : decode cX2_decidesTurn 78 = .ok (.invokestatic 81, 3) := by decide +kernel
theorem dX2_decidesTurn_81 : decode cX2_decidesTurn 81 = .ok (.fload 8, 2) := by decide +kernel
theorem dX2_decidesTurn_83 : decode cX2_decidesTurn 83 = .ok (.fcmp .l, 1) := by decide +kernel
theorem dX2_decidesTurn_84 : decode cX2_decidesTurn 84 = .ok (.ifCond .le 7, 3) := by decide +kernel
theorem dX2_decidesTurn_87 : decode cX2_decidesTurn 87 = .ok (.iconst 1, 1) := by decide +kernel
theorem dX2_decidesTurn_88 : decode cX2_decidesTurn 88 = .ok (.goto 4, 3) := by decide +kernel
theorem dX2_decidesTurn_91 : decode cX2_decidesTurn 91 = .ok (.iconst 0, 1) := by decide +kernel
theorem dX2_decidesTurn_92 : decode cX2_decidesTurn 92 = .ok (.ireturn, 1) := by decide +kernel
set_option maxHeartbeats 4000000 in
theorem met_X2_decidesTurn (l : Launch) (G : GG) {H : Heap} {o : Nat} {A : Nat → Nat} {σ : Sg} {th : Int32} {a b d : Nat} (hM : MW G H o A σ th) (hO : Ok σ) (i_a : a < σ.np) (i_b : b < σ.np) (i_d : d < σ.np) : PM l yX2_decidesTurn cX2_decidesTurn 9 (some .boolean) 2 44 G H [.ref o, .int (nI a), .int (nI b), .int (nI d)] (some (.int (bI (m_ft (σ.pt a) (σ.pt b) (σ.pt d))))) := by
  refine pm_intro pl_X2_decidesTurn (Nat.le_of_ble_eq_true rfl) ?_
  intro pX eX sX mX belX methX cX ls hE hnm hl
  obtain ⟨hx, hb, hr, hlk, hml, hown, hts, hK, hZ, hH⟩ := hE
  have hl : lv_has ls 9 [(0, .ref o), (1, .int (nI a)), (2, .int (nI b)), (3, .int (nI d))] := hl
  obtain ⟨⟨n1, n2, n3, n4, n5, n6, n7⟩, ⟨n8, n9⟩, ⟨es, -⟩, -, -⟩ := ft_F (hO.2.2.1 a) (hO.2.2.1 b) (hO.2.2.1 d)
  rw [← es] at n8 n9
  refine lv_aload_n hx hb dX2_decidesTurn_0 rfl (lv_at hl 0 rfl) ?_
  refine lv_iload_n hx hb dX2_decidesTurn_1 rfl (lv_at hl 2 rfl) ?_
  refine p_callV (As := [.int _]) hx hb hml hown hts hK hZ (met_X2_fx l G hM hO i_b) q752 q754 qs17 q43 q755 hv_X2_fx rfl hM.1 rfl (by decide) hl.1 rfl (Nat.le_of_ble_eq_true rfl) dX2_decidesTurn_2 ⟨Nat.zero_le _, Nat.zero_le _⟩ ?_
  refine lv_aload_n hx hb dX2_decidesTurn_5 rfl (lv_at hl 0 rfl) ?_
  refine lv_iload_n hx hb dX2_decidesTurn_6 rfl (lv_at hl 1 rfl) ?_
  refine p_callV (As := [.int _]) hx hb hml hown hts hK hZ (met_X2_fx l G hM hO i_a) q752 q754 qs17 q43 q755 hv_X2_fx rfl hM.1 rfl (by decide) hl.1 rfl (Nat.le_of_ble_eq_true rfl) dX2_decidesTurn_7 ⟨Nat.zero_le _, Nat.zero_le _⟩ ?_
  refine lv_fsub hx hb dX2_decidesTurn_10 n1 ?_
  refine lv_aload_n hx hb dX2_decidesTurn_11 rfl (lv_at hl 0 rfl) ?_
  refine lv_iload_n hx hb dX2_decidesTurn_12 rfl (lv_at hl 3 rfl) ?_
  refine p_callV (As := [.int _]) hx hb hml hown hts hK hZ (met_X2_fy l G hM hO i_d) q757 q759 qs18 q43 q760 hv_X2_fy rfl hM.1 rfl (by decide) hl.1 rfl (Nat.le_of_ble_eq_true rfl) dX2_decidesTurn_13 ⟨Nat.zero_le _, Nat.zero_le _⟩ ?_
  refine lv_aload_n hx hb dX2_decidesTurn_16 rfl (lv_at hl 0 rfl) ?_
  refine lv_iload_n hx hb dX2_decidesTurn_17 rfl (lv_at hl 1 rfl) ?_
  refine p_callV (As := [.int _]) hx hb hml hown hts hK hZ (met_X2_fy l G hM hO i_a) q757 q759 qs18 q43 q760 hv_X2_fy rfl hM.1 rfl (by decide) hl.1 rfl (Nat.le_of_ble_eq_true rfl) dX2_decidesTurn_18 ⟨Nat.zero_le _, Nat.zero_le _⟩ ?_
  refine lv_fsub hx hb dX2_decidesTurn_21 n2 ?_
  refine lv_fmul hx hb dX2_decidesTurn_22 n5 ?_
  refine lv_fstore (lv' := [(4, .float _), (0, .ref _), (1, .int _), (2, .int _), (3, .int _)]) hx hb dX2_decidesTurn_23 hl (Nat.le_of_ble_eq_true rfl) rfl (fun ls hl => ?_)
  refine lv_aload_n hx hb dX2_decidesTurn_25 rfl (lv_at hl 1 rfl) ?_
  refine lv_iload_n hx hb dX2_decidesTurn_26 rfl (lv_at hl 3 rfl) ?_
  refine p_callV (As := [.int _]) hx hb hml hown hts hK hZ (met_X2_fy l G hM hO i_b) q757 q759 qs18 q43 q760 hv_X2_fy rfl hM.1 rfl (by decide) hl.1 rfl (Nat.le_of_ble_eq_true rfl) dX2_decidesTurn_27 ⟨Nat.zero_le _, Nat.zero_le _⟩ ?_
  refine lv_aload_n hx hb dX2_decidesTurn_30 rfl (lv_at hl 1 rfl) ?_
  refine lv_iload_n hx hb dX2_decidesTurn_31 rfl (lv_at hl 2 rfl) ?_
  refine p_callV (As := [.int _]) hx hb hml hown hts hK hZ (met_X2_fy l G hM hO i_a) q757 q759 qs18 q43 q760 hv_X2_fy rfl hM.1 rfl (by decide) hl.1 rfl (Nat.le_of_ble_eq_true rfl) dX2_decidesTurn_32 ⟨Nat.zero_le _, Nat.zero_le _⟩ ?_
  refine lv_fsub hx hb dX2_decidesTurn_35 n3 ?_
  refine lv_aload_n hx hb dX2_decidesTurn_36 rfl (lv_at hl 1 rfl) ?_
  refine lv_iload_n hx hb dX2_decidesTurn_37 rfl (lv_at hl 4 rfl) ?_
  refine p_callV (As := [.int _]) hx hb hml hown hts hK hZ (met_X2_fx l G hM hO i_d) q752 q754 qs17 q43 q755 hv_X2_fx rfl hM.1 rfl (by decide) hl.1 rfl (Nat.le_of_ble_eq_true rfl) dX2_decidesTurn_38 ⟨Nat.zero_le _, Nat.zero_le _⟩ ?_
  refine lv_aload_n hx hb dX2_decidesTurn_41 rfl (lv_at hl 1 rfl) ?_
  refine lv_iload_n hx hb dX2_decidesTurn_42 rfl (lv_at hl 2 rfl) ?_
  refine p_callV (As := [.int _]) hx hb hml hown hts hK hZ (met_X2_fx l G hM hO i_a) q752 q754 qs17 q43 q755 hv_X2_fx rfl hM.1 rfl (by decide) hl.1 rfl (Nat.le_of_ble_eq_true rfl) dX2_decidesTurn_43 ⟨Nat.zero_le _, Nat.zero_le _⟩ ?_
  refine lv_fsub hx hb dX2_decidesTurn_46 n4 ?_
  refine lv_fmul hx hb dX2_decidesTurn_47 n6 ?_
  refine lv_fstore (lv' := [(5, .float _), (4, .float _), (0, .ref _), (1, .int _), (2, .int _), (3, .int _)]) hx hb dX2_decidesTurn_48 hl (Nat.le_of_ble_eq_true rfl) rfl (fun ls hl => ?_)
  refine lv_fload hx hb dX2_decidesTurn_50 (lv_at hl 1 rfl) ?_
  refine lv_fload hx hb dX2_decidesTurn_52 (lv_at hl 0 rfl) ?_
  refine lv_fsub hx hb dX2_decidesTurn_54 n7 ?_
  refine lv_fstore (lv' := [(6, .float _), (5, .float _), (4, .float _), (0, .ref _), (1, .int _), (2, .int _), (3, .int _)]) hx hb dX2_decidesTurn_55 hl (Nat.le_of_ble_eq_true rfl) rfl (fun ls hl => ?_)
  refine lv_aload_n hx hb dX2_decidesTurn_57 rfl (lv_at hl 3 rfl) ?_
  refine lv_iload_n hx hb dX2_decidesTurn_58 rfl (lv_at hl 4 rfl) ?_
  refine lv_iload_n hx hb dX2_decidesTurn_59 rfl (lv_at hl 5 rfl) ?_
  refine lv_iload_n hx hb dX2_decidesTurn_60 rfl (lv_at hl 6 rfl) ?_
  refine p_callV (As := [.int _, .int _, .int _]) hx hb hml hown hts hK hZ (met_X2_most l G hM hO i_a i_b i_d) q761 q763 qs19 q43 q764 hv_X2_most rfl hM.1 rfl (by decide) hl.1 rfl (Nat.le_of_ble_eq_true rfl) dX2_decidesTurn_61 ⟨Nat.zero_le _, Nat.zero_le _⟩ ?_
  refine lv_fstore (lv' := [(7, .float _), (6, .float _), (5, .float _), (4, .float _), (0, .ref _), (1, .int _), (2, .int _), (3, .int _)]) hx hb dX2_decidesTurn_64 hl (Nat.le_of_ble_eq_true rfl) rfl (fun ls hl => ?_)
  refine lv_fload hx hb dX2_decidesTurn_66 (lv_at hl 0 rfl) ?_
  refine lv_fload hx hb dX2_decidesTurn_68 (lv_at hl 0 rfl) ?_
  refine lv_fmul hx hb dX2_decidesTurn_70 n8 ?_
  refine lv_ldcf hx hb hown (hts _ q771) dX2_decidesTurn_71 ?_
  refine lv_fmul hx hb dX2_decidesTurn_73 n9 ?_
  refine lv_fstore (lv' := [(8, .float _), (7, .float _), (6, .float _), (5, .float _), (4, .float _), (0, .ref _), (1, .int _), (2, .int _), (3, .int _)]) hx hb dX2_decidesTurn_74 hl (Nat.le_of_ble_eq_true rfl) rfl (fun ls hl => ?_)
  refine lv_fload hx hb dX2_decidesTurn_76 (lv_at hl 2 rfl) ?_
  refine p_callS (As := [.float _]) hx hb hml hown hts hK hZ (met_X2_size_2 l G ) q765 q766 q43 q767 hd_X2_size_2 rfl (by decide) hl.1 rfl (Nat.le_of_ble_eq_true rfl) dX2_decidesTurn_78 ⟨Nat.zero_le _, Nat.zero_le _⟩ ?_
  refine lv_fload hx hb dX2_decidesTurn_81 (lv_at hl 0 rfl) ?_
  refine fc_l_le (tgt := 91) hx hb dX2_decidesTurn_83 dX2_decidesTurn_84 rfl (fun c_83 => ?_) (fun c_83 => ?_)
  · skip
    change m_ft (σ.pt a) (σ.pt b) (σ.pt d) = false at c_83
    refine lv_iconst (v := 0) hx hb dX2_decidesTurn_91 ic_0 ?_
    exact pm_zret hx hb hr hlk hH dX2_decidesTurn_92 (by first | with_reducible rfl | (simp only [c_83, ↓reduceIte, Bool.true_and, Bool.and_true, Bool.false_and, Bool.and_false, Bool.true_or, Bool.or_true, Bool.false_or, Bool.or_false, Bool.not_true, Bool.not_false, decide_true, decide_false, bI_t, bI_f, Bool.false_eq_true, not_true_eq_false, not_false_eq_true, eq_self, reduceCtorEq, Bool.true_eq_false, and_true, true_and, and_false, false_and, or_true, true_or, or_false, false_or]; done))
  change m_ft (σ.pt a) (σ.pt b) (σ.pt d) = true at c_83
  refine lv_iconst (v := 1) hx hb dX2_decidesTurn_87 ic_1 ?_
  refine lv_goto (tgt := 92) hx hb dX2_decidesTurn_88 rfl ?_
  exact pm_zret hx hb hr hlk hH dX2_decidesTurn_92 (by first | with_reducible rfl | (simp only [c_83, ↓reduceIte, Bool.true_and, Bool.and_true, Bool.false_and, Bool.and_false, Bool.true_or, Bool.or_true, Bool.false_or, Bool.or_false, Bool.not_true, Bool.not_false, decide_true, decide_false, bI_t, bI_f, Bool.false_eq_true, not_true_eq_false, not_false_eq_true, eq_self, reduceCtorEq, Bool.true_eq_false, and_true, true_and, and_false, false_and, or_true, true_or, or_false, false_or]; done))
theorem dX2_decidesRing_0 : decode cX2_decidesRing 0 = .ok (.aload_n 0, 1) := by decide +kernel
theorem dX2_decidesRing_1 : decode cX2_decidesRing 1 = .ok (.iload_n 1, 1) := by decide +kernel
theorem dX2_decidesRing_2 : decode cX2_decidesRing 2 = .ok (.invokevirtual 77, 3) := by decide +kernel
theorem dX2_decidesRing_5 : decode cX2_decidesRing 5 = .ok (.aload_n 0, 1) := by decide +kernel
theorem dX2_decidesRing_6 : decode cX2_decidesRing 6 = .ok (.iload 4, 2) := by decide +kernel
theorem dX2_decidesRing_8 : decode cX2_decidesRing 8 = .ok (.invokevirtual 77, 3) := by decide +kernel
theorem dX2_decidesRing_11 : decode cX2_decidesRing 11 = .ok (.fsub, 1) := by decide +kernel
theorem dX2_decidesRing_12 : decode cX2_decidesRing 12 = .ok (.fstore 5, 2) := by decide +kernel
theorem dX2_decidesRing_14 : decode cX2_decidesRing 14 = .ok (.aload_n 0, 1) := by decide +kernel
theorem dX2_decidesRing_15 : decode cX2_decidesRing 15 = .ok (.iload_n 1, 1) := by decide +kernel
theorem dX2_decidesRing_16 : decode cX2_decidesRing 16 = .ok (.invokevirtual 85, 3) := by decide +kernel
theorem dX2_decidesRing_19 : decode cX2_decidesRing 19 = .ok (.aload_n 0, 1) := by decide +kernel
theorem dX2_decidesRing_20 : decode cX2_decidesRing 20 = .ok (.iload 4, 2) := by decide +kernel
theorem dX2_decidesRing_22 : decode cX2_decidesRing 22 = .ok (.invokevirtual 85, 3) := by decide +kernel
theorem dX2_decidesRing_25 : decode cX2_decidesRing 25 = .ok (.fsub, 1) := by decide +kernel
theorem dX2_decidesRing_26 : decode cX2_decidesRing 26 = .ok (.fstore 6, 2) := by decide +kernel
theorem dX2_decidesRing_28 : decode cX2_decidesRing 28 = .ok (.aload_n 0, 1) := by decide +kernel
theorem dX2_decidesRing_29 : decode cX2_decidesRing 29 = .ok (.iload_n 2, 1) := by decide +kernel
theorem dX2_decidesRing_30 : decode cX2_decidesRing 30 = .ok (.invokevirtual 77, 3) := by decide +kernel
theorem dX2_decidesRing_33 : decode cX2_decidesRing 33 = .ok (.aload_n 0, 1) := by decide +kernel
theorem dX2_decidesRing_34 : decode cX2_decidesRing 34 = .ok (.iload 4, 2) := by decide +kernel
theorem dX2_decidesRing_36 : decode cX2_decidesRing 36 = .ok (.invokevirtual 77, 3) := by decide +kernel
theorem dX2_decidesRing_39 : decode cX2_decidesRing 39 = .ok (.fsub, 1) := by decide +kernel
theorem dX2_decidesRing_40 : decode cX2_decidesRing 40 = .ok (.fstore 7, 2) := by decide +kernel
theorem dX2_decidesRing_42 : decode cX2_decidesRing 42 = .ok (.aload_n 0, 1) := by decide +kernel
theorem dX2_decidesRing_43 : decode cX2_decidesRing 43 = .ok (.iload_n 2, 1) := by decide +kernel
theorem dX2_decidesRing_44 : decode cX2_decidesRing 44 = .ok (.invokevirtual 85, 3) := by decide +kernel
theorem dX2_decidesRing_47 : decode cX2_decidesRing 47 = .ok (.aload_n 0, 1) := by decide +kernel
theorem dX2_decidesRing_48 : decode cX2_decidesRing 48 = .ok (.iload 4, 2) := by decide +kernel
theorem dX2_decidesRing_50 : decode cX2_decidesRing 50 = .ok (.invokevirtual 85, 3) := by decide +kernel
theorem dX2_decidesRing_53 : decode cX2_decidesRing 53 = .ok (.fsub, 1) := by decide +kernel
theorem dX2_decidesRing_54 : decode cX2_decidesRing 54 = .ok (.fstore 8, 2) := by decide +kernel
theorem dX2_decidesRing_56 : decode cX2_decidesRing 56 = .ok (.aload_n 0, 1) := by decide +kernel
theorem dX2_decidesRing_57 : decode cX2_decidesRing 57 = .ok (.iload_n 3, 1) := by decide +kernel
theorem dX2_decidesRing_58 : decode cX2_decidesRing 58 = .ok (.invokevirtual 77, 3) := by decide +kernel
theorem dX2_decidesRing_61 : decode cX2_decidesRing 61 = .ok (.aload_n 0, 1) := by decide +kernel
theorem dX2_decidesRing_62 : decode cX2_decidesRing 62 = .ok (.iload 4, 2) := by decide +kernel
theorem dX2_decidesRing_64 : decode cX2_decidesRing 64 = .ok (.invokevirtual 77, 3) := by decide +kernel
theorem dX2_decidesRing_67 : decode cX2_decidesRing 67 = .ok (.fsub, 1) := by decide +kernel
theorem dX2_decidesRing_68 : decode cX2_decidesRing 68 = .ok (.fstore 9, 2) := by decide +kernel
theorem dX2_decidesRing_70 : decode cX2_decidesRing 70 = .ok (.aload_n 0, 1) := by decide +kernel
theorem dX2_decidesRing_71 : decode cX2_decidesRing 71 = .ok (.iload_n 3, 1) := by decide +kernel
theorem dX2_decidesRing_72 : decode cX2_decidesRing 72 = .ok (.invokevirtual 85, 3) := by decide +kernel
theorem dX2_decidesRing_75 : decode cX2_decidesRing 75 = .ok (.aload_n 0, 1) := by decide +kernel
theorem dX2_decidesRing_76 : decode cX2_decidesRing 76 = .ok (.iload 4, 2) := by decide +kernel
theorem dX2_decidesRing_78 : decode cX2_decidesRing 78 = .ok (.invokevirtual 85, 3) := by decide +kernel
theorem dX2_decidesRing_81 : decode cX2_decidesRing 81 = .ok (.fsub, 1) := by decide +kernel
theorem dX2_decidesRing_82 : decode cX2_decidesRing 82 = .ok (.fstore 10, 2) := by decide +kernel
theorem dX2_decidesRing_84 : decode cX2_decidesRing 84 = .ok (.fload 5, 2) := by decide +kernel
theorem dX2_decidesRing_86 : decode cX2_decidesRing 86 = .ok (.fload 5, 2) := by decide +kernel
theorem dX2_decidesRing_88 : decode cX2_decidesRing 88 = .ok (.fmul, 1) := by decide +kernel
theorem dX2_decidesRing_89 : decode cX2_decidesRing 89 = .ok (.fload 6, 2) := by decide +kernel
theorem dX2_decidesRing_91 : decode cX2_decidesRing 91 = .ok (.fload 6, 2) := by decide +kernel
theorem dX2_decidesRing_93 : decode cX2_decidesRing 93 = .ok (.fmul, 1) := by decide +kernel
theorem dX2_decidesRing_94 : decode cX2_decidesRing 94 = .ok (.fadd, 1) := by decide +kernel
theorem dX2_decidesRing_95 : decode cX2_decidesRing 95 = .ok (.fstore 11, 2) := by decide +kernel
theorem dX2_decidesRing_97 : decode cX2_decidesRing 97 = .ok (.fload 7, 2) := by decide +kernel
theorem dX2_decidesRing_99 : decode cX2_decidesRing 99 = .ok (.fload 7, 2) := by decide +kernel
theorem dX2_decidesRing_101 : decode cX2_decidesRing 101 = .ok (.fmul, 1) := by decide +kernel
theorem dX2_decidesRing_102 : decode cX2_decidesRing 102 = .ok (.fload 8, 2) := by decide +kernel
theorem dX2_decidesRing_104 : decode cX2_decidesRing 104 = .ok (.fload 8, 2) := by decide +kernel
theorem dX2_decidesRing_106 : decode cX2_decidesRing 106 = .ok (.fmul, 1) := by decide +kernel
theorem dX2_decidesRing_107 : decode cX2_decidesRing 107 = .ok (.fadd, 1) := by decide +kernel
theorem dX2_decidesRing_108 : decode cX2_decidesRing 108 = .ok (.fstore 12, 2) := by decide +kernel
theorem dX2_decidesRing_110 : decode cX2_decidesRing 110 = .ok (.fload 9, 2) := by decide +kernel
theorem dX2_decidesRing_112 : decode cX2_decidesRing 112 = .ok (.fload 9, 2) := by decide +kernel
theorem dX2_decidesRing_114 : decode cX2_decidesRing 114 = .ok (.fmul, 1) := by decide +kernel
theorem dX2_decidesRing_115 : decode cX2_decidesRing 115 = .ok (.fload 10, 2) := by decide +kernel
theorem dX2_decidesRing_117 : decode cX2_decidesRing 117 = .ok (.fload 10, 2) := by decide +kernel
theorem dX2_decidesRing_119 : decode cX2_decidesRing 119 = .ok (.fmul, 1) := by decide +kernel
theorem dX2_decidesRing_120 : decode cX2_decidesRing 120 = .ok (.fadd, 1) := by decide +kernel
theorem dX2_decidesRing_121 : decode cX2_decidesRing 121 = .ok (.fstore 13, 2) := by decide +kernel
theorem dX2_decidesRing_123 : decode cX2_decidesRing 123 = .ok (.fload 11, 2) := by decide +kernel
theorem dX2_decidesRing_125 : decode cX2_decidesRing 125 = .ok (.fload 7, 2) := by decide +kernel
theorem dX2_decidesRing_127 : decode cX2_decidesRing 127 = .ok (.fload 10, 2) := by decide +kernel
theorem dX2_decidesRing_129 : decode cX2_decidesRing 129 = .ok (.fmul, 1) := by decide +kernel
theorem dX2_decidesRing_130 : decode cX2_decidesRing 130 = .ok (.fload 8, 2) := by decide +kernel
theorem dX2_decidesRing_132 : decode cX2_decidesRing 132 = .ok (.fload 9, 2) := by decide +kernel
theorem dX2_decidesRing_134 : decode cX2_decidesRing 134 = .ok (.fmul, 1) := by decide +kernel
theorem dX2_decidesRing_135 : decode cX2_decidesRing 135 = .ok (.fsub, 1) := by decide +kernel
theorem dX2_decidesRing_136 : decode cX2_decidesRing 136 = .ok (.fmul, 1) := by decide +kernel
theorem dX2_decidesRing_137 : decode cX2_decidesRing 137 = .ok (.fload 12, 2) := by decide +kernel
theorem dX2_decidesRing_139 : decode cX2_decidesRing 139 = .ok (.fload 9, 2) := by decide +kernel
theorem dX2_decidesRing_141 : decode cX2_decidesRing 141 = .ok (.fload 6, 2) := by decide +kernel
theorem dX2_decidesRing_143 : decode cX2_decidesRing 143 = .ok (.fmul, 1) := by decide +kernel
theorem dX2_decidesRing_144 : decode cX2_decidesRing 144 = .ok (.fload 10, 2) := by decide +kernel
theorem dX2_decidesRing_146 : decode cX2_decidesRing 146 = .ok (.fload 5, 2) := by decide +kernel
theorem dX2_decidesRing_148 : decode cX2_decidesRing 148 = .ok (.fmul, 1) := by decide +kernel
theorem dX2_decidesRing_149 : decode cX2_decidesRing 149 = .ok (.fsub, 1) := by decide +kernel
theorem dX2_decidesRing_150 : decode cX2_decidesRing 150 = .ok (.fmul, 1) := by decide +kernel
theorem dX2_decidesRing_151 : decode cX2_decidesRing 151 = .ok (.fadd, 1) := by decide +kernel
theorem dX2_decidesRing_152 : decode cX2_decidesRing 152 = .ok (.fload 13, 2) := by decide +kernel
theorem dX2_decidesRing_154 : decode cX2_decidesRing 154 = .ok (.fload 5, 2) := by decide +kernel
theorem dX2_decidesRing_156 : decode cX2_decidesRing 156 = .ok (.fload 8, 2) := by decide +kernel
theorem dX2_decidesRing_158 : decode cX2_decidesRing 158 = .ok (.fmul, 1) := by decide +kernel
theorem dX2_decidesRing_159 : decode cX2_decidesRing 159 = .ok (.fload 6, 2) := by decide +kernel
theorem dX2_decidesRing_161 : decode cX2_decidesRing 161 = .ok (.fload 7, 2) := by decide +kernel
theorem dX2_decidesRing_163 : decode cX2_decidesRing 163 = .ok (.fmul, 1) := by decide +kernel
theorem dX2_decidesRing_164 : decode cX2_decidesRing 164 = .ok (.fsub, 1) := by decide +kernel
theorem dX2_decidesRing_165 : decode cX2_decidesRing 165 = .ok (.fmul, 1) := by decide +kernel
theorem dX2_decidesRing_166 : decode cX2_decidesRing 166 = .ok (.fadd, 1) := by decide +kernel
theorem dX2_decidesRing_167 : decode cX2_decidesRing 167 = .ok (.fstore 14, 2) := by decide +kernel
theorem dX2_decidesRing_169 : decode cX2_decidesRing 169 = .ok (.aload_n 0, 1) := by decide +kernel
theorem dX2_decidesRing_170 : decode cX2_decidesRing 170 = .ok (.iload_n 1, 1) := by decide +kernel
theorem dX2_decidesRing_171 : decode cX2_decidesRing 171 = .ok (.iload_n 2, 1) := by decide +kernel
theorem dX2_decidesRing_172 : decode cX2_decidesRing 172 = .ok (.iload_n 3, 1) := by decide +kernel
theorem dX2_decidesRing_173 : decode cX2_decidesRing 173 = .ok (.invokevirtual 92, 3) := by decide +kernel
theorem dX2_decidesRing_176 : decode cX2_decidesRing 176 = .ok (.aload_n 0, 1) := by decide +kernel
theorem dX2_decidesRing_177 : decode cX2_decidesRing 177 = .ok (.iload 4, 2) := by decide +kernel
theorem dX2_decidesRing_179 : decode cX2_decidesRing 179 = .ok (.invokevirtual 77, 3) := by decide +kernel
theorem dX2_decidesRing_182 : decode cX2_decidesRing 182 = .ok (.invokestatic 81, 3) := by decide +kernel
theorem dX2_decidesRing_185 : decode cX2_decidesRing 185 = .ok (.aload_n 0, 1) := by decide +kernel
theorem dX2_decidesRing_186 : decode cX2_decidesRing 186 = .ok (.iload 4, 2) := by decide +kernel
theorem dX2_decidesRing_188 : decode cX2_decidesRing 188 = .ok (.invokevirtual 85, 3) := by decide +kernel
theorem dX2_decidesRing_191 : decode cX2_decidesRing 191 = .ok (.invokestatic 81, 3) := by decide +kernel
theorem dX2_decidesRing_194 : decode cX2_decidesRing 194 = .ok (.invokestatic 88, 3) := by decide +kernel
theorem dX2_decidesRing_197 : decode cX2_decidesRing 197 = .ok (.invokestatic 88, 3) := by decide +kernel
theorem dX2_decidesRing_200 : decode cX2_decidesRing 200 = .ok (.fstore 15, 2) := by decide +kernel
theorem dX2_decidesRing_202 : decode cX2_decidesRing 202 = .ok (.fload 15, 2) := by decide +kernel
theorem dX2_decidesRing_204 : decode cX2_decidesRing 204 = .ok (.fload 15, 2) := by decide +kernel
theorem dX2_decidesRing_206 : decode cX2_decidesRing 206 = .ok (.fmul, 1) := by decide +kernel
theorem dX2_decidesRing_207 : decode cX2_decidesRing 207 = .ok (.fload 15, 2) := by decide +kernel
theorem dX2_decidesRing_209 : decode cX2_decidesRing 209 = .ok (.fload 15, 2) := by decide +kernel
theorem dX2_decidesRing_211 : decode cX2_decidesRing 211 = .ok (.fmul, 1) := by decide +kernel
theorem dX2_decidesRing_212 : decode cX2_decidesRing 212 = .ok (.fmul, 1) := by decide +kernel
theorem dX2_decidesRing_213 : decode cX2_decidesRing 213 = .ok (.ldc 97, 2) := by decide +kernel
theorem dX2_decidesRing_215 : decode cX2_decidesRing 215 = .ok (.fmul, 1) := by decide +kernel
theorem dX2_decidesRing_216 : decode cX2_decidesRing 216 = .ok (.fstore 16, 2) := by decide +kernel
theorem dX2_decidesRing_218 : decode cX2_decidesRing 218 = .ok (.fload 14, 2) := by decide +kernel
theorem dX2_decidesRing_220 : decode cX2_decidesRing 220 = .ok (.invokestatic 81, 3) := by decide +kernel
theorem dX2_decidesRing_223 : decode cX2_decidesRing 223 = .ok (.fload 16, 2) := by decide +kernel
theorem dX2_decidesRing_225 : decode cX2_decidesRing 225 = .ok (.fcmp .l, 1) := by decide +kernel
theorem dX2_decidesRing_226 : decode cX2_decidesRing 226 = .ok (.ifCond .le 7, 3) := by decide +kernel
theorem dX2_decidesRing_229 : decode cX2_decidesRing 229 = .ok (.iconst 1, 1) := by decide +kernel
theorem dX2_decidesRing_230 : decode cX2_decidesRing 230 = .ok (.goto 4, 3) := by decide +kernel
theorem dX2_decidesRing_233 : decode cX2_decidesRing 233 = .ok (.iconst 0, 1) := by decide +kernel
theorem dX2_decidesRing_234 : decode cX2_decidesRing 234 = .ok (.ireturn, 1) := by decide +kernel
set_option maxHeartbeats 4000000 in
theorem met_X2_decidesRing (l : Launch) (G : GG) {H : Heap} {o : Nat} {A : Nat → Nat} {σ : Sg} {th : Int32} {a b d f : Nat} (hM : MW G H o A σ th) (hO : Ok σ) (i_a : a < σ.np) (i_b : b < σ.np) (i_d : d < σ.np) (i_f : f < σ.np) : PM l yX2_decidesRing cX2_decidesRing 17 (some .boolean) 2 44 G H [.ref o, .int (nI a), .int (nI b), .int (nI d), .int (nI f)] (some (.int (bI (m_fr (σ.pt a) (σ.pt b) (σ.pt d) (σ.pt f))))) := by
  refine pm_intro pl_X2_decidesRing (Nat.le_of_ble_eq_true rfl) ?_
  intro pX eX sX mX belX methX cX ls hE hnm hl
  obtain ⟨hx, hb, hr, hlk, hml, hown, hts, hK, hZ, hH⟩ := hE
  have hl : lv_has ls 17 [(0, .ref o), (1, .int (nI a)), (2, .int (nI b)), (3, .int (nI d)), (4, .int (nI f))] := hl
  obtain ⟨⟨⟨a1, a2⟩, ⟨b1, b2⟩, ⟨c1, c2⟩⟩, ⟨⟨⟨s1, s2, s3⟩, ⟨s4, s5, s6⟩, ⟨s7, s8, s9⟩⟩, ⟨⟨k1, k2, k3⟩, ⟨k4, k5, k6⟩, ⟨k7, k8, k9⟩⟩, ⟨m1, m2, m3⟩, z1, z2⟩, ⟨⟨e1, e2⟩, e3⟩, es, -, -⟩ := fr_F (hO.2.2.1 a) (hO.2.2.1 b) (hO.2.2.1 d) (hO.2.2.1 f)
  rw [← es] at e1 e2 e3
  refine lv_aload_n hx hb dX2_decidesRing_0 rfl (lv_at hl 0 rfl) ?_
  refine lv_iload_n hx hb dX2_decidesRing_1 rfl (lv_at hl 1 rfl) ?_
  refine p_callV (As := [.int _]) hx hb hml hown hts hK hZ (met_X2_fx l G hM hO i_a) q752 q754 qs17 q43 q755 hv_X2_fx rfl hM.1 rfl (by decide) hl.1 rfl (Nat.le_of_ble_eq_true rfl) dX2_decidesRing_2 ⟨Nat.zero_le _, Nat.zero_le _⟩ ?_
  refine lv_aload_n hx hb dX2_decidesRing_5 rfl (lv_at hl 0 rfl) ?_
  refine lv_iload hx hb dX2_decidesRing_6 (lv_at hl 4 rfl) ?_
  refine p_callV (As := [.int _]) hx hb hml hown hts hK hZ (met_X2_fx l G hM hO i_f) q752 q754 qs17 q43 q755 hv_X2_fx rfl hM.1 rfl (by decide) hl.1 rfl (Nat.le_of_ble_eq_true rfl) dX2_decidesRing_8 ⟨Nat.zero_le _, Nat.zero_le _⟩ ?_
  refine lv_fsub hx hb dX2_decidesRing_11 a1 ?_
  refine lv_fstore (lv' := [(5, .float _), (0, .ref _), (1, .int _), (2, .int _), (3, .int _), (4, .int _)]) hx hb dX2_decidesRing_12 hl (Nat.le_of_ble_eq_true rfl) rfl (fun ls hl => ?_)
  refine lv_aload_n hx hb dX2_decidesRing_14 rfl (lv_at hl 1 rfl) ?_
  refine lv_iload_n hx hb dX2_decidesRing_15 rfl (lv_at hl 2 rfl) ?_
  refine p_callV (As := [.int _]) hx hb hml hown hts hK hZ (met_X2_fy l G hM hO i_a) q757 q759 qs18 q43 q760 hv_X2_fy rfl hM.1 rfl (by decide) hl.1 rfl (Nat.le_of_ble_eq_true rfl) dX2_decidesRing_16 ⟨Nat.zero_le _, Nat.zero_le _⟩ ?_
  refine lv_aload_n hx hb dX2_decidesRing_19 rfl (lv_at hl 1 rfl) ?_
  refine lv_iload hx hb dX2_decidesRing_20 (lv_at hl 5 rfl) ?_
  refine p_callV (As := [.int _]) hx hb hml hown hts hK hZ (met_X2_fy l G hM hO i_f) q757 q759 qs18 q43 q760 hv_X2_fy rfl hM.1 rfl (by decide) hl.1 rfl (Nat.le_of_ble_eq_true rfl) dX2_decidesRing_22 ⟨Nat.zero_le _, Nat.zero_le _⟩ ?_
  refine lv_fsub hx hb dX2_decidesRing_25 a2 ?_
  refine lv_fstore (lv' := [(6, .float _), (5, .float _), (0, .ref _), (1, .int _), (2, .int _), (3, .int _), (4, .int _)]) hx hb dX2_decidesRing_26 hl (Nat.le_of_ble_eq_true rfl) rfl (fun ls hl => ?_)
  refine lv_aload_n hx hb dX2_decidesRing_28 rfl (lv_at hl 2 rfl) ?_
  refine lv_iload_n hx hb dX2_decidesRing_29 rfl (lv_at hl 4 rfl) ?_
  refine p_callV (As := [.int _]) hx hb hml hown hts hK hZ (met_X2_fx l G hM hO i_b) q752 q754 qs17 q43 q755 hv_X2_fx rfl hM.1 rfl (by decide) hl.1 rfl (Nat.le_of_ble_eq_true rfl) dX2_decidesRing_30 ⟨Nat.zero_le _, Nat.zero_le _⟩ ?_
  refine lv_aload_n hx hb dX2_decidesRing_33 rfl (lv_at hl 2 rfl) ?_
  refine lv_iload hx hb dX2_decidesRing_34 (lv_at hl 6 rfl) ?_
  refine p_callV (As := [.int _]) hx hb hml hown hts hK hZ (met_X2_fx l G hM hO i_f) q752 q754 qs17 q43 q755 hv_X2_fx rfl hM.1 rfl (by decide) hl.1 rfl (Nat.le_of_ble_eq_true rfl) dX2_decidesRing_36 ⟨Nat.zero_le _, Nat.zero_le _⟩ ?_
  refine lv_fsub hx hb dX2_decidesRing_39 b1 ?_
  refine lv_fstore (lv' := [(7, .float _), (6, .float _), (5, .float _), (0, .ref _), (1, .int _), (2, .int _), (3, .int _), (4, .int _)]) hx hb dX2_decidesRing_40 hl (Nat.le_of_ble_eq_true rfl) rfl (fun ls hl => ?_)
  refine lv_aload_n hx hb dX2_decidesRing_42 rfl (lv_at hl 3 rfl) ?_
  refine lv_iload_n hx hb dX2_decidesRing_43 rfl (lv_at hl 5 rfl) ?_
  refine p_callV (As := [.int _]) hx hb hml hown hts hK hZ (met_X2_fy l G hM hO i_b) q757 q759 qs18 q43 q760 hv_X2_fy rfl hM.1 rfl (by decide) hl.1 rfl (Nat.le_of_ble_eq_true rfl) dX2_decidesRing_44 ⟨Nat.zero_le _, Nat.zero_le _⟩ ?_
  refine lv_aload_n hx hb dX2_decidesRing_47 rfl (lv_at hl 3 rfl) ?_
  refine lv_iload hx hb dX2_decidesRing_48 (lv_at hl 7 rfl) ?_
  refine p_callV (As := [.int _]) hx hb hml hown hts hK hZ (met_X2_fy l G hM hO i_f) q757 q759 qs18 q43 q760 hv_X2_fy rfl hM.1 rfl (by decide) hl.1 rfl (Nat.le_of_ble_eq_true rfl) dX2_decidesRing_50 ⟨Nat.zero_le _, Nat.zero_le _⟩ ?_
  refine lv_fsub hx hb dX2_decidesRing_53 b2 ?_
  refine lv_fstore (lv' := [(8, .float _), (7, .float _), (6, .float _), (5, .float _), (0, .ref _), (1, .int _), (2, .int _), (3, .int _), (4, .int _)]) hx hb dX2_decidesRing_54 hl (Nat.le_of_ble_eq_true rfl) rfl (fun ls hl => ?_)
  refine lv_aload_n hx hb dX2_decidesRing_56 rfl (lv_at hl 4 rfl) ?_
  refine lv_iload_n hx hb dX2_decidesRing_57 rfl (lv_at hl 7 rfl) ?_
  refine p_callV (As := [.int _]) hx hb hml hown hts hK hZ (met_X2_fx l G hM hO i_d) q752 q754 qs17 q43 q755 hv_X2_fx rfl hM.1 rfl (by decide) hl.1 rfl (Nat.le_of_ble_eq_true rfl) dX2_decidesRing_58 ⟨Nat.zero_le _, Nat.zero_le _⟩ ?_
  refine lv_aload_n hx hb dX2_decidesRing_61 rfl (lv_at hl 4 rfl) ?_
  refine lv_iload hx hb dX2_decidesRing_62 (lv_at hl 8 rfl) ?_
  refine p_callV (As := [.int _]) hx hb hml hown hts hK hZ (met_X2_fx l G hM hO i_f) q752 q754 qs17 q43 q755 hv_X2_fx rfl hM.1 rfl (by decide) hl.1 rfl (Nat.le_of_ble_eq_true rfl) dX2_decidesRing_64 ⟨Nat.zero_le _, Nat.zero_le _⟩ ?_
  refine lv_fsub hx hb dX2_decidesRing_67 c1 ?_
  refine lv_fstore (lv' := [(9, .float _), (8, .float _), (7, .float _), (6, .float _), (5, .float _), (0, .ref _), (1, .int _), (2, .int _), (3, .int _), (4, .int _)]) hx hb dX2_decidesRing_68 hl (Nat.le_of_ble_eq_true rfl) rfl (fun ls hl => ?_)
  refine lv_aload_n hx hb dX2_decidesRing_70 rfl (lv_at hl 5 rfl) ?_
  refine lv_iload_n hx hb dX2_decidesRing_71 rfl (lv_at hl 8 rfl) ?_
  refine p_callV (As := [.int _]) hx hb hml hown hts hK hZ (met_X2_fy l G hM hO i_d) q757 q759 qs18 q43 q760 hv_X2_fy rfl hM.1 rfl (by decide) hl.1 rfl (Nat.le_of_ble_eq_true rfl) dX2_decidesRing_72 ⟨Nat.zero_le _, Nat.zero_le _⟩ ?_
  refine lv_aload_n hx hb dX2_decidesRing_75 rfl (lv_at hl 5 rfl) ?_
  refine lv_iload hx hb dX2_decidesRing_76 (lv_at hl 9 rfl) ?_
  refine p_callV (As := [.int _]) hx hb hml hown hts hK hZ (met_X2_fy l G hM hO i_f) q757 q759 qs18 q43 q760 hv_X2_fy rfl hM.1 rfl (by decide) hl.1 rfl (Nat.le_of_ble_eq_true rfl) dX2_decidesRing_78 ⟨Nat.zero_le _, Nat.zero_le _⟩ ?_
  refine lv_fsub hx hb dX2_decidesRing_81 c2 ?_
  refine lv_fstore (lv' := [(10, .float _), (9, .float _), (8, .float _), (7, .float _), (6, .float _), (5, .float _), (0, .ref _), (1, .int _), (2, .int _), (3, .int _), (4, .int _)]) hx hb dX2_decidesRing_82 hl (Nat.le_of_ble_eq_true rfl) rfl (fun ls hl => ?_)
  refine lv_fload hx hb dX2_decidesRing_84 (lv_at hl 5 rfl) ?_
  refine lv_fload hx hb dX2_decidesRing_86 (lv_at hl 5 rfl) ?_
  refine lv_fmul hx hb dX2_decidesRing_88 s1 ?_
  refine lv_fload hx hb dX2_decidesRing_89 (lv_at hl 4 rfl) ?_
  refine lv_fload hx hb dX2_decidesRing_91 (lv_at hl 4 rfl) ?_
  refine lv_fmul hx hb dX2_decidesRing_93 s2 ?_
  refine lv_fadd hx hb dX2_decidesRing_94 s3 ?_
  refine lv_fstore (lv' := [(11, .float _), (10, .float _), (9, .float _), (8, .float _), (7, .float _), (6, .float _), (5, .float _), (0, .ref _), (1, .int _), (2, .int _), (3, .int _), (4, .int _)]) hx hb dX2_decidesRing_95 hl (Nat.le_of_ble_eq_true rfl) rfl (fun ls hl => ?_)
  refine lv_fload hx hb dX2_decidesRing_97 (lv_at hl 4 rfl) ?_
  refine lv_fload hx hb dX2_decidesRing_99 (lv_at hl 4 rfl) ?_
  refine lv_fmul hx hb dX2_decidesRing_101 s4 ?_
  refine lv_fload hx hb dX2_decidesRing_102 (lv_at hl 3 rfl) ?_
  refine lv_fload hx hb dX2_decidesRing_104 (lv_at hl 3 rfl) ?_
  refine lv_fmul hx hb dX2_decidesRing_106 s5 ?_
  refine lv_fadd hx hb dX2_decidesRing_107 s6 ?_
  refine lv_fstore (lv' := [(12, .float _), (11, .float _), (10, .float _), (9, .float _), (8, .float _), (7, .float _), (6, .float _), (5, .float _), (0, .ref _), (1, .int _), (2, .int _), (3, .int _), (4, .int _)]) hx hb dX2_decidesRing_108 hl (Nat.le_of_ble_eq_true rfl) rfl (fun ls hl => ?_)
  refine lv_fload hx hb dX2_decidesRing_110 (lv_at hl 3 rfl) ?_
  refine lv_fload hx hb dX2_decidesRing_112 (lv_at hl 3 rfl) ?_
  refine lv_fmul hx hb dX2_decidesRing_114 s7 ?_
  refine lv_fload hx hb dX2_decidesRing_115 (lv_at hl 2 rfl) ?_
  refine lv_fload hx hb dX2_decidesRing_117 (lv_at hl 2 rfl) ?_
  refine lv_fmul hx hb dX2_decidesRing_119 s8 ?_
  refine lv_fadd hx hb dX2_decidesRing_120 s9 ?_
  refine lv_fstore (lv' := [(13, .float _), (12, .float _), (11, .float _), (10, .float _), (9, .float _), (8, .float _), (7, .float _), (6, .float _), (5, .float _), (0, .ref _), (1, .int _), (2, .int _), (3, .int _), (4, .int _)]) hx hb dX2_decidesRing_121 hl (Nat.le_of_ble_eq_true rfl) rfl (fun ls hl => ?_)
  refine lv_fload hx hb dX2_decidesRing_123 (lv_at hl 2 rfl) ?_
  refine lv_fload hx hb dX2_decidesRing_125 (lv_at hl 6 rfl) ?_
  refine lv_fload hx hb dX2_decidesRing_127 (lv_at hl 3 rfl) ?_
  refine lv_fmul hx hb dX2_decidesRing_129 k1 ?_
  refine lv_fload hx hb dX2_decidesRing_130 (lv_at hl 5 rfl) ?_
  refine lv_fload hx hb dX2_decidesRing_132 (lv_at hl 4 rfl) ?_
  refine lv_fmul hx hb dX2_decidesRing_134 k2 ?_
  refine lv_fsub hx hb dX2_decidesRing_135 k3 ?_
  refine lv_fmul hx hb dX2_decidesRing_136 m1 ?_
  refine lv_fload hx hb dX2_decidesRing_137 (lv_at hl 1 rfl) ?_
  refine lv_fload hx hb dX2_decidesRing_139 (lv_at hl 4 rfl) ?_
  refine lv_fload hx hb dX2_decidesRing_141 (lv_at hl 7 rfl) ?_
  refine lv_fmul hx hb dX2_decidesRing_143 k4 ?_
  refine lv_fload hx hb dX2_decidesRing_144 (lv_at hl 3 rfl) ?_
  refine lv_fload hx hb dX2_decidesRing_146 (lv_at hl 8 rfl) ?_
  refine lv_fmul hx hb dX2_decidesRing_148 k5 ?_
  refine lv_fsub hx hb dX2_decidesRing_149 k6 ?_
  refine lv_fmul hx hb dX2_decidesRing_150 m2 ?_
  refine lv_fadd hx hb dX2_decidesRing_151 z1 ?_
  refine lv_fload hx hb dX2_decidesRing_152 (lv_at hl 0 rfl) ?_
  refine lv_fload hx hb dX2_decidesRing_154 (lv_at hl 8 rfl) ?_
  refine lv_fload hx hb dX2_decidesRing_156 (lv_at hl 5 rfl) ?_
  refine lv_fmul hx hb dX2_decidesRing_158 k7 ?_
  refine lv_fload hx hb dX2_decidesRing_159 (lv_at hl 7 rfl) ?_
  refine lv_fload hx hb dX2_decidesRing_161 (lv_at hl 6 rfl) ?_
  refine lv_fmul hx hb dX2_decidesRing_163 k8 ?_
  refine lv_fsub hx hb dX2_decidesRing_164 k9 ?_
  refine lv_fmul hx hb dX2_decidesRing_165 m3 ?_
  refine lv_fadd hx hb dX2_decidesRing_166 z2 ?_
  refine lv_fstore (lv' := [(14, .float _), (13, .float _), (12, .float _), (11, .float _), (10, .float _), (9, .float _), (8, .float _), (7, .float _), (6, .float _), (5, .float _), (0, .ref _), (1, .int _), (2, .int _), (3, .int _), (4, .int _)]) hx hb dX2_decidesRing_167 hl (Nat.le_of_ble_eq_true rfl) rfl (fun ls hl => ?_)
  refine lv_aload_n hx hb dX2_decidesRing_169 rfl (lv_at hl 10 rfl) ?_
  refine lv_iload_n hx hb dX2_decidesRing_170 rfl (lv_at hl 11 rfl) ?_
  refine lv_iload_n hx hb dX2_decidesRing_171 rfl (lv_at hl 12 rfl) ?_
  refine lv_iload_n hx hb dX2_decidesRing_172 rfl (lv_at hl 13 rfl) ?_
  refine p_callV (As := [.int _, .int _, .int _]) hx hb hml hown hts hK hZ (met_X2_most l G hM hO i_a i_b i_d) q761 q763 qs19 q43 q764 hv_X2_most rfl hM.1 rfl (by decide) hl.1 rfl (Nat.le_of_ble_eq_true rfl) dX2_decidesRing_173 ⟨Nat.zero_le _, Nat.zero_le _⟩ ?_
  refine lv_aload_n hx hb dX2_decidesRing_176 rfl (lv_at hl 10 rfl) ?_
  refine lv_iload hx hb dX2_decidesRing_177 (lv_at hl 14 rfl) ?_
  refine p_callV (As := [.int _]) hx hb hml hown hts hK hZ (met_X2_fx l G hM hO i_f) q752 q754 qs17 q43 q755 hv_X2_fx rfl hM.1 rfl (by decide) hl.1 rfl (Nat.le_of_ble_eq_true rfl) dX2_decidesRing_179 ⟨Nat.zero_le _, Nat.zero_le _⟩ ?_
  refine p_callS (As := [.float _]) hx hb hml hown hts hK hZ (met_X2_size_2 l G ) q765 q766 q43 q767 hd_X2_size_2 rfl (by decide) hl.1 rfl (Nat.le_of_ble_eq_true rfl) dX2_decidesRing_182 ⟨Nat.zero_le _, Nat.zero_le _⟩ ?_
  refine lv_aload_n hx hb dX2_decidesRing_185 rfl (lv_at hl 10 rfl) ?_
  refine lv_iload hx hb dX2_decidesRing_186 (lv_at hl 14 rfl) ?_
  refine p_callV (As := [.int _]) hx hb hml hown hts hK hZ (met_X2_fy l G hM hO i_f) q757 q759 qs18 q43 q760 hv_X2_fy rfl hM.1 rfl (by decide) hl.1 rfl (Nat.le_of_ble_eq_true rfl) dX2_decidesRing_188 ⟨Nat.zero_le _, Nat.zero_le _⟩ ?_
  refine p_callS (As := [.float _]) hx hb hml hown hts hK hZ (met_X2_size_2 l G ) q765 q766 q43 q767 hd_X2_size_2 rfl (by decide) hl.1 rfl (Nat.le_of_ble_eq_true rfl) dX2_decidesRing_191 ⟨Nat.zero_le _, Nat.zero_le _⟩ ?_
  refine p_callS (As := [.float _, .float _]) hx hb hml hown hts hK hZ (met_X2_greater l G ) q768 q769 q43 q770 hd_X2_greater rfl (by decide) hl.1 rfl (Nat.le_of_ble_eq_true rfl) dX2_decidesRing_194 ⟨Nat.zero_le _, Nat.zero_le _⟩ ?_
  refine p_callS (As := [.float _, .float _]) hx hb hml hown hts hK hZ (met_X2_greater l G ) q768 q769 q43 q770 hd_X2_greater rfl (by decide) hl.1 rfl (Nat.le_of_ble_eq_true rfl) dX2_decidesRing_197 ⟨Nat.zero_le _, Nat.zero_le _⟩ ?_
  refine lv_fstore (lv' := [(15, .float _), (14, .float _), (13, .float _), (12, .float _), (11, .float _), (10, .float _), (9, .float _), (8, .float _), (7, .float _), (6, .float _), (5, .float _), (0, .ref _), (1, .int _), (2, .int _), (3, .int _), (4, .int _)]) hx hb dX2_decidesRing_200 hl (Nat.le_of_ble_eq_true rfl) rfl (fun ls hl => ?_)
  refine lv_fload hx hb dX2_decidesRing_202 (lv_at hl 0 rfl) ?_
  refine lv_fload hx hb dX2_decidesRing_204 (lv_at hl 0 rfl) ?_
  refine lv_fmul hx hb dX2_decidesRing_206 e1 ?_
  refine lv_fload hx hb dX2_decidesRing_207 (lv_at hl 0 rfl) ?_
  refine lv_fload hx hb dX2_decidesRing_209 (lv_at hl 0 rfl) ?_
  refine lv_fmul hx hb dX2_decidesRing_211 e1 ?_
  refine lv_fmul hx hb dX2_decidesRing_212 e2 ?_
  refine lv_ldcf hx hb hown (hts _ q791) dX2_decidesRing_213 ?_
  refine lv_fmul hx hb dX2_decidesRing_215 e3 ?_
  refine lv_fstore (lv' := [(16, .float _), (15, .float _), (14, .float _), (13, .float _), (12, .float _), (11, .float _), (10, .float _), (9, .float _), (8, .float _), (7, .float _), (6, .float _), (5, .float _), (0, .ref _), (1, .int _), (2, .int _), (3, .int _), (4, .int _)]) hx hb dX2_decidesRing_216 hl (Nat.le_of_ble_eq_true rfl) rfl (fun ls hl => ?_)
  refine lv_fload hx hb dX2_decidesRing_218 (lv_at hl 2 rfl) ?_
  refine p_callS (As := [.float _]) hx hb hml hown hts hK hZ (met_X2_size_2 l G ) q765 q766 q43 q767 hd_X2_size_2 rfl (by decide) hl.1 rfl (Nat.le_of_ble_eq_true rfl) dX2_decidesRing_220 ⟨Nat.zero_le _, Nat.zero_le _⟩ ?_
  refine lv_fload hx hb dX2_decidesRing_223 (lv_at hl 0 rfl) ?_
  refine fc_l_le (tgt := 233) hx hb dX2_decidesRing_225 dX2_decidesRing_226 rfl (fun c_225 => ?_) (fun c_225 => ?_)
  · skip
    change m_fr (σ.pt a) (σ.pt b) (σ.pt d) (σ.pt f) = false at c_225
    refine lv_iconst (v := 0) hx hb dX2_decidesRing_233 ic_0 ?_
    exact pm_zret hx hb hr hlk hH dX2_decidesRing_234 (by first | with_reducible rfl | (simp only [c_225, ↓reduceIte, Bool.true_and, Bool.and_true, Bool.false_and, Bool.and_false, Bool.true_or, Bool.or_true, Bool.false_or, Bool.or_false, Bool.not_true, Bool.not_false, decide_true, decide_false, bI_t, bI_f, Bool.false_eq_true, not_true_eq_false, not_false_eq_true, eq_self, reduceCtorEq, Bool.true_eq_false, and_true, true_and, and_false, false_and, or_true, true_or, or_false, false_or]; done))
  change m_fr (σ.pt a) (σ.pt b) (σ.pt d) (σ.pt f) = true at c_225
  refine lv_iconst (v := 1) hx hb dX2_decidesRing_229 ic_1 ?_
  refine lv_goto (tgt := 234) hx hb dX2_decidesRing_230 rfl ?_
  exact pm_zret hx hb hr hlk hH dX2_decidesRing_234 (by first | with_reducible rfl | (simp only [c_225, ↓reduceIte, Bool.true_and, Bool.and_true, Bool.false_and, Bool.and_false, Bool.true_or, Bool.or_true, Bool.false_or, Bool.or_false, Bool.not_true, Bool.not_false, decide_true, decide_false, bI_t, bI_f, Bool.false_eq_true, not_true_eq_false, not_false_eq_true, eq_self, reduceCtorEq, Bool.true_eq_false, and_true, true_and, and_false, false_and, or_true, true_or, or_false, false_or]; done))
