set_option maxRecDepth 100000

def t_sign (q x : Int32) : Int32 := if q = 0 then x else q
theorem dX1_told_0 : decode cX1_told 0 = .ok (.aload_n 0, 1) := by decide +kernel
theorem dX1_told_1 : decode cX1_told 1 = .ok (.dup, 1) := by decide +kernel
theorem dX1_told_2 : decode cX1_told 2 = .ok (.getfield 66, 3) := by decide +kernel
theorem dX1_told_5 : decode cX1_told 5 = .ok (.iload_n 1, 1) := by decide +kernel
theorem dX1_told_6 : decode cX1_told 6 = .ok (.ifCond .eq 7, 3) := by decide +kernel
theorem dX1_told_9 : decode cX1_told 9 = .ok (.iconst 1, 1) := by decide +kernel
theorem dX1_told_10 : decode cX1_told 10 = .ok (.goto 4, 3) := by decide +kernel
theorem dX1_told_13 : decode cX1_told 13 = .ok (.iconst 0, 1) := by decide +kernel
theorem dX1_told_14 : decode cX1_told 14 = .ok (.iadd, 1) := by decide +kernel
theorem dX1_told_15 : decode cX1_told 15 = .ok (.putfield 66, 3) := by decide +kernel
theorem dX1_told_18 : decode cX1_told 18 = .ok (.aload_n 0, 1) := by decide +kernel
theorem dX1_told_19 : decode cX1_told 19 = .ok (.dup, 1) := by decide +kernel
theorem dX1_told_20 : decode cX1_told 20 = .ok (.getfield 69, 3) := by decide +kernel
theorem dX1_told_23 : decode cX1_told 23 = .ok (.iload_n 1, 1) := by decide +kernel
theorem dX1_told_24 : decode cX1_told 24 = .ok (.ifCond .ne 7, 3) := by decide +kernel
theorem dX1_told_27 : decode cX1_told 27 = .ok (.iconst 1, 1) := by decide +kernel
theorem dX1_told_28 : decode cX1_told 28 = .ok (.goto 4, 3) := by decide +kernel
theorem dX1_told_31 : decode cX1_told 31 = .ok (.iconst 0, 1) := by decide +kernel
theorem dX1_told_32 : decode cX1_told 32 = .ok (.iadd, 1) := by decide +kernel
theorem dX1_told_33 : decode cX1_told 33 = .ok (.putfield 69, 3) := by decide +kernel
theorem dX1_told_36 : decode cX1_told 36 = .ok (.iload_n 1, 1) := by decide +kernel
theorem dX1_told_37 : decode cX1_told 37 = .ok (.ifCond .eq 7, 3) := by decide +kernel
theorem dX1_told_40 : decode cX1_told 40 = .ok (.iload_n 1, 1) := by decide +kernel
theorem dX1_told_41 : decode cX1_told 41 = .ok (.goto 4, 3) := by decide +kernel
theorem dX1_told_44 : decode cX1_told 44 = .ok (.iload_n 2, 1) := by decide +kernel
theorem dX1_told_45 : decode cX1_told 45 = .ok (.istore_n 3, 1) := by decide +kernel
theorem dX1_told_46 : decode cX1_told 46 = .ok (.aload_n 0, 1) := by decide +kernel
theorem dX1_told_47 : decode cX1_told 47 = .ok (.dup, 1) := by decide +kernel
theorem dX1_told_48 : decode cX1_told 48 = .ok (.getfield 72, 3) := by decide +kernel
theorem dX1_told_51 : decode cX1_told 51 = .ok (.iload_n 3, 1) := by decide +kernel
theorem dX1_told_52 : decode cX1_told 52 = .ok (.ifCond .ne 7, 3) := by decide +kernel
theorem dX1_told_55 : decode cX1_told 55 = .ok (.iconst 1, 1) := by decide +kernel
theorem dX1_told_56 : decode cX1_told 56 = .ok (.goto 4, 3) := by decide +kernel
theorem dX1_told_59 : decode cX1_told 59 = .ok (.iconst 0, 1) := by decide +kernel
theorem dX1_told_60 : decode cX1_told 60 = .ok (.iadd, 1) := by decide +kernel
theorem dX1_told_61 : decode cX1_told 61 = .ok (.putfield 72, 3) := by decide +kernel
theorem dX1_told_64 : decode cX1_told 64 = .ok (.iload_n 3, 1) := by decide +kernel
theorem dX1_told_65 : decode cX1_told 65 = .ok (.ireturn, 1) := by decide +kernel
set_option maxHeartbeats 4000000 in
theorem met_X1_told (l : Launch) (G : GG) {H : Heap} {o : Nat} {v0 v1 v2 v3 v7 v8 : Value} {dc ud zr q x : Int32} (h : va_at G.1 clA (o, .inr (0, [v0, v1, v2, v3, .int dc, .int ud, .int zr, v7, v8])) H) : GM l yX1_told cX1_told 4 (some .int) 0 0 0 0 G H [.ref o, .int q, .int x] (fun oc H' => oc = .returned (some (.int (t_sign q x))) ∧ va_at G.1 clA (o, .inr (0, [v0, v1, v2, v3, .int (dc + (if q = 0 then 0 else 1)), .int (ud + (if q = 0 then 1 else 0)), .int (zr + (if t_sign q x = 0 then 1 else 0)), v7, v8])) H' ∧ Only o H H') (fun z => z = o) := by
  refine gm_intro pl_X1_told (Nat.le_of_ble_eq_true rfl) ?_
  intro pX eX sX mX belX methX cX ls hE hnm hl
  obtain ⟨hx, hb, hr, hlk, hml, hown, hts, hK, hZ, hH⟩ := hE
  have hl : lv_has ls 4 [(0, .ref o), (1, .int q), (2, .int x)] := hl
  have hL : ∀ q ∈ ([] : List Loc), (fun z => z = o : Addr → Prop) q.base := fun q h => by cases h
  refine lv_aload_n hx hb dX1_told_0 rfl (lv_at hl 0 rfl) ?_
  refine lv_dup hx hb dX1_told_1 rfl ?_
  refine gf_X1_66 hx hb hts hown hK h rfl dX1_told_2 ?_
  refine cutI (J := 14) (v := if q = 0 then 0 else 1) ?_ (fun K23 => ?_)
  rotate_left
  · skip
    refine lv_iload_n hx hb dX1_told_5 rfl (lv_at hl 1 rfl) ?_
    refine lv_if_eq (tgt := 13) hx hb dX1_told_6 rfl (fun c_6 => ?_) (fun c_6 => ?_)
    · skip
      refine lv_iconst (v := 0) hx hb dX1_told_13 ic_0 ?_
      exact K23 _ (by first | with_reducible rfl | (simp only [eq_true c_6, ↓reduceIte, Bool.true_and, Bool.and_true, Bool.false_and, Bool.and_false, Bool.true_or, Bool.or_true, Bool.false_or, Bool.or_false, Bool.not_true, Bool.not_false, decide_true, decide_false, bI_t, bI_f, Bool.false_eq_true, not_true_eq_false, not_false_eq_true, eq_self, reduceCtorEq, Bool.true_eq_false, and_true, true_and, and_false, false_and, or_true, true_or, or_false, false_or]; done))
    refine lv_iconst (v := 1) hx hb dX1_told_9 ic_1 ?_
    refine lv_goto (tgt := 14) hx hb dX1_told_10 rfl ?_
    exact K23 _ (by first | with_reducible rfl | (simp only [c_6, ↓reduceIte, Bool.true_and, Bool.and_true, Bool.false_and, Bool.and_false, Bool.true_or, Bool.or_true, Bool.false_or, Bool.or_false, Bool.not_true, Bool.not_false, decide_true, decide_false, bI_t, bI_f, Bool.false_eq_true, not_true_eq_false, not_false_eq_true, eq_self, reduceCtorEq, Bool.true_eq_false, and_true, true_and, and_false, false_and, or_true, true_or, or_false, false_or]; done))
  refine lv_iadd hx hb dX1_told_14 ?_
  refine pf_X1_66 (F := fun z => z = o) hx hb hts hown hK h rfl rfl (Nat.le_of_ble_eq_true rfl) dX1_told_15 hL rfl (fun H1_ locs h1_ ho1_ hL => ?_)
  refine lv_aload_n hx hb dX1_told_18 rfl (lv_at hl 0 rfl) ?_
  refine lv_dup hx hb dX1_told_19 rfl ?_
  refine gf_X1_69 hx hb hts hown hK h1_ rfl dX1_told_20 ?_
  refine cutI (J := 32) (v := if q = 0 then 1 else 0) ?_ (fun K24 => ?_)
  rotate_left
  · skip
    refine lv_iload_n hx hb dX1_told_23 rfl (lv_at hl 1 rfl) ?_
    refine lv_if_ne (tgt := 31) hx hb dX1_told_24 rfl (fun c_24 => ?_) (fun c_24 => ?_)
    · skip
      refine lv_iconst (v := 0) hx hb dX1_told_31 ic_0 ?_
      exact K24 _ (by first | with_reducible rfl | (simp only [c_24, ↓reduceIte, Bool.true_and, Bool.and_true, Bool.false_and, Bool.and_false, Bool.true_or, Bool.or_true, Bool.false_or, Bool.or_false, Bool.not_true, Bool.not_false, decide_true, decide_false, bI_t, bI_f, Bool.false_eq_true, not_true_eq_false, not_false_eq_true, eq_self, reduceCtorEq, Bool.true_eq_false, and_true, true_and, and_false, false_and, or_true, true_or, or_false, false_or]; done))
    refine lv_iconst (v := 1) hx hb dX1_told_27 ic_1 ?_
    refine lv_goto (tgt := 32) hx hb dX1_told_28 rfl ?_
    exact K24 _ (by first | with_reducible rfl | (simp only [eq_true c_24, ↓reduceIte, Bool.true_and, Bool.and_true, Bool.false_and, Bool.and_false, Bool.true_or, Bool.or_true, Bool.false_or, Bool.or_false, Bool.not_true, Bool.not_false, decide_true, decide_false, bI_t, bI_f, Bool.false_eq_true, not_true_eq_false, not_false_eq_true, eq_self, reduceCtorEq, Bool.true_eq_false, and_true, true_and, and_false, false_and, or_true, true_or, or_false, false_or]; done))
  refine lv_iadd hx hb dX1_told_32 ?_
  refine pf_X1_69 (F := fun z => z = o) hx hb hts hown hK h1_ rfl rfl (Nat.le_of_ble_eq_true rfl) dX1_told_33 hL rfl (fun H2_ locs h2_ ho2_ hL => ?_)
  refine cutI (J := 45) (v := t_sign q x) ?_ (fun K25 => ?_)
  rotate_left
  · skip
    refine lv_iload_n hx hb dX1_told_36 rfl (lv_at hl 1 rfl) ?_
    refine lv_if_eq (tgt := 44) hx hb dX1_told_37 rfl (fun c_37 => ?_) (fun c_37 => ?_)
    · skip
      refine lv_iload_n hx hb dX1_told_44 rfl (lv_at hl 2 rfl) ?_
      exact K25 _ (by first | with_reducible rfl | (simp only [t_sign, eq_true c_37, ↓reduceIte, Bool.true_and, Bool.and_true, Bool.false_and, Bool.and_false, Bool.true_or, Bool.or_true, Bool.false_or, Bool.or_false, Bool.not_true, Bool.not_false, decide_true, decide_false, bI_t, bI_f, Bool.false_eq_true, not_true_eq_false, not_false_eq_true, eq_self, reduceCtorEq, Bool.true_eq_false, and_true, true_and, and_false, false_and, or_true, true_or, or_false, false_or]; done))
    refine lv_iload_n hx hb dX1_told_40 rfl (lv_at hl 1 rfl) ?_
    refine lv_goto (tgt := 45) hx hb dX1_told_41 rfl ?_
    exact K25 _ (by first | with_reducible rfl | (simp only [t_sign, c_37, ↓reduceIte, Bool.true_and, Bool.and_true, Bool.false_and, Bool.and_false, Bool.true_or, Bool.or_true, Bool.false_or, Bool.or_false, Bool.not_true, Bool.not_false, decide_true, decide_false, bI_t, bI_f, Bool.false_eq_true, not_true_eq_false, not_false_eq_true, eq_self, reduceCtorEq, Bool.true_eq_false, and_true, true_and, and_false, false_and, or_true, true_or, or_false, false_or]; done))
  refine lv_istore_n (lv' := [(3, .int _), (0, .ref _), (1, .int _), (2, .int _)]) hx hb dX1_told_45 rfl hl (Nat.le_of_ble_eq_true rfl) rfl (fun ls hl => ?_)
  refine lv_aload_n hx hb dX1_told_46 rfl (lv_at hl 1 rfl) ?_
  refine lv_dup hx hb dX1_told_47 rfl ?_
  refine gf_X1_72 hx hb hts hown hK h2_ rfl dX1_told_48 ?_
  refine cutI (J := 60) (v := if t_sign q x = 0 then 1 else 0) ?_ (fun K26 => ?_)
  rotate_left
  · skip
    refine lv_iload_n hx hb dX1_told_51 rfl (lv_at hl 0 rfl) ?_
    refine lv_if_ne (tgt := 59) hx hb dX1_told_52 rfl (fun c_52 => ?_) (fun c_52 => ?_)
    · skip
      refine lv_iconst (v := 0) hx hb dX1_told_59 ic_0 ?_
      exact K26 _ (by first | with_reducible rfl | (simp only [c_52, ↓reduceIte, Bool.true_and, Bool.and_true, Bool.false_and, Bool.and_false, Bool.true_or, Bool.or_true, Bool.false_or, Bool.or_false, Bool.not_true, Bool.not_false, decide_true, decide_false, bI_t, bI_f, Bool.false_eq_true, not_true_eq_false, not_false_eq_true, eq_self, reduceCtorEq, Bool.true_eq_false, and_true, true_and, and_false, false_and, or_true, true_or, or_false, false_or]; done))
    refine lv_iconst (v := 1) hx hb dX1_told_55 ic_1 ?_
    refine lv_goto (tgt := 60) hx hb dX1_told_56 rfl ?_
    exact K26 _ (by first | with_reducible rfl | (simp only [eq_true c_52, ↓reduceIte, Bool.true_and, Bool.and_true, Bool.false_and, Bool.and_false, Bool.true_or, Bool.or_true, Bool.false_or, Bool.or_false, Bool.not_true, Bool.not_false, decide_true, decide_false, bI_t, bI_f, Bool.false_eq_true, not_true_eq_false, not_false_eq_true, eq_self, reduceCtorEq, Bool.true_eq_false, and_true, true_and, and_false, false_and, or_true, true_or, or_false, false_or]; done))
  refine lv_iadd hx hb dX1_told_60 ?_
  refine pf_X1_72 (F := fun z => z = o) hx hb hts hown hK h2_ rfl rfl (Nat.le_of_ble_eq_true rfl) dX1_told_61 hL rfl (fun H3_ locs h3_ ho3_ hL => ?_)
  refine lv_iload_n hx hb dX1_told_64 rfl (lv_at hl 0 rfl) ?_
  exact g_iret (F := fun z => z = o) (Post := fun oc H' => oc = .returned (some (.int (t_sign q x))) ∧ va_at G.1 clA (o, .inr (0, [v0, v1, v2, v3, .int (dc + (if q = 0 then 0 else 1)), .int (ud + (if q = 0 then 1 else 0)), .int (zr + (if t_sign q x = 0 then 1 else 0)), v7, v8])) H' ∧ Only o H H') hx hb hr hlk hL dX1_told_65 ⟨rfl, h3_, ((ho1_.tr ho2_).tr ho3_)⟩
theorem dX1_filter_0 : decode cX1_filter 0 = .ok (.aload_n 0, 1) := by decide +kernel
theorem dX1_filter_1 : decode cX1_filter 1 = .ok (.getfield 33, 3) := by decide +kernel
theorem dX1_filter_4 : decode cX1_filter 4 = .ok (.ifCond .eq 7, 3) := by decide +kernel
theorem dX1_filter_7 : decode cX1_filter 7 = .ok (.iconst 1, 1) := by decide +kernel
theorem dX1_filter_8 : decode cX1_filter 8 = .ok (.goto 4, 3) := by decide +kernel
theorem dX1_filter_11 : decode cX1_filter 11 = .ok (.iconst 0, 1) := by decide +kernel
theorem dX1_filter_12 : decode cX1_filter 12 = .ok (.istore_n 2, 1) := by decide +kernel
theorem dX1_filter_13 : decode cX1_filter 13 = .ok (.aload_n 0, 1) := by decide +kernel
theorem dX1_filter_14 : decode cX1_filter 14 = .ok (.iload_n 1, 1) := by decide +kernel
theorem dX1_filter_15 : decode cX1_filter 15 = .ok (.putfield 33, 3) := by decide +kernel
theorem dX1_filter_18 : decode cX1_filter 18 = .ok (.iload_n 2, 1) := by decide +kernel
theorem dX1_filter_19 : decode cX1_filter 19 = .ok (.ireturn, 1) := by decide +kernel
set_option maxHeartbeats 4000000 in
theorem met_X1_filter (l : Launch) (G : GG) {H : Heap} {o : Nat} {v0 v1 v2 v4 v5 v6 v7 v8 : Value} {b b' : Bool} (h : va_at G.1 clA (o, .inr (0, [v0, v1, v2, .int (bI b), v4, v5, v6, v7, v8])) H) : GM l yX1_filter cX1_filter 3 (some .int) 0 0 0 0 G H [.ref o, .int (bI b')] (fun oc H' => oc = .returned (some (.int (bI b))) ∧ va_at G.1 clA (o, .inr (0, [v0, v1, v2, .int (bI b'), v4, v5, v6, v7, v8])) H' ∧ Only o H H') (fun z => z = o) := by
  refine gm_intro pl_X1_filter (Nat.le_of_ble_eq_true rfl) ?_
  intro pX eX sX mX belX methX cX ls hE hnm hl
  obtain ⟨hx, hb, hr, hlk, hml, hown, hts, hK, hZ, hH⟩ := hE
  have hl : lv_has ls 3 [(0, .ref o), (1, .int (bI b'))] := hl
  have hL : ∀ q ∈ ([] : List Loc), (fun z => z = o : Addr → Prop) q.base := fun q h => by cases h
  refine cutI (J := 12) (v := bI (b)) ?_ (fun K27 => ?_)
  rotate_left
  · skip
    refine lv_aload_n hx hb dX1_filter_0 rfl (lv_at hl 0 rfl) ?_
    refine gf_X1_33 hx hb hts hown hK h rfl dX1_filter_1 ?_
    refine b_ifeq (tgt := 11) hx hb dX1_filter_4 rfl (fun c_4 => ?_) (fun c_4 => ?_)
    · skip
      refine lv_iconst (v := 0) hx hb dX1_filter_11 ic_0 ?_
      exact K27 _ (by first | with_reducible rfl | (simp only [c_4, ↓reduceIte, Bool.true_and, Bool.and_true, Bool.false_and, Bool.and_false, Bool.true_or, Bool.or_true, Bool.false_or, Bool.or_false, Bool.not_true, Bool.not_false, decide_true, decide_false, bI_t, bI_f, Bool.false_eq_true, not_true_eq_false, not_false_eq_true, eq_self, reduceCtorEq, Bool.true_eq_false, and_true, true_and, and_false, false_and, or_true, true_or, or_false, false_or]; done))
    refine lv_iconst (v := 1) hx hb dX1_filter_7 ic_1 ?_
    refine lv_goto (tgt := 12) hx hb dX1_filter_8 rfl ?_
    exact K27 _ (by first | with_reducible rfl | (simp only [c_4, ↓reduceIte, Bool.true_and, Bool.and_true, Bool.false_and, Bool.and_false, Bool.true_or, Bool.or_true, Bool.false_or, Bool.or_false, Bool.not_true, Bool.not_false, decide_true, decide_false, bI_t, bI_f, Bool.false_eq_true, not_true_eq_false, not_false_eq_true, eq_self, reduceCtorEq, Bool.true_eq_false, and_true, true_and, and_false, false_and, or_true, true_or, or_false, false_or]; done))
  refine lv_istore_n (lv' := [(2, .int _), (0, .ref _), (1, .int _)]) hx hb dX1_filter_12 rfl hl (Nat.le_of_ble_eq_true rfl) rfl (fun ls hl => ?_)
  refine lv_aload_n hx hb dX1_filter_13 rfl (lv_at hl 1 rfl) ?_
  refine lv_iload_n hx hb dX1_filter_14 rfl (lv_at hl 2 rfl) ?_
  refine pf_X1_33 (F := fun z => z = o) hx hb hts hown hK h (bI_nar _) (bI_fit _) (Nat.le_of_ble_eq_true rfl) dX1_filter_15 hL rfl (fun H1_ locs h1_ ho1_ hL => ?_)
  refine lv_iload_n hx hb dX1_filter_18 rfl (lv_at hl 0 rfl) ?_
  exact g_iret (F := fun z => z = o) (Post := fun oc H' => oc = .returned (some (.int (bI b))) ∧ va_at G.1 clA (o, .inr (0, [v0, v1, v2, .int (bI b'), v4, v5, v6, v7, v8])) H' ∧ Only o H H') hx hb hr hlk hL dX1_filter_19 ⟨rfl, h1_, ho1_⟩
theorem dX2_thrown_0 : decode cX2_thrown 0 = .ok (.aload_n 0, 1) := by decide +kernel
theorem dX2_thrown_1 : decode cX2_thrown 1 = .ok (.getfield 1, 3) := by decide +kernel
theorem dX2_thrown_4 : decode cX2_thrown 4 = .ok (.istore_n 1, 1) := by decide +kernel
theorem dX2_thrown_5 : decode cX2_thrown 5 = .ok (.aload_n 0, 1) := by decide +kernel
theorem dX2_thrown_6 : decode cX2_thrown 6 = .ok (.iconst 0, 1) := by decide +kernel
theorem dX2_thrown_7 : decode cX2_thrown 7 = .ok (.putfield 1, 3) := by decide +kernel
theorem dX2_thrown_10 : decode cX2_thrown 10 = .ok (.iload_n 1, 1) := by decide +kernel
theorem dX2_thrown_11 : decode cX2_thrown 11 = .ok (.ireturn, 1) := by decide +kernel
set_option maxHeartbeats 4000000 in
theorem met_X2_thrown (l : Launch) (G : GG) {H : Heap} {o : Nat} {v1 v2 v3 v4 v5 v6 v7 v8 v9 v10 v11 v12 v13 : Value} {th : Int32} (h : va_at G.1 clA (o, .inr (7, [.int th, v1, v2, v3, v4, v5, v6, v7, v8, v9, v10, v11, v12, v13])) H) : GM l yX2_thrown cX2_thrown 2 (some .int) 0 0 0 0 G H [.ref o] (fun oc H' => oc = .returned (some (.int th)) ∧ va_at G.1 clA (o, .inr (7, [.int 0, v1, v2, v3, v4, v5, v6, v7, v8, v9, v10, v11, v12, v13])) H' ∧ Only o H H') (fun z => z = o) := by
  refine gm_intro pl_X2_thrown (Nat.le_of_ble_eq_true rfl) ?_
  intro pX eX sX mX belX methX cX ls hE hnm hl
  obtain ⟨hx, hb, hr, hlk, hml, hown, hts, hK, hZ, hH⟩ := hE
  have hl : lv_has ls 2 [(0, .ref o)] := hl
  have hL : ∀ q ∈ ([] : List Loc), (fun z => z = o : Addr → Prop) q.base := fun q h => by cases h
  refine lv_aload_n hx hb dX2_thrown_0 rfl (lv_at hl 0 rfl) ?_
  refine gf_X2_1 hx hb hts hown hK h rfl dX2_thrown_1 ?_
  refine lv_istore_n (lv' := [(1, .int _), (0, .ref _)]) hx hb dX2_thrown_4 rfl hl (Nat.le_of_ble_eq_true rfl) rfl (fun ls hl => ?_)
  refine lv_aload_n hx hb dX2_thrown_5 rfl (lv_at hl 1 rfl) ?_
  refine lv_iconst (v := 0) hx hb dX2_thrown_6 ic_0 ?_
  refine pf_X2_1 (F := fun z => z = o) hx hb hts hown hK h rfl rfl (Nat.le_of_ble_eq_true rfl) dX2_thrown_7 hL rfl (fun H1_ locs h1_ ho1_ hL => ?_)
  refine lv_iload_n hx hb dX2_thrown_10 rfl (lv_at hl 0 rfl) ?_
  exact g_iret (F := fun z => z = o) (Post := fun oc H' => oc = .returned (some (.int th)) ∧ va_at G.1 clA (o, .inr (7, [.int 0, v1, v2, v3, v4, v5, v6, v7, v8, v9, v10, v11, v12, v13])) H' ∧ Only o H H') hx hb hr hlk hL dX2_thrown_11 ⟨rfl, h1_, ho1_⟩
theorem dX2_fail_0 : decode cX2_fail 0 = .ok (.aload_n 0, 1) := by decide +kernel
theorem dX2_fail_1 : decode cX2_fail 1 = .ok (.iload_n 1, 1) := by decide +kernel
theorem dX2_fail_2 : decode cX2_fail 2 = .ok (.putfield 1, 3) := by decide +kernel
theorem dX2_fail_5 : decode cX2_fail 5 = .ok (.iconst 0, 1) := by decide +kernel
theorem dX2_fail_6 : decode cX2_fail 6 = .ok (.ireturn, 1) := by decide +kernel
set_option maxHeartbeats 4000000 in
theorem met_X2_fail (l : Launch) (G : GG) {H : Heap} {o : Nat} {v1 v2 v3 v4 v5 v6 v7 v8 v9 v10 v11 v12 v13 : Value} {th x : Int32} (h : va_at G.1 clA (o, .inr (7, [.int th, v1, v2, v3, v4, v5, v6, v7, v8, v9, v10, v11, v12, v13])) H) : GM l yX2_fail cX2_fail 2 (some .int) 0 0 0 0 G H [.ref o, .int x] (fun oc H' => oc = .returned (some (.int 0)) ∧ va_at G.1 clA (o, .inr (7, [.int x, v1, v2, v3, v4, v5, v6, v7, v8, v9, v10, v11, v12, v13])) H' ∧ Only o H H') (fun z => z = o) := by
  refine gm_intro pl_X2_fail (Nat.le_of_ble_eq_true rfl) ?_
  intro pX eX sX mX belX methX cX ls hE hnm hl
  obtain ⟨hx, hb, hr, hlk, hml, hown, hts, hK, hZ, hH⟩ := hE
  have hl : lv_has ls 2 [(0, .ref o), (1, .int x)] := hl
  have hL : ∀ q ∈ ([] : List Loc), (fun z => z = o : Addr → Prop) q.base := fun q h => by cases h
  refine lv_aload_n hx hb dX2_fail_0 rfl (lv_at hl 0 rfl) ?_
  refine lv_iload_n hx hb dX2_fail_1 rfl (lv_at hl 1 rfl) ?_
  refine pf_X2_1 (F := fun z => z = o) hx hb hts hown hK h rfl rfl (Nat.le_of_ble_eq_true rfl) dX2_fail_2 hL rfl (fun H1_ locs h1_ ho1_ hL => ?_)
  refine lv_iconst (v := 0) hx hb dX2_fail_5 ic_0 ?_
  exact g_iret (F := fun z => z = o) (Post := fun oc H' => oc = .returned (some (.int 0)) ∧ va_at G.1 clA (o, .inr (7, [.int x, v1, v2, v3, v4, v5, v6, v7, v8, v9, v10, v11, v12, v13])) H' ∧ Only o H H') hx hb hr hlk hL dX2_fail_6 ⟨rfl, h1_, ho1_⟩
theorem dX2_filter_0 : decode cX2_filter 0 = .ok (.aload_n 0, 1) := by decide +kernel
theorem dX2_filter_1 : decode cX2_filter 1 = .ok (.getfield 23, 3) := by decide +kernel
theorem dX2_filter_4 : decode cX2_filter 4 = .ok (.ifCond .eq 7, 3) := by decide +kernel
theorem dX2_filter_7 : decode cX2_filter 7 = .ok (.iconst 1, 1) := by decide +kernel
theorem dX2_filter_8 : decode cX2_filter 8 = .ok (.goto 4, 3) := by decide +kernel
theorem dX2_filter_11 : decode cX2_filter 11 = .ok (.iconst 0, 1) := by decide +kernel
theorem dX2_filter_12 : decode cX2_filter 12 = .ok (.istore_n 2, 1) := by decide +kernel
theorem dX2_filter_13 : decode cX2_filter 13 = .ok (.aload_n 0, 1) := by decide +kernel
theorem dX2_filter_14 : decode cX2_filter 14 = .ok (.iload_n 1, 1) := by decide +kernel
theorem dX2_filter_15 : decode cX2_filter 15 = .ok (.putfield 23, 3) := by decide +kernel
theorem dX2_filter_18 : decode cX2_filter 18 = .ok (.iload_n 2, 1) := by decide +kernel
theorem dX2_filter_19 : decode cX2_filter 19 = .ok (.ireturn, 1) := by decide +kernel
set_option maxHeartbeats 4000000 in
theorem met_X2_filter (l : Launch) (G : GG) {H : Heap} {o : Nat} {v0 v1 v2 v3 v4 v5 v7 v8 v9 v10 v11 v12 v13 : Value} {b b' : Bool} (h : va_at G.1 clA (o, .inr (7, [v0, v1, v2, v3, v4, v5, .int (bI b), v7, v8, v9, v10, v11, v12, v13])) H) : GM l yX2_filter cX2_filter 3 (some .int) 0 0 0 0 G H [.ref o, .int (bI b')] (fun oc H' => oc = .returned (some (.int (bI b))) ∧ va_at G.1 clA (o, .inr (7, [v0, v1, v2, v3, v4, v5, .int (bI b'), v7, v8, v9, v10, v11, v12, v13])) H' ∧ Only o H H') (fun z => z = o) := by
  refine gm_intro pl_X2_filter (Nat.le_of_ble_eq_true rfl) ?_
  intro pX eX sX mX belX methX cX ls hE hnm hl
  obtain ⟨hx, hb, hr, hlk, hml, hown, hts, hK, hZ, hH⟩ := hE
  have hl : lv_has ls 3 [(0, .ref o), (1, .int (bI b'))] := hl
  have hL : ∀ q ∈ ([] : List Loc), (fun z => z = o : Addr → Prop) q.base := fun q h => by cases h
  refine cutI (J := 12) (v := bI (b)) ?_ (fun K28 => ?_)
  rotate_left
  · skip
    refine lv_aload_n hx hb dX2_filter_0 rfl (lv_at hl 0 rfl) ?_
    refine gf_X2_23 hx hb hts hown hK h rfl dX2_filter_1 ?_
    refine b_ifeq (tgt := 11) hx hb dX2_filter_4 rfl (fun c_4 => ?_) (fun c_4 => ?_)
    · skip
      refine lv_iconst (v := 0) hx hb dX2_filter_11 ic_0 ?_
      exact K28 _ (by first | with_reducible rfl | (simp only [c_4, ↓reduceIte, Bool.true_and, Bool.and_true, Bool.false_and, Bool.and_false, Bool.true_or, Bool.or_true, Bool.false_or, Bool.or_false, Bool.not_true, Bool.not_false, decide_true, decide_false, bI_t, bI_f, Bool.false_eq_true, not_true_eq_false, not_false_eq_true, eq_self, reduceCtorEq, Bool.true_eq_false, and_true, true_and, and_false, false_and, or_true, true_or, or_false, false_or]; done))
    refine lv_iconst (v := 1) hx hb dX2_filter_7 ic_1 ?_
    refine lv_goto (tgt := 12) hx hb dX2_filter_8 rfl ?_
    exact K28 _ (by first | with_reducible rfl | (simp only [c_4, ↓reduceIte, Bool.true_and, Bool.and_true, Bool.false_and, Bool.and_false, Bool.true_or, Bool.or_true, Bool.false_or, Bool.or_false, Bool.not_true, Bool.not_false, decide_true, decide_false, bI_t, bI_f, Bool.false_eq_true, not_true_eq_false, not_false_eq_true, eq_self, reduceCtorEq, Bool.true_eq_false, and_true, true_and, and_false, false_and, or_true, true_or, or_false, false_or]; done))
  refine lv_istore_n (lv' := [(2, .int _), (0, .ref _), (1, .int _)]) hx hb dX2_filter_12 rfl hl (Nat.le_of_ble_eq_true rfl) rfl (fun ls hl => ?_)
  refine lv_aload_n hx hb dX2_filter_13 rfl (lv_at hl 1 rfl) ?_
  refine lv_iload_n hx hb dX2_filter_14 rfl (lv_at hl 2 rfl) ?_
  refine pf_X2_23 (F := fun z => z = o) hx hb hts hown hK h (bI_nar _) (bI_fit _) (Nat.le_of_ble_eq_true rfl) dX2_filter_15 hL rfl (fun H1_ locs h1_ ho1_ hL => ?_)
  refine lv_iload_n hx hb dX2_filter_18 rfl (lv_at hl 0 rfl) ?_
  exact g_iret (F := fun z => z = o) (Post := fun oc H' => oc = .returned (some (.int (bI b))) ∧ va_at G.1 clA (o, .inr (7, [v0, v1, v2, v3, v4, v5, .int (bI b'), v7, v8, v9, v10, v11, v12, v13])) H' ∧ Only o H H') hx hb hr hlk hL dX2_filter_19 ⟨rfl, h1_, ho1_⟩
