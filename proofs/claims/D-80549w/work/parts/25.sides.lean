set_option maxRecDepth 100000

theorem t_idem (k x : Int32) : t_sign k (t_sign k x) = t_sign k x := by unfold t_sign; split <;> rfl
theorem told_JP {G : GG} {H H1 : Heap} {o : Nat} {B P L : Nat → Nat} {σ : Sg} {k x : Int32} (hJ : JW G H o B P L σ) (hS : JS o B P L σ) (hat : va_at G.1 clA (o, .inr (0, [.int (nI σ.np), .ref (B 0), .ref (B 1), .int (bI σ.on), .int (σ.dc + (if k = 0 then 0 else 1)), .int (σ.ud + (if k = 0 then 1 else 0)), .int (σ.zr + (if t_sign k (t_sign k x) = 0 then 1 else 0)), .int (nI σ.nl), .ref (B 2)])) H1) (hon : Only o H H1) : JP G H o B P L σ (j_told σ k x) H1 := by
  have e : j_told σ k x = (σ.1, σ.2.1, (σ.on, σ.dc + (if k = 0 then 0 else 1), σ.ud + (if k = 0 then 1 else 0), σ.zr + (if t_sign k (t_sign k x) = 0 then 1 else 0)), σ.2.2.2) := by
    unfold j_told t_cnt
    rw [t_idem]
    by_cases h : k = 0 <;> by_cases h2 : t_sign k x = 0 <;> simp [h, h2]
  rw [e]
  exact JP.o hJ hS rfl rfl rfl hat hon
theorem dX2_counted_0 : decode cX2_counted 0 = .ok (.aload_n 0, 1) := by decide +kernel
theorem dX2_counted_1 : decode cX2_counted 1 = .ok (.dup, 1) := by decide +kernel
theorem dX2_counted_2 : decode cX2_counted 2 = .ok (.getfield 98, 3) := by decide +kernel
theorem dX2_counted_5 : decode cX2_counted 5 = .ok (.aload_n 0, 1) := by decide +kernel
theorem dX2_counted_6 : decode cX2_counted 6 = .ok (.getfield 23, 3) := by decide +kernel
theorem dX2_counted_9 : decode cX2_counted 9 = .ok (.ifCond .eq 11, 3) := by decide +kernel
theorem dX2_counted_12 : decode cX2_counted 12 = .ok (.iload_n 1, 1) := by decide +kernel
theorem dX2_counted_13 : decode cX2_counted 13 = .ok (.ifCond .eq 7, 3) := by decide +kernel
theorem dX2_counted_16 : decode cX2_counted 16 = .ok (.iconst 1, 1) := by decide +kernel
theorem dX2_counted_17 : decode cX2_counted 17 = .ok (.goto 4, 3) := by decide +kernel
theorem dX2_counted_20 : decode cX2_counted 20 = .ok (.iconst 0, 1) := by decide +kernel
theorem dX2_counted_21 : decode cX2_counted 21 = .ok (.iadd, 1) := by decide +kernel
theorem dX2_counted_22 : decode cX2_counted 22 = .ok (.putfield 98, 3) := by decide +kernel
theorem dX2_counted_25 : decode cX2_counted 25 = .ok (.aload_n 0, 1) := by decide +kernel
theorem dX2_counted_26 : decode cX2_counted 26 = .ok (.dup, 1) := by decide +kernel
theorem dX2_counted_27 : decode cX2_counted 27 = .ok (.getfield 101, 3) := by decide +kernel
theorem dX2_counted_30 : decode cX2_counted 30 = .ok (.aload_n 0, 1) := by decide +kernel
theorem dX2_counted_31 : decode cX2_counted 31 = .ok (.getfield 23, 3) := by decide +kernel
theorem dX2_counted_34 : decode cX2_counted 34 = .ok (.ifCond .eq 11, 3) := by decide +kernel
theorem dX2_counted_37 : decode cX2_counted 37 = .ok (.iload_n 1, 1) := by decide +kernel
theorem dX2_counted_38 : decode cX2_counted 38 = .ok (.ifCond .eq 7, 3) := by decide +kernel
theorem dX2_counted_41 : decode cX2_counted 41 = .ok (.iconst 0, 1) := by decide +kernel
theorem dX2_counted_42 : decode cX2_counted 42 = .ok (.goto 4, 3) := by decide +kernel
theorem dX2_counted_45 : decode cX2_counted 45 = .ok (.iconst 1, 1) := by decide +kernel
theorem dX2_counted_46 : decode cX2_counted 46 = .ok (.iadd, 1) := by decide +kernel
theorem dX2_counted_47 : decode cX2_counted 47 = .ok (.putfield 101, 3) := by decide +kernel
theorem dX2_counted_50 : decode cX2_counted 50 = .ok (.aload_n 0, 1) := by decide +kernel
theorem dX2_counted_51 : decode cX2_counted 51 = .ok (.dup, 1) := by decide +kernel
theorem dX2_counted_52 : decode cX2_counted 52 = .ok (.getfield 104, 3) := by decide +kernel
theorem dX2_counted_55 : decode cX2_counted 55 = .ok (.iload_n 2, 1) := by decide +kernel
theorem dX2_counted_56 : decode cX2_counted 56 = .ok (.ifCond .ne 7, 3) := by decide +kernel
theorem dX2_counted_59 : decode cX2_counted 59 = .ok (.iconst 1, 1) := by decide +kernel
theorem dX2_counted_60 : decode cX2_counted 60 = .ok (.goto 4, 3) := by decide +kernel
theorem dX2_counted_63 : decode cX2_counted 63 = .ok (.iconst 0, 1) := by decide +kernel
theorem dX2_counted_64 : decode cX2_counted 64 = .ok (.iadd, 1) := by decide +kernel
theorem dX2_counted_65 : decode cX2_counted 65 = .ok (.putfield 104, 3) := by decide +kernel
theorem dX2_counted_68 : decode cX2_counted 68 = .ok (.iload_n 2, 1) := by decide +kernel
theorem dX2_counted_69 : decode cX2_counted 69 = .ok (.ireturn, 1) := by decide +kernel
set_option maxHeartbeats 4000000 in
theorem met_X2_counted (l : Launch) (G : GG) {H : Heap} {o : Nat} {v0 v1 v2 v3 v4 v5 v10 v11 v12 v13 : Value} {on b : Bool} {dc ud zr x : Int32} (h : va_at G.1 clA (o, .inr (7, [v0, v1, v2, v3, v4, v5, .int (bI on), .int dc, .int ud, .int zr, v10, v11, v12, v13])) H) : GM l yX2_counted cX2_counted 3 (some .int) 0 0 0 0 G H [.ref o, .int (bI b), .int x] (fun oc H' => oc = .returned (some (.int x)) ∧ va_at G.1 clA (o, .inr (7, [v0, v1, v2, v3, v4, v5, .int (bI on), .int (dc + (if (on && b) = true then 1 else 0)), .int (ud + (if (on && b) = true then 0 else 1)), .int (zr + (if decide (x = 0) = true then 1 else 0)), v10, v11, v12, v13])) H' ∧ Only o H H') (fun z => z = o) := by
  refine gm_intro pl_X2_counted (Nat.le_of_ble_eq_true rfl) ?_
  intro pX eX sX mX belX methX cX ls hE hnm hl
  obtain ⟨hx, hb, hr, hlk, hml, hown, hts, hK, hZ, hH⟩ := hE
  have hl : lv_has ls 3 [(0, .ref o), (1, .int (bI b)), (2, .int x)] := hl
  have hL : ∀ q ∈ ([] : List Loc), (fun z => z = o : Addr → Prop) q.base := fun q h => by cases h
  refine lv_aload_n hx hb dX2_counted_0 rfl (lv_at hl 0 rfl) ?_
  refine lv_dup hx hb dX2_counted_1 rfl ?_
  refine gf_X2_98 hx hb hts hown hK h rfl dX2_counted_2 ?_
  refine cutI (J := 21) (v := if (on && b) = true then 1 else 0) ?_ (fun K41 => ?_)
  rotate_left
  · skip
    refine lv_aload_n hx hb dX2_counted_5 rfl (lv_at hl 0 rfl) ?_
    refine gf_X2_23 hx hb hts hown hK h rfl dX2_counted_6 ?_
    refine b_ifeq (tgt := 20) hx hb dX2_counted_9 rfl (fun c_9 => ?_) (fun c_9 => ?_)
    · skip
      refine lv_iconst (v := 0) hx hb dX2_counted_20 ic_0 ?_
      exact K41 _ (by first | with_reducible rfl | (simp only [c_9, ↓reduceIte, Bool.true_and, Bool.and_true, Bool.false_and, Bool.and_false, Bool.true_or, Bool.or_true, Bool.false_or, Bool.or_false, Bool.not_true, Bool.not_false, decide_true, decide_false, bI_t, bI_f, Bool.false_eq_true, not_true_eq_false, not_false_eq_true, eq_self, reduceCtorEq, Bool.true_eq_false, and_true, true_and, and_false, false_and, or_true, true_or, or_false, false_or]; done))
    refine lv_iload_n hx hb dX2_counted_12 rfl (lv_at hl 1 rfl) ?_
    refine b_ifeq (tgt := 20) hx hb dX2_counted_13 rfl (fun c_13 => ?_) (fun c_13 => ?_)
    · skip
      refine lv_iconst (v := 0) hx hb dX2_counted_20 ic_0 ?_
      exact K41 _ (by first | with_reducible rfl | (simp only [c_9, c_13, ↓reduceIte, Bool.true_and, Bool.and_true, Bool.false_and, Bool.and_false, Bool.true_or, Bool.or_true, Bool.false_or, Bool.or_false, Bool.not_true, Bool.not_false, decide_true, decide_false, bI_t, bI_f, Bool.false_eq_true, not_true_eq_false, not_false_eq_true, eq_self, reduceCtorEq, Bool.true_eq_false, and_true, true_and, and_false, false_and, or_true, true_or, or_false, false_or]; done) | (simp only [c_9, ↓reduceIte, Bool.true_and, Bool.and_true, Bool.false_and, Bool.and_false, Bool.true_or, Bool.or_true, Bool.false_or, Bool.or_false, Bool.not_true, Bool.not_false, decide_true, decide_false, bI_t, bI_f, Bool.false_eq_true, not_true_eq_false, not_false_eq_true, eq_self, reduceCtorEq, Bool.true_eq_false, and_true, true_and, and_false, false_and, or_true, true_or, or_false, false_or] at c_13; done) | (simp only [c_13, ↓reduceIte, Bool.true_and, Bool.and_true, Bool.false_and, Bool.and_false, Bool.true_or, Bool.or_true, Bool.false_or, Bool.or_false, Bool.not_true, Bool.not_false, decide_true, decide_false, bI_t, bI_f, Bool.false_eq_true, not_true_eq_false, not_false_eq_true, eq_self, reduceCtorEq, Bool.true_eq_false, and_true, true_and, and_false, false_and, or_true, true_or, or_false, false_or] at c_9; done))
    refine lv_iconst (v := 1) hx hb dX2_counted_16 ic_1 ?_
    refine lv_goto (tgt := 21) hx hb dX2_counted_17 rfl ?_
    exact K41 _ (by first | with_reducible rfl | (simp only [c_9, c_13, ↓reduceIte, Bool.true_and, Bool.and_true, Bool.false_and, Bool.and_false, Bool.true_or, Bool.or_true, Bool.false_or, Bool.or_false, Bool.not_true, Bool.not_false, decide_true, decide_false, bI_t, bI_f, Bool.false_eq_true, not_true_eq_false, not_false_eq_true, eq_self, reduceCtorEq, Bool.true_eq_false, and_true, true_and, and_false, false_and, or_true, true_or, or_false, false_or]; done) | (simp only [c_9, ↓reduceIte, Bool.true_and, Bool.and_true, Bool.false_and, Bool.and_false, Bool.true_or, Bool.or_true, Bool.false_or, Bool.or_false, Bool.not_true, Bool.not_false, decide_true, decide_false, bI_t, bI_f, Bool.false_eq_true, not_true_eq_false, not_false_eq_true, eq_self, reduceCtorEq, Bool.true_eq_false, and_true, true_and, and_false, false_and, or_true, true_or, or_false, false_or] at c_13; done) | (simp only [c_13, ↓reduceIte, Bool.true_and, Bool.and_true, Bool.false_and, Bool.and_false, Bool.true_or, Bool.or_true, Bool.false_or, Bool.or_false, Bool.not_true, Bool.not_false, decide_true, decide_false, bI_t, bI_f, Bool.false_eq_true, not_true_eq_false, not_false_eq_true, eq_self, reduceCtorEq, Bool.true_eq_false, and_true, true_and, and_false, false_and, or_true, true_or, or_false, false_or] at c_9; done))
  refine lv_iadd hx hb dX2_counted_21 ?_
  refine pf_X2_98 (F := fun z => z = o) hx hb hts hown hK h rfl rfl (Nat.le_of_ble_eq_true rfl) dX2_counted_22 hL rfl (fun H1_ locs h1_ ho1_ hL => ?_)
  refine lv_aload_n hx hb dX2_counted_25 rfl (lv_at hl 0 rfl) ?_
  refine lv_dup hx hb dX2_counted_26 rfl ?_
  refine gf_X2_101 hx hb hts hown hK h1_ rfl dX2_counted_27 ?_
  refine cutI (J := 46) (v := if (on && b) = true then 0 else 1) ?_ (fun K42 => ?_)
  rotate_left
  · skip
    refine lv_aload_n hx hb dX2_counted_30 rfl (lv_at hl 0 rfl) ?_
    refine gf_X2_23 hx hb hts hown hK h1_ rfl dX2_counted_31 ?_
    refine b_ifeq (tgt := 45) hx hb dX2_counted_34 rfl (fun c_34 => ?_) (fun c_34 => ?_)
    · skip
      refine lv_iconst (v := 1) hx hb dX2_counted_45 ic_1 ?_
      exact K42 _ (by first | with_reducible rfl | (simp only [c_34, ↓reduceIte, Bool.true_and, Bool.and_true, Bool.false_and, Bool.and_false, Bool.true_or, Bool.or_true, Bool.false_or, Bool.or_false, Bool.not_true, Bool.not_false, decide_true, decide_false, bI_t, bI_f, Bool.false_eq_true, not_true_eq_false, not_false_eq_true, eq_self, reduceCtorEq, Bool.true_eq_false, and_true, true_and, and_false, false_and, or_true, true_or, or_false, false_or]; done))
    refine lv_iload_n hx hb dX2_counted_37 rfl (lv_at hl 1 rfl) ?_
    refine b_ifeq (tgt := 45) hx hb dX2_counted_38 rfl (fun c_38 => ?_) (fun c_38 => ?_)
    · skip
      refine lv_iconst (v := 1) hx hb dX2_counted_45 ic_1 ?_
      exact K42 _ (by first | with_reducible rfl | (simp only [c_34, c_38, ↓reduceIte, Bool.true_and, Bool.and_true, Bool.false_and, Bool.and_false, Bool.true_or, Bool.or_true, Bool.false_or, Bool.or_false, Bool.not_true, Bool.not_false, decide_true, decide_false, bI_t, bI_f, Bool.false_eq_true, not_true_eq_false, not_false_eq_true, eq_self, reduceCtorEq, Bool.true_eq_false, and_true, true_and, and_false, false_and, or_true, true_or, or_false, false_or]; done) | (simp only [c_34, ↓reduceIte, Bool.true_and, Bool.and_true, Bool.false_and, Bool.and_false, Bool.true_or, Bool.or_true, Bool.false_or, Bool.or_false, Bool.not_true, Bool.not_false, decide_true, decide_false, bI_t, bI_f, Bool.false_eq_true, not_true_eq_false, not_false_eq_true, eq_self, reduceCtorEq, Bool.true_eq_false, and_true, true_and, and_false, false_and, or_true, true_or, or_false, false_or] at c_38; done) | (simp only [c_38, ↓reduceIte, Bool.true_and, Bool.and_true, Bool.false_and, Bool.and_false, Bool.true_or, Bool.or_true, Bool.false_or, Bool.or_false, Bool.not_true, Bool.not_false, decide_true, decide_false, bI_t, bI_f, Bool.false_eq_true, not_true_eq_false, not_false_eq_true, eq_self, reduceCtorEq, Bool.true_eq_false, and_true, true_and, and_false, false_and, or_true, true_or, or_false, false_or] at c_34; done))
    refine lv_iconst (v := 0) hx hb dX2_counted_41 ic_0 ?_
    refine lv_goto (tgt := 46) hx hb dX2_counted_42 rfl ?_
    exact K42 _ (by first | with_reducible rfl | (simp only [c_34, c_38, ↓reduceIte, Bool.true_and, Bool.and_true, Bool.false_and, Bool.and_false, Bool.true_or, Bool.or_true, Bool.false_or, Bool.or_false, Bool.not_true, Bool.not_false, decide_true, decide_false, bI_t, bI_f, Bool.false_eq_true, not_true_eq_false, not_false_eq_true, eq_self, reduceCtorEq, Bool.true_eq_false, and_true, true_and, and_false, false_and, or_true, true_or, or_false, false_or]; done) | (simp only [c_34, ↓reduceIte, Bool.true_and, Bool.and_true, Bool.false_and, Bool.and_false, Bool.true_or, Bool.or_true, Bool.false_or, Bool.or_false, Bool.not_true, Bool.not_false, decide_true, decide_false, bI_t, bI_f, Bool.false_eq_true, not_true_eq_false, not_false_eq_true, eq_self, reduceCtorEq, Bool.true_eq_false, and_true, true_and, and_false, false_and, or_true, true_or, or_false, false_or] at c_38; done) | (simp only [c_38, ↓reduceIte, Bool.true_and, Bool.and_true, Bool.false_and, Bool.and_false, Bool.true_or, Bool.or_true, Bool.false_or, Bool.or_false, Bool.not_true, Bool.not_false, decide_true, decide_false, bI_t, bI_f, Bool.false_eq_true, not_true_eq_false, not_false_eq_true, eq_self, reduceCtorEq, Bool.true_eq_false, and_true, true_and, and_false, false_and, or_true, true_or, or_false, false_or] at c_34; done))
  refine lv_iadd hx hb dX2_counted_46 ?_
  refine pf_X2_101 (F := fun z => z = o) hx hb hts hown hK h1_ rfl rfl (Nat.le_of_ble_eq_true rfl) dX2_counted_47 hL rfl (fun H2_ locs h2_ ho2_ hL => ?_)
  refine lv_aload_n hx hb dX2_counted_50 rfl (lv_at hl 0 rfl) ?_
  refine lv_dup hx hb dX2_counted_51 rfl ?_
  refine gf_X2_104 hx hb hts hown hK h2_ rfl dX2_counted_52 ?_
  refine cutI (J := 64) (v := if decide (x = 0) = true then 1 else 0) ?_ (fun K43 => ?_)
  rotate_left
  · skip
    refine lv_iload_n hx hb dX2_counted_55 rfl (lv_at hl 2 rfl) ?_
    refine lv_if_ne (tgt := 63) hx hb dX2_counted_56 rfl (fun c_56 => ?_) (fun c_56 => ?_)
    · skip
      refine lv_iconst (v := 0) hx hb dX2_counted_63 ic_0 ?_
      exact K43 _ (by first | with_reducible rfl | (simp only [c_56, ↓reduceIte, Bool.true_and, Bool.and_true, Bool.false_and, Bool.and_false, Bool.true_or, Bool.or_true, Bool.false_or, Bool.or_false, Bool.not_true, Bool.not_false, decide_true, decide_false, bI_t, bI_f, Bool.false_eq_true, not_true_eq_false, not_false_eq_true, eq_self, reduceCtorEq, Bool.true_eq_false, and_true, true_and, and_false, false_and, or_true, true_or, or_false, false_or]; done))
    refine lv_iconst (v := 1) hx hb dX2_counted_59 ic_1 ?_
    refine lv_goto (tgt := 64) hx hb dX2_counted_60 rfl ?_
    exact K43 _ (by first | with_reducible rfl | (simp only [eq_true c_56, ↓reduceIte, Bool.true_and, Bool.and_true, Bool.false_and, Bool.and_false, Bool.true_or, Bool.or_true, Bool.false_or, Bool.or_false, Bool.not_true, Bool.not_false, decide_true, decide_false, bI_t, bI_f, Bool.false_eq_true, not_true_eq_false, not_false_eq_true, eq_self, reduceCtorEq, Bool.true_eq_false, and_true, true_and, and_false, false_and, or_true, true_or, or_false, false_or]; done))
  refine lv_iadd hx hb dX2_counted_64 ?_
  refine pf_X2_104 (F := fun z => z = o) hx hb hts hown hK h2_ rfl rfl (Nat.le_of_ble_eq_true rfl) dX2_counted_65 hL rfl (fun H3_ locs h3_ ho3_ hL => ?_)
  refine lv_iload_n hx hb dX2_counted_68 rfl (lv_at hl 2 rfl) ?_
  exact g_iret (F := fun z => z = o) (Post := fun oc H' => oc = .returned (some (.int x)) ∧ va_at G.1 clA (o, .inr (7, [v0, v1, v2, v3, v4, v5, .int (bI on), .int (dc + (if (on && b) = true then 1 else 0)), .int (ud + (if (on && b) = true then 0 else 1)), .int (zr + (if decide (x = 0) = true then 1 else 0)), v10, v11, v12, v13])) H' ∧ Only o H H') hx hb hr hlk hL dX2_counted_69 ⟨rfl, h3_, ((ho1_.tr ho2_).tr ho3_)⟩
theorem dX2_side_0 : decode cX2_side 0 = .ok (.aload_n 0, 1) := by decide +kernel
theorem dX2_side_1 : decode cX2_side 1 = .ok (.iload_n 1, 1) := by decide +kernel
theorem dX2_side_2 : decode cX2_side 2 = .ok (.invokevirtual 69, 3) := by decide +kernel
theorem dX2_side_5 : decode cX2_side 5 = .ok (.ifCond .eq 19, 3) := by decide +kernel
theorem dX2_side_8 : decode cX2_side 8 = .ok (.aload_n 0, 1) := by decide +kernel
theorem dX2_side_9 : decode cX2_side 9 = .ok (.iload_n 2, 1) := by decide +kernel
theorem dX2_side_10 : decode cX2_side 10 = .ok (.invokevirtual 69, 3) := by decide +kernel
theorem dX2_side_13 : decode cX2_side 13 = .ok (.ifCond .eq 11, 3) := by decide +kernel
theorem dX2_side_16 : decode cX2_side 16 = .ok (.aload_n 0, 1) := by decide +kernel
theorem dX2_side_17 : decode cX2_side 17 = .ok (.iload_n 3, 1) := by decide +kernel
theorem dX2_side_18 : decode cX2_side 18 = .ok (.invokevirtual 69, 3) := by decide +kernel
theorem dX2_side_21 : decode cX2_side 21 = .ok (.ifCond .ne 6, 3) := by decide +kernel
theorem dX2_side_24 : decode cX2_side 24 = .ok (.bipush (-2), 2) := by decide +kernel
theorem dX2_side_26 : decode cX2_side 26 = .ok (.ireturn, 1) := by decide +kernel
theorem dX2_side_27 : decode cX2_side 27 = .ok (.aload_n 0, 1) := by decide +kernel
theorem dX2_side_28 : decode cX2_side 28 = .ok (.iload_n 1, 1) := by decide +kernel
theorem dX2_side_29 : decode cX2_side 29 = .ok (.iload_n 2, 1) := by decide +kernel
theorem dX2_side_30 : decode cX2_side 30 = .ok (.invokevirtual 107, 3) := by decide +kernel
theorem dX2_side_33 : decode cX2_side 33 = .ok (.ifCond .eq 8, 3) := by decide +kernel
theorem dX2_side_36 : decode cX2_side 36 = .ok (.bipush (-4), 2) := by decide +kernel
theorem dX2_side_38 : decode cX2_side 38 = .ok (.goto 21, 3) := by decide +kernel
theorem dX2_side_41 : decode cX2_side 41 = .ok (.aload_n 0, 1) := by decide +kernel
theorem dX2_side_42 : decode cX2_side 42 = .ok (.aload_n 0, 1) := by decide +kernel
theorem dX2_side_43 : decode cX2_side 43 = .ok (.iload_n 1, 1) := by decide +kernel
theorem dX2_side_44 : decode cX2_side 44 = .ok (.iload_n 2, 1) := by decide +kernel
theorem dX2_side_45 : decode cX2_side 45 = .ok (.iload_n 3, 1) := by decide +kernel
theorem dX2_side_46 : decode cX2_side 46 = .ok (.invokevirtual 111, 3) := by decide +kernel
theorem dX2_side_49 : decode cX2_side 49 = .ok (.aload_n 0, 1) := by decide +kernel
theorem dX2_side_50 : decode cX2_side 50 = .ok (.iload_n 1, 1) := by decide +kernel
theorem dX2_side_51 : decode cX2_side 51 = .ok (.iload_n 2, 1) := by decide +kernel
theorem dX2_side_52 : decode cX2_side 52 = .ok (.iload_n 3, 1) := by decide +kernel
theorem dX2_side_53 : decode cX2_side 53 = .ok (.invokevirtual 58, 3) := by decide +kernel
theorem dX2_side_56 : decode cX2_side 56 = .ok (.invokevirtual 115, 3) := by decide +kernel
theorem dX2_side_59 : decode cX2_side 59 = .ok (.ireturn, 1) := by decide +kernel
set_option maxHeartbeats 4000000 in
theorem met_X2_side (l : Launch) (G : GG) {H : Heap} {o : Nat} {A : Nat → Nat} {σ : Sg} {th : Int32} {a b d : Int32} (hM : MW G H o A σ th) (hO : Ok σ) (hS : MS o A) : GM l yX2_side cX2_side 4 (some .int) 3 0 0 72 G H [.ref o, .int a, .int b, .int d] (fun oc H' => oc = .returned (some (.int (pubS3 σ a b d (m_sideV σ)).1)) ∧ MP G H o A (pubS3 σ a b d (m_sideV σ)).2 th H') (fun z => ownM o A z) := by
  refine gm_intro pl_X2_side (Nat.le_of_ble_eq_true rfl) ?_
  intro pX eX sX mX belX methX cX ls hE hnm hl
  obtain ⟨hx, hb, hr, hlk, hml, hown, hts, hK, hZ, hH⟩ := hE
  have hl : lv_has ls 4 [(0, .ref o), (1, .int a), (2, .int b), (3, .int d)] := hl
  have hL : ∀ q ∈ ([] : List Loc), (fun z => ownM o A z : Addr → Prop) q.base := fun q h => by cases h
  refine lv_aload_n hx hb dX2_side_0 rfl (lv_at hl 0 rfl) ?_
  refine lv_iload_n hx hb dX2_side_1 rfl (lv_at hl 1 rfl) ?_
  refine p_callV (As := [.int _]) hx hb hml hown hts hK trivial (met_X2_isPoint l G hM) q728 q730 qs13 q43 q731 hv_X2_isPoint rfl hM.1 rfl (by decide) hl.1 rfl (Nat.le_of_ble_eq_true rfl) dX2_side_2 ⟨Nat.le_of_ble_eq_true rfl, Nat.le_of_ble_eq_true rfl⟩ ?_
  refine b_ifeq (tgt := 24) hx hb dX2_side_5 rfl (fun c_5 => ?_) (fun c_5 => ?_)
  · skip
    refine lv_bipush (v := -2) hx hb dX2_side_24 ib_m2 ?_
    exact g_iret (F := fun z => ownM o A z) (Post := fun oc H' => oc = .returned (some (.int (pubS3 σ a b d (m_sideV σ)).1)) ∧ MP G H o A (pubS3 σ a b d (m_sideV σ)).2 th H') hx hb hr hlk hL dX2_side_26 (pr_post (P := fun τ => MP G H o A τ th _) (by first | with_reducible rfl | (simp only [pubS3, m_sideV, c_5, ↓reduceIte, Bool.true_and, Bool.and_true, Bool.false_and, Bool.and_false, Bool.true_or, Bool.or_true, Bool.false_or, Bool.or_false, Bool.not_true, Bool.not_false, decide_true, decide_false, bI_t, bI_f, Bool.false_eq_true, not_true_eq_false, not_false_eq_true, eq_self, reduceCtorEq, Bool.true_eq_false, and_true, true_and, and_false, false_and, or_true, true_or, or_false, false_or]; done)) (MP.rf hM))
  obtain ⟨a_, i_a, rfl⟩ := isPt_elim hO.1.1 c_5
  refine lv_aload_n hx hb dX2_side_8 rfl (lv_at hl 0 rfl) ?_
  refine lv_iload_n hx hb dX2_side_9 rfl (lv_at hl 2 rfl) ?_
  refine p_callV (As := [.int _]) hx hb hml hown hts hK trivial (met_X2_isPoint l G hM) q728 q730 qs13 q43 q731 hv_X2_isPoint rfl hM.1 rfl (by decide) hl.1 rfl (Nat.le_of_ble_eq_true rfl) dX2_side_10 ⟨Nat.le_of_ble_eq_true rfl, Nat.le_of_ble_eq_true rfl⟩ ?_
  refine b_ifeq (tgt := 24) hx hb dX2_side_13 rfl (fun c_13 => ?_) (fun c_13 => ?_)
  · skip
    refine lv_bipush (v := -2) hx hb dX2_side_24 ib_m2 ?_
    exact g_iret (F := fun z => ownM o A z) (Post := fun oc H' => oc = .returned (some (.int (pubS3 σ (nI a_) b d (m_sideV σ)).1)) ∧ MP G H o A (pubS3 σ (nI a_) b d (m_sideV σ)).2 th H') hx hb hr hlk hL dX2_side_26 (pr_post (P := fun τ => MP G H o A τ th _) (by first | with_reducible rfl | (simp only [pubS3, m_sideV, c_5, hO.ix i_a, c_13, ↓reduceIte, Bool.true_and, Bool.and_true, Bool.false_and, Bool.and_false, Bool.true_or, Bool.or_true, Bool.false_or, Bool.or_false, Bool.not_true, Bool.not_false, decide_true, decide_false, bI_t, bI_f, Bool.false_eq_true, not_true_eq_false, not_false_eq_true, eq_self, reduceCtorEq, Bool.true_eq_false, and_true, true_and, and_false, false_and, or_true, true_or, or_false, false_or]; done) | (simp only [c_5, hO.ix i_a, ↓reduceIte, Bool.true_and, Bool.and_true, Bool.false_and, Bool.and_false, Bool.true_or, Bool.or_true, Bool.false_or, Bool.or_false, Bool.not_true, Bool.not_false, decide_true, decide_false, bI_t, bI_f, Bool.false_eq_true, not_true_eq_false, not_false_eq_true, eq_self, reduceCtorEq, Bool.true_eq_false, and_true, true_and, and_false, false_and, or_true, true_or, or_false, false_or] at c_13; done) | (simp only [hO.ix i_a, c_13, ↓reduceIte, Bool.true_and, Bool.and_true, Bool.false_and, Bool.and_false, Bool.true_or, Bool.or_true, Bool.false_or, Bool.or_false, Bool.not_true, Bool.not_false, decide_true, decide_false, bI_t, bI_f, Bool.false_eq_true, not_true_eq_false, not_false_eq_true, eq_self, reduceCtorEq, Bool.true_eq_false, and_true, true_and, and_false, false_and, or_true, true_or, or_false, false_or] at c_5; done)) (MP.rf hM))
  obtain ⟨b_, i_b, rfl⟩ := isPt_elim hO.1.1 c_13
  refine lv_aload_n hx hb dX2_side_16 rfl (lv_at hl 0 rfl) ?_
  refine lv_iload_n hx hb dX2_side_17 rfl (lv_at hl 3 rfl) ?_
  refine p_callV (As := [.int _]) hx hb hml hown hts hK trivial (met_X2_isPoint l G hM) q728 q730 qs13 q43 q731 hv_X2_isPoint rfl hM.1 rfl (by decide) hl.1 rfl (Nat.le_of_ble_eq_true rfl) dX2_side_18 ⟨Nat.le_of_ble_eq_true rfl, Nat.le_of_ble_eq_true rfl⟩ ?_
  refine b_ifne (tgt := 27) hx hb dX2_side_21 rfl (fun c_21 => ?_) (fun c_21 => ?_)
  · skip
    obtain ⟨d_, i_d, rfl⟩ := isPt_elim hO.1.1 c_21
    refine lv_aload_n hx hb dX2_side_27 rfl (lv_at hl 0 rfl) ?_
    refine lv_iload_n hx hb dX2_side_28 rfl (lv_at hl 1 rfl) ?_
    refine lv_iload_n hx hb dX2_side_29 rfl (lv_at hl 2 rfl) ?_
    refine p_callV (As := [.int _, .int _]) hx hb hml hown hts hK trivial (met_X2_areEqual l G hM hO i_a i_b) q744 q746 qs15 q43 q747 hv_X2_areEqual rfl hM.1 rfl (by decide) hl.1 rfl (Nat.le_of_ble_eq_true rfl) dX2_side_30 ⟨Nat.le_of_ble_eq_true rfl, Nat.le_of_ble_eq_true rfl⟩ ?_
    refine b_ifeq (tgt := 41) hx hb dX2_side_33 rfl (fun c_33 => ?_) (fun c_33 => ?_)
    · skip
      refine lv_aload_n hx hb dX2_side_41 rfl (lv_at hl 0 rfl) ?_
      refine lv_aload_n hx hb dX2_side_42 rfl (lv_at hl 0 rfl) ?_
      refine lv_iload_n hx hb dX2_side_43 rfl (lv_at hl 1 rfl) ?_
      refine lv_iload_n hx hb dX2_side_44 rfl (lv_at hl 2 rfl) ?_
      refine lv_iload_n hx hb dX2_side_45 rfl (lv_at hl 3 rfl) ?_
      refine p_callV (As := [.int _, .int _, .int _]) hx hb hml hown hts hK trivial (met_X2_decidesTurn l G hM hO i_a i_b i_d) q748 q750 qs16 q43 q751 hv_X2_decidesTurn rfl hM.1 rfl (by decide) hl.1 rfl (Nat.le_of_ble_eq_true rfl) dX2_side_46 ⟨Nat.le_of_ble_eq_true rfl, Nat.le_of_ble_eq_true rfl⟩ ?_
      refine lv_aload_n hx hb dX2_side_49 rfl (lv_at hl 0 rfl) ?_
      refine lv_iload_n hx hb dX2_side_50 rfl (lv_at hl 1 rfl) ?_
      refine lv_iload_n hx hb dX2_side_51 rfl (lv_at hl 2 rfl) ?_
      refine lv_iload_n hx hb dX2_side_52 rfl (lv_at hl 3 rfl) ?_
      refine p_callV (As := [.int _, .int _, .int _]) hx hb hml hown hts hK trivial (met_X2_turn l G hM hO i_a i_b i_d) q772 q774 qs20 q43 q775 hv_X2_turn rfl hM.1 rfl (by decide) hl.1 rfl (Nat.le_of_ble_eq_true rfl) dX2_side_53 ⟨Nat.le_of_ble_eq_true rfl, Nat.le_of_ble_eq_true rfl⟩ ?_
      refine g_callV (F := fun z => ownM o A z) (As := [.int _, .int _]) hx hb hml hown hts hK (met_X2_counted l G hM.1) q779 q781 qs21 q43 q782 hv_X2_counted rfl hM.1 rfl (by decide) hl.1 rfl (Nat.le_of_ble_eq_true rfl) dX2_side_56 ⟨Nat.le_of_ble_eq_true rfl, Nat.le_of_ble_eq_true rfl⟩ (fun _ h => Or.inl h) hL (fun v1_ H1_ locs hP1_ hL => ?_)
      obtain ⟨hv1_, hat_, hon_⟩ := hP1_
      cases hv1_
      exact g_iret (F := fun z => ownM o A z) (Post := fun oc H' => oc = .returned (some (.int (pubS3 σ (nI a_) (nI b_) (nI d_) (m_sideV σ)).1)) ∧ MP G H o A (pubS3 σ (nI a_) (nI b_) (nI d_) (m_sideV σ)).2 th H') hx hb hr hlk hL dX2_side_59 (pr_post (P := fun τ => MP G H o A τ th _) (by first | with_reducible rfl | (simp only [pubS3, m_sideV, c_5, hO.ix i_a, c_13, hO.ix i_b, c_21, hO.ix i_d, c_33, ↓reduceIte, Bool.true_and, Bool.and_true, Bool.false_and, Bool.and_false, Bool.true_or, Bool.or_true, Bool.false_or, Bool.or_false, Bool.not_true, Bool.not_false, decide_true, decide_false, bI_t, bI_f, Bool.false_eq_true, not_true_eq_false, not_false_eq_true, eq_self, reduceCtorEq, Bool.true_eq_false, and_true, true_and, and_false, false_and, or_true, true_or, or_false, false_or]; done) | (simp only [c_5, hO.ix i_a, c_13, hO.ix i_b, c_21, hO.ix i_d, ↓reduceIte, Bool.true_and, Bool.and_true, Bool.false_and, Bool.and_false, Bool.true_or, Bool.or_true, Bool.false_or, Bool.or_false, Bool.not_true, Bool.not_false, decide_true, decide_false, bI_t, bI_f, Bool.false_eq_true, not_true_eq_false, not_false_eq_true, eq_self, reduceCtorEq, Bool.true_eq_false, and_true, true_and, and_false, false_and, or_true, true_or, or_false, false_or] at c_33; done) | (simp only [c_5, hO.ix i_a, c_13, hO.ix i_b, hO.ix i_d, c_33, ↓reduceIte, Bool.true_and, Bool.and_true, Bool.false_and, Bool.and_false, Bool.true_or, Bool.or_true, Bool.false_or, Bool.or_false, Bool.not_true, Bool.not_false, decide_true, decide_false, bI_t, bI_f, Bool.false_eq_true, not_true_eq_false, not_false_eq_true, eq_self, reduceCtorEq, Bool.true_eq_false, and_true, true_and, and_false, false_and, or_true, true_or, or_false, false_or] at c_21; done) | (simp only [c_5, hO.ix i_a, hO.ix i_b, c_21, hO.ix i_d, c_33, ↓reduceIte, Bool.true_and, Bool.and_true, Bool.false_and, Bool.and_false, Bool.true_or, Bool.or_true, Bool.false_or, Bool.or_false, Bool.not_true, Bool.not_false, decide_true, decide_false, bI_t, bI_f, Bool.false_eq_true, not_true_eq_false, not_false_eq_true, eq_self, reduceCtorEq, Bool.true_eq_false, and_true, true_and, and_false, false_and, or_true, true_or, or_false, false_or] at c_13; done) | (simp only [hO.ix i_a, c_13, hO.ix i_b, c_21, hO.ix i_d, c_33, ↓reduceIte, Bool.true_and, Bool.and_true, Bool.false_and, Bool.and_false, Bool.true_or, Bool.or_true, Bool.false_or, Bool.or_false, Bool.not_true, Bool.not_false, decide_true, decide_false, bI_t, bI_f, Bool.false_eq_true, not_true_eq_false, not_false_eq_true, eq_self, reduceCtorEq, Bool.true_eq_false, and_true, true_and, and_false, false_and, or_true, true_or, or_false, false_or] at c_5; done)) (MP.o (σ' := t_cnt σ _ _) hM hS rfl rfl rfl hat_ hon_))
    refine lv_bipush (v := -4) hx hb dX2_side_36 ib_m4 ?_
    refine lv_goto (tgt := 59) hx hb dX2_side_38 rfl ?_
    exact g_iret (F := fun z => ownM o A z) (Post := fun oc H' => oc = .returned (some (.int (pubS3 σ (nI a_) (nI b_) (nI d_) (m_sideV σ)).1)) ∧ MP G H o A (pubS3 σ (nI a_) (nI b_) (nI d_) (m_sideV σ)).2 th H') hx hb hr hlk hL dX2_side_59 (pr_post (P := fun τ => MP G H o A τ th _) (by first | with_reducible rfl | (simp only [pubS3, m_sideV, c_5, hO.ix i_a, c_13, hO.ix i_b, c_21, hO.ix i_d, c_33, ↓reduceIte, Bool.true_and, Bool.and_true, Bool.false_and, Bool.and_false, Bool.true_or, Bool.or_true, Bool.false_or, Bool.or_false, Bool.not_true, Bool.not_false, decide_true, decide_false, bI_t, bI_f, Bool.false_eq_true, not_true_eq_false, not_false_eq_true, eq_self, reduceCtorEq, Bool.true_eq_false, and_true, true_and, and_false, false_and, or_true, true_or, or_false, false_or]; done) | (simp only [c_5, hO.ix i_a, c_13, hO.ix i_b, c_21, hO.ix i_d, ↓reduceIte, Bool.true_and, Bool.and_true, Bool.false_and, Bool.and_false, Bool.true_or, Bool.or_true, Bool.false_or, Bool.or_false, Bool.not_true, Bool.not_false, decide_true, decide_false, bI_t, bI_f, Bool.false_eq_true, not_true_eq_false, not_false_eq_true, eq_self, reduceCtorEq, Bool.true_eq_false, and_true, true_and, and_false, false_and, or_true, true_or, or_false, false_or] at c_33; done) | (simp only [c_5, hO.ix i_a, c_13, hO.ix i_b, hO.ix i_d, c_33, ↓reduceIte, Bool.true_and, Bool.and_true, Bool.false_and, Bool.and_false, Bool.true_or, Bool.or_true, Bool.false_or, Bool.or_false, Bool.not_true, Bool.not_false, decide_true, decide_false, bI_t, bI_f, Bool.false_eq_true, not_true_eq_false, not_false_eq_true, eq_self, reduceCtorEq, Bool.true_eq_false, and_true, true_and, and_false, false_and, or_true, true_or, or_false, false_or] at c_21; done) | (simp only [c_5, hO.ix i_a, hO.ix i_b, c_21, hO.ix i_d, c_33, ↓reduceIte, Bool.true_and, Bool.and_true, Bool.false_and, Bool.and_false, Bool.true_or, Bool.or_true, Bool.false_or, Bool.or_false, Bool.not_true, Bool.not_false, decide_true, decide_false, bI_t, bI_f, Bool.false_eq_true, not_true_eq_false, not_false_eq_true, eq_self, reduceCtorEq, Bool.true_eq_false, and_true, true_and, and_false, false_and, or_true, true_or, or_false, false_or] at c_13; done) | (simp only [hO.ix i_a, c_13, hO.ix i_b, c_21, hO.ix i_d, c_33, ↓reduceIte, Bool.true_and, Bool.and_true, Bool.false_and, Bool.and_false, Bool.true_or, Bool.or_true, Bool.false_or, Bool.or_false, Bool.not_true, Bool.not_false, decide_true, decide_false, bI_t, bI_f, Bool.false_eq_true, not_true_eq_false, not_false_eq_true, eq_self, reduceCtorEq, Bool.true_eq_false, and_true, true_and, and_false, false_and, or_true, true_or, or_false, false_or] at c_5; done)) (MP.rf hM))
  refine lv_bipush (v := -2) hx hb dX2_side_24 ib_m2 ?_
  exact g_iret (F := fun z => ownM o A z) (Post := fun oc H' => oc = .returned (some (.int (pubS3 σ (nI a_) (nI b_) d (m_sideV σ)).1)) ∧ MP G H o A (pubS3 σ (nI a_) (nI b_) d (m_sideV σ)).2 th H') hx hb hr hlk hL dX2_side_26 (pr_post (P := fun τ => MP G H o A τ th _) (by first | with_reducible rfl | (simp only [pubS3, m_sideV, c_5, hO.ix i_a, c_13, hO.ix i_b, c_21, ↓reduceIte, Bool.true_and, Bool.and_true, Bool.false_and, Bool.and_false, Bool.true_or, Bool.or_true, Bool.false_or, Bool.or_false, Bool.not_true, Bool.not_false, decide_true, decide_false, bI_t, bI_f, Bool.false_eq_true, not_true_eq_false, not_false_eq_true, eq_self, reduceCtorEq, Bool.true_eq_false, and_true, true_and, and_false, false_and, or_true, true_or, or_false, false_or]; done) | (simp only [c_5, hO.ix i_a, c_13, hO.ix i_b, ↓reduceIte, Bool.true_and, Bool.and_true, Bool.false_and, Bool.and_false, Bool.true_or, Bool.or_true, Bool.false_or, Bool.or_false, Bool.not_true, Bool.not_false, decide_true, decide_false, bI_t, bI_f, Bool.false_eq_true, not_true_eq_false, not_false_eq_true, eq_self, reduceCtorEq, Bool.true_eq_false, and_true, true_and, and_false, false_and, or_true, true_or, or_false, false_or] at c_21; done) | (simp only [c_5, hO.ix i_a, hO.ix i_b, c_21, ↓reduceIte, Bool.true_and, Bool.and_true, Bool.false_and, Bool.and_false, Bool.true_or, Bool.or_true, Bool.false_or, Bool.or_false, Bool.not_true, Bool.not_false, decide_true, decide_false, bI_t, bI_f, Bool.false_eq_true, not_true_eq_false, not_false_eq_true, eq_self, reduceCtorEq, Bool.true_eq_false, and_true, true_and, and_false, false_and, or_true, true_or, or_false, false_or] at c_13; done) | (simp only [hO.ix i_a, c_13, hO.ix i_b, c_21, ↓reduceIte, Bool.true_and, Bool.and_true, Bool.false_and, Bool.and_false, Bool.true_or, Bool.or_true, Bool.false_or, Bool.or_false, Bool.not_true, Bool.not_false, decide_true, decide_false, bI_t, bI_f, Bool.false_eq_true, not_true_eq_false, not_false_eq_true, eq_self, reduceCtorEq, Bool.true_eq_false, and_true, true_and, and_false, false_and, or_true, true_or, or_false, false_or] at c_5; done)) (MP.rf hM))
theorem dX2_circle_0 : decode cX2_circle 0 = .ok (.aload_n 0, 1) := by decide +kernel
theorem dX2_circle_1 : decode cX2_circle 1 = .ok (.iload_n 1, 1) := by decide +kernel
theorem dX2_circle_2 : decode cX2_circle 2 = .ok (.invokevirtual 69, 3) := by decide +kernel
theorem dX2_circle_5 : decode cX2_circle 5 = .ok (.ifCond .eq 28, 3) := by decide +kernel
theorem dX2_circle_8 : decode cX2_circle 8 = .ok (.aload_n 0, 1) := by decide +kernel
theorem dX2_circle_9 : decode cX2_circle 9 = .ok (.iload_n 2, 1) := by decide +kernel
theorem dX2_circle_10 : decode cX2_circle 10 = .ok (.invokevirtual 69, 3) := by decide +kernel
theorem dX2_circle_13 : decode cX2_circle 13 = .ok (.ifCond .eq 20, 3) := by decide +kernel
theorem dX2_circle_16 : decode cX2_circle 16 = .ok (.aload_n 0, 1) := by decide +kernel
theorem dX2_circle_17 : decode cX2_circle 17 = .ok (.iload_n 3, 1) := by decide +kernel
theorem dX2_circle_18 : decode cX2_circle 18 = .ok (.invokevirtual 69, 3) := by decide +kernel
theorem dX2_circle_21 : decode cX2_circle 21 = .ok (.ifCond .eq 12, 3) := by decide +kernel
theorem dX2_circle_24 : decode cX2_circle 24 = .ok (.aload_n 0, 1) := by decide +kernel
theorem dX2_circle_25 : decode cX2_circle 25 = .ok (.iload 4, 2) := by decide +kernel
theorem dX2_circle_27 : decode cX2_circle 27 = .ok (.invokevirtual 69, 3) := by decide +kernel
theorem dX2_circle_30 : decode cX2_circle 30 = .ok (.ifCond .ne 6, 3) := by decide +kernel
theorem dX2_circle_33 : decode cX2_circle 33 = .ok (.bipush (-2), 2) := by decide +kernel
theorem dX2_circle_35 : decode cX2_circle 35 = .ok (.ireturn, 1) := by decide +kernel
theorem dX2_circle_36 : decode cX2_circle 36 = .ok (.aload_n 0, 1) := by decide +kernel
theorem dX2_circle_37 : decode cX2_circle 37 = .ok (.iload_n 1, 1) := by decide +kernel
theorem dX2_circle_38 : decode cX2_circle 38 = .ok (.iload_n 2, 1) := by decide +kernel
theorem dX2_circle_39 : decode cX2_circle 39 = .ok (.iload_n 3, 1) := by decide +kernel
theorem dX2_circle_40 : decode cX2_circle 40 = .ok (.invokevirtual 58, 3) := by decide +kernel
theorem dX2_circle_43 : decode cX2_circle 43 = .ok (.ifCond .ne 8, 3) := by decide +kernel
theorem dX2_circle_46 : decode cX2_circle 46 = .ok (.bipush (-4), 2) := by decide +kernel
theorem dX2_circle_48 : decode cX2_circle 48 = .ok (.goto 25, 3) := by decide +kernel
theorem dX2_circle_51 : decode cX2_circle 51 = .ok (.aload_n 0, 1) := by decide +kernel
theorem dX2_circle_52 : decode cX2_circle 52 = .ok (.aload_n 0, 1) := by decide +kernel
theorem dX2_circle_53 : decode cX2_circle 53 = .ok (.iload_n 1, 1) := by decide +kernel
theorem dX2_circle_54 : decode cX2_circle 54 = .ok (.iload_n 2, 1) := by decide +kernel
theorem dX2_circle_55 : decode cX2_circle 55 = .ok (.iload_n 3, 1) := by decide +kernel
theorem dX2_circle_56 : decode cX2_circle 56 = .ok (.iload 4, 2) := by decide +kernel
theorem dX2_circle_58 : decode cX2_circle 58 = .ok (.invokevirtual 119, 3) := by decide +kernel
theorem dX2_circle_61 : decode cX2_circle 61 = .ok (.aload_n 0, 1) := by decide +kernel
theorem dX2_circle_62 : decode cX2_circle 62 = .ok (.iload_n 1, 1) := by decide +kernel
theorem dX2_circle_63 : decode cX2_circle 63 = .ok (.iload_n 2, 1) := by decide +kernel
theorem dX2_circle_64 : decode cX2_circle 64 = .ok (.iload_n 3, 1) := by decide +kernel
theorem dX2_circle_65 : decode cX2_circle 65 = .ok (.iload 4, 2) := by decide +kernel
theorem dX2_circle_67 : decode cX2_circle 67 = .ok (.invokevirtual 123, 3) := by decide +kernel
theorem dX2_circle_70 : decode cX2_circle 70 = .ok (.invokevirtual 115, 3) := by decide +kernel
theorem dX2_circle_73 : decode cX2_circle 73 = .ok (.ireturn, 1) := by decide +kernel
set_option maxHeartbeats 4000000 in
theorem met_X2_circle (l : Launch) (G : GG) {H : Heap} {o : Nat} {A : Nat → Nat} {σ : Sg} {th : Int32} {a b d f : Int32} (hM : MW G H o A σ th) (hO : Ok σ) (hS : MS o A) : GM l yX2_circle cX2_circle 5 (some .int) 3 0 0 86 G H [.ref o, .int a, .int b, .int d, .int f] (fun oc H' => oc = .returned (some (.int (pubS4 σ a b d f (m_cirV σ)).1)) ∧ MP G H o A (pubS4 σ a b d f (m_cirV σ)).2 th H') (fun z => ownM o A z) := by
  refine gm_intro pl_X2_circle (Nat.le_of_ble_eq_true rfl) ?_
  intro pX eX sX mX belX methX cX ls hE hnm hl
  obtain ⟨hx, hb, hr, hlk, hml, hown, hts, hK, hZ, hH⟩ := hE
  have hl : lv_has ls 5 [(0, .ref o), (1, .int a), (2, .int b), (3, .int d), (4, .int f)] := hl
  have hL : ∀ q ∈ ([] : List Loc), (fun z => ownM o A z : Addr → Prop) q.base := fun q h => by cases h
  refine lv_aload_n hx hb dX2_circle_0 rfl (lv_at hl 0 rfl) ?_
  refine lv_iload_n hx hb dX2_circle_1 rfl (lv_at hl 1 rfl) ?_
  refine p_callV (As := [.int _]) hx hb hml hown hts hK trivial (met_X2_isPoint l G hM) q728 q730 qs13 q43 q731 hv_X2_isPoint rfl hM.1 rfl (by decide) hl.1 rfl (Nat.le_of_ble_eq_true rfl) dX2_circle_2 ⟨Nat.le_of_ble_eq_true rfl, Nat.le_of_ble_eq_true rfl⟩ ?_
  refine b_ifeq (tgt := 33) hx hb dX2_circle_5 rfl (fun c_5 => ?_) (fun c_5 => ?_)
  · skip
    refine lv_bipush (v := -2) hx hb dX2_circle_33 ib_m2 ?_
    exact g_iret (F := fun z => ownM o A z) (Post := fun oc H' => oc = .returned (some (.int (pubS4 σ a b d f (m_cirV σ)).1)) ∧ MP G H o A (pubS4 σ a b d f (m_cirV σ)).2 th H') hx hb hr hlk hL dX2_circle_35 (pr_post (P := fun τ => MP G H o A τ th _) (by first | with_reducible rfl | (simp only [pubS4, m_cirV, c_5, ↓reduceIte, Bool.true_and, Bool.and_true, Bool.false_and, Bool.and_false, Bool.true_or, Bool.or_true, Bool.false_or, Bool.or_false, Bool.not_true, Bool.not_false, decide_true, decide_false, bI_t, bI_f, Bool.false_eq_true, not_true_eq_false, not_false_eq_true, eq_self, reduceCtorEq, Bool.true_eq_false, and_true, true_and, and_false, false_and, or_true, true_or, or_false, false_or]; done)) (MP.rf hM))
  obtain ⟨a_, i_a, rfl⟩ := isPt_elim hO.1.1 c_5
  refine lv_aload_n hx hb dX2_circle_8 rfl (lv_at hl 0 rfl) ?_
  refine lv_iload_n hx hb dX2_circle_9 rfl (lv_at hl 2 rfl) ?_
  refine p_callV (As := [.int _]) hx hb hml hown hts hK trivial (met_X2_isPoint l G hM) q728 q730 qs13 q43 q731 hv_X2_isPoint rfl hM.1 rfl (by decide) hl.1 rfl (Nat.le_of_ble_eq_true rfl) dX2_circle_10 ⟨Nat.le_of_ble_eq_true rfl, Nat.le_of_ble_eq_true rfl⟩ ?_
  refine b_ifeq (tgt := 33) hx hb dX2_circle_13 rfl (fun c_13 => ?_) (fun c_13 => ?_)
  · skip
    refine lv_bipush (v := -2) hx hb dX2_circle_33 ib_m2 ?_
    exact g_iret (F := fun z => ownM o A z) (Post := fun oc H' => oc = .returned (some (.int (pubS4 σ (nI a_) b d f (m_cirV σ)).1)) ∧ MP G H o A (pubS4 σ (nI a_) b d f (m_cirV σ)).2 th H') hx hb hr hlk hL dX2_circle_35 (pr_post (P := fun τ => MP G H o A τ th _) (by first | with_reducible rfl | (simp only [pubS4, m_cirV, c_5, hO.ix i_a, c_13, ↓reduceIte, Bool.true_and, Bool.and_true, Bool.false_and, Bool.and_false, Bool.true_or, Bool.or_true, Bool.false_or, Bool.or_false, Bool.not_true, Bool.not_false, decide_true, decide_false, bI_t, bI_f, Bool.false_eq_true, not_true_eq_false, not_false_eq_true, eq_self, reduceCtorEq, Bool.true_eq_false, and_true, true_and, and_false, false_and, or_true, true_or, or_false, false_or]; done) | (simp only [c_5, hO.ix i_a, ↓reduceIte, Bool.true_and, Bool.and_true, Bool.false_and, Bool.and_false, Bool.true_or, Bool.or_true, Bool.false_or, Bool.or_false, Bool.not_true, Bool.not_false, decide_true, decide_false, bI_t, bI_f, Bool.false_eq_true, not_true_eq_false, not_false_eq_true, eq_self, reduceCtorEq, Bool.true_eq_false, and_true, true_and, and_false, false_and, or_true, true_or, or_false, false_or] at c_13; done) | (simp only [hO.ix i_a, c_13, ↓reduceIte, Bool.true_and, Bool.and_true, Bool.false_and, Bool.and_false, Bool.true_or, Bool.or_true, Bool.false_or, Bool.or_false, Bool.not_true, Bool.not_false, decide_true, decide_false, bI_t, bI_f, Bool.false_eq_true, not_true_eq_false, not_false_eq_true, eq_self, reduceCtorEq, Bool.true_eq_false, and_true, true_and, and_false, false_and, or_true, true_or, or_false, false_or] at c_5; done)) (MP.rf hM))
  obtain ⟨b_, i_b, rfl⟩ := isPt_elim hO.1.1 c_13
  refine lv_aload_n hx hb dX2_circle_16 rfl (lv_at hl 0 rfl) ?_
  refine lv_iload_n hx hb dX2_circle_17 rfl (lv_at hl 3 rfl) ?_
  refine p_callV (As := [.int _]) hx hb hml hown hts hK trivial (met_X2_isPoint l G hM) q728 q730 qs13 q43 q731 hv_X2_isPoint rfl hM.1 rfl (by decide) hl.1 rfl (Nat.le_of_ble_eq_true rfl) dX2_circle_18 ⟨Nat.le_of_ble_eq_true rfl, Nat.le_of_ble_eq_true rfl⟩ ?_
  refine b_ifeq (tgt := 33) hx hb dX2_circle_21 rfl (fun c_21 => ?_) (fun c_21 => ?_)
  · skip
    refine lv_bipush (v := -2) hx hb dX2_circle_33 ib_m2 ?_
    exact g_iret (F := fun z => ownM o A z) (Post := fun oc H' => oc = .returned (some (.int (pubS4 σ (nI a_) (nI b_) d f (m_cirV σ)).1)) ∧ MP G H o A (pubS4 σ (nI a_) (nI b_) d f (m_cirV σ)).2 th H') hx hb hr hlk hL dX2_circle_35 (pr_post (P := fun τ => MP G H o A τ th _) (by first | with_reducible rfl | (simp only [pubS4, m_cirV, c_5, hO.ix i_a, c_13, hO.ix i_b, c_21, ↓reduceIte, Bool.true_and, Bool.and_true, Bool.false_and, Bool.and_false, Bool.true_or, Bool.or_true, Bool.false_or, Bool.or_false, Bool.not_true, Bool.not_false, decide_true, decide_false, bI_t, bI_f, Bool.false_eq_true, not_true_eq_false, not_false_eq_true, eq_self, reduceCtorEq, Bool.true_eq_false, and_true, true_and, and_false, false_and, or_true, true_or, or_false, false_or]; done) | (simp only [c_5, hO.ix i_a, c_13, hO.ix i_b, ↓reduceIte, Bool.true_and, Bool.and_true, Bool.false_and, Bool.and_false, Bool.true_or, Bool.or_true, Bool.false_or, Bool.or_false, Bool.not_true, Bool.not_false, decide_true, decide_false, bI_t, bI_f, Bool.false_eq_true, not_true_eq_false, not_false_eq_true, eq_self, reduceCtorEq, Bool.true_eq_false, and_true, true_and, and_false, false_and, or_true, true_or, or_false, false_or] at c_21; done) | (simp only [c_5, hO.ix i_a, hO.ix i_b, c_21, ↓reduceIte, Bool.true_and, Bool.and_true, Bool.false_and, Bool.and_false, Bool.true_or, Bool.or_true, Bool.false_or, Bool.or_false, Bool.not_true, Bool.not_false, decide_true, decide_false, bI_t, bI_f, Bool.false_eq_true, not_true_eq_false, not_false_eq_true, eq_self, reduceCtorEq, Bool.true_eq_false, and_true, true_and, and_false, false_and, or_true, true_or, or_false, false_or] at c_13; done) | (simp only [hO.ix i_a, c_13, hO.ix i_b, c_21, ↓reduceIte, Bool.true_and, Bool.and_true, Bool.false_and, Bool.and_false, Bool.true_or, Bool.or_true, Bool.false_or, Bool.or_false, Bool.not_true, Bool.not_false, decide_true, decide_false, bI_t, bI_f, Bool.false_eq_true, not_true_eq_false, not_false_eq_true, eq_self, reduceCtorEq, Bool.true_eq_false, and_true, true_and, and_false, false_and, or_true, true_or, or_false, false_or] at c_5; done)) (MP.rf hM))
  obtain ⟨d_, i_d, rfl⟩ := isPt_elim hO.1.1 c_21
  refine lv_aload_n hx hb dX2_circle_24 rfl (lv_at hl 0 rfl) ?_
  refine lv_iload hx hb dX2_circle_25 (lv_at hl 4 rfl) ?_
  refine p_callV (As := [.int _]) hx hb hml hown hts hK trivial (met_X2_isPoint l G hM) q728 q730 qs13 q43 q731 hv_X2_isPoint rfl hM.1 rfl (by decide) hl.1 rfl (Nat.le_of_ble_eq_true rfl) dX2_circle_27 ⟨Nat.le_of_ble_eq_true rfl, Nat.le_of_ble_eq_true rfl⟩ ?_
  refine b_ifne (tgt := 36) hx hb dX2_circle_30 rfl (fun c_30 => ?_) (fun c_30 => ?_)
  · skip
    obtain ⟨f_, i_f, rfl⟩ := isPt_elim hO.1.1 c_30
    refine lv_aload_n hx hb dX2_circle_36 rfl (lv_at hl 0 rfl) ?_
    refine lv_iload_n hx hb dX2_circle_37 rfl (lv_at hl 1 rfl) ?_
    refine lv_iload_n hx hb dX2_circle_38 rfl (lv_at hl 2 rfl) ?_
    refine lv_iload_n hx hb dX2_circle_39 rfl (lv_at hl 3 rfl) ?_
    refine p_callV (As := [.int _, .int _, .int _]) hx hb hml hown hts hK trivial (met_X2_turn l G hM hO i_a i_b i_d) q772 q774 qs20 q43 q775 hv_X2_turn rfl hM.1 rfl (by decide) hl.1 rfl (Nat.le_of_ble_eq_true rfl) dX2_circle_40 ⟨Nat.le_of_ble_eq_true rfl, Nat.le_of_ble_eq_true rfl⟩ ?_
    refine lv_if_ne (tgt := 51) hx hb dX2_circle_43 rfl (fun c_43 => ?_) (fun c_43 => ?_)
    · skip
      refine lv_aload_n hx hb dX2_circle_51 rfl (lv_at hl 0 rfl) ?_
      refine lv_aload_n hx hb dX2_circle_52 rfl (lv_at hl 0 rfl) ?_
      refine lv_iload_n hx hb dX2_circle_53 rfl (lv_at hl 1 rfl) ?_
      refine lv_iload_n hx hb dX2_circle_54 rfl (lv_at hl 2 rfl) ?_
      refine lv_iload_n hx hb dX2_circle_55 rfl (lv_at hl 3 rfl) ?_
      refine lv_iload hx hb dX2_circle_56 (lv_at hl 4 rfl) ?_
      refine p_callV (As := [.int _, .int _, .int _, .int _]) hx hb hml hown hts hK trivial (met_X2_decidesRing l G hM hO i_a i_b i_d i_f) q787 q789 qs22 q43 q790 hv_X2_decidesRing rfl hM.1 rfl (by decide) hl.1 rfl (Nat.le_of_ble_eq_true rfl) dX2_circle_58 ⟨Nat.le_of_ble_eq_true rfl, Nat.le_of_ble_eq_true rfl⟩ ?_
      refine lv_aload_n hx hb dX2_circle_61 rfl (lv_at hl 0 rfl) ?_
      refine lv_iload_n hx hb dX2_circle_62 rfl (lv_at hl 1 rfl) ?_
      refine lv_iload_n hx hb dX2_circle_63 rfl (lv_at hl 2 rfl) ?_
      refine lv_iload_n hx hb dX2_circle_64 rfl (lv_at hl 3 rfl) ?_
      refine lv_iload hx hb dX2_circle_65 (lv_at hl 4 rfl) ?_
      refine p_callV (As := [.int _, .int _, .int _, .int _]) hx hb hml hown hts hK trivial (met_X2_ring l G hM hO i_a i_b i_d i_f) q792 q794 qs23 q43 q795 hv_X2_ring rfl hM.1 rfl (by decide) hl.1 rfl (Nat.le_of_ble_eq_true rfl) dX2_circle_67 ⟨Nat.le_of_ble_eq_true rfl, Nat.le_of_ble_eq_true rfl⟩ ?_
      refine g_callV (F := fun z => ownM o A z) (As := [.int _, .int _]) hx hb hml hown hts hK (met_X2_counted l G hM.1) q779 q781 qs21 q43 q782 hv_X2_counted rfl hM.1 rfl (by decide) hl.1 rfl (Nat.le_of_ble_eq_true rfl) dX2_circle_70 ⟨Nat.le_of_ble_eq_true rfl, Nat.le_of_ble_eq_true rfl⟩ (fun _ h => Or.inl h) hL (fun v1_ H1_ locs hP1_ hL => ?_)
      obtain ⟨hv1_, hat_, hon_⟩ := hP1_
      cases hv1_
      exact g_iret (F := fun z => ownM o A z) (Post := fun oc H' => oc = .returned (some (.int (pubS4 σ (nI a_) (nI b_) (nI d_) (nI f_) (m_cirV σ)).1)) ∧ MP G H o A (pubS4 σ (nI a_) (nI b_) (nI d_) (nI f_) (m_cirV σ)).2 th H') hx hb hr hlk hL dX2_circle_73 (pr_post (P := fun τ => MP G H o A τ th _) (by first | with_reducible rfl | (simp only [pubS4, m_cirV, c_5, hO.ix i_a, c_13, hO.ix i_b, c_21, hO.ix i_d, c_30, hO.ix i_f, c_43, ↓reduceIte, Bool.true_and, Bool.and_true, Bool.false_and, Bool.and_false, Bool.true_or, Bool.or_true, Bool.false_or, Bool.or_false, Bool.not_true, Bool.not_false, decide_true, decide_false, bI_t, bI_f, Bool.false_eq_true, not_true_eq_false, not_false_eq_true, eq_self, reduceCtorEq, Bool.true_eq_false, and_true, true_and, and_false, false_and, or_true, true_or, or_false, false_or]; done) | (simp only [c_5, hO.ix i_a, c_13, hO.ix i_b, c_21, hO.ix i_d, c_30, hO.ix i_f, ↓reduceIte, Bool.true_and, Bool.and_true, Bool.false_and, Bool.and_false, Bool.true_or, Bool.or_true, Bool.false_or, Bool.or_false, Bool.not_true, Bool.not_false, decide_true, decide_false, bI_t, bI_f, Bool.false_eq_true, not_true_eq_false, not_false_eq_true, eq_self, reduceCtorEq, Bool.true_eq_false, and_true, true_and, and_false, false_and, or_true, true_or, or_false, false_or] at c_43; done) | (simp only [c_5, hO.ix i_a, c_13, hO.ix i_b, c_21, hO.ix i_d, hO.ix i_f, c_43, ↓reduceIte, Bool.true_and, Bool.and_true, Bool.false_and, Bool.and_false, Bool.true_or, Bool.or_true, Bool.false_or, Bool.or_false, Bool.not_true, Bool.not_false, decide_true, decide_false, bI_t, bI_f, Bool.false_eq_true, not_true_eq_false, not_false_eq_true, eq_self, reduceCtorEq, Bool.true_eq_false, and_true, true_and, and_false, false_and, or_true, true_or, or_false, false_or] at c_30; done) | (simp only [c_5, hO.ix i_a, c_13, hO.ix i_b, hO.ix i_d, c_30, hO.ix i_f, c_43, ↓reduceIte, Bool.true_and, Bool.and_true, Bool.false_and, Bool.and_false, Bool.true_or, Bool.or_true, Bool.false_or, Bool.or_false, Bool.not_true, Bool.not_false, decide_true, decide_false, bI_t, bI_f, Bool.false_eq_true, not_true_eq_false, not_false_eq_true, eq_self, reduceCtorEq, Bool.true_eq_false, and_true, true_and, and_false, false_and, or_true, true_or, or_false, false_or] at c_21; done) | (simp only [c_5, hO.ix i_a, hO.ix i_b, c_21, hO.ix i_d, c_30, hO.ix i_f, c_43, ↓reduceIte, Bool.true_and, Bool.and_true, Bool.false_and, Bool.and_false, Bool.true_or, Bool.or_true, Bool.false_or, Bool.or_false, Bool.not_true, Bool.not_false, decide_true, decide_false, bI_t, bI_f, Bool.false_eq_true, not_true_eq_false, not_false_eq_true, eq_self, reduceCtorEq, Bool.true_eq_false, and_true, true_and, and_false, false_and, or_true, true_or, or_false, false_or] at c_13; done) | (simp only [hO.ix i_a, c_13, hO.ix i_b, c_21, hO.ix i_d, c_30, hO.ix i_f, c_43, ↓reduceIte, Bool.true_and, Bool.and_true, Bool.false_and, Bool.and_false, Bool.true_or, Bool.or_true, Bool.false_or, Bool.or_false, Bool.not_true, Bool.not_false, decide_true, decide_false, bI_t, bI_f, Bool.false_eq_true, not_true_eq_false, not_false_eq_true, eq_self, reduceCtorEq, Bool.true_eq_false, and_true, true_and, and_false, false_and, or_true, true_or, or_false, false_or] at c_5; done)) (MP.o (σ' := t_cnt σ _ _) hM hS rfl rfl rfl hat_ hon_))
    refine lv_bipush (v := -4) hx hb dX2_circle_46 ib_m4 ?_
    refine lv_goto (tgt := 73) hx hb dX2_circle_48 rfl ?_
    exact g_iret (F := fun z => ownM o A z) (Post := fun oc H' => oc = .returned (some (.int (pubS4 σ (nI a_) (nI b_) (nI d_) (nI f_) (m_cirV σ)).1)) ∧ MP G H o A (pubS4 σ (nI a_) (nI b_) (nI d_) (nI f_) (m_cirV σ)).2 th H') hx hb hr hlk hL dX2_circle_73 (pr_post (P := fun τ => MP G H o A τ th _) (by first | with_reducible rfl | (simp only [pubS4, m_cirV, c_5, hO.ix i_a, c_13, hO.ix i_b, c_21, hO.ix i_d, c_30, hO.ix i_f, eq_true c_43, ↓reduceIte, Bool.true_and, Bool.and_true, Bool.false_and, Bool.and_false, Bool.true_or, Bool.or_true, Bool.false_or, Bool.or_false, Bool.not_true, Bool.not_false, decide_true, decide_false, bI_t, bI_f, Bool.false_eq_true, not_true_eq_false, not_false_eq_true, eq_self, reduceCtorEq, Bool.true_eq_false, and_true, true_and, and_false, false_and, or_true, true_or, or_false, false_or]; done) | (simp only [c_5, hO.ix i_a, c_13, hO.ix i_b, c_21, hO.ix i_d, c_30, hO.ix i_f, ↓reduceIte, Bool.true_and, Bool.and_true, Bool.false_and, Bool.and_false, Bool.true_or, Bool.or_true, Bool.false_or, Bool.or_false, Bool.not_true, Bool.not_false, decide_true, decide_false, bI_t, bI_f, Bool.false_eq_true, not_true_eq_false, not_false_eq_true, eq_self, reduceCtorEq, Bool.true_eq_false, and_true, true_and, and_false, false_and, or_true, true_or, or_false, false_or] at c_43; done) | (simp only [c_5, hO.ix i_a, c_13, hO.ix i_b, c_21, hO.ix i_d, hO.ix i_f, eq_true c_43, ↓reduceIte, Bool.true_and, Bool.and_true, Bool.false_and, Bool.and_false, Bool.true_or, Bool.or_true, Bool.false_or, Bool.or_false, Bool.not_true, Bool.not_false, decide_true, decide_false, bI_t, bI_f, Bool.false_eq_true, not_true_eq_false, not_false_eq_true, eq_self, reduceCtorEq, Bool.true_eq_false, and_true, true_and, and_false, false_and, or_true, true_or, or_false, false_or] at c_30; done) | (simp only [c_5, hO.ix i_a, c_13, hO.ix i_b, hO.ix i_d, c_30, hO.ix i_f, eq_true c_43, ↓reduceIte, Bool.true_and, Bool.and_true, Bool.false_and, Bool.and_false, Bool.true_or, Bool.or_true, Bool.false_or, Bool.or_false, Bool.not_true, Bool.not_false, decide_true, decide_false, bI_t, bI_f, Bool.false_eq_true, not_true_eq_false, not_false_eq_true, eq_self, reduceCtorEq, Bool.true_eq_false, and_true, true_and, and_false, false_and, or_true, true_or, or_false, false_or] at c_21; done) | (simp only [c_5, hO.ix i_a, hO.ix i_b, c_21, hO.ix i_d, c_30, hO.ix i_f, eq_true c_43, ↓reduceIte, Bool.true_and, Bool.and_true, Bool.false_and, Bool.and_false, Bool.true_or, Bool.or_true, Bool.false_or, Bool.or_false, Bool.not_true, Bool.not_false, decide_true, decide_false, bI_t, bI_f, Bool.false_eq_true, not_true_eq_false, not_false_eq_true, eq_self, reduceCtorEq, Bool.true_eq_false, and_true, true_and, and_false, false_and, or_true, true_or, or_false, false_or] at c_13; done) | (simp only [hO.ix i_a, c_13, hO.ix i_b, c_21, hO.ix i_d, c_30, hO.ix i_f, eq_true c_43, ↓reduceIte, Bool.true_and, Bool.and_true, Bool.false_and, Bool.and_false, Bool.true_or, Bool.or_true, Bool.false_or, Bool.or_false, Bool.not_true, Bool.not_false, decide_true, decide_false, bI_t, bI_f, Bool.false_eq_true, not_true_eq_false, not_false_eq_true, eq_self, reduceCtorEq, Bool.true_eq_false, and_true, true_and, and_false, false_and, or_true, true_or, or_false, false_or] at c_5; done)) (MP.rf hM))
  refine lv_bipush (v := -2) hx hb dX2_circle_33 ib_m2 ?_
  exact g_iret (F := fun z => ownM o A z) (Post := fun oc H' => oc = .returned (some (.int (pubS4 σ (nI a_) (nI b_) (nI d_) f (m_cirV σ)).1)) ∧ MP G H o A (pubS4 σ (nI a_) (nI b_) (nI d_) f (m_cirV σ)).2 th H') hx hb hr hlk hL dX2_circle_35 (pr_post (P := fun τ => MP G H o A τ th _) (by first | with_reducible rfl | (simp only [pubS4, m_cirV, c_5, hO.ix i_a, c_13, hO.ix i_b, c_21, hO.ix i_d, c_30, ↓reduceIte, Bool.true_and, Bool.and_true, Bool.false_and, Bool.and_false, Bool.true_or, Bool.or_true, Bool.false_or, Bool.or_false, Bool.not_true, Bool.not_false, decide_true, decide_false, bI_t, bI_f, Bool.false_eq_true, not_true_eq_false, not_false_eq_true, eq_self, reduceCtorEq, Bool.true_eq_false, and_true, true_and, and_false, false_and, or_true, true_or, or_false, false_or]; done) | (simp only [c_5, hO.ix i_a, c_13, hO.ix i_b, c_21, hO.ix i_d, ↓reduceIte, Bool.true_and, Bool.and_true, Bool.false_and, Bool.and_false, Bool.true_or, Bool.or_true, Bool.false_or, Bool.or_false, Bool.not_true, Bool.not_false, decide_true, decide_false, bI_t, bI_f, Bool.false_eq_true, not_true_eq_false, not_false_eq_true, eq_self, reduceCtorEq, Bool.true_eq_false, and_true, true_and, and_false, false_and, or_true, true_or, or_false, false_or] at c_30; done) | (simp only [c_5, hO.ix i_a, c_13, hO.ix i_b, hO.ix i_d, c_30, ↓reduceIte, Bool.true_and, Bool.and_true, Bool.false_and, Bool.and_false, Bool.true_or, Bool.or_true, Bool.false_or, Bool.or_false, Bool.not_true, Bool.not_false, decide_true, decide_false, bI_t, bI_f, Bool.false_eq_true, not_true_eq_false, not_false_eq_true, eq_self, reduceCtorEq, Bool.true_eq_false, and_true, true_and, and_false, false_and, or_true, true_or, or_false, false_or] at c_21; done) | (simp only [c_5, hO.ix i_a, hO.ix i_b, c_21, hO.ix i_d, c_30, ↓reduceIte, Bool.true_and, Bool.and_true, Bool.false_and, Bool.and_false, Bool.true_or, Bool.or_true, Bool.false_or, Bool.or_false, Bool.not_true, Bool.not_false, decide_true, decide_false, bI_t, bI_f, Bool.false_eq_true, not_true_eq_false, not_false_eq_true, eq_self, reduceCtorEq, Bool.true_eq_false, and_true, true_and, and_false, false_and, or_true, true_or, or_false, false_or] at c_13; done) | (simp only [hO.ix i_a, c_13, hO.ix i_b, c_21, hO.ix i_d, c_30, ↓reduceIte, Bool.true_and, Bool.and_true, Bool.false_and, Bool.and_false, Bool.true_or, Bool.or_true, Bool.false_or, Bool.or_false, Bool.not_true, Bool.not_false, decide_true, decide_false, bI_t, bI_f, Bool.false_eq_true, not_true_eq_false, not_false_eq_true, eq_self, reduceCtorEq, Bool.true_eq_false, and_true, true_and, and_false, false_and, or_true, true_or, or_false, false_or] at c_5; done)) (MP.rf hM))
theorem dX1_side_0 : decode cX1_side 0 = .ok (.aload_n 0, 1) := by decide +kernel
theorem dX1_side_1 : decode cX1_side 1 = .ok (.iload_n 1, 1) := by decide +kernel
theorem dX1_side_2 : decode cX1_side 2 = .ok (.iload_n 2, 1) := by decide +kernel
theorem dX1_side_3 : decode cX1_side 3 = .ok (.iload_n 3, 1) := by decide +kernel
theorem dX1_side_4 : decode cX1_side 4 = .ok (.invokevirtual 75, 3) := by decide +kernel
theorem dX1_side_7 : decode cX1_side 7 = .ok (.ifCond .ne 6, 3) := by decide +kernel
theorem dX1_side_10 : decode cX1_side 10 = .ok (.bipush (-2), 2) := by decide +kernel
theorem dX1_side_12 : decode cX1_side 12 = .ok (.ireturn, 1) := by decide +kernel
theorem dX1_side_13 : decode cX1_side 13 = .ok (.aload_n 0, 1) := by decide +kernel
theorem dX1_side_14 : decode cX1_side 14 = .ok (.getfield 26, 3) := by decide +kernel
theorem dX1_side_17 : decode cX1_side 17 = .ok (.iload_n 1, 1) := by decide +kernel
theorem dX1_side_18 : decode cX1_side 18 = .ok (.aaload, 1) := by decide +kernel
theorem dX1_side_19 : decode cX1_side 19 = .ok (.astore 4, 2) := by decide +kernel
theorem dX1_side_21 : decode cX1_side 21 = .ok (.aload_n 0, 1) := by decide +kernel
theorem dX1_side_22 : decode cX1_side 22 = .ok (.getfield 26, 3) := by decide +kernel
theorem dX1_side_25 : decode cX1_side 25 = .ok (.iload_n 2, 1) := by decide +kernel
theorem dX1_side_26 : decode cX1_side 26 = .ok (.aaload, 1) := by decide +kernel
theorem dX1_side_27 : decode cX1_side 27 = .ok (.astore 5, 2) := by decide +kernel
theorem dX1_side_29 : decode cX1_side 29 = .ok (.aload 4, 2) := by decide +kernel
theorem dX1_side_31 : decode cX1_side 31 = .ok (.aload 5, 2) := by decide +kernel
theorem dX1_side_33 : decode cX1_side 33 = .ok (.invokevirtual 79, 3) := by decide +kernel
theorem dX1_side_36 : decode cX1_side 36 = .ok (.ifCond .eq 6, 3) := by decide +kernel
theorem dX1_side_39 : decode cX1_side 39 = .ok (.bipush (-4), 2) := by decide +kernel
theorem dX1_side_41 : decode cX1_side 41 = .ok (.ireturn, 1) := by decide +kernel
theorem dX1_side_42 : decode cX1_side 42 = .ok (.aload_n 0, 1) := by decide +kernel
theorem dX1_side_43 : decode cX1_side 43 = .ok (.getfield 33, 3) := by decide +kernel
theorem dX1_side_46 : decode cX1_side 46 = .ok (.ifCond .eq 19, 3) := by decide +kernel
theorem dX1_side_49 : decode cX1_side 49 = .ok (.aload 4, 2) := by decide +kernel
theorem dX1_side_51 : decode cX1_side 51 = .ok (.aload 5, 2) := by decide +kernel
theorem dX1_side_53 : decode cX1_side 53 = .ok (.aload_n 0, 1) := by decide +kernel
theorem dX1_side_54 : decode cX1_side 54 = .ok (.getfield 26, 3) := by decide +kernel
theorem dX1_side_57 : decode cX1_side 57 = .ok (.iload_n 3, 1) := by decide +kernel
theorem dX1_side_58 : decode cX1_side 58 = .ok (.aaload, 1) := by decide +kernel
theorem dX1_side_59 : decode cX1_side 59 = .ok (.invokestatic 83, 3) := by decide +kernel
theorem dX1_side_62 : decode cX1_side 62 = .ok (.goto 4, 3) := by decide +kernel
theorem dX1_side_65 : decode cX1_side 65 = .ok (.iconst 0, 1) := by decide +kernel
theorem dX1_side_66 : decode cX1_side 66 = .ok (.istore 6, 2) := by decide +kernel
theorem dX1_side_68 : decode cX1_side 68 = .ok (.aload_n 0, 1) := by decide +kernel
theorem dX1_side_69 : decode cX1_side 69 = .ok (.iload 6, 2) := by decide +kernel
theorem dX1_side_71 : decode cX1_side 71 = .ok (.iload 6, 2) := by decide +kernel
theorem dX1_side_73 : decode cX1_side 73 = .ok (.ifCond .eq 8, 3) := by decide +kernel
theorem dX1_side_76 : decode cX1_side 76 = .ok (.iload 6, 2) := by decide +kernel
theorem dX1_side_78 : decode cX1_side 78 = .ok (.goto 16, 3) := by decide +kernel
theorem dX1_side_81 : decode cX1_side 81 = .ok (.aload 4, 2) := by decide +kernel
theorem dX1_side_83 : decode cX1_side 83 = .ok (.aload 5, 2) := by decide +kernel
theorem dX1_side_85 : decode cX1_side 85 = .ok (.aload_n 0, 1) := by decide +kernel
theorem dX1_side_86 : decode cX1_side 86 = .ok (.getfield 26, 3) := by decide +kernel
theorem dX1_side_89 : decode cX1_side 89 = .ok (.iload_n 3, 1) := by decide +kernel
theorem dX1_side_90 : decode cX1_side 90 = .ok (.aaload, 1) := by decide +kernel
theorem dX1_side_91 : decode cX1_side 91 = .ok (.invokestatic 89, 3) := by decide +kernel
theorem dX1_side_94 : decode cX1_side 94 = .ok (.invokevirtual 90, 3) := by decide +kernel
theorem dX1_side_97 : decode cX1_side 97 = .ok (.ireturn, 1) := by decide +kernel
set_option maxHeartbeats 4000000 in
theorem met_X1_side (l : Launch) (G : GG) {H : Heap} {o : Nat} {B P L : Nat → Nat} {σ : Sg} {a b d : Int32} (hJ : JW G H o B P L σ) (hO : Ok σ) (hS : JS o B P L σ) : GM l yX1_side cX1_side 7 (some .int) 3 0 0 69 G H [.ref o, .int a, .int b, .int d] (fun oc H' => oc = .returned (some (.int (pubS3 σ a b d (j_sideV σ)).1)) ∧ JP G H o B P L σ (pubS3 σ a b d (j_sideV σ)).2 H') (fun z => ownJ o B z) := by
  refine gm_intro pl_X1_side (Nat.le_of_ble_eq_true rfl) ?_
  intro pX eX sX mX belX methX cX ls hE hnm hl
  obtain ⟨hx, hb, hr, hlk, hml, hown, hts, hK, hZ, hH⟩ := hE
  have hl : lv_has ls 7 [(0, .ref o), (1, .int a), (2, .int b), (3, .int d)] := hl
  have hL : ∀ q ∈ ([] : List Loc), (fun z => ownJ o B z : Addr → Prop) q.base := fun q h => by cases h
  refine lv_aload_n hx hb dX1_side_0 rfl (lv_at hl 0 rfl) ?_
  refine lv_iload_n hx hb dX1_side_1 rfl (lv_at hl 1 rfl) ?_
  refine lv_iload_n hx hb dX1_side_2 rfl (lv_at hl 2 rfl) ?_
  refine lv_iload_n hx hb dX1_side_3 rfl (lv_at hl 3 rfl) ?_
  refine p_callV (As := [.int _, .int _, .int _]) hx hb hml hown hts hK trivial (met_X1_arePoints l G hJ hO ) q152 q154 qs0 q42 q155 hv_X1_arePoints rfl hJ.1 rfl (by decide) hl.1 rfl (Nat.le_of_ble_eq_true rfl) dX1_side_4 ⟨Nat.le_of_ble_eq_true rfl, Nat.le_of_ble_eq_true rfl⟩ ?_
  refine b_ifne (tgt := 13) hx hb dX1_side_7 rfl (fun c_7 => ?_) (fun c_7 => ?_)
  · skip
    obtain ⟨h1_, h2_, h3_⟩ := and3 c_7
    obtain ⟨a_, i_a, rfl⟩ := isPt_elim hO.1.1 h1_
    obtain ⟨b_, i_b, rfl⟩ := isPt_elim hO.1.1 h2_
    obtain ⟨d_, i_d, rfl⟩ := isPt_elim hO.1.1 h3_
    refine lv_aload_n hx hb dX1_side_13 rfl (lv_at hl 0 rfl) ?_
    refine gf_X1_26 hx hb hts hown hK hJ.1 rfl dX1_side_14 ?_
    refine lv_iload_n hx hb dX1_side_17 rfl (lv_at hl 1 rfl) ?_
    refine r_pald hx hb hK hJ.2.1 dX1_side_18 (k := a_) (hO.lt60 i_a) (by decide) rfl (pa_some i_a) ?_
    refine lv_astore (lv' := [(4, .ref _), (0, .ref _), (1, .int _), (2, .int _), (3, .int _)]) hx hb dX1_side_19 hl (Nat.le_of_ble_eq_true rfl) rfl (fun ls hl => ?_)
    refine lv_aload_n hx hb dX1_side_21 rfl (lv_at hl 1 rfl) ?_
    refine gf_X1_26 hx hb hts hown hK hJ.1 rfl dX1_side_22 ?_
    refine lv_iload_n hx hb dX1_side_25 rfl (lv_at hl 3 rfl) ?_
    refine r_pald hx hb hK hJ.2.1 dX1_side_26 (k := b_) (hO.lt60 i_b) (by decide) rfl (pa_some i_b) ?_
    refine lv_astore (lv' := [(5, .ref _), (4, .ref _), (0, .ref _), (1, .int _), (2, .int _), (3, .int _)]) hx hb dX1_side_27 hl (Nat.le_of_ble_eq_true rfl) rfl (fun ls hl => ?_)
    refine lv_aload hx hb dX1_side_29 (lv_at hl 1 rfl) ?_
    refine lv_aload hx hb dX1_side_31 (lv_at hl 0 rfl) ?_
    refine p_callV (As := [.ref _]) hx hb hml hown hts hK trivial (met_X3_isEqual l G (hJ.2.2.2.2.1 _ i_a) (hJ.2.2.2.2.1 _ i_b)) q160 q161 q162 q44 q163 hv_X3_isEqual rfl (hJ.2.2.2.2.1 _ i_a) rfl (by decide) hl.1 rfl (Nat.le_of_ble_eq_true rfl) dX1_side_33 ⟨Nat.le_of_ble_eq_true rfl, Nat.le_of_ble_eq_true rfl⟩ ?_
    refine b_ifeq (tgt := 42) hx hb dX1_side_36 rfl (fun c_36 => ?_) (fun c_36 => ?_)
    · skip
      refine cutI (J := 66) (v := (if σ.on = true then j_ft (σ.pt a_) (σ.pt b_) (σ.pt d_) else 0)) ?_ (fun K44 => ?_)
      rotate_left
      · skip
        refine lv_aload_n hx hb dX1_side_42 rfl (lv_at hl 2 rfl) ?_
        refine gf_X1_33 hx hb hts hown hK hJ.1 rfl dX1_side_43 ?_
        refine b_ifeq (tgt := 65) hx hb dX1_side_46 rfl (fun c_46 => ?_) (fun c_46 => ?_)
        · skip
          refine lv_iconst (v := 0) hx hb dX1_side_65 ic_0 ?_
          exact K44 _ (by first | with_reducible rfl | (simp only [pubS3, j_sideV, t_idem, c_7, hO.ix i_a, hO.ix i_b, hO.ix i_d, c_36, c_46, ↓reduceIte, Bool.true_and, Bool.and_true, Bool.false_and, Bool.and_false, Bool.true_or, Bool.or_true, Bool.false_or, Bool.or_false, Bool.not_true, Bool.not_false, decide_true, decide_false, bI_t, bI_f, Bool.false_eq_true, not_true_eq_false, not_false_eq_true, eq_self, reduceCtorEq, Bool.true_eq_false, and_true, true_and, and_false, false_and, or_true, true_or, or_false, false_or]; done) | (simp only [c_7, hO.ix i_a, hO.ix i_b, hO.ix i_d, c_36, ↓reduceIte, Bool.true_and, Bool.and_true, Bool.false_and, Bool.and_false, Bool.true_or, Bool.or_true, Bool.false_or, Bool.or_false, Bool.not_true, Bool.not_false, decide_true, decide_false, bI_t, bI_f, Bool.false_eq_true, not_true_eq_false, not_false_eq_true, eq_self, reduceCtorEq, Bool.true_eq_false, and_true, true_and, and_false, false_and, or_true, true_or, or_false, false_or] at c_46; done) | (simp only [c_7, hO.ix i_a, hO.ix i_b, hO.ix i_d, c_46, ↓reduceIte, Bool.true_and, Bool.and_true, Bool.false_and, Bool.and_false, Bool.true_or, Bool.or_true, Bool.false_or, Bool.or_false, Bool.not_true, Bool.not_false, decide_true, decide_false, bI_t, bI_f, Bool.false_eq_true, not_true_eq_false, not_false_eq_true, eq_self, reduceCtorEq, Bool.true_eq_false, and_true, true_and, and_false, false_and, or_true, true_or, or_false, false_or] at c_36; done) | (simp only [hO.ix i_a, hO.ix i_b, hO.ix i_d, c_36, c_46, ↓reduceIte, Bool.true_and, Bool.and_true, Bool.false_and, Bool.and_false, Bool.true_or, Bool.or_true, Bool.false_or, Bool.or_false, Bool.not_true, Bool.not_false, decide_true, decide_false, bI_t, bI_f, Bool.false_eq_true, not_true_eq_false, not_false_eq_true, eq_self, reduceCtorEq, Bool.true_eq_false, and_true, true_and, and_false, false_and, or_true, true_or, or_false, false_or] at c_7; done))
        refine lv_aload hx hb dX1_side_49 (lv_at hl 1 rfl) ?_
        refine lv_aload hx hb dX1_side_51 (lv_at hl 0 rfl) ?_
        refine lv_aload_n hx hb dX1_side_53 rfl (lv_at hl 2 rfl) ?_
        refine gf_X1_26 hx hb hts hown hK hJ.1 rfl dX1_side_54 ?_
        refine lv_iload_n hx hb dX1_side_57 rfl (lv_at hl 5 rfl) ?_
        refine r_pald hx hb hK hJ.2.1 dX1_side_58 (k := d_) (hO.lt60 i_d) (by decide) rfl (pa_some i_d) ?_
        refine p_callS (As := [.ref _, .ref _, .ref _]) hx hb hml hown hts hK trivial (met_X4_turn l G (hJ.2.2.2.2.1 _ i_a) (hJ.2.2.2.2.1 _ i_b) (hJ.2.2.2.2.1 _ i_d) (hO.2.2.1 _) (hO.2.2.1 _) (hO.2.2.1 _)) q164 q165 q53 q166 hd_X4_turn rfl (by decide) hl.1 rfl (Nat.le_of_ble_eq_true rfl) dX1_side_59 ⟨Nat.le_of_ble_eq_true rfl, Nat.le_of_ble_eq_true rfl⟩ ?_
        refine lv_goto (tgt := 66) hx hb dX1_side_62 rfl ?_
        exact K44 _ (by first | with_reducible rfl | (simp only [pubS3, j_sideV, t_idem, c_7, hO.ix i_a, hO.ix i_b, hO.ix i_d, c_36, c_46, ↓reduceIte, Bool.true_and, Bool.and_true, Bool.false_and, Bool.and_false, Bool.true_or, Bool.or_true, Bool.false_or, Bool.or_false, Bool.not_true, Bool.not_false, decide_true, decide_false, bI_t, bI_f, Bool.false_eq_true, not_true_eq_false, not_false_eq_true, eq_self, reduceCtorEq, Bool.true_eq_false, and_true, true_and, and_false, false_and, or_true, true_or, or_false, false_or]; done) | (simp only [c_7, hO.ix i_a, hO.ix i_b, hO.ix i_d, c_36, ↓reduceIte, Bool.true_and, Bool.and_true, Bool.false_and, Bool.and_false, Bool.true_or, Bool.or_true, Bool.false_or, Bool.or_false, Bool.not_true, Bool.not_false, decide_true, decide_false, bI_t, bI_f, Bool.false_eq_true, not_true_eq_false, not_false_eq_true, eq_self, reduceCtorEq, Bool.true_eq_false, and_true, true_and, and_false, false_and, or_true, true_or, or_false, false_or] at c_46; done) | (simp only [c_7, hO.ix i_a, hO.ix i_b, hO.ix i_d, c_46, ↓reduceIte, Bool.true_and, Bool.and_true, Bool.false_and, Bool.and_false, Bool.true_or, Bool.or_true, Bool.false_or, Bool.or_false, Bool.not_true, Bool.not_false, decide_true, decide_false, bI_t, bI_f, Bool.false_eq_true, not_true_eq_false, not_false_eq_true, eq_self, reduceCtorEq, Bool.true_eq_false, and_true, true_and, and_false, false_and, or_true, true_or, or_false, false_or] at c_36; done) | (simp only [hO.ix i_a, hO.ix i_b, hO.ix i_d, c_36, c_46, ↓reduceIte, Bool.true_and, Bool.and_true, Bool.false_and, Bool.and_false, Bool.true_or, Bool.or_true, Bool.false_or, Bool.or_false, Bool.not_true, Bool.not_false, decide_true, decide_false, bI_t, bI_f, Bool.false_eq_true, not_true_eq_false, not_false_eq_true, eq_self, reduceCtorEq, Bool.true_eq_false, and_true, true_and, and_false, false_and, or_true, true_or, or_false, false_or] at c_7; done))
      refine lv_istore (lv' := [(6, .int _), (5, .ref _), (4, .ref _), (0, .ref _), (1, .int _), (2, .int _), (3, .int _)]) hx hb dX1_side_66 hl (Nat.le_of_ble_eq_true rfl) rfl (fun ls hl => ?_)
      refine lv_aload_n hx hb dX1_side_68 rfl (lv_at hl 3 rfl) ?_
      refine lv_iload hx hb dX1_side_69 (lv_at hl 0 rfl) ?_
      refine cutI (J := 94) (v := t_sign (if σ.on = true then j_ft (σ.pt a_) (σ.pt b_) (σ.pt d_) else 0) (s_turn (σ.pt a_) (σ.pt b_) (σ.pt d_))) ?_ (fun K45 => ?_)
      rotate_left
      · skip
        refine lv_iload hx hb dX1_side_71 (lv_at hl 0 rfl) ?_
        refine lv_if_eq (tgt := 81) hx hb dX1_side_73 rfl (fun c_73 => ?_) (fun c_73 => ?_)
        · skip
          refine lv_aload hx hb dX1_side_81 (lv_at hl 2 rfl) ?_
          refine lv_aload hx hb dX1_side_83 (lv_at hl 1 rfl) ?_
          refine lv_aload_n hx hb dX1_side_85 rfl (lv_at hl 3 rfl) ?_
          refine gf_X1_26 hx hb hts hown hK hJ.1 rfl dX1_side_86 ?_
          refine lv_iload_n hx hb dX1_side_89 rfl (lv_at hl 6 rfl) ?_
          refine r_pald hx hb hK hJ.2.1 dX1_side_90 (k := d_) (hO.lt60 i_d) (by decide) rfl (pa_some i_d) ?_
          refine p_callS (As := [.ref _, .ref _, .ref _]) hx hb hml hown hts hK trivial (met_X1_turn l G (hJ.2.2.2.2.1 _ i_a) (hJ.2.2.2.2.1 _ i_b) (hJ.2.2.2.2.1 _ i_d)) q192 q193 q42 q194 hd_X1_turn rfl (by decide) hl.1 rfl (Nat.le_of_ble_eq_true rfl) dX1_side_91 ⟨Nat.le_of_ble_eq_true rfl, Nat.le_of_ble_eq_true rfl⟩ ?_
          exact K45 _ (by first | with_reducible rfl | (simp only [pubS3, j_sideV, t_idem, t_sign, c_7, hO.ix i_a, hO.ix i_b, hO.ix i_d, c_36, eq_true c_73, ↓reduceIte, Bool.true_and, Bool.and_true, Bool.false_and, Bool.and_false, Bool.true_or, Bool.or_true, Bool.false_or, Bool.or_false, Bool.not_true, Bool.not_false, decide_true, decide_false, bI_t, bI_f, Bool.false_eq_true, not_true_eq_false, not_false_eq_true, eq_self, reduceCtorEq, Bool.true_eq_false, and_true, true_and, and_false, false_and, or_true, true_or, or_false, false_or]; done) | (simp only [c_7, hO.ix i_a, hO.ix i_b, hO.ix i_d, c_36, ↓reduceIte, Bool.true_and, Bool.and_true, Bool.false_and, Bool.and_false, Bool.true_or, Bool.or_true, Bool.false_or, Bool.or_false, Bool.not_true, Bool.not_false, decide_true, decide_false, bI_t, bI_f, Bool.false_eq_true, not_true_eq_false, not_false_eq_true, eq_self, reduceCtorEq, Bool.true_eq_false, and_true, true_and, and_false, false_and, or_true, true_or, or_false, false_or] at c_73; done) | (simp only [c_7, hO.ix i_a, hO.ix i_b, hO.ix i_d, eq_true c_73, ↓reduceIte, Bool.true_and, Bool.and_true, Bool.false_and, Bool.and_false, Bool.true_or, Bool.or_true, Bool.false_or, Bool.or_false, Bool.not_true, Bool.not_false, decide_true, decide_false, bI_t, bI_f, Bool.false_eq_true, not_true_eq_false, not_false_eq_true, eq_self, reduceCtorEq, Bool.true_eq_false, and_true, true_and, and_false, false_and, or_true, true_or, or_false, false_or] at c_36; done) | (simp only [hO.ix i_a, hO.ix i_b, hO.ix i_d, c_36, eq_true c_73, ↓reduceIte, Bool.true_and, Bool.and_true, Bool.false_and, Bool.and_false, Bool.true_or, Bool.or_true, Bool.false_or, Bool.or_false, Bool.not_true, Bool.not_false, decide_true, decide_false, bI_t, bI_f, Bool.false_eq_true, not_true_eq_false, not_false_eq_true, eq_self, reduceCtorEq, Bool.true_eq_false, and_true, true_and, and_false, false_and, or_true, true_or, or_false, false_or] at c_7; done))
        refine lv_iload hx hb dX1_side_76 (lv_at hl 0 rfl) ?_
        refine lv_goto (tgt := 94) hx hb dX1_side_78 rfl ?_
        exact K45 _ (by first | with_reducible rfl | (simp only [pubS3, j_sideV, t_idem, t_sign, c_7, hO.ix i_a, hO.ix i_b, hO.ix i_d, c_36, c_73, ↓reduceIte, Bool.true_and, Bool.and_true, Bool.false_and, Bool.and_false, Bool.true_or, Bool.or_true, Bool.false_or, Bool.or_false, Bool.not_true, Bool.not_false, decide_true, decide_false, bI_t, bI_f, Bool.false_eq_true, not_true_eq_false, not_false_eq_true, eq_self, reduceCtorEq, Bool.true_eq_false, and_true, true_and, and_false, false_and, or_true, true_or, or_false, false_or]; done) | (simp only [c_7, hO.ix i_a, hO.ix i_b, hO.ix i_d, c_36, ↓reduceIte, Bool.true_and, Bool.and_true, Bool.false_and, Bool.and_false, Bool.true_or, Bool.or_true, Bool.false_or, Bool.or_false, Bool.not_true, Bool.not_false, decide_true, decide_false, bI_t, bI_f, Bool.false_eq_true, not_true_eq_false, not_false_eq_true, eq_self, reduceCtorEq, Bool.true_eq_false, and_true, true_and, and_false, false_and, or_true, true_or, or_false, false_or] at c_73; done) | (simp only [c_7, hO.ix i_a, hO.ix i_b, hO.ix i_d, c_73, ↓reduceIte, Bool.true_and, Bool.and_true, Bool.false_and, Bool.and_false, Bool.true_or, Bool.or_true, Bool.false_or, Bool.or_false, Bool.not_true, Bool.not_false, decide_true, decide_false, bI_t, bI_f, Bool.false_eq_true, not_true_eq_false, not_false_eq_true, eq_self, reduceCtorEq, Bool.true_eq_false, and_true, true_and, and_false, false_and, or_true, true_or, or_false, false_or] at c_36; done) | (simp only [hO.ix i_a, hO.ix i_b, hO.ix i_d, c_36, c_73, ↓reduceIte, Bool.true_and, Bool.and_true, Bool.false_and, Bool.and_false, Bool.true_or, Bool.or_true, Bool.false_or, Bool.or_false, Bool.not_true, Bool.not_false, decide_true, decide_false, bI_t, bI_f, Bool.false_eq_true, not_true_eq_false, not_false_eq_true, eq_self, reduceCtorEq, Bool.true_eq_false, and_true, true_and, and_false, false_and, or_true, true_or, or_false, false_or] at c_7; done))
      refine g_callV (F := fun z => ownJ o B z) (As := [.int _, .int _]) hx hb hml hown hts hK (met_X1_told l G hJ.1) q201 q203 qs2 q42 q204 hv_X1_told rfl hJ.1 rfl (by decide) hl.1 rfl (Nat.le_of_ble_eq_true rfl) dX1_side_94 ⟨Nat.le_of_ble_eq_true rfl, Nat.le_of_ble_eq_true rfl⟩ (fun _ h => Or.inl h) hL (fun v1_ H1_ locs hP1_ hL => ?_)
      obtain ⟨hv1_, hat_, hon_⟩ := hP1_
      cases hv1_
      exact g_iret (F := fun z => ownJ o B z) (Post := fun oc H' => oc = .returned (some (.int (pubS3 σ (nI a_) (nI b_) (nI d_) (j_sideV σ)).1)) ∧ JP G H o B P L σ (pubS3 σ (nI a_) (nI b_) (nI d_) (j_sideV σ)).2 H') hx hb hr hlk hL dX1_side_97 (pr_post (P := fun τ => JP G H o B P L σ τ _) (by first | with_reducible rfl | (simp only [pubS3, j_sideV, t_idem, c_7, hO.ix i_a, hO.ix i_b, hO.ix i_d, c_36, ↓reduceIte, Bool.true_and, Bool.and_true, Bool.false_and, Bool.and_false, Bool.true_or, Bool.or_true, Bool.false_or, Bool.or_false, Bool.not_true, Bool.not_false, decide_true, decide_false, bI_t, bI_f, Bool.false_eq_true, not_true_eq_false, not_false_eq_true, eq_self, reduceCtorEq, Bool.true_eq_false, and_true, true_and, and_false, false_and, or_true, true_or, or_false, false_or]; done) | (simp only [c_7, hO.ix i_a, hO.ix i_b, hO.ix i_d, ↓reduceIte, Bool.true_and, Bool.and_true, Bool.false_and, Bool.and_false, Bool.true_or, Bool.or_true, Bool.false_or, Bool.or_false, Bool.not_true, Bool.not_false, decide_true, decide_false, bI_t, bI_f, Bool.false_eq_true, not_true_eq_false, not_false_eq_true, eq_self, reduceCtorEq, Bool.true_eq_false, and_true, true_and, and_false, false_and, or_true, true_or, or_false, false_or] at c_36; done) | (simp only [hO.ix i_a, hO.ix i_b, hO.ix i_d, c_36, ↓reduceIte, Bool.true_and, Bool.and_true, Bool.false_and, Bool.and_false, Bool.true_or, Bool.or_true, Bool.false_or, Bool.or_false, Bool.not_true, Bool.not_false, decide_true, decide_false, bI_t, bI_f, Bool.false_eq_true, not_true_eq_false, not_false_eq_true, eq_self, reduceCtorEq, Bool.true_eq_false, and_true, true_and, and_false, false_and, or_true, true_or, or_false, false_or] at c_7; done)) (told_JP hJ hS hat_ hon_))
    refine lv_bipush (v := -4) hx hb dX1_side_39 ib_m4 ?_
    exact g_iret (F := fun z => ownJ o B z) (Post := fun oc H' => oc = .returned (some (.int (pubS3 σ (nI a_) (nI b_) (nI d_) (j_sideV σ)).1)) ∧ JP G H o B P L σ (pubS3 σ (nI a_) (nI b_) (nI d_) (j_sideV σ)).2 H') hx hb hr hlk hL dX1_side_41 (pr_post (P := fun τ => JP G H o B P L σ τ _) (by first | with_reducible rfl | (simp only [pubS3, j_sideV, t_idem, c_7, hO.ix i_a, hO.ix i_b, hO.ix i_d, c_36, ↓reduceIte, Bool.true_and, Bool.and_true, Bool.false_and, Bool.and_false, Bool.true_or, Bool.or_true, Bool.false_or, Bool.or_false, Bool.not_true, Bool.not_false, decide_true, decide_false, bI_t, bI_f, Bool.false_eq_true, not_true_eq_false, not_false_eq_true, eq_self, reduceCtorEq, Bool.true_eq_false, and_true, true_and, and_false, false_and, or_true, true_or, or_false, false_or]; done) | (simp only [c_7, hO.ix i_a, hO.ix i_b, hO.ix i_d, ↓reduceIte, Bool.true_and, Bool.and_true, Bool.false_and, Bool.and_false, Bool.true_or, Bool.or_true, Bool.false_or, Bool.or_false, Bool.not_true, Bool.not_false, decide_true, decide_false, bI_t, bI_f, Bool.false_eq_true, not_true_eq_false, not_false_eq_true, eq_self, reduceCtorEq, Bool.true_eq_false, and_true, true_and, and_false, false_and, or_true, true_or, or_false, false_or] at c_36; done) | (simp only [hO.ix i_a, hO.ix i_b, hO.ix i_d, c_36, ↓reduceIte, Bool.true_and, Bool.and_true, Bool.false_and, Bool.and_false, Bool.true_or, Bool.or_true, Bool.false_or, Bool.or_false, Bool.not_true, Bool.not_false, decide_true, decide_false, bI_t, bI_f, Bool.false_eq_true, not_true_eq_false, not_false_eq_true, eq_self, reduceCtorEq, Bool.true_eq_false, and_true, true_and, and_false, false_and, or_true, true_or, or_false, false_or] at c_7; done)) (JP.rf hJ hS))
  refine lv_bipush (v := -2) hx hb dX1_side_10 ib_m2 ?_
  exact g_iret (F := fun z => ownJ o B z) (Post := fun oc H' => oc = .returned (some (.int (pubS3 σ a b d (j_sideV σ)).1)) ∧ JP G H o B P L σ (pubS3 σ a b d (j_sideV σ)).2 H') hx hb hr hlk hL dX1_side_12 (pr_post (P := fun τ => JP G H o B P L σ τ _) (by first | with_reducible rfl | (simp only [pubS3, j_sideV, t_idem, c_7, ↓reduceIte, Bool.true_and, Bool.and_true, Bool.false_and, Bool.and_false, Bool.true_or, Bool.or_true, Bool.false_or, Bool.or_false, Bool.not_true, Bool.not_false, decide_true, decide_false, bI_t, bI_f, Bool.false_eq_true, not_true_eq_false, not_false_eq_true, eq_self, reduceCtorEq, Bool.true_eq_false, and_true, true_and, and_false, false_and, or_true, true_or, or_false, false_or]; done)) (JP.rf hJ hS))
theorem dX1_circle_0 : decode cX1_circle 0 = .ok (.aload_n 0, 1) := by decide +kernel
theorem dX1_circle_1 : decode cX1_circle 1 = .ok (.iload_n 1, 1) := by decide +kernel
theorem dX1_circle_2 : decode cX1_circle 2 = .ok (.iload_n 2, 1) := by decide +kernel
theorem dX1_circle_3 : decode cX1_circle 3 = .ok (.iload_n 3, 1) := by decide +kernel
theorem dX1_circle_4 : decode cX1_circle 4 = .ok (.invokevirtual 75, 3) := by decide +kernel
theorem dX1_circle_7 : decode cX1_circle 7 = .ok (.ifCond .eq 12, 3) := by decide +kernel
theorem dX1_circle_10 : decode cX1_circle 10 = .ok (.aload_n 0, 1) := by decide +kernel
theorem dX1_circle_11 : decode cX1_circle 11 = .ok (.iload 4, 2) := by decide +kernel
theorem dX1_circle_13 : decode cX1_circle 13 = .ok (.invokevirtual 50, 3) := by decide +kernel
theorem dX1_circle_16 : decode cX1_circle 16 = .ok (.ifCond .ne 6, 3) := by decide +kernel
theorem dX1_circle_19 : decode cX1_circle 19 = .ok (.bipush (-2), 2) := by decide +kernel
theorem dX1_circle_21 : decode cX1_circle 21 = .ok (.ireturn, 1) := by decide +kernel
theorem dX1_circle_22 : decode cX1_circle 22 = .ok (.aload_n 0, 1) := by decide +kernel
theorem dX1_circle_23 : decode cX1_circle 23 = .ok (.getfield 26, 3) := by decide +kernel
theorem dX1_circle_26 : decode cX1_circle 26 = .ok (.iload_n 1, 1) := by decide +kernel
theorem dX1_circle_27 : decode cX1_circle 27 = .ok (.aaload, 1) := by decide +kernel
theorem dX1_circle_28 : decode cX1_circle 28 = .ok (.aload_n 0, 1) := by decide +kernel
theorem dX1_circle_29 : decode cX1_circle 29 = .ok (.getfield 26, 3) := by decide +kernel
theorem dX1_circle_32 : decode cX1_circle 32 = .ok (.iload_n 2, 1) := by decide +kernel
theorem dX1_circle_33 : decode cX1_circle 33 = .ok (.aaload, 1) := by decide +kernel
theorem dX1_circle_34 : decode cX1_circle 34 = .ok (.aload_n 0, 1) := by decide +kernel
theorem dX1_circle_35 : decode cX1_circle 35 = .ok (.getfield 26, 3) := by decide +kernel
theorem dX1_circle_38 : decode cX1_circle 38 = .ok (.iload_n 3, 1) := by decide +kernel
theorem dX1_circle_39 : decode cX1_circle 39 = .ok (.aaload, 1) := by decide +kernel
theorem dX1_circle_40 : decode cX1_circle 40 = .ok (.invokestatic 89, 3) := by decide +kernel
theorem dX1_circle_43 : decode cX1_circle 43 = .ok (.istore 5, 2) := by decide +kernel
theorem dX1_circle_45 : decode cX1_circle 45 = .ok (.iload 5, 2) := by decide +kernel
theorem dX1_circle_47 : decode cX1_circle 47 = .ok (.ifCond .ne 6, 3) := by decide +kernel
theorem dX1_circle_50 : decode cX1_circle 50 = .ok (.bipush (-4), 2) := by decide +kernel
theorem dX1_circle_52 : decode cX1_circle 52 = .ok (.ireturn, 1) := by decide +kernel
theorem dX1_circle_53 : decode cX1_circle 53 = .ok (.aload_n 0, 1) := by decide +kernel
theorem dX1_circle_54 : decode cX1_circle 54 = .ok (.getfield 33, 3) := by decide +kernel
theorem dX1_circle_57 : decode cX1_circle 57 = .ok (.ifCond .eq 34, 3) := by decide +kernel
theorem dX1_circle_60 : decode cX1_circle 60 = .ok (.aload_n 0, 1) := by decide +kernel
theorem dX1_circle_61 : decode cX1_circle 61 = .ok (.getfield 26, 3) := by decide +kernel
theorem dX1_circle_64 : decode cX1_circle 64 = .ok (.iload_n 1, 1) := by decide +kernel
theorem dX1_circle_65 : decode cX1_circle 65 = .ok (.aaload, 1) := by decide +kernel
theorem dX1_circle_66 : decode cX1_circle 66 = .ok (.aload_n 0, 1) := by decide +kernel
theorem dX1_circle_67 : decode cX1_circle 67 = .ok (.getfield 26, 3) := by decide +kernel
theorem dX1_circle_70 : decode cX1_circle 70 = .ok (.iload_n 2, 1) := by decide +kernel
theorem dX1_circle_71 : decode cX1_circle 71 = .ok (.aaload, 1) := by decide +kernel
theorem dX1_circle_72 : decode cX1_circle 72 = .ok (.aload_n 0, 1) := by decide +kernel
theorem dX1_circle_73 : decode cX1_circle 73 = .ok (.getfield 26, 3) := by decide +kernel
theorem dX1_circle_76 : decode cX1_circle 76 = .ok (.iload_n 3, 1) := by decide +kernel
theorem dX1_circle_77 : decode cX1_circle 77 = .ok (.aaload, 1) := by decide +kernel
theorem dX1_circle_78 : decode cX1_circle 78 = .ok (.aload_n 0, 1) := by decide +kernel
theorem dX1_circle_79 : decode cX1_circle 79 = .ok (.getfield 26, 3) := by decide +kernel
theorem dX1_circle_82 : decode cX1_circle 82 = .ok (.iload 4, 2) := by decide +kernel
theorem dX1_circle_84 : decode cX1_circle 84 = .ok (.aaload, 1) := by decide +kernel
theorem dX1_circle_85 : decode cX1_circle 85 = .ok (.invokestatic 94, 3) := by decide +kernel
theorem dX1_circle_88 : decode cX1_circle 88 = .ok (.goto 4, 3) := by decide +kernel
theorem dX1_circle_91 : decode cX1_circle 91 = .ok (.iconst 0, 1) := by decide +kernel
theorem dX1_circle_92 : decode cX1_circle 92 = .ok (.istore 6, 2) := by decide +kernel
theorem dX1_circle_94 : decode cX1_circle 94 = .ok (.iload 5, 2) := by decide +kernel
theorem dX1_circle_96 : decode cX1_circle 96 = .ok (.aload_n 0, 1) := by decide +kernel
theorem dX1_circle_97 : decode cX1_circle 97 = .ok (.iload 6, 2) := by decide +kernel
theorem dX1_circle_99 : decode cX1_circle 99 = .ok (.iload 6, 2) := by decide +kernel
theorem dX1_circle_101 : decode cX1_circle 101 = .ok (.ifCond .eq 8, 3) := by decide +kernel
theorem dX1_circle_104 : decode cX1_circle 104 = .ok (.iload 6, 2) := by decide +kernel
theorem dX1_circle_106 : decode cX1_circle 106 = .ok (.goto 31, 3) := by decide +kernel
theorem dX1_circle_109 : decode cX1_circle 109 = .ok (.aload_n 0, 1) := by decide +kernel
theorem dX1_circle_110 : decode cX1_circle 110 = .ok (.getfield 26, 3) := by decide +kernel
theorem dX1_circle_113 : decode cX1_circle 113 = .ok (.iload_n 1, 1) := by decide +kernel
theorem dX1_circle_114 : decode cX1_circle 114 = .ok (.aaload, 1) := by decide +kernel
theorem dX1_circle_115 : decode cX1_circle 115 = .ok (.aload_n 0, 1) := by decide +kernel
theorem dX1_circle_116 : decode cX1_circle 116 = .ok (.getfield 26, 3) := by decide +kernel
theorem dX1_circle_119 : decode cX1_circle 119 = .ok (.iload_n 2, 1) := by decide +kernel
theorem dX1_circle_120 : decode cX1_circle 120 = .ok (.aaload, 1) := by decide +kernel
theorem dX1_circle_121 : decode cX1_circle 121 = .ok (.aload_n 0, 1) := by decide +kernel
theorem dX1_circle_122 : decode cX1_circle 122 = .ok (.getfield 26, 3) := by decide +kernel
theorem dX1_circle_125 : decode cX1_circle 125 = .ok (.iload_n 3, 1) := by decide +kernel
theorem dX1_circle_126 : decode cX1_circle 126 = .ok (.aaload, 1) := by decide +kernel
theorem dX1_circle_127 : decode cX1_circle 127 = .ok (.aload_n 0, 1) := by decide +kernel
theorem dX1_circle_128 : decode cX1_circle 128 = .ok (.getfield 26, 3) := by decide +kernel
theorem dX1_circle_131 : decode cX1_circle 131 = .ok (.iload 4, 2) := by decide +kernel
theorem dX1_circle_133 : decode cX1_circle 133 = .ok (.aaload, 1) := by decide +kernel
theorem dX1_circle_134 : decode cX1_circle 134 = .ok (.invokestatic 98, 3) := by decide +kernel
theorem dX1_circle_137 : decode cX1_circle 137 = .ok (.invokevirtual 90, 3) := by decide +kernel
theorem dX1_circle_140 : decode cX1_circle 140 = .ok (.imul, 1) := by decide +kernel
theorem dX1_circle_141 : decode cX1_circle 141 = .ok (.ireturn, 1) := by decide +kernel
set_option maxHeartbeats 4000000 in
theorem met_X1_circle (l : Launch) (G : GG) {H : Heap} {o : Nat} {B P L : Nat → Nat} {σ : Sg} {a b d f : Int32} (hJ : JW G H o B P L σ) (hO : Ok σ) (hS : JS o B P L σ) : GM l yX1_circle cX1_circle 7 (some .int) 3 0 0 75 G H [.ref o, .int a, .int b, .int d, .int f] (fun oc H' => oc = .returned (some (.int (pubS4 σ a b d f (j_cirV σ)).1)) ∧ JP G H o B P L σ (pubS4 σ a b d f (j_cirV σ)).2 H') (fun z => ownJ o B z) := by
  refine gm_intro pl_X1_circle (Nat.le_of_ble_eq_true rfl) ?_
  intro pX eX sX mX belX methX cX ls hE hnm hl
  obtain ⟨hx, hb, hr, hlk, hml, hown, hts, hK, hZ, hH⟩ := hE
  have hl : lv_has ls 7 [(0, .ref o), (1, .int a), (2, .int b), (3, .int d), (4, .int f)] := hl
  have hL : ∀ q ∈ ([] : List Loc), (fun z => ownJ o B z : Addr → Prop) q.base := fun q h => by cases h
  refine lv_aload_n hx hb dX1_circle_0 rfl (lv_at hl 0 rfl) ?_
  refine lv_iload_n hx hb dX1_circle_1 rfl (lv_at hl 1 rfl) ?_
  refine lv_iload_n hx hb dX1_circle_2 rfl (lv_at hl 2 rfl) ?_
  refine lv_iload_n hx hb dX1_circle_3 rfl (lv_at hl 3 rfl) ?_
  refine p_callV (As := [.int _, .int _, .int _]) hx hb hml hown hts hK trivial (met_X1_arePoints l G hJ hO ) q152 q154 qs0 q42 q155 hv_X1_arePoints rfl hJ.1 rfl (by decide) hl.1 rfl (Nat.le_of_ble_eq_true rfl) dX1_circle_4 ⟨Nat.le_of_ble_eq_true rfl, Nat.le_of_ble_eq_true rfl⟩ ?_
  refine b_ifeq (tgt := 19) hx hb dX1_circle_7 rfl (fun c_7 => ?_) (fun c_7 => ?_)
  · skip
    refine lv_bipush (v := -2) hx hb dX1_circle_19 ib_m2 ?_
    exact g_iret (F := fun z => ownJ o B z) (Post := fun oc H' => oc = .returned (some (.int (pubS4 σ a b d f (j_cirV σ)).1)) ∧ JP G H o B P L σ (pubS4 σ a b d f (j_cirV σ)).2 H') hx hb hr hlk hL dX1_circle_21 (pr_post (P := fun τ => JP G H o B P L σ τ _) (by first | with_reducible rfl | (simp only [pubS4, j_cirV, t_idem, c_7, ↓reduceIte, Bool.true_and, Bool.and_true, Bool.false_and, Bool.and_false, Bool.true_or, Bool.or_true, Bool.false_or, Bool.or_false, Bool.not_true, Bool.not_false, decide_true, decide_false, bI_t, bI_f, Bool.false_eq_true, not_true_eq_false, not_false_eq_true, eq_self, reduceCtorEq, Bool.true_eq_false, and_true, true_and, and_false, false_and, or_true, true_or, or_false, false_or]; done)) (JP.rf hJ hS))
  obtain ⟨h1_, h2_, h3_⟩ := and3 c_7
  obtain ⟨a_, i_a, rfl⟩ := isPt_elim hO.1.1 h1_
  obtain ⟨b_, i_b, rfl⟩ := isPt_elim hO.1.1 h2_
  obtain ⟨d_, i_d, rfl⟩ := isPt_elim hO.1.1 h3_
  refine lv_aload_n hx hb dX1_circle_10 rfl (lv_at hl 0 rfl) ?_
  refine lv_iload hx hb dX1_circle_11 (lv_at hl 4 rfl) ?_
  refine p_callV (As := [.int _]) hx hb hml hown hts hK trivial (met_X1_isPoint l G hJ hO ) q156 q158 qs1 q42 q159 hv_X1_isPoint rfl hJ.1 rfl (by decide) hl.1 rfl (Nat.le_of_ble_eq_true rfl) dX1_circle_13 ⟨Nat.le_of_ble_eq_true rfl, Nat.le_of_ble_eq_true rfl⟩ ?_
  refine b_ifne (tgt := 22) hx hb dX1_circle_16 rfl (fun c_16 => ?_) (fun c_16 => ?_)
  · skip
    obtain ⟨f_, i_f, rfl⟩ := isPt_elim hO.1.1 c_16
    refine lv_aload_n hx hb dX1_circle_22 rfl (lv_at hl 0 rfl) ?_
    refine gf_X1_26 hx hb hts hown hK hJ.1 rfl dX1_circle_23 ?_
    refine lv_iload_n hx hb dX1_circle_26 rfl (lv_at hl 1 rfl) ?_
    refine r_pald hx hb hK hJ.2.1 dX1_circle_27 (k := a_) (hO.lt60 i_a) (by decide) rfl (pa_some i_a) ?_
    refine lv_aload_n hx hb dX1_circle_28 rfl (lv_at hl 0 rfl) ?_
    refine gf_X1_26 hx hb hts hown hK hJ.1 rfl dX1_circle_29 ?_
    refine lv_iload_n hx hb dX1_circle_32 rfl (lv_at hl 2 rfl) ?_
    refine r_pald hx hb hK hJ.2.1 dX1_circle_33 (k := b_) (hO.lt60 i_b) (by decide) rfl (pa_some i_b) ?_
    refine lv_aload_n hx hb dX1_circle_34 rfl (lv_at hl 0 rfl) ?_
    refine gf_X1_26 hx hb hts hown hK hJ.1 rfl dX1_circle_35 ?_
    refine lv_iload_n hx hb dX1_circle_38 rfl (lv_at hl 3 rfl) ?_
    refine r_pald hx hb hK hJ.2.1 dX1_circle_39 (k := d_) (hO.lt60 i_d) (by decide) rfl (pa_some i_d) ?_
    refine p_callS (As := [.ref _, .ref _, .ref _]) hx hb hml hown hts hK trivial (met_X1_turn l G (hJ.2.2.2.2.1 _ i_a) (hJ.2.2.2.2.1 _ i_b) (hJ.2.2.2.2.1 _ i_d)) q192 q193 q42 q194 hd_X1_turn rfl (by decide) hl.1 rfl (Nat.le_of_ble_eq_true rfl) dX1_circle_40 ⟨Nat.le_of_ble_eq_true rfl, Nat.le_of_ble_eq_true rfl⟩ ?_
    refine lv_istore (lv' := [(5, .int _), (0, .ref _), (1, .int _), (2, .int _), (3, .int _), (4, .int _)]) hx hb dX1_circle_43 hl (Nat.le_of_ble_eq_true rfl) rfl (fun ls hl => ?_)
    refine lv_iload hx hb dX1_circle_45 (lv_at hl 0 rfl) ?_
    refine lv_if_ne (tgt := 53) hx hb dX1_circle_47 rfl (fun c_47 => ?_) (fun c_47 => ?_)
    · skip
      refine cutI (J := 92) (v := (if σ.on = true then j_fr (σ.pt a_) (σ.pt b_) (σ.pt d_) (σ.pt f_) else 0)) ?_ (fun K46 => ?_)
      rotate_left
      · skip
        refine lv_aload_n hx hb dX1_circle_53 rfl (lv_at hl 1 rfl) ?_
        refine gf_X1_33 hx hb hts hown hK hJ.1 rfl dX1_circle_54 ?_
        refine b_ifeq (tgt := 91) hx hb dX1_circle_57 rfl (fun c_57 => ?_) (fun c_57 => ?_)
        · skip
          refine lv_iconst (v := 0) hx hb dX1_circle_91 ic_0 ?_
          exact K46 _ (by first | with_reducible rfl | (simp only [pubS4, j_cirV, t_idem, c_7, hO.ix i_a, hO.ix i_b, hO.ix i_d, c_16, hO.ix i_f, c_47, c_57, ↓reduceIte, Bool.true_and, Bool.and_true, Bool.false_and, Bool.and_false, Bool.true_or, Bool.or_true, Bool.false_or, Bool.or_false, Bool.not_true, Bool.not_false, decide_true, decide_false, bI_t, bI_f, Bool.false_eq_true, not_true_eq_false, not_false_eq_true, eq_self, reduceCtorEq, Bool.true_eq_false, and_true, true_and, and_false, false_and, or_true, true_or, or_false, false_or]; done) | (simp only [c_7, hO.ix i_a, hO.ix i_b, hO.ix i_d, c_16, hO.ix i_f, c_47, ↓reduceIte, Bool.true_and, Bool.and_true, Bool.false_and, Bool.and_false, Bool.true_or, Bool.or_true, Bool.false_or, Bool.or_false, Bool.not_true, Bool.not_false, decide_true, decide_false, bI_t, bI_f, Bool.false_eq_true, not_true_eq_false, not_false_eq_true, eq_self, reduceCtorEq, Bool.true_eq_false, and_true, true_and, and_false, false_and, or_true, true_or, or_false, false_or] at c_57; done) | (simp only [c_7, hO.ix i_a, hO.ix i_b, hO.ix i_d, c_16, hO.ix i_f, c_57, ↓reduceIte, Bool.true_and, Bool.and_true, Bool.false_and, Bool.and_false, Bool.true_or, Bool.or_true, Bool.false_or, Bool.or_false, Bool.not_true, Bool.not_false, decide_true, decide_false, bI_t, bI_f, Bool.false_eq_true, not_true_eq_false, not_false_eq_true, eq_self, reduceCtorEq, Bool.true_eq_false, and_true, true_and, and_false, false_and, or_true, true_or, or_false, false_or] at c_47; done) | (simp only [c_7, hO.ix i_a, hO.ix i_b, hO.ix i_d, hO.ix i_f, c_47, c_57, ↓reduceIte, Bool.true_and, Bool.and_true, Bool.false_and, Bool.and_false, Bool.true_or, Bool.or_true, Bool.false_or, Bool.or_false, Bool.not_true, Bool.not_false, decide_true, decide_false, bI_t, bI_f, Bool.false_eq_true, not_true_eq_false, not_false_eq_true, eq_self, reduceCtorEq, Bool.true_eq_false, and_true, true_and, and_false, false_and, or_true, true_or, or_false, false_or] at c_16; done) | (simp only [hO.ix i_a, hO.ix i_b, hO.ix i_d, c_16, hO.ix i_f, c_47, c_57, ↓reduceIte, Bool.true_and, Bool.and_true, Bool.false_and, Bool.and_false, Bool.true_or, Bool.or_true, Bool.false_or, Bool.or_false, Bool.not_true, Bool.not_false, decide_true, decide_false, bI_t, bI_f, Bool.false_eq_true, not_true_eq_false, not_false_eq_true, eq_self, reduceCtorEq, Bool.true_eq_false, and_true, true_and, and_false, false_and, or_true, true_or, or_false, false_or] at c_7; done))
        refine lv_aload_n hx hb dX1_circle_60 rfl (lv_at hl 1 rfl) ?_
        refine gf_X1_26 hx hb hts hown hK hJ.1 rfl dX1_circle_61 ?_
        refine lv_iload_n hx hb dX1_circle_64 rfl (lv_at hl 2 rfl) ?_
        refine r_pald hx hb hK hJ.2.1 dX1_circle_65 (k := a_) (hO.lt60 i_a) (by decide) rfl (pa_some i_a) ?_
        refine lv_aload_n hx hb dX1_circle_66 rfl (lv_at hl 1 rfl) ?_
        refine gf_X1_26 hx hb hts hown hK hJ.1 rfl dX1_circle_67 ?_
        refine lv_iload_n hx hb dX1_circle_70 rfl (lv_at hl 3 rfl) ?_
        refine r_pald hx hb hK hJ.2.1 dX1_circle_71 (k := b_) (hO.lt60 i_b) (by decide) rfl (pa_some i_b) ?_
        refine lv_aload_n hx hb dX1_circle_72 rfl (lv_at hl 1 rfl) ?_
        refine gf_X1_26 hx hb hts hown hK hJ.1 rfl dX1_circle_73 ?_
        refine lv_iload_n hx hb dX1_circle_76 rfl (lv_at hl 4 rfl) ?_
        refine r_pald hx hb hK hJ.2.1 dX1_circle_77 (k := d_) (hO.lt60 i_d) (by decide) rfl (pa_some i_d) ?_
        refine lv_aload_n hx hb dX1_circle_78 rfl (lv_at hl 1 rfl) ?_
        refine gf_X1_26 hx hb hts hown hK hJ.1 rfl dX1_circle_79 ?_
        refine lv_iload hx hb dX1_circle_82 (lv_at hl 5 rfl) ?_
        refine r_pald hx hb hK hJ.2.1 dX1_circle_84 (k := f_) (hO.lt60 i_f) (by decide) rfl (pa_some i_f) ?_
        refine p_callS (As := [.ref _, .ref _, .ref _, .ref _]) hx hb hml hown hts hK trivial (met_X4_ring l G (hJ.2.2.2.2.1 _ i_a) (hJ.2.2.2.2.1 _ i_b) (hJ.2.2.2.2.1 _ i_d) (hJ.2.2.2.2.1 _ i_f) (hO.2.2.1 _) (hO.2.2.1 _) (hO.2.2.1 _) (hO.2.2.1 _)) q209 q210 q53 q211 hd_X4_ring rfl (by decide) hl.1 rfl (Nat.le_of_ble_eq_true rfl) dX1_circle_85 ⟨Nat.le_of_ble_eq_true rfl, Nat.le_of_ble_eq_true rfl⟩ ?_
        refine lv_goto (tgt := 92) hx hb dX1_circle_88 rfl ?_
        exact K46 _ (by first | with_reducible rfl | (simp only [pubS4, j_cirV, t_idem, c_7, hO.ix i_a, hO.ix i_b, hO.ix i_d, c_16, hO.ix i_f, c_47, c_57, ↓reduceIte, Bool.true_and, Bool.and_true, Bool.false_and, Bool.and_false, Bool.true_or, Bool.or_true, Bool.false_or, Bool.or_false, Bool.not_true, Bool.not_false, decide_true, decide_false, bI_t, bI_f, Bool.false_eq_true, not_true_eq_false, not_false_eq_true, eq_self, reduceCtorEq, Bool.true_eq_false, and_true, true_and, and_false, false_and, or_true, true_or, or_false, false_or]; done) | (simp only [c_7, hO.ix i_a, hO.ix i_b, hO.ix i_d, c_16, hO.ix i_f, c_47, ↓reduceIte, Bool.true_and, Bool.and_true, Bool.false_and, Bool.and_false, Bool.true_or, Bool.or_true, Bool.false_or, Bool.or_false, Bool.not_true, Bool.not_false, decide_true, decide_false, bI_t, bI_f, Bool.false_eq_true, not_true_eq_false, not_false_eq_true, eq_self, reduceCtorEq, Bool.true_eq_false, and_true, true_and, and_false, false_and, or_true, true_or, or_false, false_or] at c_57; done) | (simp only [c_7, hO.ix i_a, hO.ix i_b, hO.ix i_d, c_16, hO.ix i_f, c_57, ↓reduceIte, Bool.true_and, Bool.and_true, Bool.false_and, Bool.and_false, Bool.true_or, Bool.or_true, Bool.false_or, Bool.or_false, Bool.not_true, Bool.not_false, decide_true, decide_false, bI_t, bI_f, Bool.false_eq_true, not_true_eq_false, not_false_eq_true, eq_self, reduceCtorEq, Bool.true_eq_false, and_true, true_and, and_false, false_and, or_true, true_or, or_false, false_or] at c_47; done) | (simp only [c_7, hO.ix i_a, hO.ix i_b, hO.ix i_d, hO.ix i_f, c_47, c_57, ↓reduceIte, Bool.true_and, Bool.and_true, Bool.false_and, Bool.and_false, Bool.true_or, Bool.or_true, Bool.false_or, Bool.or_false, Bool.not_true, Bool.not_false, decide_true, decide_false, bI_t, bI_f, Bool.false_eq_true, not_true_eq_false, not_false_eq_true, eq_self, reduceCtorEq, Bool.true_eq_false, and_true, true_and, and_false, false_and, or_true, true_or, or_false, false_or] at c_16; done) | (simp only [hO.ix i_a, hO.ix i_b, hO.ix i_d, c_16, hO.ix i_f, c_47, c_57, ↓reduceIte, Bool.true_and, Bool.and_true, Bool.false_and, Bool.and_false, Bool.true_or, Bool.or_true, Bool.false_or, Bool.or_false, Bool.not_true, Bool.not_false, decide_true, decide_false, bI_t, bI_f, Bool.false_eq_true, not_true_eq_false, not_false_eq_true, eq_self, reduceCtorEq, Bool.true_eq_false, and_true, true_and, and_false, false_and, or_true, true_or, or_false, false_or] at c_7; done))
      refine lv_istore (lv' := [(6, .int _), (5, .int _), (0, .ref _), (1, .int _), (2, .int _), (3, .int _), (4, .int _)]) hx hb dX1_circle_92 hl (Nat.le_of_ble_eq_true rfl) rfl (fun ls hl => ?_)
      refine lv_iload hx hb dX1_circle_94 (lv_at hl 1 rfl) ?_
      refine lv_aload_n hx hb dX1_circle_96 rfl (lv_at hl 2 rfl) ?_
      refine lv_iload hx hb dX1_circle_97 (lv_at hl 0 rfl) ?_
      refine cutI (J := 137) (v := t_sign (if σ.on = true then j_fr (σ.pt a_) (σ.pt b_) (σ.pt d_) (σ.pt f_) else 0) (s_ring (σ.pt a_) (σ.pt b_) (σ.pt d_) (σ.pt f_))) ?_ (fun K47 => ?_)
      rotate_left
      · skip
        refine lv_iload hx hb dX1_circle_99 (lv_at hl 0 rfl) ?_
        refine lv_if_eq (tgt := 109) hx hb dX1_circle_101 rfl (fun c_101 => ?_) (fun c_101 => ?_)
        · skip
          refine lv_aload_n hx hb dX1_circle_109 rfl (lv_at hl 2 rfl) ?_
          refine gf_X1_26 hx hb hts hown hK hJ.1 rfl dX1_circle_110 ?_
          refine lv_iload_n hx hb dX1_circle_113 rfl (lv_at hl 3 rfl) ?_
          refine r_pald hx hb hK hJ.2.1 dX1_circle_114 (k := a_) (hO.lt60 i_a) (by decide) rfl (pa_some i_a) ?_
          refine lv_aload_n hx hb dX1_circle_115 rfl (lv_at hl 2 rfl) ?_
          refine gf_X1_26 hx hb hts hown hK hJ.1 rfl dX1_circle_116 ?_
          refine lv_iload_n hx hb dX1_circle_119 rfl (lv_at hl 4 rfl) ?_
          refine r_pald hx hb hK hJ.2.1 dX1_circle_120 (k := b_) (hO.lt60 i_b) (by decide) rfl (pa_some i_b) ?_
          refine lv_aload_n hx hb dX1_circle_121 rfl (lv_at hl 2 rfl) ?_
          refine gf_X1_26 hx hb hts hown hK hJ.1 rfl dX1_circle_122 ?_
          refine lv_iload_n hx hb dX1_circle_125 rfl (lv_at hl 5 rfl) ?_
          refine r_pald hx hb hK hJ.2.1 dX1_circle_126 (k := d_) (hO.lt60 i_d) (by decide) rfl (pa_some i_d) ?_
          refine lv_aload_n hx hb dX1_circle_127 rfl (lv_at hl 2 rfl) ?_
          refine gf_X1_26 hx hb hts hown hK hJ.1 rfl dX1_circle_128 ?_
          refine lv_iload hx hb dX1_circle_131 (lv_at hl 6 rfl) ?_
          refine r_pald hx hb hK hJ.2.1 dX1_circle_133 (k := f_) (hO.lt60 i_f) (by decide) rfl (pa_some i_f) ?_
          refine p_callS (As := [.ref _, .ref _, .ref _, .ref _]) hx hb hml hown hts hK trivial (met_X1_ring l G (hJ.2.2.2.2.1 _ i_a) (hJ.2.2.2.2.1 _ i_b) (hJ.2.2.2.2.1 _ i_d) (hJ.2.2.2.2.1 _ i_f)) q213 q214 q42 q215 hd_X1_ring rfl (by decide) hl.1 rfl (Nat.le_of_ble_eq_true rfl) dX1_circle_134 ⟨Nat.le_of_ble_eq_true rfl, Nat.le_of_ble_eq_true rfl⟩ ?_
          exact K47 _ (by first | with_reducible rfl | (simp only [pubS4, j_cirV, t_idem, t_sign, c_7, hO.ix i_a, hO.ix i_b, hO.ix i_d, c_16, hO.ix i_f, c_47, eq_true c_101, ↓reduceIte, Bool.true_and, Bool.and_true, Bool.false_and, Bool.and_false, Bool.true_or, Bool.or_true, Bool.false_or, Bool.or_false, Bool.not_true, Bool.not_false, decide_true, decide_false, bI_t, bI_f, Bool.false_eq_true, not_true_eq_false, not_false_eq_true, eq_self, reduceCtorEq, Bool.true_eq_false, and_true, true_and, and_false, false_and, or_true, true_or, or_false, false_or]; done) | (simp only [c_7, hO.ix i_a, hO.ix i_b, hO.ix i_d, c_16, hO.ix i_f, c_47, ↓reduceIte, Bool.true_and, Bool.and_true, Bool.false_and, Bool.and_false, Bool.true_or, Bool.or_true, Bool.false_or, Bool.or_false, Bool.not_true, Bool.not_false, decide_true, decide_false, bI_t, bI_f, Bool.false_eq_true, not_true_eq_false, not_false_eq_true, eq_self, reduceCtorEq, Bool.true_eq_false, and_true, true_and, and_false, false_and, or_true, true_or, or_false, false_or] at c_101; done) | (simp only [c_7, hO.ix i_a, hO.ix i_b, hO.ix i_d, c_16, hO.ix i_f, eq_true c_101, ↓reduceIte, Bool.true_and, Bool.and_true, Bool.false_and, Bool.and_false, Bool.true_or, Bool.or_true, Bool.false_or, Bool.or_false, Bool.not_true, Bool.not_false, decide_true, decide_false, bI_t, bI_f, Bool.false_eq_true, not_true_eq_false, not_false_eq_true, eq_self, reduceCtorEq, Bool.true_eq_false, and_true, true_and, and_false, false_and, or_true, true_or, or_false, false_or] at c_47; done) | (simp only [c_7, hO.ix i_a, hO.ix i_b, hO.ix i_d, hO.ix i_f, c_47, eq_true c_101, ↓reduceIte, Bool.true_and, Bool.and_true, Bool.false_and, Bool.and_false, Bool.true_or, Bool.or_true, Bool.false_or, Bool.or_false, Bool.not_true, Bool.not_false, decide_true, decide_false, bI_t, bI_f, Bool.false_eq_true, not_true_eq_false, not_false_eq_true, eq_self, reduceCtorEq, Bool.true_eq_false, and_true, true_and, and_false, false_and, or_true, true_or, or_false, false_or] at c_16; done) | (simp only [hO.ix i_a, hO.ix i_b, hO.ix i_d, c_16, hO.ix i_f, c_47, eq_true c_101, ↓reduceIte, Bool.true_and, Bool.and_true, Bool.false_and, Bool.and_false, Bool.true_or, Bool.or_true, Bool.false_or, Bool.or_false, Bool.not_true, Bool.not_false, decide_true, decide_false, bI_t, bI_f, Bool.false_eq_true, not_true_eq_false, not_false_eq_true, eq_self, reduceCtorEq, Bool.true_eq_false, and_true, true_and, and_false, false_and, or_true, true_or, or_false, false_or] at c_7; done))
        refine lv_iload hx hb dX1_circle_104 (lv_at hl 0 rfl) ?_
        refine lv_goto (tgt := 137) hx hb dX1_circle_106 rfl ?_
        exact K47 _ (by first | with_reducible rfl | (simp only [pubS4, j_cirV, t_idem, t_sign, c_7, hO.ix i_a, hO.ix i_b, hO.ix i_d, c_16, hO.ix i_f, c_47, c_101, ↓reduceIte, Bool.true_and, Bool.and_true, Bool.false_and, Bool.and_false, Bool.true_or, Bool.or_true, Bool.false_or, Bool.or_false, Bool.not_true, Bool.not_false, decide_true, decide_false, bI_t, bI_f, Bool.false_eq_true, not_true_eq_false, not_false_eq_true, eq_self, reduceCtorEq, Bool.true_eq_false, and_true, true_and, and_false, false_and, or_true, true_or, or_false, false_or]; done) | (simp only [c_7, hO.ix i_a, hO.ix i_b, hO.ix i_d, c_16, hO.ix i_f, c_47, ↓reduceIte, Bool.true_and, Bool.and_true, Bool.false_and, Bool.and_false, Bool.true_or, Bool.or_true, Bool.false_or, Bool.or_false, Bool.not_true, Bool.not_false, decide_true, decide_false, bI_t, bI_f, Bool.false_eq_true, not_true_eq_false, not_false_eq_true, eq_self, reduceCtorEq, Bool.true_eq_false, and_true, true_and, and_false, false_and, or_true, true_or, or_false, false_or] at c_101; done) | (simp only [c_7, hO.ix i_a, hO.ix i_b, hO.ix i_d, c_16, hO.ix i_f, c_101, ↓reduceIte, Bool.true_and, Bool.and_true, Bool.false_and, Bool.and_false, Bool.true_or, Bool.or_true, Bool.false_or, Bool.or_false, Bool.not_true, Bool.not_false, decide_true, decide_false, bI_t, bI_f, Bool.false_eq_true, not_true_eq_false, not_false_eq_true, eq_self, reduceCtorEq, Bool.true_eq_false, and_true, true_and, and_false, false_and, or_true, true_or, or_false, false_or] at c_47; done) | (simp only [c_7, hO.ix i_a, hO.ix i_b, hO.ix i_d, hO.ix i_f, c_47, c_101, ↓reduceIte, Bool.true_and, Bool.and_true, Bool.false_and, Bool.and_false, Bool.true_or, Bool.or_true, Bool.false_or, Bool.or_false, Bool.not_true, Bool.not_false, decide_true, decide_false, bI_t, bI_f, Bool.false_eq_true, not_true_eq_false, not_false_eq_true, eq_self, reduceCtorEq, Bool.true_eq_false, and_true, true_and, and_false, false_and, or_true, true_or, or_false, false_or] at c_16; done) | (simp only [hO.ix i_a, hO.ix i_b, hO.ix i_d, c_16, hO.ix i_f, c_47, c_101, ↓reduceIte, Bool.true_and, Bool.and_true, Bool.false_and, Bool.and_false, Bool.true_or, Bool.or_true, Bool.false_or, Bool.or_false, Bool.not_true, Bool.not_false, decide_true, decide_false, bI_t, bI_f, Bool.false_eq_true, not_true_eq_false, not_false_eq_true, eq_self, reduceCtorEq, Bool.true_eq_false, and_true, true_and, and_false, false_and, or_true, true_or, or_false, false_or] at c_7; done))
      refine g_callV (F := fun z => ownJ o B z) (As := [.int _, .int _]) hx hb hml hown hts hK (met_X1_told l G hJ.1) q201 q203 qs2 q42 q204 hv_X1_told rfl hJ.1 rfl (by decide) hl.1 rfl (Nat.le_of_ble_eq_true rfl) dX1_circle_137 ⟨Nat.le_of_ble_eq_true rfl, Nat.le_of_ble_eq_true rfl⟩ (fun _ h => Or.inl h) hL (fun v1_ H1_ locs hP1_ hL => ?_)
      obtain ⟨hv1_, hat_, hon_⟩ := hP1_
      cases hv1_
      refine lv_imul hx hb dX1_circle_140 ?_
      exact g_iret (F := fun z => ownJ o B z) (Post := fun oc H' => oc = .returned (some (.int (pubS4 σ (nI a_) (nI b_) (nI d_) (nI f_) (j_cirV σ)).1)) ∧ JP G H o B P L σ (pubS4 σ (nI a_) (nI b_) (nI d_) (nI f_) (j_cirV σ)).2 H') hx hb hr hlk hL dX1_circle_141 (pr_post (P := fun τ => JP G H o B P L σ τ _) (by first | with_reducible rfl | (simp only [pubS4, j_cirV, t_idem, c_7, hO.ix i_a, hO.ix i_b, hO.ix i_d, c_16, hO.ix i_f, c_47, ↓reduceIte, Bool.true_and, Bool.and_true, Bool.false_and, Bool.and_false, Bool.true_or, Bool.or_true, Bool.false_or, Bool.or_false, Bool.not_true, Bool.not_false, decide_true, decide_false, bI_t, bI_f, Bool.false_eq_true, not_true_eq_false, not_false_eq_true, eq_self, reduceCtorEq, Bool.true_eq_false, and_true, true_and, and_false, false_and, or_true, true_or, or_false, false_or]; done) | (simp only [c_7, hO.ix i_a, hO.ix i_b, hO.ix i_d, c_16, hO.ix i_f, ↓reduceIte, Bool.true_and, Bool.and_true, Bool.false_and, Bool.and_false, Bool.true_or, Bool.or_true, Bool.false_or, Bool.or_false, Bool.not_true, Bool.not_false, decide_true, decide_false, bI_t, bI_f, Bool.false_eq_true, not_true_eq_false, not_false_eq_true, eq_self, reduceCtorEq, Bool.true_eq_false, and_true, true_and, and_false, false_and, or_true, true_or, or_false, false_or] at c_47; done) | (simp only [c_7, hO.ix i_a, hO.ix i_b, hO.ix i_d, hO.ix i_f, c_47, ↓reduceIte, Bool.true_and, Bool.and_true, Bool.false_and, Bool.and_false, Bool.true_or, Bool.or_true, Bool.false_or, Bool.or_false, Bool.not_true, Bool.not_false, decide_true, decide_false, bI_t, bI_f, Bool.false_eq_true, not_true_eq_false, not_false_eq_true, eq_self, reduceCtorEq, Bool.true_eq_false, and_true, true_and, and_false, false_and, or_true, true_or, or_false, false_or] at c_16; done) | (simp only [hO.ix i_a, hO.ix i_b, hO.ix i_d, c_16, hO.ix i_f, c_47, ↓reduceIte, Bool.true_and, Bool.and_true, Bool.false_and, Bool.and_false, Bool.true_or, Bool.or_true, Bool.false_or, Bool.or_false, Bool.not_true, Bool.not_false, decide_true, decide_false, bI_t, bI_f, Bool.false_eq_true, not_true_eq_false, not_false_eq_true, eq_self, reduceCtorEq, Bool.true_eq_false, and_true, true_and, and_false, false_and, or_true, true_or, or_false, false_or] at c_7; done)) (told_JP hJ hS hat_ hon_))
    refine lv_bipush (v := -4) hx hb dX1_circle_50 ib_m4 ?_
    exact g_iret (F := fun z => ownJ o B z) (Post := fun oc H' => oc = .returned (some (.int (pubS4 σ (nI a_) (nI b_) (nI d_) (nI f_) (j_cirV σ)).1)) ∧ JP G H o B P L σ (pubS4 σ (nI a_) (nI b_) (nI d_) (nI f_) (j_cirV σ)).2 H') hx hb hr hlk hL dX1_circle_52 (pr_post (P := fun τ => JP G H o B P L σ τ _) (by first | with_reducible rfl | (simp only [pubS4, j_cirV, t_idem, c_7, hO.ix i_a, hO.ix i_b, hO.ix i_d, c_16, hO.ix i_f, eq_true c_47, ↓reduceIte, Bool.true_and, Bool.and_true, Bool.false_and, Bool.and_false, Bool.true_or, Bool.or_true, Bool.false_or, Bool.or_false, Bool.not_true, Bool.not_false, decide_true, decide_false, bI_t, bI_f, Bool.false_eq_true, not_true_eq_false, not_false_eq_true, eq_self, reduceCtorEq, Bool.true_eq_false, and_true, true_and, and_false, false_and, or_true, true_or, or_false, false_or]; done) | (simp only [c_7, hO.ix i_a, hO.ix i_b, hO.ix i_d, c_16, hO.ix i_f, ↓reduceIte, Bool.true_and, Bool.and_true, Bool.false_and, Bool.and_false, Bool.true_or, Bool.or_true, Bool.false_or, Bool.or_false, Bool.not_true, Bool.not_false, decide_true, decide_false, bI_t, bI_f, Bool.false_eq_true, not_true_eq_false, not_false_eq_true, eq_self, reduceCtorEq, Bool.true_eq_false, and_true, true_and, and_false, false_and, or_true, true_or, or_false, false_or] at c_47; done) | (simp only [c_7, hO.ix i_a, hO.ix i_b, hO.ix i_d, hO.ix i_f, eq_true c_47, ↓reduceIte, Bool.true_and, Bool.and_true, Bool.false_and, Bool.and_false, Bool.true_or, Bool.or_true, Bool.false_or, Bool.or_false, Bool.not_true, Bool.not_false, decide_true, decide_false, bI_t, bI_f, Bool.false_eq_true, not_true_eq_false, not_false_eq_true, eq_self, reduceCtorEq, Bool.true_eq_false, and_true, true_and, and_false, false_and, or_true, true_or, or_false, false_or] at c_16; done) | (simp only [hO.ix i_a, hO.ix i_b, hO.ix i_d, c_16, hO.ix i_f, eq_true c_47, ↓reduceIte, Bool.true_and, Bool.and_true, Bool.false_and, Bool.and_false, Bool.true_or, Bool.or_true, Bool.false_or, Bool.or_false, Bool.not_true, Bool.not_false, decide_true, decide_false, bI_t, bI_f, Bool.false_eq_true, not_true_eq_false, not_false_eq_true, eq_self, reduceCtorEq, Bool.true_eq_false, and_true, true_and, and_false, false_and, or_true, true_or, or_false, false_or] at c_7; done)) (JP.rf hJ hS))
  refine lv_bipush (v := -2) hx hb dX1_circle_19 ib_m2 ?_
  exact g_iret (F := fun z => ownJ o B z) (Post := fun oc H' => oc = .returned (some (.int (pubS4 σ (nI a_) (nI b_) (nI d_) f (j_cirV σ)).1)) ∧ JP G H o B P L σ (pubS4 σ (nI a_) (nI b_) (nI d_) f (j_cirV σ)).2 H') hx hb hr hlk hL dX1_circle_21 (pr_post (P := fun τ => JP G H o B P L σ τ _) (by first | with_reducible rfl | (simp only [pubS4, j_cirV, t_idem, c_7, hO.ix i_a, hO.ix i_b, hO.ix i_d, c_16, ↓reduceIte, Bool.true_and, Bool.and_true, Bool.false_and, Bool.and_false, Bool.true_or, Bool.or_true, Bool.false_or, Bool.or_false, Bool.not_true, Bool.not_false, decide_true, decide_false, bI_t, bI_f, Bool.false_eq_true, not_true_eq_false, not_false_eq_true, eq_self, reduceCtorEq, Bool.true_eq_false, and_true, true_and, and_false, false_and, or_true, true_or, or_false, false_or]; done) | (simp only [c_7, hO.ix i_a, hO.ix i_b, hO.ix i_d, ↓reduceIte, Bool.true_and, Bool.and_true, Bool.false_and, Bool.and_false, Bool.true_or, Bool.or_true, Bool.false_or, Bool.or_false, Bool.not_true, Bool.not_false, decide_true, decide_false, bI_t, bI_f, Bool.false_eq_true, not_true_eq_false, not_false_eq_true, eq_self, reduceCtorEq, Bool.true_eq_false, and_true, true_and, and_false, false_and, or_true, true_or, or_false, false_or] at c_16; done) | (simp only [hO.ix i_a, hO.ix i_b, hO.ix i_d, c_16, ↓reduceIte, Bool.true_and, Bool.and_true, Bool.false_and, Bool.and_false, Bool.true_or, Bool.or_true, Bool.false_or, Bool.or_false, Bool.not_true, Bool.not_false, decide_true, decide_false, bI_t, bI_f, Bool.false_eq_true, not_true_eq_false, not_false_eq_true, eq_self, reduceCtorEq, Bool.true_eq_false, and_true, true_and, and_false, false_and, or_true, true_or, or_false, false_or] at c_7; done)) (JP.rf hJ hS))
