set_option maxRecDepth 100000

theorem okx_nn {x y : Int32} (hp : OkP (x, y)) : vf_n32 (FP.fdiv (FP.i2f x) 1094713344) := by
  have h := fF_FV (x := x) (by have := hp.x.2; exact this)
  obtain ⟨v, hv, -⟩ := h
  exact hv.nn
theorem oky_nn {x y : Int32} (hp : OkP (x, y)) : vf_n32 (FP.fdiv (FP.i2f y) 1094713344) := by
  have h := fF_FV (x := y) (by have := hp.y.2; exact this)
  obtain ⟨v, hv, -⟩ := h
  exact hv.nn
theorem dX3_init_0 : decode cX3_init 0 = .ok (.aload_n 0, 1) := by decide +kernel
theorem dX3_init_1 : decode cX3_init 1 = .ok (.invokespecial 1, 3) := by decide +kernel
theorem dX3_init_4 : decode cX3_init 4 = .ok (.aload_n 0, 1) := by decide +kernel
theorem dX3_init_5 : decode cX3_init 5 = .ok (.iload_n 1, 1) := by decide +kernel
theorem dX3_init_6 : decode cX3_init 6 = .ok (.putfield 7, 3) := by decide +kernel
theorem dX3_init_9 : decode cX3_init 9 = .ok (.aload_n 0, 1) := by decide +kernel
theorem dX3_init_10 : decode cX3_init 10 = .ok (.iload_n 2, 1) := by decide +kernel
theorem dX3_init_11 : decode cX3_init 11 = .ok (.putfield 13, 3) := by decide +kernel
theorem dX3_init_14 : decode cX3_init 14 = .ok (.aload_n 0, 1) := by decide +kernel
theorem dX3_init_15 : decode cX3_init 15 = .ok (.iload_n 3, 1) := by decide +kernel
theorem dX3_init_16 : decode cX3_init 16 = .ok (.putfield 16, 3) := by decide +kernel
theorem dX3_init_19 : decode cX3_init 19 = .ok (.aload_n 0, 1) := by decide +kernel
theorem dX3_init_20 : decode cX3_init 20 = .ok (.iload_n 2, 1) := by decide +kernel
theorem dX3_init_21 : decode cX3_init 21 = .ok (.i2f, 1) := by decide +kernel
theorem dX3_init_22 : decode cX3_init 22 = .ok (.ldc 19, 2) := by decide +kernel
theorem dX3_init_24 : decode cX3_init 24 = .ok (.fdiv, 1) := by decide +kernel
theorem dX3_init_25 : decode cX3_init 25 = .ok (.putfield 20, 3) := by decide +kernel
theorem dX3_init_28 : decode cX3_init 28 = .ok (.aload_n 0, 1) := by decide +kernel
theorem dX3_init_29 : decode cX3_init 29 = .ok (.iload_n 3, 1) := by decide +kernel
theorem dX3_init_30 : decode cX3_init 30 = .ok (.i2f, 1) := by decide +kernel
theorem dX3_init_31 : decode cX3_init 31 = .ok (.ldc 19, 2) := by decide +kernel
theorem dX3_init_33 : decode cX3_init 33 = .ok (.fdiv, 1) := by decide +kernel
theorem dX3_init_34 : decode cX3_init 34 = .ok (.putfield 24, 3) := by decide +kernel
theorem dX3_init_37 : decode cX3_init 37 = .ok (.return_, 1) := by decide +kernel
set_option maxHeartbeats 800000 in
theorem met_X3_init (l : Launch) (G : GG) {H : Heap} {o : Nat} {n x y : Int32} (h : va_at G.1 clA (o, .inr (1, [.int 0, .int 0, .int 0, .float 0, .float 0])) H) (hp : OkP (x, y)) : GM l yX3_init cX3_init 4 none 1 0 0 12 G H [.ref o, .int n, .int x, .int y] (fun oc H' => oc = .returned none ∧ va_at G.1 clA (o, .inr (1, [.int n, .int x, .int y, .float (fF x), .float (fF y)])) H' ∧ Only o H H') (fun z => z = o) := by
  refine gm_intro pl_X3_init (Nat.le_of_ble_eq_true rfl) ?_
  intro pX eX sX mX belX methX cX ls hE hnm hl
  obtain ⟨hx, hb, hr, hlk, hml, hown, hts, hK, hZ, hH⟩ := hE
  have hl : lv_has ls 4 [(0, .ref o), (1, .int n), (2, .int x), (3, .int y)] := hl
  have hL : ∀ q ∈ ([] : List Loc), (fun z => z = o : Addr → Prop) q.base := fun q h => by cases h
  refine lv_aload_n hx hb dX3_init_0 rfl (lv_at hl 0 rfl) ?_
  refine W.objInit hx hb hown (hts _ q118) (hts _ q68) (hts _ q69) rfl (by rw [hml]; exact hl.1) rfl dX3_init_1 (Nat.le_of_ble_eq_true rfl) (Nat.le_of_ble_eq_true rfl) ?_
  refine W.eq (g2 := F0 mX 4 ls []) rfl ?_
  refine lv_aload_n hx hb dX3_init_4 rfl (lv_at hl 0 rfl) ?_
  refine lv_iload_n hx hb dX3_init_5 rfl (lv_at hl 1 rfl) ?_
  refine pf_X3_7 (F := fun z => z = o) hx hb hts hown hK hnm h rfl rfl (Nat.le_of_ble_eq_true rfl) dX3_init_6 hL rfl (fun H1_ locs h1_ ho1_ hL => ?_)
  refine lv_aload_n hx hb dX3_init_9 rfl (lv_at hl 0 rfl) ?_
  refine lv_iload_n hx hb dX3_init_10 rfl (lv_at hl 2 rfl) ?_
  refine pf_X3_13 (F := fun z => z = o) hx hb hts hown hK hnm h1_ rfl rfl (Nat.le_of_ble_eq_true rfl) dX3_init_11 hL rfl (fun H2_ locs h2_ ho2_ hL => ?_)
  refine lv_aload_n hx hb dX3_init_14 rfl (lv_at hl 0 rfl) ?_
  refine lv_iload_n hx hb dX3_init_15 rfl (lv_at hl 3 rfl) ?_
  refine pf_X3_16 (F := fun z => z = o) hx hb hts hown hK hnm h2_ rfl rfl (Nat.le_of_ble_eq_true rfl) dX3_init_16 hL rfl (fun H3_ locs h3_ ho3_ hL => ?_)
  refine lv_aload_n hx hb dX3_init_19 rfl (lv_at hl 0 rfl) ?_
  refine lv_iload_n hx hb dX3_init_20 rfl (lv_at hl 2 rfl) ?_
  refine lv_i2f hx hb dX3_init_21 ?_
  refine lv_ldcf hx hb hown (hts _ q119) dX3_init_22 ?_
  refine lv_fdiv hx hb dX3_init_24 (okx_nn hp) ?_
  refine lv_topf (fun f_ ef_ => ?_)
  obtain rfl : f_ = fF x := ef_
  refine pf_X3_20 (F := fun z => z = o) hx hb hts hown hK hnm h3_ rfl rfl (Nat.le_of_ble_eq_true rfl) dX3_init_25 hL rfl (fun H4_ locs h4_ ho4_ hL => ?_)
  refine lv_aload_n hx hb dX3_init_28 rfl (lv_at hl 0 rfl) ?_
  refine lv_iload_n hx hb dX3_init_29 rfl (lv_at hl 3 rfl) ?_
  refine lv_i2f hx hb dX3_init_30 ?_
  refine lv_ldcf hx hb hown (hts _ q119) dX3_init_31 ?_
  refine lv_fdiv hx hb dX3_init_33 (oky_nn hp) ?_
  refine lv_topf (fun f_ ef_ => ?_)
  obtain rfl : f_ = fF y := ef_
  refine pf_X3_24 (F := fun z => z = o) hx hb hts hown hK hnm h4_ rfl rfl (Nat.le_of_ble_eq_true rfl) dX3_init_34 hL rfl (fun H5_ locs h5_ ho5_ hL => ?_)
  exact g_vret (F := fun z => z = o) (Post := fun oc H' => oc = .returned none ∧ va_at G.1 clA (o, .inr (1, [.int n, .int x, .int y, .float (fF x), .float (fF y)])) H' ∧ Only o H H') hx hb hr hlk hL dX3_init_37 ⟨rfl, h5_, ((((ho1_.tr ho2_).tr ho3_).tr ho4_).tr ho5_)⟩
theorem dX8_init_0 : decode cX8_init 0 = .ok (.aload_n 0, 1) := by decide +kernel
theorem dX8_init_1 : decode cX8_init 1 = .ok (.invokespecial 1, 3) := by decide +kernel
theorem dX8_init_4 : decode cX8_init 4 = .ok (.aload_n 0, 1) := by decide +kernel
theorem dX8_init_5 : decode cX8_init 5 = .ok (.aload_n 2, 1) := by decide +kernel
theorem dX8_init_6 : decode cX8_init 6 = .ok (.getfield 7, 3) := by decide +kernel
theorem dX8_init_9 : decode cX8_init 9 = .ok (.aload_n 1, 1) := by decide +kernel
theorem dX8_init_10 : decode cX8_init 10 = .ok (.getfield 7, 3) := by decide +kernel
theorem dX8_init_13 : decode cX8_init 13 = .ok (.isub, 1) := by decide +kernel
theorem dX8_init_14 : decode cX8_init 14 = .ok (.i2l, 1) := by decide +kernel
theorem dX8_init_15 : decode cX8_init 15 = .ok (.putfield 13, 3) := by decide +kernel
theorem dX8_init_18 : decode cX8_init 18 = .ok (.aload_n 0, 1) := by decide +kernel
theorem dX8_init_19 : decode cX8_init 19 = .ok (.aload_n 1, 1) := by decide +kernel
theorem dX8_init_20 : decode cX8_init 20 = .ok (.getfield 19, 3) := by decide +kernel
theorem dX8_init_23 : decode cX8_init 23 = .ok (.aload_n 2, 1) := by decide +kernel
theorem dX8_init_24 : decode cX8_init 24 = .ok (.getfield 19, 3) := by decide +kernel
theorem dX8_init_27 : decode cX8_init 27 = .ok (.isub, 1) := by decide +kernel
theorem dX8_init_28 : decode cX8_init 28 = .ok (.i2l, 1) := by decide +kernel
theorem dX8_init_29 : decode cX8_init 29 = .ok (.putfield 22, 3) := by decide +kernel
theorem dX8_init_32 : decode cX8_init 32 = .ok (.aload_n 0, 1) := by decide +kernel
theorem dX8_init_33 : decode cX8_init 33 = .ok (.aload_n 0, 1) := by decide +kernel
theorem dX8_init_34 : decode cX8_init 34 = .ok (.getfield 13, 3) := by decide +kernel
theorem dX8_init_37 : decode cX8_init 37 = .ok (.aload_n 1, 1) := by decide +kernel
theorem dX8_init_38 : decode cX8_init 38 = .ok (.getfield 19, 3) := by decide +kernel
theorem dX8_init_41 : decode cX8_init 41 = .ok (.i2l, 1) := by decide +kernel
theorem dX8_init_42 : decode cX8_init 42 = .ok (.lmul, 1) := by decide +kernel
theorem dX8_init_43 : decode cX8_init 43 = .ok (.aload_n 0, 1) := by decide +kernel
theorem dX8_init_44 : decode cX8_init 44 = .ok (.getfield 22, 3) := by decide +kernel
theorem dX8_init_47 : decode cX8_init 47 = .ok (.aload_n 1, 1) := by decide +kernel
theorem dX8_init_48 : decode cX8_init 48 = .ok (.getfield 7, 3) := by decide +kernel
theorem dX8_init_51 : decode cX8_init 51 = .ok (.i2l, 1) := by decide +kernel
theorem dX8_init_52 : decode cX8_init 52 = .ok (.lmul, 1) := by decide +kernel
theorem dX8_init_53 : decode cX8_init 53 = .ok (.ladd, 1) := by decide +kernel
theorem dX8_init_54 : decode cX8_init 54 = .ok (.putfield 25, 3) := by decide +kernel
theorem dX8_init_57 : decode cX8_init 57 = .ok (.return_, 1) := by decide +kernel
set_option maxHeartbeats 800000 in
theorem met_X8_init (l : Launch) (G : GG) {H : Heap} {o : Nat} {a b : Nat} {n k : Int32} {p q : P2} (h : va_at G.1 clA (o, .inr (2, [.long 0, .long 0, .long 0])) H) (ha : PtAt G H a n p) (hb' : PtAt G H b k q) (hne_a : a ≠ o) (hne_b : b ≠ o) : GM l yX8_init cX8_init 3 none 1 0 0 12 G H [.ref o, .ref a, .ref b] (fun oc H' => oc = .returned none ∧ va_at G.1 clA (o, .inr (2, [.long (lnOf p q).1, .long (lnOf p q).2.1, .long (lnOf p q).2.2])) H' ∧ Only o H H') (fun z => z = o) := by
  refine gm_intro pl_X8_init (Nat.le_of_ble_eq_true rfl) ?_
  intro pX eX sX mX belX methX cX ls hE hnm hl
  obtain ⟨hx, hb, hr, hlk, hml, hown, hts, hK, hZ, hH⟩ := hE
  have hl : lv_has ls 3 [(0, .ref o), (1, .ref a), (2, .ref b)] := hl
  have hL : ∀ q ∈ ([] : List Loc), (fun z => z = o : Addr → Prop) q.base := fun q h => by cases h
  refine lv_aload_n hx hb dX8_init_0 rfl (lv_at hl 0 rfl) ?_
  refine W.objInit hx hb hown (hts _ q397) (hts _ q68) (hts _ q69) rfl (by rw [hml]; exact hl.1) rfl dX8_init_1 (Nat.le_of_ble_eq_true rfl) (Nat.le_of_ble_eq_true rfl) ?_
  refine W.eq (g2 := F0 mX 4 ls []) rfl ?_
  refine lv_aload_n hx hb dX8_init_4 rfl (lv_at hl 0 rfl) ?_
  refine lv_aload_n hx hb dX8_init_5 rfl (lv_at hl 2 rfl) ?_
  refine gf_X8_7 hx hb hts hown hK hb' rfl dX8_init_6 ?_
  refine lv_aload_n hx hb dX8_init_9 rfl (lv_at hl 1 rfl) ?_
  refine gf_X8_7 hx hb hts hown hK ha rfl dX8_init_10 ?_
  refine lv_isub hx hb dX8_init_13 ?_
  refine lv_i2l hx hb dX8_init_14 rfl ?_
  refine pf_X8_13 (F := fun z => z = o) hx hb hts hown hK hnm h rfl rfl (Nat.le_of_ble_eq_true rfl) dX8_init_15 hL rfl (fun H1_ locs h1_ ho1_ hL => ?_)
  have h2_ := at_only ha ho1_ hne_a
  have h3_ := at_only hb' ho1_ hne_b
  refine lv_aload_n hx hb dX8_init_18 rfl (lv_at hl 0 rfl) ?_
  refine lv_aload_n hx hb dX8_init_19 rfl (lv_at hl 1 rfl) ?_
  refine gf_X8_19 hx hb hts hown hK h2_ rfl dX8_init_20 ?_
  refine lv_aload_n hx hb dX8_init_23 rfl (lv_at hl 2 rfl) ?_
  refine gf_X8_19 hx hb hts hown hK h3_ rfl dX8_init_24 ?_
  refine lv_isub hx hb dX8_init_27 ?_
  refine lv_i2l hx hb dX8_init_28 rfl ?_
  refine pf_X8_22 (F := fun z => z = o) hx hb hts hown hK hnm h1_ rfl rfl (Nat.le_of_ble_eq_true rfl) dX8_init_29 hL rfl (fun H4_ locs h4_ ho4_ hL => ?_)
  have h5_ := at_only h2_ ho4_ hne_a
  have h6_ := at_only h3_ ho4_ hne_b
  refine lv_aload_n hx hb dX8_init_32 rfl (lv_at hl 0 rfl) ?_
  refine lv_aload_n hx hb dX8_init_33 rfl (lv_at hl 0 rfl) ?_
  refine gf_X8_13 hx hb hts hown hK h4_ rfl dX8_init_34 ?_
  refine lv_aload_n hx hb dX8_init_37 rfl (lv_at hl 1 rfl) ?_
  refine gf_X8_19 hx hb hts hown hK h5_ rfl dX8_init_38 ?_
  refine lv_i2l hx hb dX8_init_41 rfl ?_
  refine lv_lmul hx hb dX8_init_42 ?_
  refine lv_aload_n hx hb dX8_init_43 rfl (lv_at hl 0 rfl) ?_
  refine gf_X8_22 hx hb hts hown hK h4_ rfl dX8_init_44 ?_
  refine lv_aload_n hx hb dX8_init_47 rfl (lv_at hl 1 rfl) ?_
  refine gf_X8_7 hx hb hts hown hK h5_ rfl dX8_init_48 ?_
  refine lv_i2l hx hb dX8_init_51 rfl ?_
  refine lv_lmul hx hb dX8_init_52 ?_
  refine lv_ladd hx hb dX8_init_53 ?_
  refine pf_X8_25 (F := fun z => z = o) hx hb hts hown hK hnm h4_ rfl rfl (Nat.le_of_ble_eq_true rfl) dX8_init_54 hL rfl (fun H7_ locs h7_ ho7_ hL => ?_)
  have h8_ := at_only h5_ ho7_ hne_a
  have h9_ := at_only h6_ ho7_ hne_b
  exact g_vret (F := fun z => z = o) (Post := fun oc H' => oc = .returned none ∧ va_at G.1 clA (o, .inr (2, [.long (lnOf p q).1, .long (lnOf p q).2.1, .long (lnOf p q).2.2])) H' ∧ Only o H H') hx hb hr hlk hL dX8_init_57 ⟨rfl, h7_, ((ho1_.tr ho4_).tr ho7_)⟩
theorem dX6_init_0 : decode cX6_init 0 = .ok (.aload_n 0, 1) := by decide +kernel
theorem dX6_init_1 : decode cX6_init 1 = .ok (.invokespecial 1, 3) := by decide +kernel
theorem dX6_init_4 : decode cX6_init 4 = .ok (.aload_n 0, 1) := by decide +kernel
theorem dX6_init_5 : decode cX6_init 5 = .ok (.aload_n 1, 1) := by decide +kernel
theorem dX6_init_6 : decode cX6_init 6 = .ok (.putfield 7, 3) := by decide +kernel
theorem dX6_init_9 : decode cX6_init 9 = .ok (.return_, 1) := by decide +kernel
set_option maxHeartbeats 800000 in
theorem met_X6_init (l : Launch) (G : GG) {H : Heap} {o : Nat} {a : Nat} (h : va_at G.1 clA (o, .inr (4, [.null])) H)  : GM l yX6_init cX6_init 2 none 1 0 0 12 G H [.ref o, .ref a] (fun oc H' => oc = .returned none ∧ va_at G.1 clA (o, .inr (4, [.ref a])) H' ∧ Only o H H') (fun z => z = o) := by
  refine gm_intro pl_X6_init (Nat.le_of_ble_eq_true rfl) ?_
  intro pX eX sX mX belX methX cX ls hE hnm hl
  obtain ⟨hx, hb, hr, hlk, hml, hown, hts, hK, hZ, hH⟩ := hE
  have hl : lv_has ls 2 [(0, .ref o), (1, .ref a)] := hl
  have hL : ∀ q ∈ ([] : List Loc), (fun z => z = o : Addr → Prop) q.base := fun q h => by cases h
  refine lv_aload_n hx hb dX6_init_0 rfl (lv_at hl 0 rfl) ?_
  refine W.objInit hx hb hown (hts _ q337) (hts _ q68) (hts _ q69) rfl (by rw [hml]; exact hl.1) rfl dX6_init_1 (Nat.le_of_ble_eq_true rfl) (Nat.le_of_ble_eq_true rfl) ?_
  refine W.eq (g2 := F0 mX 4 ls []) rfl ?_
  refine lv_aload_n hx hb dX6_init_4 rfl (lv_at hl 0 rfl) ?_
  refine lv_aload_n hx hb dX6_init_5 rfl (lv_at hl 1 rfl) ?_
  refine pf_X6_7 (F := fun z => z = o) hx hb hts hown hK hnm h rfl rfl (Nat.le_of_ble_eq_true rfl) dX6_init_6 hL rfl (fun H1_ locs h1_ ho1_ hL => ?_)
  exact g_vret (F := fun z => z = o) (Post := fun oc H' => oc = .returned none ∧ va_at G.1 clA (o, .inr (4, [.ref a])) H' ∧ Only o H H') hx hb hr hlk hL dX6_init_9 ⟨rfl, h1_, ho1_⟩
theorem dX7_init_0 : decode cX7_init 0 = .ok (.aload_n 0, 1) := by decide +kernel
theorem dX7_init_1 : decode cX7_init 1 = .ok (.invokespecial 1, 3) := by decide +kernel
theorem dX7_init_4 : decode cX7_init 4 = .ok (.return_, 1) := by decide +kernel
set_option maxHeartbeats 800000 in
theorem met_X7_init (l : Launch) (G : GG) {H : Heap} {o : Nat}  (h : va_at G.1 clA (o, .inr (5, [])) H)  : GM l yX7_init cX7_init 1 none 1 0 0 12 G H [.ref o] (fun oc H' => oc = .returned none ∧ va_at G.1 clA (o, .inr (5, [])) H' ∧ Only o H H') (fun z => z = o) := by
  refine gm_intro pl_X7_init (Nat.le_of_ble_eq_true rfl) ?_
  intro pX eX sX mX belX methX cX ls hE hnm hl
  obtain ⟨hx, hb, hr, hlk, hml, hown, hts, hK, hZ, hH⟩ := hE
  have hl : lv_has ls 1 [(0, .ref o)] := hl
  have hL : ∀ q ∈ ([] : List Loc), (fun z => z = o : Addr → Prop) q.base := fun q h => by cases h
  refine lv_aload_n hx hb dX7_init_0 rfl (lv_at hl 0 rfl) ?_
  refine W.objInit hx hb hown (hts _ q387) (hts _ q68) (hts _ q69) rfl (by rw [hml]; exact hl.1) rfl dX7_init_1 (Nat.le_of_ble_eq_true rfl) (Nat.le_of_ble_eq_true rfl) ?_
  refine W.eq (g2 := F0 mX 4 ls []) rfl ?_
  exact g_vret (F := fun z => z = o) (Post := fun oc H' => oc = .returned none ∧ va_at G.1 clA (o, .inr (5, [])) H' ∧ Only o H H') hx hb hr hlk hL dX7_init_4 ⟨rfl, h, Only.rf⟩
theorem dX8_isParallel_0 : decode cX8_isParallel 0 = .ok (.aload_n 0, 1) := by decide +kernel
theorem dX8_isParallel_1 : decode cX8_isParallel 1 = .ok (.getfield 13, 3) := by decide +kernel
theorem dX8_isParallel_4 : decode cX8_isParallel 4 = .ok (.aload_n 1, 1) := by decide +kernel
theorem dX8_isParallel_5 : decode cX8_isParallel 5 = .ok (.getfield 22, 3) := by decide +kernel
theorem dX8_isParallel_8 : decode cX8_isParallel 8 = .ok (.lmul, 1) := by decide +kernel
theorem dX8_isParallel_9 : decode cX8_isParallel 9 = .ok (.aload_n 1, 1) := by decide +kernel
theorem dX8_isParallel_10 : decode cX8_isParallel 10 = .ok (.getfield 13, 3) := by decide +kernel
theorem dX8_isParallel_13 : decode cX8_isParallel 13 = .ok (.aload_n 0, 1) := by decide +kernel
theorem dX8_isParallel_14 : decode cX8_isParallel 14 = .ok (.getfield 22, 3) := by decide +kernel
theorem dX8_isParallel_17 : decode cX8_isParallel 17 = .ok (.lmul, 1) := by decide +kernel
theorem dX8_isParallel_18 : decode cX8_isParallel 18 = .ok (.lcmp, 1) := by decide +kernel
theorem dX8_isParallel_19 : decode cX8_isParallel 19 = .ok (.ifCond .ne 7, 3) := by decide +kernel
theorem dX8_isParallel_22 : decode cX8_isParallel 22 = .ok (.iconst 1, 1) := by decide +kernel
theorem dX8_isParallel_23 : decode cX8_isParallel 23 = .ok (.goto 4, 3) := by decide +kernel
theorem dX8_isParallel_26 : decode cX8_isParallel 26 = .ok (.iconst 0, 1) := by decide +kernel
theorem dX8_isParallel_27 : decode cX8_isParallel 27 = .ok (.ireturn, 1) := by decide +kernel
set_option maxHeartbeats 4000000 in
theorem met_X8_isParallel (l : Launch) (G : GG) {H : Heap} {a b : Nat} {p q : L3} (ha : LnAt G H a p) (hb' : LnAt G H b q) : PM l yX8_isParallel cX8_isParallel 2 (some .boolean) 0 0 G H [.ref a, .ref b] (some (.int (bI (j_par p q)))) := by
  refine pm_intro pl_X8_isParallel (Nat.le_of_ble_eq_true rfl) ?_
  intro pX eX sX mX belX methX cX ls hE hnm hl
  obtain ⟨hx, hb, hr, hlk, hml, hown, hts, hK, hZ, hH⟩ := hE
  have hl : lv_has ls 2 [(0, .ref a), (1, .ref b)] := hl
  refine lv_aload_n hx hb dX8_isParallel_0 rfl (lv_at hl 0 rfl) ?_
  refine gf_X8_13 hx hb hts hown hK ha rfl dX8_isParallel_1 ?_
  refine lv_aload_n hx hb dX8_isParallel_4 rfl (lv_at hl 1 rfl) ?_
  refine gf_X8_22 hx hb hts hown hK hb' rfl dX8_isParallel_5 ?_
  refine lv_lmul hx hb dX8_isParallel_8 ?_
  refine lv_aload_n hx hb dX8_isParallel_9 rfl (lv_at hl 1 rfl) ?_
  refine gf_X8_13 hx hb hts hown hK hb' rfl dX8_isParallel_10 ?_
  refine lv_aload_n hx hb dX8_isParallel_13 rfl (lv_at hl 0 rfl) ?_
  refine gf_X8_22 hx hb hts hown hK ha rfl dX8_isParallel_14 ?_
  refine lv_lmul hx hb dX8_isParallel_17 ?_
  refine lc_ne (tgt := 26) hx hb dX8_isParallel_18 dX8_isParallel_19 rfl (fun c_18 => ?_) (fun c_18 => ?_)
  · skip
    refine lv_iconst (v := 0) hx hb dX8_isParallel_26 ic_0 ?_
    exact pm_zret hx hb hr hlk hH dX8_isParallel_27 (by first | with_reducible rfl | (simp only [j_par, c_18, ↓reduceIte, Bool.true_and, Bool.and_true, Bool.false_and, Bool.and_false, Bool.true_or, Bool.or_true, Bool.false_or, Bool.or_false, Bool.not_true, Bool.not_false, decide_true, decide_false, bI_t, bI_f, Bool.false_eq_true, not_true_eq_false, not_false_eq_true, eq_self, reduceCtorEq, Bool.true_eq_false, and_true, true_and, and_false, false_and, or_true, true_or, or_false, false_or]; done))
  refine lv_iconst (v := 1) hx hb dX8_isParallel_22 ic_1 ?_
  refine lv_goto (tgt := 27) hx hb dX8_isParallel_23 rfl ?_
  exact pm_zret hx hb hr hlk hH dX8_isParallel_27 (by first | with_reducible rfl | (simp only [j_par, eq_true c_18, ↓reduceIte, Bool.true_and, Bool.and_true, Bool.false_and, Bool.and_false, Bool.true_or, Bool.or_true, Bool.false_or, Bool.or_false, Bool.not_true, Bool.not_false, decide_true, decide_false, bI_t, bI_f, Bool.false_eq_true, not_true_eq_false, not_false_eq_true, eq_self, reduceCtorEq, Bool.true_eq_false, and_true, true_and, and_false, false_and, or_true, true_or, or_false, false_or]; done))
theorem dX8_isSame_0 : decode cX8_isSame 0 = .ok (.aload_n 0, 1) := by decide +kernel
theorem dX8_isSame_1 : decode cX8_isSame 1 = .ok (.aload_n 1, 1) := by decide +kernel
theorem dX8_isSame_2 : decode cX8_isSame 2 = .ok (.invokevirtual 28, 3) := by decide +kernel
theorem dX8_isSame_5 : decode cX8_isSame 5 = .ok (.ifCond .eq 51, 3) := by decide +kernel
theorem dX8_isSame_8 : decode cX8_isSame 8 = .ok (.aload_n 0, 1) := by decide +kernel
theorem dX8_isSame_9 : decode cX8_isSame 9 = .ok (.getfield 13, 3) := by decide +kernel
theorem dX8_isSame_12 : decode cX8_isSame 12 = .ok (.aload_n 1, 1) := by decide +kernel
theorem dX8_isSame_13 : decode cX8_isSame 13 = .ok (.getfield 25, 3) := by decide +kernel
theorem dX8_isSame_16 : decode cX8_isSame 16 = .ok (.lmul, 1) := by decide +kernel
theorem dX8_isSame_17 : decode cX8_isSame 17 = .ok (.aload_n 1, 1) := by decide +kernel
theorem dX8_isSame_18 : decode cX8_isSame 18 = .ok (.getfield 13, 3) := by decide +kernel
theorem dX8_isSame_21 : decode cX8_isSame 21 = .ok (.aload_n 0, 1) := by decide +kernel
theorem dX8_isSame_22 : decode cX8_isSame 22 = .ok (.getfield 25, 3) := by decide +kernel
theorem dX8_isSame_25 : decode cX8_isSame 25 = .ok (.lmul, 1) := by decide +kernel
theorem dX8_isSame_26 : decode cX8_isSame 26 = .ok (.lcmp, 1) := by decide +kernel
theorem dX8_isSame_27 : decode cX8_isSame 27 = .ok (.ifCond .ne 29, 3) := by decide +kernel
theorem dX8_isSame_30 : decode cX8_isSame 30 = .ok (.aload_n 0, 1) := by decide +kernel
theorem dX8_isSame_31 : decode cX8_isSame 31 = .ok (.getfield 22, 3) := by decide +kernel
theorem dX8_isSame_34 : decode cX8_isSame 34 = .ok (.aload_n 1, 1) := by decide +kernel
theorem dX8_isSame_35 : decode cX8_isSame 35 = .ok (.getfield 25, 3) := by decide +kernel
theorem dX8_isSame_38 : decode cX8_isSame 38 = .ok (.lmul, 1) := by decide +kernel
theorem dX8_isSame_39 : decode cX8_isSame 39 = .ok (.aload_n 1, 1) := by decide +kernel
theorem dX8_isSame_40 : decode cX8_isSame 40 = .ok (.getfield 22, 3) := by decide +kernel
theorem dX8_isSame_43 : decode cX8_isSame 43 = .ok (.aload_n 0, 1) := by decide +kernel
theorem dX8_isSame_44 : decode cX8_isSame 44 = .ok (.getfield 25, 3) := by decide +kernel
theorem dX8_isSame_47 : decode cX8_isSame 47 = .ok (.lmul, 1) := by decide +kernel
theorem dX8_isSame_48 : decode cX8_isSame 48 = .ok (.lcmp, 1) := by decide +kernel
theorem dX8_isSame_49 : decode cX8_isSame 49 = .ok (.ifCond .ne 7, 3) := by decide +kernel
theorem dX8_isSame_52 : decode cX8_isSame 52 = .ok (.iconst 1, 1) := by decide +kernel
theorem dX8_isSame_53 : decode cX8_isSame 53 = .ok (.goto 4, 3) := by decide +kernel
theorem dX8_isSame_56 : decode cX8_isSame 56 = .ok (.iconst 0, 1) := by decide +kernel
theorem dX8_isSame_57 : decode cX8_isSame 57 = .ok (.ireturn, 1) := by decide +kernel
set_option maxHeartbeats 4000000 in
theorem met_X8_isSame (l : Launch) (G : GG) {H : Heap} {a b : Nat} {p q : L3} (ha : LnAt G H a p) (hb' : LnAt G H b q) : PM l yX8_isSame cX8_isSame 2 (some .boolean) 1 21 G H [.ref a, .ref b] (some (.int (bI (j_same p q)))) := by
  refine pm_intro pl_X8_isSame (Nat.le_of_ble_eq_true rfl) ?_
  intro pX eX sX mX belX methX cX ls hE hnm hl
  obtain ⟨hx, hb, hr, hlk, hml, hown, hts, hK, hZ, hH⟩ := hE
  have hl : lv_has ls 2 [(0, .ref a), (1, .ref b)] := hl
  refine lv_aload_n hx hb dX8_isSame_0 rfl (lv_at hl 0 rfl) ?_
  refine lv_aload_n hx hb dX8_isSame_1 rfl (lv_at hl 1 rfl) ?_
  refine p_callV (As := [.ref _]) hx hb hml hown hts hK hZ (met_X8_isParallel l G ha hb') q424 q425 q426 q60 q427 hv_X8_isParallel rfl ha rfl (by decide) hl.1 rfl (Nat.le_of_ble_eq_true rfl) dX8_isSame_2 ⟨Nat.zero_le _, Nat.zero_le _⟩ ?_
  refine b_ifeq (tgt := 56) hx hb dX8_isSame_5 rfl (fun c_5 => ?_) (fun c_5 => ?_)
  · skip
    refine lv_iconst (v := 0) hx hb dX8_isSame_56 ic_0 ?_
    exact pm_zret hx hb hr hlk hH dX8_isSame_57 (by first | with_reducible rfl | (simp only [j_same, c_5, ↓reduceIte, Bool.true_and, Bool.and_true, Bool.false_and, Bool.and_false, Bool.true_or, Bool.or_true, Bool.false_or, Bool.or_false, Bool.not_true, Bool.not_false, decide_true, decide_false, bI_t, bI_f, Bool.false_eq_true, not_true_eq_false, not_false_eq_true, eq_self, reduceCtorEq, Bool.true_eq_false, and_true, true_and, and_false, false_and, or_true, true_or, or_false, false_or]; done))
  refine lv_aload_n hx hb dX8_isSame_8 rfl (lv_at hl 0 rfl) ?_
  refine gf_X8_13 hx hb hts hown hK ha rfl dX8_isSame_9 ?_
  refine lv_aload_n hx hb dX8_isSame_12 rfl (lv_at hl 1 rfl) ?_
  refine gf_X8_25 hx hb hts hown hK hb' rfl dX8_isSame_13 ?_
  refine lv_lmul hx hb dX8_isSame_16 ?_
  refine lv_aload_n hx hb dX8_isSame_17 rfl (lv_at hl 1 rfl) ?_
  refine gf_X8_13 hx hb hts hown hK hb' rfl dX8_isSame_18 ?_
  refine lv_aload_n hx hb dX8_isSame_21 rfl (lv_at hl 0 rfl) ?_
  refine gf_X8_25 hx hb hts hown hK ha rfl dX8_isSame_22 ?_
  refine lv_lmul hx hb dX8_isSame_25 ?_
  refine lc_ne (tgt := 56) hx hb dX8_isSame_26 dX8_isSame_27 rfl (fun c_26 => ?_) (fun c_26 => ?_)
  · skip
    refine lv_iconst (v := 0) hx hb dX8_isSame_56 ic_0 ?_
    exact pm_zret hx hb hr hlk hH dX8_isSame_57 (by first | with_reducible rfl | (simp only [j_same, c_5, c_26, ↓reduceIte, Bool.true_and, Bool.and_true, Bool.false_and, Bool.and_false, Bool.true_or, Bool.or_true, Bool.false_or, Bool.or_false, Bool.not_true, Bool.not_false, decide_true, decide_false, bI_t, bI_f, Bool.false_eq_true, not_true_eq_false, not_false_eq_true, eq_self, reduceCtorEq, Bool.true_eq_false, and_true, true_and, and_false, false_and, or_true, true_or, or_false, false_or]; done) | (simp only [c_5, ↓reduceIte, Bool.true_and, Bool.and_true, Bool.false_and, Bool.and_false, Bool.true_or, Bool.or_true, Bool.false_or, Bool.or_false, Bool.not_true, Bool.not_false, decide_true, decide_false, bI_t, bI_f, Bool.false_eq_true, not_true_eq_false, not_false_eq_true, eq_self, reduceCtorEq, Bool.true_eq_false, and_true, true_and, and_false, false_and, or_true, true_or, or_false, false_or] at c_26; done) | (simp only [c_26, ↓reduceIte, Bool.true_and, Bool.and_true, Bool.false_and, Bool.and_false, Bool.true_or, Bool.or_true, Bool.false_or, Bool.or_false, Bool.not_true, Bool.not_false, decide_true, decide_false, bI_t, bI_f, Bool.false_eq_true, not_true_eq_false, not_false_eq_true, eq_self, reduceCtorEq, Bool.true_eq_false, and_true, true_and, and_false, false_and, or_true, true_or, or_false, false_or] at c_5; done))
  refine lv_aload_n hx hb dX8_isSame_30 rfl (lv_at hl 0 rfl) ?_
  refine gf_X8_22 hx hb hts hown hK ha rfl dX8_isSame_31 ?_
  refine lv_aload_n hx hb dX8_isSame_34 rfl (lv_at hl 1 rfl) ?_
  refine gf_X8_25 hx hb hts hown hK hb' rfl dX8_isSame_35 ?_
  refine lv_lmul hx hb dX8_isSame_38 ?_
  refine lv_aload_n hx hb dX8_isSame_39 rfl (lv_at hl 1 rfl) ?_
  refine gf_X8_22 hx hb hts hown hK hb' rfl dX8_isSame_40 ?_
  refine lv_aload_n hx hb dX8_isSame_43 rfl (lv_at hl 0 rfl) ?_
  refine gf_X8_25 hx hb hts hown hK ha rfl dX8_isSame_44 ?_
  refine lv_lmul hx hb dX8_isSame_47 ?_
  refine lc_ne (tgt := 56) hx hb dX8_isSame_48 dX8_isSame_49 rfl (fun c_48 => ?_) (fun c_48 => ?_)
  · skip
    refine lv_iconst (v := 0) hx hb dX8_isSame_56 ic_0 ?_
    exact pm_zret hx hb hr hlk hH dX8_isSame_57 (by first | with_reducible rfl | (simp only [j_same, c_5, eq_true c_26, c_48, ↓reduceIte, Bool.true_and, Bool.and_true, Bool.false_and, Bool.and_false, Bool.true_or, Bool.or_true, Bool.false_or, Bool.or_false, Bool.not_true, Bool.not_false, decide_true, decide_false, bI_t, bI_f, Bool.false_eq_true, not_true_eq_false, not_false_eq_true, eq_self, reduceCtorEq, Bool.true_eq_false, and_true, true_and, and_false, false_and, or_true, true_or, or_false, false_or]; done) | (simp only [c_5, eq_true c_26, ↓reduceIte, Bool.true_and, Bool.and_true, Bool.false_and, Bool.and_false, Bool.true_or, Bool.or_true, Bool.false_or, Bool.or_false, Bool.not_true, Bool.not_false, decide_true, decide_false, bI_t, bI_f, Bool.false_eq_true, not_true_eq_false, not_false_eq_true, eq_self, reduceCtorEq, Bool.true_eq_false, and_true, true_and, and_false, false_and, or_true, true_or, or_false, false_or] at c_48; done) | (simp only [c_5, c_48, ↓reduceIte, Bool.true_and, Bool.and_true, Bool.false_and, Bool.and_false, Bool.true_or, Bool.or_true, Bool.false_or, Bool.or_false, Bool.not_true, Bool.not_false, decide_true, decide_false, bI_t, bI_f, Bool.false_eq_true, not_true_eq_false, not_false_eq_true, eq_self, reduceCtorEq, Bool.true_eq_false, and_true, true_and, and_false, false_and, or_true, true_or, or_false, false_or] at c_26; done) | (simp only [eq_true c_26, c_48, ↓reduceIte, Bool.true_and, Bool.and_true, Bool.false_and, Bool.and_false, Bool.true_or, Bool.or_true, Bool.false_or, Bool.or_false, Bool.not_true, Bool.not_false, decide_true, decide_false, bI_t, bI_f, Bool.false_eq_true, not_true_eq_false, not_false_eq_true, eq_self, reduceCtorEq, Bool.true_eq_false, and_true, true_and, and_false, false_and, or_true, true_or, or_false, false_or] at c_5; done))
  refine lv_iconst (v := 1) hx hb dX8_isSame_52 ic_1 ?_
  refine lv_goto (tgt := 57) hx hb dX8_isSame_53 rfl ?_
  exact pm_zret hx hb hr hlk hH dX8_isSame_57 (by first | with_reducible rfl | (simp only [j_same, c_5, eq_true c_26, eq_true c_48, ↓reduceIte, Bool.true_and, Bool.and_true, Bool.false_and, Bool.and_false, Bool.true_or, Bool.or_true, Bool.false_or, Bool.or_false, Bool.not_true, Bool.not_false, decide_true, decide_false, bI_t, bI_f, Bool.false_eq_true, not_true_eq_false, not_false_eq_true, eq_self, reduceCtorEq, Bool.true_eq_false, and_true, true_and, and_false, false_and, or_true, true_or, or_false, false_or]; done) | (simp only [c_5, eq_true c_26, ↓reduceIte, Bool.true_and, Bool.and_true, Bool.false_and, Bool.and_false, Bool.true_or, Bool.or_true, Bool.false_or, Bool.or_false, Bool.not_true, Bool.not_false, decide_true, decide_false, bI_t, bI_f, Bool.false_eq_true, not_true_eq_false, not_false_eq_true, eq_self, reduceCtorEq, Bool.true_eq_false, and_true, true_and, and_false, false_and, or_true, true_or, or_false, false_or] at c_48; done) | (simp only [c_5, eq_true c_48, ↓reduceIte, Bool.true_and, Bool.and_true, Bool.false_and, Bool.and_false, Bool.true_or, Bool.or_true, Bool.false_or, Bool.or_false, Bool.not_true, Bool.not_false, decide_true, decide_false, bI_t, bI_f, Bool.false_eq_true, not_true_eq_false, not_false_eq_true, eq_self, reduceCtorEq, Bool.true_eq_false, and_true, true_and, and_false, false_and, or_true, true_or, or_false, false_or] at c_26; done) | (simp only [eq_true c_26, eq_true c_48, ↓reduceIte, Bool.true_and, Bool.and_true, Bool.false_and, Bool.and_false, Bool.true_or, Bool.or_true, Bool.false_or, Bool.or_false, Bool.not_true, Bool.not_false, decide_true, decide_false, bI_t, bI_f, Bool.false_eq_true, not_true_eq_false, not_false_eq_true, eq_self, reduceCtorEq, Bool.true_eq_false, and_true, true_and, and_false, false_and, or_true, true_or, or_false, false_or] at c_5; done))
theorem dX8_goesBy_0 : decode cX8_goesBy 0 = .ok (.aload_n 0, 1) := by decide +kernel
theorem dX8_goesBy_1 : decode cX8_goesBy 1 = .ok (.getfield 13, 3) := by decide +kernel
theorem dX8_goesBy_4 : decode cX8_goesBy 4 = .ok (.aload_n 1, 1) := by decide +kernel
theorem dX8_goesBy_5 : decode cX8_goesBy 5 = .ok (.getfield 25, 3) := by decide +kernel
theorem dX8_goesBy_8 : decode cX8_goesBy 8 = .ok (.aload_n 2, 1) := by decide +kernel
theorem dX8_goesBy_9 : decode cX8_goesBy 9 = .ok (.getfield 22, 3) := by decide +kernel
theorem dX8_goesBy_12 : decode cX8_goesBy 12 = .ok (.lmul, 1) := by decide +kernel
theorem dX8_goesBy_13 : decode cX8_goesBy 13 = .ok (.aload_n 2, 1) := by decide +kernel
theorem dX8_goesBy_14 : decode cX8_goesBy 14 = .ok (.getfield 25, 3) := by decide +kernel
theorem dX8_goesBy_17 : decode cX8_goesBy 17 = .ok (.aload_n 1, 1) := by decide +kernel
theorem dX8_goesBy_18 : decode cX8_goesBy 18 = .ok (.getfield 22, 3) := by decide +kernel
theorem dX8_goesBy_21 : decode cX8_goesBy 21 = .ok (.lmul, 1) := by decide +kernel
theorem dX8_goesBy_22 : decode cX8_goesBy 22 = .ok (.lsub, 1) := by decide +kernel
theorem dX8_goesBy_23 : decode cX8_goesBy 23 = .ok (.lmul, 1) := by decide +kernel
theorem dX8_goesBy_24 : decode cX8_goesBy 24 = .ok (.aload_n 0, 1) := by decide +kernel
theorem dX8_goesBy_25 : decode cX8_goesBy 25 = .ok (.getfield 22, 3) := by decide +kernel
theorem dX8_goesBy_28 : decode cX8_goesBy 28 = .ok (.aload_n 1, 1) := by decide +kernel
theorem dX8_goesBy_29 : decode cX8_goesBy 29 = .ok (.getfield 13, 3) := by decide +kernel
theorem dX8_goesBy_32 : decode cX8_goesBy 32 = .ok (.aload_n 2, 1) := by decide +kernel
theorem dX8_goesBy_33 : decode cX8_goesBy 33 = .ok (.getfield 25, 3) := by decide +kernel
theorem dX8_goesBy_36 : decode cX8_goesBy 36 = .ok (.lmul, 1) := by decide +kernel
theorem dX8_goesBy_37 : decode cX8_goesBy 37 = .ok (.aload_n 2, 1) := by decide +kernel
theorem dX8_goesBy_38 : decode cX8_goesBy 38 = .ok (.getfield 13, 3) := by decide +kernel
theorem dX8_goesBy_41 : decode cX8_goesBy 41 = .ok (.aload_n 1, 1) := by decide +kernel
theorem dX8_goesBy_42 : decode cX8_goesBy 42 = .ok (.getfield 25, 3) := by decide +kernel
theorem dX8_goesBy_45 : decode cX8_goesBy 45 = .ok (.lmul, 1) := by decide +kernel
theorem dX8_goesBy_46 : decode cX8_goesBy 46 = .ok (.lsub, 1) := by decide +kernel
theorem dX8_goesBy_47 : decode cX8_goesBy 47 = .ok (.lmul, 1) := by decide +kernel
theorem dX8_goesBy_48 : decode cX8_goesBy 48 = .ok (.ladd, 1) := by decide +kernel
theorem dX8_goesBy_49 : decode cX8_goesBy 49 = .ok (.aload_n 0, 1) := by decide +kernel
theorem dX8_goesBy_50 : decode cX8_goesBy 50 = .ok (.getfield 25, 3) := by decide +kernel
theorem dX8_goesBy_53 : decode cX8_goesBy 53 = .ok (.aload_n 1, 1) := by decide +kernel
theorem dX8_goesBy_54 : decode cX8_goesBy 54 = .ok (.getfield 13, 3) := by decide +kernel
theorem dX8_goesBy_57 : decode cX8_goesBy 57 = .ok (.aload_n 2, 1) := by decide +kernel
theorem dX8_goesBy_58 : decode cX8_goesBy 58 = .ok (.getfield 22, 3) := by decide +kernel
theorem dX8_goesBy_61 : decode cX8_goesBy 61 = .ok (.lmul, 1) := by decide +kernel
theorem dX8_goesBy_62 : decode cX8_goesBy 62 = .ok (.aload_n 2, 1) := by decide +kernel
theorem dX8_goesBy_63 : decode cX8_goesBy 63 = .ok (.getfield 13, 3) := by decide +kernel
theorem dX8_goesBy_66 : decode cX8_goesBy 66 = .ok (.aload_n 1, 1) := by decide +kernel
theorem dX8_goesBy_67 : decode cX8_goesBy 67 = .ok (.getfield 22, 3) := by decide +kernel
theorem dX8_goesBy_70 : decode cX8_goesBy 70 = .ok (.lmul, 1) := by decide +kernel
theorem dX8_goesBy_71 : decode cX8_goesBy 71 = .ok (.lsub, 1) := by decide +kernel
theorem dX8_goesBy_72 : decode cX8_goesBy 72 = .ok (.lmul, 1) := by decide +kernel
theorem dX8_goesBy_73 : decode cX8_goesBy 73 = .ok (.lcmp, 1) := by decide +kernel
theorem dX8_goesBy_74 : decode cX8_goesBy 74 = .ok (.ifCond .ne 7, 3) := by decide +kernel
theorem dX8_goesBy_77 : decode cX8_goesBy 77 = .ok (.iconst 1, 1) := by decide +kernel
theorem dX8_goesBy_78 : decode cX8_goesBy 78 = .ok (.goto 4, 3) := by decide +kernel
theorem dX8_goesBy_81 : decode cX8_goesBy 81 = .ok (.iconst 0, 1) := by decide +kernel
theorem dX8_goesBy_82 : decode cX8_goesBy 82 = .ok (.ireturn, 1) := by decide +kernel
set_option maxHeartbeats 4000000 in
theorem met_X8_goesBy (l : Launch) (G : GG) {H : Heap} {a b d : Nat} {p q r : L3} (ha : LnAt G H a p) (hb' : LnAt G H b q) (hd' : LnAt G H d r) : PM l yX8_goesBy cX8_goesBy 3 (some .boolean) 0 0 G H [.ref a, .ref b, .ref d] (some (.int (bI (m_thr q r p)))) := by
  refine pm_intro pl_X8_goesBy (Nat.le_of_ble_eq_true rfl) ?_
  intro pX eX sX mX belX methX cX ls hE hnm hl
  obtain ⟨hx, hb, hr, hlk, hml, hown, hts, hK, hZ, hH⟩ := hE
  have hl : lv_has ls 3 [(0, .ref a), (1, .ref b), (2, .ref d)] := hl
  refine lv_aload_n hx hb dX8_goesBy_0 rfl (lv_at hl 0 rfl) ?_
  refine gf_X8_13 hx hb hts hown hK ha rfl dX8_goesBy_1 ?_
  refine lv_aload_n hx hb dX8_goesBy_4 rfl (lv_at hl 1 rfl) ?_
  refine gf_X8_25 hx hb hts hown hK hb' rfl dX8_goesBy_5 ?_
  refine lv_aload_n hx hb dX8_goesBy_8 rfl (lv_at hl 2 rfl) ?_
  refine gf_X8_22 hx hb hts hown hK hd' rfl dX8_goesBy_9 ?_
  refine lv_lmul hx hb dX8_goesBy_12 ?_
  refine lv_aload_n hx hb dX8_goesBy_13 rfl (lv_at hl 2 rfl) ?_
  refine gf_X8_25 hx hb hts hown hK hd' rfl dX8_goesBy_14 ?_
  refine lv_aload_n hx hb dX8_goesBy_17 rfl (lv_at hl 1 rfl) ?_
  refine gf_X8_22 hx hb hts hown hK hb' rfl dX8_goesBy_18 ?_
  refine lv_lmul hx hb dX8_goesBy_21 ?_
  refine lv_lsub hx hb dX8_goesBy_22 ?_
  refine lv_lmul hx hb dX8_goesBy_23 ?_
  refine lv_aload_n hx hb dX8_goesBy_24 rfl (lv_at hl 0 rfl) ?_
  refine gf_X8_22 hx hb hts hown hK ha rfl dX8_goesBy_25 ?_
  refine lv_aload_n hx hb dX8_goesBy_28 rfl (lv_at hl 1 rfl) ?_
  refine gf_X8_13 hx hb hts hown hK hb' rfl dX8_goesBy_29 ?_
  refine lv_aload_n hx hb dX8_goesBy_32 rfl (lv_at hl 2 rfl) ?_
  refine gf_X8_25 hx hb hts hown hK hd' rfl dX8_goesBy_33 ?_
  refine lv_lmul hx hb dX8_goesBy_36 ?_
  refine lv_aload_n hx hb dX8_goesBy_37 rfl (lv_at hl 2 rfl) ?_
  refine gf_X8_13 hx hb hts hown hK hd' rfl dX8_goesBy_38 ?_
  refine lv_aload_n hx hb dX8_goesBy_41 rfl (lv_at hl 1 rfl) ?_
  refine gf_X8_25 hx hb hts hown hK hb' rfl dX8_goesBy_42 ?_
  refine lv_lmul hx hb dX8_goesBy_45 ?_
  refine lv_lsub hx hb dX8_goesBy_46 ?_
  refine lv_lmul hx hb dX8_goesBy_47 ?_
  refine lv_ladd hx hb dX8_goesBy_48 ?_
  refine lv_aload_n hx hb dX8_goesBy_49 rfl (lv_at hl 0 rfl) ?_
  refine gf_X8_25 hx hb hts hown hK ha rfl dX8_goesBy_50 ?_
  refine lv_aload_n hx hb dX8_goesBy_53 rfl (lv_at hl 1 rfl) ?_
  refine gf_X8_13 hx hb hts hown hK hb' rfl dX8_goesBy_54 ?_
  refine lv_aload_n hx hb dX8_goesBy_57 rfl (lv_at hl 2 rfl) ?_
  refine gf_X8_22 hx hb hts hown hK hd' rfl dX8_goesBy_58 ?_
  refine lv_lmul hx hb dX8_goesBy_61 ?_
  refine lv_aload_n hx hb dX8_goesBy_62 rfl (lv_at hl 2 rfl) ?_
  refine gf_X8_13 hx hb hts hown hK hd' rfl dX8_goesBy_63 ?_
  refine lv_aload_n hx hb dX8_goesBy_66 rfl (lv_at hl 1 rfl) ?_
  refine gf_X8_22 hx hb hts hown hK hb' rfl dX8_goesBy_67 ?_
  refine lv_lmul hx hb dX8_goesBy_70 ?_
  refine lv_lsub hx hb dX8_goesBy_71 ?_
  refine lv_lmul hx hb dX8_goesBy_72 ?_
  refine lc_ne (tgt := 81) hx hb dX8_goesBy_73 dX8_goesBy_74 rfl (fun c_73 => ?_) (fun c_73 => ?_)
  · skip
    refine lv_iconst (v := 0) hx hb dX8_goesBy_81 ic_0 ?_
    exact pm_zret hx hb hr hlk hH dX8_goesBy_82 (by first | with_reducible rfl | (simp only [m_thr, m_both, c_73, ↓reduceIte, Bool.true_and, Bool.and_true, Bool.false_and, Bool.and_false, Bool.true_or, Bool.or_true, Bool.false_or, Bool.or_false, Bool.not_true, Bool.not_false, decide_true, decide_false, bI_t, bI_f, Bool.false_eq_true, not_true_eq_false, not_false_eq_true, eq_self, reduceCtorEq, Bool.true_eq_false, and_true, true_and, and_false, false_and, or_true, true_or, or_false, false_or]; done))
  refine lv_iconst (v := 1) hx hb dX8_goesBy_77 ic_1 ?_
  refine lv_goto (tgt := 82) hx hb dX8_goesBy_78 rfl ?_
  exact pm_zret hx hb hr hlk hH dX8_goesBy_82 (by first | with_reducible rfl | (simp only [m_thr, m_both, eq_true c_73, ↓reduceIte, Bool.true_and, Bool.and_true, Bool.false_and, Bool.and_false, Bool.true_or, Bool.or_true, Bool.false_or, Bool.or_false, Bool.not_true, Bool.not_false, decide_true, decide_false, bI_t, bI_f, Bool.false_eq_true, not_true_eq_false, not_false_eq_true, eq_self, reduceCtorEq, Bool.true_eq_false, and_true, true_and, and_false, false_and, or_true, true_or, or_false, false_or]; done))
