set_option maxRecDepth 100000

theorem pubA_R {σ : Sg} {c n i : Int32} (hp : isPt σ.np c = true) (hi : inR i n = true) (f : P2 → Nat → Nat → Bool) : pubA σ c n i f = pubR σ n 1 (fun N => plF (f (σ.pt (ix c))) N i N) := by
  unfold pubA pubR; rw [hp, hi, Bool.true_and, Bool.and_true]
theorem pubA_f1 {σ : Sg} {c n i : Int32} (hp : isPt σ.np c = false) (f : P2 → Nat → Nat → Bool) : pubA σ c n i f = -2 := by
  unfold pubA; rw [hp]; rfl
theorem pubA_f2 {σ : Sg} {c n i : Int32} (hi : inR i n = false) (f : P2 → Nat → Nat → Bool) : pubA σ c n i f = -2 := by
  unfold pubA; rw [hi, Bool.and_false, Bool.and_false]; rfl
theorem pubO_R {σ : Sg} {n i : Int32} (hi : inR i n = true) (f : Nat → Nat → Bool) : pubO σ n i f = pubR σ n 1 (fun N => plF f N i N) := by
  unfold pubO pubR; rw [hi, Bool.and_true]
theorem pubO_f {σ : Sg} {n i : Int32} (hi : inR i n = false) (f : Nat → Nat → Bool) : pubO σ n i f = -2 := by
  unfold pubO; rw [hi, Bool.and_false]; rfl
theorem dX1_around_0 : decode cX1_around 0 = .ok (.aload_n 0, 1) := by decide +kernel
theorem dX1_around_1 : decode cX1_around 1 = .ok (.iload_n 1, 1) := by decide +kernel
theorem dX1_around_2 : decode cX1_around 2 = .ok (.invokevirtual 50, 3) := by decide +kernel
theorem dX1_around_5 : decode cX1_around 5 = .ok (.ifCond .eq 25, 3) := by decide +kernel
theorem dX1_around_8 : decode cX1_around 8 = .ok (.iload_n 3, 1) := by decide +kernel
theorem dX1_around_9 : decode cX1_around 9 = .ok (.i2l, 1) := by decide +kernel
theorem dX1_around_10 : decode cX1_around 10 = .ok (.lconst 0, 1) := by decide +kernel
theorem dX1_around_11 : decode cX1_around 11 = .ok (.iload_n 2, 1) := by decide +kernel
theorem dX1_around_12 : decode cX1_around 12 = .ok (.i2l, 1) := by decide +kernel
theorem dX1_around_13 : decode cX1_around 13 = .ok (.lconst 1, 1) := by decide +kernel
theorem dX1_around_14 : decode cX1_around 14 = .ok (.lsub, 1) := by decide +kernel
theorem dX1_around_15 : decode cX1_around 15 = .ok (.invokestatic 46, 3) := by decide +kernel
theorem dX1_around_18 : decode cX1_around 18 = .ok (.ifCond .eq 12, 3) := by decide +kernel
theorem dX1_around_21 : decode cX1_around 21 = .ok (.aload_n 0, 1) := by decide +kernel
theorem dX1_around_22 : decode cX1_around 22 = .ok (.iload_n 2, 1) := by decide +kernel
theorem dX1_around_23 : decode cX1_around 23 = .ok (.iconst 1, 1) := by decide +kernel
theorem dX1_around_24 : decode cX1_around 24 = .ok (.invokevirtual 130, 3) := by decide +kernel
theorem dX1_around_27 : decode cX1_around 27 = .ok (.goto 5, 3) := by decide +kernel
theorem dX1_around_30 : decode cX1_around 30 = .ok (.bipush (-2), 2) := by decide +kernel
theorem dX1_around_32 : decode cX1_around 32 = .ok (.istore 4, 2) := by decide +kernel
theorem dX1_around_34 : decode cX1_around 34 = .ok (.iload 4, 2) := by decide +kernel
theorem dX1_around_36 : decode cX1_around 36 = .ok (.ifCond .eq 8, 3) := by decide +kernel
theorem dX1_around_39 : decode cX1_around 39 = .ok (.iload 4, 2) := by decide +kernel
theorem dX1_around_41 : decode cX1_around 41 = .ok (.goto 22, 3) := by decide +kernel
theorem dX1_around_44 : decode cX1_around 44 = .ok (.aload_n 0, 1) := by decide +kernel
theorem dX1_around_45 : decode cX1_around 45 = .ok (.new 169, 3) := by decide +kernel
theorem dX1_around_48 : decode cX1_around 48 = .ok (.dup, 1) := by decide +kernel
theorem dX1_around_49 : decode cX1_around 49 = .ok (.aload_n 0, 1) := by decide +kernel
theorem dX1_around_50 : decode cX1_around 50 = .ok (.getfield 26, 3) := by decide +kernel
theorem dX1_around_53 : decode cX1_around 53 = .ok (.iload_n 1, 1) := by decide +kernel
theorem dX1_around_54 : decode cX1_around 54 = .ok (.aaload, 1) := by decide +kernel
theorem dX1_around_55 : decode cX1_around 55 = .ok (.invokespecial 171, 3) := by decide +kernel
theorem dX1_around_58 : decode cX1_around 58 = .ok (.iload_n 2, 1) := by decide +kernel
theorem dX1_around_59 : decode cX1_around 59 = .ok (.iload_n 3, 1) := by decide +kernel
theorem dX1_around_60 : decode cX1_around 60 = .ok (.invokevirtual 174, 3) := by decide +kernel
theorem dX1_around_63 : decode cX1_around 63 = .ok (.ireturn, 1) := by decide +kernel
set_option maxHeartbeats 800000 in
theorem met_X1_around (l : Launch) (G : GG) {H : Heap} {o : Nat} {B P L : Nat → Nat} {σ : Sg} {c n i : Int32} (hJ : JW G H o B P L σ) (hO : Ok σ) (hS : JS o B P L σ) : GM l yX1_around cX1_around 5 (some .int) 5 1 1 126 G H [.ref o, .int c, .int n, .int i] (fun oc H' => oc = .returned (some (.int (pubA σ c n i (fun z j k => j_ahead (j_cmpR z (σ.rp j) (σ.rp k)) j k)))) ∧ JP G H o B P L σ σ H') (fun z => ownJ o B z ∨ z = H.size) := by
  refine gm_intro pl_X1_around (Nat.le_of_ble_eq_true rfl) ?_
  intro pX eX sX mX belX methX cX ls hE hnm hl
  obtain ⟨hx, hb, hr, hlk, hml, hown, hts, hK, hZ, hH⟩ := hE
  have hl : lv_has ls 5 [(0, .ref o), (1, .int c), (2, .int n), (3, .int i)] := hl
  have hL : ∀ q ∈ ([] : List Loc), (fun z => ownJ o B z ∨ z = H.size : Addr → Prop) q.base := fun q h => by cases h
  refine lv_aload_n hx hb dX1_around_0 rfl (lv_at hl 0 rfl) ?_
  refine lv_iload_n hx hb dX1_around_1 rfl (lv_at hl 1 rfl) ?_
  refine p_callV (As := [.int _]) hx hb hml hown hts hK trivial (met_X1_isPoint l G hJ hO ) q156 q158 qs1 q42 q159 hv_X1_isPoint rfl hJ.1 rfl (by decide) hl.1 rfl (Nat.le_of_ble_eq_true rfl) dX1_around_2 ⟨Nat.le_of_ble_eq_true rfl, Nat.le_of_ble_eq_true rfl⟩ ?_
  refine b_ifeq (tgt := 30) hx hb dX1_around_5 rfl (fun c_5 => ?_) (fun c_5 => ?_)
  · skip
    refine lv_bipush (v := -2) hx hb dX1_around_30 ib_m2 ?_
    refine lv_istore (lv' := [(4, .int _), (0, .ref _), (1, .int _), (2, .int _), (3, .int _)]) hx hb dX1_around_32 hl (Nat.le_of_ble_eq_true rfl) rfl (fun ls hl => ?_)
    refine lv_iload hx hb dX1_around_34 (lv_at hl 0 rfl) ?_
    refine lv_if_eq (tgt := 44) hx hb dX1_around_36 rfl (fun c_36 => absurd c_36 (by decide)) (fun _ => ?_)
    refine lv_iload hx hb dX1_around_39 (lv_at hl 0 rfl) ?_
    refine lv_goto (tgt := 63) hx hb dX1_around_41 rfl ?_
    refine W.widen (k := 1) (n := 1) (Nat.le_of_ble_eq_true rfl) (Nat.le_of_ble_eq_true rfl) ?_
    exact g_iret (F := fun z => ownJ o B z ∨ z = H.size) (Post := fun oc H' => oc = .returned (some (.int (pubA σ c n i (fun z j k => j_ahead (j_cmpR z (σ.rp j) (σ.rp k)) j k)))) ∧ JP G H o B P L σ σ H') hx hb hr hlk hL dX1_around_63 (i_post (by first | with_reducible rfl | (simp only [pubA_f1 c_5, ↓reduceIte, Bool.true_and, Bool.and_true, Bool.false_and, Bool.and_false, Bool.true_or, Bool.or_true, Bool.false_or, Bool.or_false, Bool.not_true, Bool.not_false, decide_true, decide_false, bI_t, bI_f, Bool.false_eq_true, not_true_eq_false, not_false_eq_true, eq_self, reduceCtorEq, Bool.true_eq_false, and_true, true_and, and_false, false_and, or_true, true_or, or_false, false_or]; done)) (JP.rf hJ hS))
  obtain ⟨c_, i_c, rfl⟩ := isPt_elim hO.1.1 c_5
  refine lv_iload_n hx hb dX1_around_8 rfl (lv_at hl 3 rfl) ?_
  refine lv_i2l hx hb dX1_around_9 rfl ?_
  refine lv_lconst (v := 0) hx hb dX1_around_10 rfl ?_
  refine lv_iload_n hx hb dX1_around_11 rfl (lv_at hl 2 rfl) ?_
  refine lv_i2l hx hb dX1_around_12 rfl ?_
  refine lv_lconst (v := 1) hx hb dX1_around_13 rfl ?_
  refine lv_lsub hx hb dX1_around_14 ?_
  refine p_callS (As := [.long _, .long _, .long _]) hx hb hml hown hts hK trivial (met_X1_isIn l G ) q110 q111 q42 q112 hd_X1_isIn rfl (by decide) hl.1 rfl (Nat.le_of_ble_eq_true rfl) dX1_around_15 ⟨Nat.le_of_ble_eq_true rfl, Nat.le_of_ble_eq_true rfl⟩ ?_
  refine b_ifeq (tgt := 30) hx hb dX1_around_18 rfl (fun c_18 => ?_) (fun c_18 => ?_)
  · skip
    rw [isIn_1] at c_18
    refine lv_bipush (v := -2) hx hb dX1_around_30 ib_m2 ?_
    refine lv_istore (lv' := [(4, .int _), (0, .ref _), (1, .int _), (2, .int _), (3, .int _)]) hx hb dX1_around_32 hl (Nat.le_of_ble_eq_true rfl) rfl (fun ls hl => ?_)
    refine lv_iload hx hb dX1_around_34 (lv_at hl 0 rfl) ?_
    refine lv_if_eq (tgt := 44) hx hb dX1_around_36 rfl (fun c_36 => absurd c_36 (by decide)) (fun _ => ?_)
    refine lv_iload hx hb dX1_around_39 (lv_at hl 0 rfl) ?_
    refine lv_goto (tgt := 63) hx hb dX1_around_41 rfl ?_
    refine W.widen (k := 1) (n := 1) (Nat.le_of_ble_eq_true rfl) (Nat.le_of_ble_eq_true rfl) ?_
    exact g_iret (F := fun z => ownJ o B z ∨ z = H.size) (Post := fun oc H' => oc = .returned (some (.int (pubA σ (nI c_) n i (fun z j k => j_ahead (j_cmpR z (σ.rp j) (σ.rp k)) j k)))) ∧ JP G H o B P L σ σ H') hx hb hr hlk hL dX1_around_63 (i_post (by first | with_reducible rfl | (simp only [c_5, hO.ix i_c, pubA_f2 c_18, ↓reduceIte, Bool.true_and, Bool.and_true, Bool.false_and, Bool.and_false, Bool.true_or, Bool.or_true, Bool.false_or, Bool.or_false, Bool.not_true, Bool.not_false, decide_true, decide_false, bI_t, bI_f, Bool.false_eq_true, not_true_eq_false, not_false_eq_true, eq_self, reduceCtorEq, Bool.true_eq_false, and_true, true_and, and_false, false_and, or_true, true_or, or_false, false_or]; done) | (simp only [c_5, hO.ix i_c, ↓reduceIte, Bool.true_and, Bool.and_true, Bool.false_and, Bool.and_false, Bool.true_or, Bool.or_true, Bool.false_or, Bool.or_false, Bool.not_true, Bool.not_false, decide_true, decide_false, bI_t, bI_f, Bool.false_eq_true, not_true_eq_false, not_false_eq_true, eq_self, reduceCtorEq, Bool.true_eq_false, and_true, true_and, and_false, false_and, or_true, true_or, or_false, false_or] at c_18; done) | (simp only [hO.ix i_c, pubA_f2 c_18, ↓reduceIte, Bool.true_and, Bool.and_true, Bool.false_and, Bool.and_false, Bool.true_or, Bool.or_true, Bool.false_or, Bool.or_false, Bool.not_true, Bool.not_false, decide_true, decide_false, bI_t, bI_f, Bool.false_eq_true, not_true_eq_false, not_false_eq_true, eq_self, reduceCtorEq, Bool.true_eq_false, and_true, true_and, and_false, false_and, or_true, true_or, or_false, false_or] at c_5; done)) (JP.rf hJ hS))
  rw [isIn_1] at c_18
  refine lv_aload_n hx hb dX1_around_21 rfl (lv_at hl 0 rfl) ?_
  refine lv_iload_n hx hb dX1_around_22 rfl (lv_at hl 2 rfl) ?_
  refine lv_iconst (v := 1) hx hb dX1_around_23 ic_1 ?_
  refine p_callV (As := [.int _, .int _]) hx hb hml hown hts hK trivial (met_X1_refused l G hJ hO (by decide)) q272 q274 qs3 q42 q275 hv_X1_refused rfl hJ.1 rfl (by decide) hl.1 rfl (Nat.le_of_ble_eq_true rfl) dX1_around_24 ⟨Nat.le_of_ble_eq_true rfl, Nat.le_of_ble_eq_true rfl⟩ ?_
  refine lv_goto (tgt := 32) hx hb dX1_around_27 rfl ?_
  refine lv_istore (lv' := [(4, .int _), (0, .ref _), (1, .int _), (2, .int _), (3, .int _)]) hx hb dX1_around_32 hl (Nat.le_of_ble_eq_true rfl) rfl (fun ls hl => ?_)
  refine lv_iload hx hb dX1_around_34 (lv_at hl 0 rfl) ?_
  refine lv_if_eq (tgt := 44) hx hb dX1_around_36 rfl (fun c_36 => ?_) (fun c_36 => ?_)
  · skip
    obtain ⟨N, hN, rfl, hge, hw_⟩ := ref_elim (by decide) hO c_36
    have hN31 : N < 2 ^ 31 := Nat.lt_of_le_of_lt hN hO.rn31
    have e1_ : (1 : Int32).toInt = 1 := rfl
    have e3_ : (3 : Int32).toInt = 3 := rfl
    have hpos : 0 < N := by omega
    have hr_ := HR.of hO hw_
    refine lv_aload_n hx hb dX1_around_44 rfl (lv_at hl 1 rfl) ?_
    refine nw_X6 hx hb hts hown q332 hK (Nat.le_of_ble_eq_true rfl) (Nat.le_of_ble_eq_true rfl) dX1_around_45 (fun nq Hnq_ enq_ hnq_ hznq_ hgnq_ => ?_)
    have h1_ := at_grow hJ.1 hgnq_
    have h2_ := at_grow hJ.2.1 hgnq_
    refine lv_dup hx hb dX1_around_48 rfl ?_
    refine lv_aload_n hx hb dX1_around_49 rfl (lv_at hl 1 rfl) ?_
    refine gf_X1_26 hx hb hts hown hK h1_ rfl dX1_around_50 ?_
    refine lv_iload_n hx hb dX1_around_53 rfl (lv_at hl 2 rfl) ?_
    refine r_pald hx hb hK h2_ dX1_around_54 (k := c_) (hO.lt60 i_c) (by decide) rfl (pa_some i_c) ?_
    refine g_callI (F := fun z => ownJ o B z ∨ z = H.size) (As := [.ref _]) hx hb hml hown hts hK (met_X6_init l G hnq_) rfl q334 q335 q57 q336 hd_X6_init rfl (by decide) hl.1 rfl (Nat.le_of_ble_eq_true rfl) dX1_around_55 ⟨Nat.le_of_ble_eq_true rfl, Nat.le_of_ble_eq_true rfl⟩ (fun q hq => Or.inr (hq.trans enq_)) hL (fun v2_ H2_ locs hP2_ hL => ?_)
    obtain ⟨hv2_, hat2_, hon2_⟩ := hP2_
    cases hv2_
    have h3_ := at_only h1_ hon2_ (by rw [enq_]; exact Nat.ne_of_lt hJ.1.lt)
    have h4_ := at_only h2_ hon2_ (by rw [enq_]; exact Nat.ne_of_lt hJ.2.1.lt)
    refine lv_iload_n hx hb dX1_around_58 rfl (lv_at hl 3 rfl) ?_
    refine lv_iload_n hx hb dX1_around_59 rfl (lv_at hl 4 rfl) ?_
    have hJ2_ := hJ.kept (fun q hq => (Grow.only hgnq_ (Nat.le_of_eq enq_.symm) hon2_).2 q (hJ.cell hq))
    refine p_callV (As := [.ref _, .int _, .int _]) hx hb hml hown hts hK trivial (met_place_R l G hJ2_ hO hN hr_ hat2_ (hJ2_.2.2.2.2.1 _ i_c)) q342 q344 qs5 q42 q345 hv_X1_placeBy rfl hJ2_.1 rfl (by decide) hl.1 rfl (Nat.le_of_ble_eq_true rfl) dX1_around_60 ⟨Nat.le_of_ble_eq_true rfl, Nat.le_of_ble_eq_true rfl⟩ ?_
    exact g_iret (F := fun z => ownJ o B z ∨ z = H.size) (Post := fun oc H' => oc = .returned (some (.int (pubA σ (nI c_) (nI N) i (fun z j k => j_ahead (j_cmpR z (σ.rp j) (σ.rp k)) j k)))) ∧ JP G H o B P L σ σ H') hx hb hr hlk hL dX1_around_63 (i_post (by first | with_reducible rfl | (simp only [c_5, hO.ix i_c, pubA_R c_5 c_18, pubR_eq c_36, ixn hN31, ↓reduceIte, Bool.true_and, Bool.and_true, Bool.false_and, Bool.and_false, Bool.true_or, Bool.or_true, Bool.false_or, Bool.or_false, Bool.not_true, Bool.not_false, decide_true, decide_false, bI_t, bI_f, Bool.false_eq_true, not_true_eq_false, not_false_eq_true, eq_self, reduceCtorEq, Bool.true_eq_false, and_true, true_and, and_false, false_and, or_true, true_or, or_false, false_or]; done) | (simp only [c_5, hO.ix i_c, pubA_R c_5 c_18, ixn hN31, ↓reduceIte, Bool.true_and, Bool.and_true, Bool.false_and, Bool.and_false, Bool.true_or, Bool.or_true, Bool.false_or, Bool.or_false, Bool.not_true, Bool.not_false, decide_true, decide_false, bI_t, bI_f, Bool.false_eq_true, not_true_eq_false, not_false_eq_true, eq_self, reduceCtorEq, Bool.true_eq_false, and_true, true_and, and_false, false_and, or_true, true_or, or_false, false_or] at c_36; done) | (simp only [c_5, hO.ix i_c, pubR_eq c_36, ixn hN31, ↓reduceIte, Bool.true_and, Bool.and_true, Bool.false_and, Bool.and_false, Bool.true_or, Bool.or_true, Bool.false_or, Bool.or_false, Bool.not_true, Bool.not_false, decide_true, decide_false, bI_t, bI_f, Bool.false_eq_true, not_true_eq_false, not_false_eq_true, eq_self, reduceCtorEq, Bool.true_eq_false, and_true, true_and, and_false, false_and, or_true, true_or, or_false, false_or] at c_18; done) | (simp only [hO.ix i_c, pubR_eq c_36, ixn hN31, ↓reduceIte, Bool.true_and, Bool.and_true, Bool.false_and, Bool.and_false, Bool.true_or, Bool.or_true, Bool.false_or, Bool.or_false, Bool.not_true, Bool.not_false, decide_true, decide_false, bI_t, bI_f, Bool.false_eq_true, not_true_eq_false, not_false_eq_true, eq_self, reduceCtorEq, Bool.true_eq_false, and_true, true_and, and_false, false_and, or_true, true_or, or_false, false_or] at c_5; done)) (JP.grow hJ hS (Grow.only hgnq_ (Nat.le_of_eq enq_.symm) hon2_)))
  refine lv_iload hx hb dX1_around_39 (lv_at hl 0 rfl) ?_
  refine lv_goto (tgt := 63) hx hb dX1_around_41 rfl ?_
  refine W.widen (k := 1) (n := 1) (Nat.le_of_ble_eq_true rfl) (Nat.le_of_ble_eq_true rfl) ?_
  exact g_iret (F := fun z => ownJ o B z ∨ z = H.size) (Post := fun oc H' => oc = .returned (some (.int (pubA σ (nI c_) n i (fun z j k => j_ahead (j_cmpR z (σ.rp j) (σ.rp k)) j k)))) ∧ JP G H o B P L σ σ H') hx hb hr hlk hL dX1_around_63 (i_post (by first | with_reducible rfl | (simp only [c_5, hO.ix i_c, pubA_R c_5 c_18, pubR_ne c_36, ↓reduceIte, Bool.true_and, Bool.and_true, Bool.false_and, Bool.and_false, Bool.true_or, Bool.or_true, Bool.false_or, Bool.or_false, Bool.not_true, Bool.not_false, decide_true, decide_false, bI_t, bI_f, Bool.false_eq_true, not_true_eq_false, not_false_eq_true, eq_self, reduceCtorEq, Bool.true_eq_false, and_true, true_and, and_false, false_and, or_true, true_or, or_false, false_or]; done) | (simp only [c_5, hO.ix i_c, pubA_R c_5 c_18, ↓reduceIte, Bool.true_and, Bool.and_true, Bool.false_and, Bool.and_false, Bool.true_or, Bool.or_true, Bool.false_or, Bool.or_false, Bool.not_true, Bool.not_false, decide_true, decide_false, bI_t, bI_f, Bool.false_eq_true, not_true_eq_false, not_false_eq_true, eq_self, reduceCtorEq, Bool.true_eq_false, and_true, true_and, and_false, false_and, or_true, true_or, or_false, false_or] at c_36; done) | (simp only [c_5, hO.ix i_c, pubR_ne c_36, ↓reduceIte, Bool.true_and, Bool.and_true, Bool.false_and, Bool.and_false, Bool.true_or, Bool.or_true, Bool.false_or, Bool.or_false, Bool.not_true, Bool.not_false, decide_true, decide_false, bI_t, bI_f, Bool.false_eq_true, not_true_eq_false, not_false_eq_true, eq_self, reduceCtorEq, Bool.true_eq_false, and_true, true_and, and_false, false_and, or_true, true_or, or_false, false_or] at c_18; done) | (simp only [hO.ix i_c, pubR_ne c_36, ↓reduceIte, Bool.true_and, Bool.and_true, Bool.false_and, Bool.and_false, Bool.true_or, Bool.or_true, Bool.false_or, Bool.or_false, Bool.not_true, Bool.not_false, decide_true, decide_false, bI_t, bI_f, Bool.false_eq_true, not_true_eq_false, not_false_eq_true, eq_self, reduceCtorEq, Bool.true_eq_false, and_true, true_and, and_false, false_and, or_true, true_or, or_false, false_or] at c_5; done)) (JP.rf hJ hS))
theorem dX1_order_0 : decode cX1_order 0 = .ok (.iload_n 2, 1) := by decide +kernel
theorem dX1_order_1 : decode cX1_order 1 = .ok (.i2l, 1) := by decide +kernel
theorem dX1_order_2 : decode cX1_order 2 = .ok (.lconst 0, 1) := by decide +kernel
theorem dX1_order_3 : decode cX1_order 3 = .ok (.iload_n 1, 1) := by decide +kernel
theorem dX1_order_4 : decode cX1_order 4 = .ok (.i2l, 1) := by decide +kernel
theorem dX1_order_5 : decode cX1_order 5 = .ok (.lconst 1, 1) := by decide +kernel
theorem dX1_order_6 : decode cX1_order 6 = .ok (.lsub, 1) := by decide +kernel
theorem dX1_order_7 : decode cX1_order 7 = .ok (.invokestatic 46, 3) := by decide +kernel
theorem dX1_order_10 : decode cX1_order 10 = .ok (.ifCond .eq 12, 3) := by decide +kernel
theorem dX1_order_13 : decode cX1_order 13 = .ok (.aload_n 0, 1) := by decide +kernel
theorem dX1_order_14 : decode cX1_order 14 = .ok (.iload_n 1, 1) := by decide +kernel
theorem dX1_order_15 : decode cX1_order 15 = .ok (.iconst 1, 1) := by decide +kernel
theorem dX1_order_16 : decode cX1_order 16 = .ok (.invokevirtual 130, 3) := by decide +kernel
theorem dX1_order_19 : decode cX1_order 19 = .ok (.goto 5, 3) := by decide +kernel
theorem dX1_order_22 : decode cX1_order 22 = .ok (.bipush (-2), 2) := by decide +kernel
theorem dX1_order_24 : decode cX1_order 24 = .ok (.istore_n 3, 1) := by decide +kernel
theorem dX1_order_25 : decode cX1_order 25 = .ok (.iload_n 3, 1) := by decide +kernel
theorem dX1_order_26 : decode cX1_order 26 = .ok (.ifCond .eq 7, 3) := by decide +kernel
theorem dX1_order_29 : decode cX1_order 29 = .ok (.iload_n 3, 1) := by decide +kernel
theorem dX1_order_30 : decode cX1_order 30 = .ok (.goto 16, 3) := by decide +kernel
theorem dX1_order_33 : decode cX1_order 33 = .ok (.aload_n 0, 1) := by decide +kernel
theorem dX1_order_34 : decode cX1_order 34 = .ok (.new 178, 3) := by decide +kernel
theorem dX1_order_37 : decode cX1_order 37 = .ok (.dup, 1) := by decide +kernel
theorem dX1_order_38 : decode cX1_order 38 = .ok (.invokespecial 180, 3) := by decide +kernel
theorem dX1_order_41 : decode cX1_order 41 = .ok (.iload_n 1, 1) := by decide +kernel
theorem dX1_order_42 : decode cX1_order 42 = .ok (.iload_n 2, 1) := by decide +kernel
theorem dX1_order_43 : decode cX1_order 43 = .ok (.invokevirtual 174, 3) := by decide +kernel
theorem dX1_order_46 : decode cX1_order 46 = .ok (.ireturn, 1) := by decide +kernel
set_option maxHeartbeats 800000 in
theorem met_X1_order (l : Launch) (G : GG) {H : Heap} {o : Nat} {B P L : Nat → Nat} {σ : Sg} {n i : Int32} (hJ : JW G H o B P L σ) (hO : Ok σ) (hS : JS o B P L σ) : GM l yX1_order cX1_order 4 (some .int) 3 1 0 75 G H [.ref o, .int n, .int i] (fun oc H' => oc = .returned (some (.int (pubO σ n i (fun j k => j_ahead (j_cmpA (σ.rp j) (σ.rp k)) j k)))) ∧ JP G H o B P L σ σ H') (fun z => ownJ o B z ∨ z = H.size) := by
  refine gm_intro pl_X1_order (Nat.le_of_ble_eq_true rfl) ?_
  intro pX eX sX mX belX methX cX ls hE hnm hl
  obtain ⟨hx, hb, hr, hlk, hml, hown, hts, hK, hZ, hH⟩ := hE
  have hl : lv_has ls 4 [(0, .ref o), (1, .int n), (2, .int i)] := hl
  have hL : ∀ q ∈ ([] : List Loc), (fun z => ownJ o B z ∨ z = H.size : Addr → Prop) q.base := fun q h => by cases h
  refine lv_iload_n hx hb dX1_order_0 rfl (lv_at hl 2 rfl) ?_
  refine lv_i2l hx hb dX1_order_1 rfl ?_
  refine lv_lconst (v := 0) hx hb dX1_order_2 rfl ?_
  refine lv_iload_n hx hb dX1_order_3 rfl (lv_at hl 1 rfl) ?_
  refine lv_i2l hx hb dX1_order_4 rfl ?_
  refine lv_lconst (v := 1) hx hb dX1_order_5 rfl ?_
  refine lv_lsub hx hb dX1_order_6 ?_
  refine p_callS (As := [.long _, .long _, .long _]) hx hb hml hown hts hK trivial (met_X1_isIn l G ) q110 q111 q42 q112 hd_X1_isIn rfl (by decide) hl.1 rfl (Nat.le_of_ble_eq_true rfl) dX1_order_7 ⟨Nat.le_of_ble_eq_true rfl, Nat.le_of_ble_eq_true rfl⟩ ?_
  refine b_ifeq (tgt := 22) hx hb dX1_order_10 rfl (fun c_10 => ?_) (fun c_10 => ?_)
  · skip
    rw [isIn_1] at c_10
    refine lv_bipush (v := -2) hx hb dX1_order_22 ib_m2 ?_
    refine lv_istore_n (lv' := [(3, .int _), (0, .ref _), (1, .int _), (2, .int _)]) hx hb dX1_order_24 rfl hl (Nat.le_of_ble_eq_true rfl) rfl (fun ls hl => ?_)
    refine lv_iload_n hx hb dX1_order_25 rfl (lv_at hl 0 rfl) ?_
    refine lv_if_eq (tgt := 33) hx hb dX1_order_26 rfl (fun c_26 => absurd c_26 (by decide)) (fun _ => ?_)
    refine lv_iload_n hx hb dX1_order_29 rfl (lv_at hl 0 rfl) ?_
    refine lv_goto (tgt := 46) hx hb dX1_order_30 rfl ?_
    refine W.widen (k := 1) (n := 0) (Nat.le_of_ble_eq_true rfl) (Nat.le_of_ble_eq_true rfl) ?_
    exact g_iret (F := fun z => ownJ o B z ∨ z = H.size) (Post := fun oc H' => oc = .returned (some (.int (pubO σ n i (fun j k => j_ahead (j_cmpA (σ.rp j) (σ.rp k)) j k)))) ∧ JP G H o B P L σ σ H') hx hb hr hlk hL dX1_order_46 (i_post (by first | with_reducible rfl | (simp only [pubO_f c_10, ↓reduceIte, Bool.true_and, Bool.and_true, Bool.false_and, Bool.and_false, Bool.true_or, Bool.or_true, Bool.false_or, Bool.or_false, Bool.not_true, Bool.not_false, decide_true, decide_false, bI_t, bI_f, Bool.false_eq_true, not_true_eq_false, not_false_eq_true, eq_self, reduceCtorEq, Bool.true_eq_false, and_true, true_and, and_false, false_and, or_true, true_or, or_false, false_or]; done)) (JP.rf hJ hS))
  rw [isIn_1] at c_10
  refine lv_aload_n hx hb dX1_order_13 rfl (lv_at hl 0 rfl) ?_
  refine lv_iload_n hx hb dX1_order_14 rfl (lv_at hl 1 rfl) ?_
  refine lv_iconst (v := 1) hx hb dX1_order_15 ic_1 ?_
  refine p_callV (As := [.int _, .int _]) hx hb hml hown hts hK trivial (met_X1_refused l G hJ hO (by decide)) q272 q274 qs3 q42 q275 hv_X1_refused rfl hJ.1 rfl (by decide) hl.1 rfl (Nat.le_of_ble_eq_true rfl) dX1_order_16 ⟨Nat.le_of_ble_eq_true rfl, Nat.le_of_ble_eq_true rfl⟩ ?_
  refine lv_goto (tgt := 24) hx hb dX1_order_19 rfl ?_
  refine lv_istore_n (lv' := [(3, .int _), (0, .ref _), (1, .int _), (2, .int _)]) hx hb dX1_order_24 rfl hl (Nat.le_of_ble_eq_true rfl) rfl (fun ls hl => ?_)
  refine lv_iload_n hx hb dX1_order_25 rfl (lv_at hl 0 rfl) ?_
  refine lv_if_eq (tgt := 33) hx hb dX1_order_26 rfl (fun c_26 => ?_) (fun c_26 => ?_)
  · skip
    obtain ⟨N, hN, rfl, hge, hw_⟩ := ref_elim (by decide) hO c_26
    have hN31 : N < 2 ^ 31 := Nat.lt_of_le_of_lt hN hO.rn31
    have e1_ : (1 : Int32).toInt = 1 := rfl
    have e3_ : (3 : Int32).toInt = 3 := rfl
    have hpos : 0 < N := by omega
    have hr_ := HR.of hO hw_
    refine lv_aload_n hx hb dX1_order_33 rfl (lv_at hl 1 rfl) ?_
    refine nw_X7 hx hb hts hown q382 hK (Nat.le_of_ble_eq_true rfl) (Nat.le_of_ble_eq_true rfl) dX1_order_34 (fun nq Hnq_ enq_ hnq_ hznq_ hgnq_ => ?_)
    have h1_ := at_grow hJ.1 hgnq_
    have h2_ := at_grow hJ.2.1 hgnq_
    refine lv_dup hx hb dX1_order_37 rfl ?_
    refine g_callIN (F := fun z => ownJ o B z ∨ z = H.size) (As := []) hx hb hml hown hts hK (met_X7_init l G hnq_) rfl nM_X1_180 q385 q58 q386 hd_X7_init rfl (by decide) hl.1 rfl (Nat.le_of_ble_eq_true rfl) dX1_order_38 ⟨Nat.le_of_ble_eq_true rfl, Nat.le_of_ble_eq_true rfl⟩ (fun q hq => Or.inr (hq.trans enq_)) hL (fun v2_ H2_ locs hP2_ hL => ?_)
    obtain ⟨hv2_, hat2_, hon2_⟩ := hP2_
    cases hv2_
    have h3_ := at_only h1_ hon2_ (by rw [enq_]; exact Nat.ne_of_lt hJ.1.lt)
    have h4_ := at_only h2_ hon2_ (by rw [enq_]; exact Nat.ne_of_lt hJ.2.1.lt)
    refine lv_iload_n hx hb dX1_order_41 rfl (lv_at hl 2 rfl) ?_
    refine lv_iload_n hx hb dX1_order_42 rfl (lv_at hl 3 rfl) ?_
    have hJ2_ := hJ.kept (fun q hq => (Grow.only hgnq_ (Nat.le_of_eq enq_.symm) hon2_).2 q (hJ.cell hq))
    refine p_callV (As := [.ref _, .int _, .int _]) hx hb hml hown hts hK trivial (met_place_A l G hJ2_ hO hN hr_ hat2_ ) q342 q344 qs5 q42 q345 hv_X1_placeBy rfl hJ2_.1 rfl (by decide) hl.1 rfl (Nat.le_of_ble_eq_true rfl) dX1_order_43 ⟨Nat.le_of_ble_eq_true rfl, Nat.le_of_ble_eq_true rfl⟩ ?_
    exact g_iret (F := fun z => ownJ o B z ∨ z = H.size) (Post := fun oc H' => oc = .returned (some (.int (pubO σ (nI N) i (fun j k => j_ahead (j_cmpA (σ.rp j) (σ.rp k)) j k)))) ∧ JP G H o B P L σ σ H') hx hb hr hlk hL dX1_order_46 (i_post (by first | with_reducible rfl | (simp only [pubO_R c_10, pubR_eq c_26, ixn hN31, ↓reduceIte, Bool.true_and, Bool.and_true, Bool.false_and, Bool.and_false, Bool.true_or, Bool.or_true, Bool.false_or, Bool.or_false, Bool.not_true, Bool.not_false, decide_true, decide_false, bI_t, bI_f, Bool.false_eq_true, not_true_eq_false, not_false_eq_true, eq_self, reduceCtorEq, Bool.true_eq_false, and_true, true_and, and_false, false_and, or_true, true_or, or_false, false_or]; done) | (simp only [pubO_R c_10, ixn hN31, ↓reduceIte, Bool.true_and, Bool.and_true, Bool.false_and, Bool.and_false, Bool.true_or, Bool.or_true, Bool.false_or, Bool.or_false, Bool.not_true, Bool.not_false, decide_true, decide_false, bI_t, bI_f, Bool.false_eq_true, not_true_eq_false, not_false_eq_true, eq_self, reduceCtorEq, Bool.true_eq_false, and_true, true_and, and_false, false_and, or_true, true_or, or_false, false_or] at c_26; done) | (simp only [pubR_eq c_26, ixn hN31, ↓reduceIte, Bool.true_and, Bool.and_true, Bool.false_and, Bool.and_false, Bool.true_or, Bool.or_true, Bool.false_or, Bool.or_false, Bool.not_true, Bool.not_false, decide_true, decide_false, bI_t, bI_f, Bool.false_eq_true, not_true_eq_false, not_false_eq_true, eq_self, reduceCtorEq, Bool.true_eq_false, and_true, true_and, and_false, false_and, or_true, true_or, or_false, false_or] at c_10; done)) (JP.grow hJ hS (Grow.only hgnq_ (Nat.le_of_eq enq_.symm) hon2_)))
  refine lv_iload_n hx hb dX1_order_29 rfl (lv_at hl 0 rfl) ?_
  refine lv_goto (tgt := 46) hx hb dX1_order_30 rfl ?_
  refine W.widen (k := 1) (n := 0) (Nat.le_of_ble_eq_true rfl) (Nat.le_of_ble_eq_true rfl) ?_
  exact g_iret (F := fun z => ownJ o B z ∨ z = H.size) (Post := fun oc H' => oc = .returned (some (.int (pubO σ n i (fun j k => j_ahead (j_cmpA (σ.rp j) (σ.rp k)) j k)))) ∧ JP G H o B P L σ σ H') hx hb hr hlk hL dX1_order_46 (i_post (by first | with_reducible rfl | (simp only [pubO_R c_10, pubR_ne c_26, ↓reduceIte, Bool.true_and, Bool.and_true, Bool.false_and, Bool.and_false, Bool.true_or, Bool.or_true, Bool.false_or, Bool.or_false, Bool.not_true, Bool.not_false, decide_true, decide_false, bI_t, bI_f, Bool.false_eq_true, not_true_eq_false, not_false_eq_true, eq_self, reduceCtorEq, Bool.true_eq_false, and_true, true_and, and_false, false_and, or_true, true_or, or_false, false_or]; done) | (simp only [pubO_R c_10, ↓reduceIte, Bool.true_and, Bool.and_true, Bool.false_and, Bool.and_false, Bool.true_or, Bool.or_true, Bool.false_or, Bool.or_false, Bool.not_true, Bool.not_false, decide_true, decide_false, bI_t, bI_f, Bool.false_eq_true, not_true_eq_false, not_false_eq_true, eq_self, reduceCtorEq, Bool.true_eq_false, and_true, true_and, and_false, false_and, or_true, true_or, or_false, false_or] at c_26; done) | (simp only [pubR_ne c_26, ↓reduceIte, Bool.true_and, Bool.and_true, Bool.false_and, Bool.and_false, Bool.true_or, Bool.or_true, Bool.false_or, Bool.or_false, Bool.not_true, Bool.not_false, decide_true, decide_false, bI_t, bI_f, Bool.false_eq_true, not_true_eq_false, not_false_eq_true, eq_self, reduceCtorEq, Bool.true_eq_false, and_true, true_and, and_false, false_and, or_true, true_or, or_false, false_or] at c_10; done)) (JP.rf hJ hS))
