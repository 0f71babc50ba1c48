set_option maxRecDepth 100000

def KR (r : Nat) (H H' : Heap) : Prop := H'.size = H.size + 1 ∧ ∀ q, q < H.size → q ≠ r → H'[q]? = H[q]?
theorem KR.mk {r : Nat} {H H1 H2 H3 H4 : Heap} (h1 : Only r H H1) (h2 : Grow H1 H2) (hz : H2.size = H1.size + 1) (h3 : Only r H2 H3) (h4 : Only r H3 H4) : KR r H H4 :=
  ⟨by rw [h4.1, h3.1, hz, h1.1], fun q hq hr => by rw [h4.2 q hr, h3.2 q hr, h2.2 q (by rw [h1.1]; exact hq), h1.2 q hr]⟩
theorem KR.ka {r al : Nat} {H H1 H2 : Heap} (h : KR r H H1) (ha : al = H.size) (k : KA r al H1 H2) : KR r H H2 := ⟨k.1.trans h.1, fun q hq hr => (k.2 q hr (by omega)).trans (h.2 q hq hr)⟩
theorem Grow.kr {r : Nat} {H H1 H2 : Heap} (h : Grow H H1) (hr : H.size ≤ r) (k : KR r H1 H2) : Grow H H2 := ⟨by have := h.1; have := k.1; omega, fun q hq => (k.2 q (Nat.lt_of_lt_of_le hq h.1) (by omega)).trans (h.2 q hq)⟩
theorem ar_0 {L d : Nat → Nat} : (fun _ : Nat => (none : Option Nat)) = fun j => if j < 0 then some (L (d j)) else none := by funext j; rw [if_neg (by omega)]
theorem arr_t {f : Nat → L3} {k : Nat} (h : j_isN (fun j => f ((j_arr f k).1 j)) (f k) (j_arr f k).2.1 = true) : j_arr f (k + 1) = (updN (j_arr f k).1 (j_arr f k).2.1 k, (j_arr f k).2.1 + 1, ((j_addL (fun j => f (updN (j_arr f k).1 (j_arr f k).2.1 k j)) (f k) (j_arr f k).2.1 (j_arr f k).2.1 (j_arr f k).2.2).1, (j_addL (fun j => f (updN (j_arr f k).1 (j_arr f k).2.1 k j)) (f k) (j_arr f k).2.1 (j_arr f k).2.1 (j_arr f k).2.2).2.1 + 1, (j_addL (fun j => f (updN (j_arr f k).1 (j_arr f k).2.1 k j)) (f k) (j_arr f k).2.1 (j_arr f k).2.1 (j_arr f k).2.2).2.2)) := by
  show j_step f k (j_arr f k) = _
  unfold j_step
  rw [if_pos h]
theorem arr_f {f : Nat → L3} {k : Nat} (h : j_isN (fun j => f ((j_arr f k).1 j)) (f k) (j_arr f k).2.1 = false) : j_arr f (k + 1) = j_arr f k := by
  show j_step f k (j_arr f k) = _
  unfold j_step
  rw [if_neg (by rw [h]; decide)]
theorem arr_d (f : Nat → L3) : ∀ k : Nat, (j_arr f k).2.1 ≤ k ∧ ∀ j, j < (j_arr f k).2.1 → (j_arr f k).1 j < k
  | 0 => ⟨Nat.le_refl _, fun j hj => absurd hj (Nat.not_lt_zero _)⟩
  | k + 1 => by
    obtain ⟨h1, h2⟩ := arr_d f k
    cases hn : j_isN (fun j => f ((j_arr f k).1 j)) (f k) (j_arr f k).2.1 with
    | false => rw [arr_f hn]; exact ⟨by omega, fun j hj => by have := h2 j hj; omega⟩
    | true =>
      rw [arr_t hn]
      refine ⟨by show (j_arr f k).2.1 + 1 ≤ k + 1; omega, fun j hj => ?_⟩
      show updN (j_arr f k).1 (j_arr f k).2.1 k j < k + 1
      exact updN_lt (fun j hj => by have := h2 j hj; omega) (by omega) hj
theorem isIn_many0 {rn : Nat} (n : Int32) : s_isIn n.toInt64 0 (nI rn).toInt64 = m_isMany rn n 0 := by
  have h := isIn_many (rn := rn) n 0
  rw [i64_z] at h
  exact h
theorem isIn_5 (w : Int32) : s_isIn w.toInt64 0 5 = (!decide (w < 0) && !decide (5 < w)) := by
  have h1 : (w.toInt64 < 0) ↔ w < 0 := by rw [Int64.lt_iff_toInt_lt, Int32.lt_iff_toInt_lt, Int32.toInt_toInt64]; rfl
  have h2 : ((5 : Int64) < w.toInt64) ↔ 5 < w := by rw [Int64.lt_iff_toInt_lt, Int32.lt_iff_toInt_lt, Int32.toInt_toInt64]; rfl
  simp only [s_isIn, h1, h2]
theorem dX9_init_0 : decode cX9_init 0 = .ok (.aload_n 0, 1) := by decide +kernel
theorem dX9_init_1 : decode cX9_init 1 = .ok (.aload_n 1, 1) := by decide +kernel
theorem dX9_init_2 : decode cX9_init 2 = .ok (.putfield 3, 3) := by decide +kernel
theorem dX9_init_5 : decode cX9_init 5 = .ok (.aload_n 0, 1) := by decide +kernel
theorem dX9_init_6 : decode cX9_init 6 = .ok (.invokespecial 9, 3) := by decide +kernel
theorem dX9_init_9 : decode cX9_init 9 = .ok (.aload_n 0, 1) := by decide +kernel
theorem dX9_init_10 : decode cX9_init 10 = .ok (.bipush 12, 2) := by decide +kernel
theorem dX9_init_12 : decode cX9_init 12 = .ok (.anewarray 15, 3) := by decide +kernel
theorem dX9_init_15 : decode cX9_init 15 = .ok (.putfield 17, 3) := by decide +kernel
theorem dX9_init_18 : decode cX9_init 18 = .ok (.aload_n 0, 1) := by decide +kernel
theorem dX9_init_19 : decode cX9_init 19 = .ok (.iconst 1, 1) := by decide +kernel
theorem dX9_init_20 : decode cX9_init 20 = .ok (.putfield 21, 3) := by decide +kernel
theorem dX9_init_23 : decode cX9_init 23 = .ok (.iconst 0, 1) := by decide +kernel
theorem dX9_init_24 : decode cX9_init 24 = .ok (.istore_n 3, 1) := by decide +kernel
theorem dX9_init_25 : decode cX9_init 25 = .ok (.iload_n 3, 1) := by decide +kernel
theorem dX9_init_26 : decode cX9_init 26 = .ok (.iload_n 2, 1) := by decide +kernel
theorem dX9_init_27 : decode cX9_init 27 = .ok (.if_icmp .ge 74, 3) := by decide +kernel
theorem dX9_init_30 : decode cX9_init 30 = .ok (.iconst 1, 1) := by decide +kernel
theorem dX9_init_31 : decode cX9_init 31 = .ok (.istore 4, 2) := by decide +kernel
theorem dX9_init_33 : decode cX9_init 33 = .ok (.iconst 0, 1) := by decide +kernel
theorem dX9_init_34 : decode cX9_init 34 = .ok (.istore 5, 2) := by decide +kernel
theorem dX9_init_36 : decode cX9_init 36 = .ok (.iload 5, 2) := by decide +kernel
theorem dX9_init_38 : decode cX9_init 38 = .ok (.aload_n 0, 1) := by decide +kernel
theorem dX9_init_39 : decode cX9_init 39 = .ok (.getfield 25, 3) := by decide +kernel
theorem dX9_init_42 : decode cX9_init 42 = .ok (.if_icmp .ge 38, 3) := by decide +kernel
theorem dX9_init_45 : decode cX9_init 45 = .ok (.iload 4, 2) := by decide +kernel
theorem dX9_init_47 : decode cX9_init 47 = .ok (.aload_n 0, 1) := by decide +kernel
theorem dX9_init_48 : decode cX9_init 48 = .ok (.getfield 17, 3) := by decide +kernel
theorem dX9_init_51 : decode cX9_init 51 = .ok (.iload 5, 2) := by decide +kernel
theorem dX9_init_53 : decode cX9_init 53 = .ok (.aaload, 1) := by decide +kernel
theorem dX9_init_54 : decode cX9_init 54 = .ok (.aload_n 1, 1) := by decide +kernel
theorem dX9_init_55 : decode cX9_init 55 = .ok (.getfield 28, 3) := by decide +kernel
theorem dX9_init_58 : decode cX9_init 58 = .ok (.iload_n 3, 1) := by decide +kernel
theorem dX9_init_59 : decode cX9_init 59 = .ok (.aaload, 1) := by decide +kernel
theorem dX9_init_60 : decode cX9_init 60 = .ok (.invokevirtual 31, 3) := by decide +kernel
theorem dX9_init_63 : decode cX9_init 63 = .ok (.ifCond .ne 7, 3) := by decide +kernel
theorem dX9_init_66 : decode cX9_init 66 = .ok (.iconst 1, 1) := by decide +kernel
theorem dX9_init_67 : decode cX9_init 67 = .ok (.goto 4, 3) := by decide +kernel
theorem dX9_init_70 : decode cX9_init 70 = .ok (.iconst 0, 1) := by decide +kernel
theorem dX9_init_71 : decode cX9_init 71 = .ok (.iand, 1) := by decide +kernel
theorem dX9_init_72 : decode cX9_init 72 = .ok (.istore 4, 2) := by decide +kernel
theorem dX9_init_74 : decode cX9_init 74 = .ok (.iinc 5 1, 3) := by decide +kernel
theorem dX9_init_77 : decode cX9_init 77 = .ok (.goto (-41), 3) := by decide +kernel
theorem dX9_init_80 : decode cX9_init 80 = .ok (.iload 4, 2) := by decide +kernel
theorem dX9_init_82 : decode cX9_init 82 = .ok (.ifCond .eq 13, 3) := by decide +kernel
theorem dX9_init_85 : decode cX9_init 85 = .ok (.aload_n 0, 1) := by decide +kernel
theorem dX9_init_86 : decode cX9_init 86 = .ok (.aload_n 1, 1) := by decide +kernel
theorem dX9_init_87 : decode cX9_init 87 = .ok (.getfield 28, 3) := by decide +kernel
theorem dX9_init_90 : decode cX9_init 90 = .ok (.iload_n 3, 1) := by decide +kernel
theorem dX9_init_91 : decode cX9_init 91 = .ok (.aaload, 1) := by decide +kernel
theorem dX9_init_92 : decode cX9_init 92 = .ok (.invokevirtual 35, 3) := by decide +kernel
theorem dX9_init_95 : decode cX9_init 95 = .ok (.iinc 3 1, 3) := by decide +kernel
theorem dX9_init_98 : decode cX9_init 98 = .ok (.goto (-73), 3) := by decide +kernel
theorem dX9_init_101 : decode cX9_init 101 = .ok (.return_, 1) := by decide +kernel
set_option maxHeartbeats 800000 in
theorem met_X9_init (l : Launch) (G : GG) {H : Heap} {o : Nat} {B P L : Nat → Nat} {σ : Sg} {r N : Nat} (hJ : JW G H o B P L σ) (hO : Ok σ) (hN : N ≤ σ.nl) (h : va_at G.1 clA (r, .inr (6, [.null, .int 0, .int 0, .int 0, .int 0, .null])) H) (hnr : ¬ cellJ o B P L σ r) : GM l yX9_init cX9_init 6 none 3 1 12 72 G H [.ref r, .ref o, .int (nI N)] (fun oc H' => oc = .returned none ∧ ∃ al : Nat, va_at G.1 clA (r, .inr (6, [.ref al, .int (nI (j_arr σ.ln N).2.1), .int (j_arr σ.ln N).2.2.1, .int (j_arr σ.ln N).2.2.2.1, .int (j_arr σ.ln N).2.2.2.2, .ref o])) H' ∧ aLn G al 12 (fun j => if j < (j_arr σ.ln N).2.1 then some (L ((j_arr σ.ln N).1 j)) else none) H' ∧ KR r H H') (fun z => z = r ∨ z = H.size) := by
  refine gm_intro pl_X9_init (Nat.le_of_ble_eq_true rfl) ?_
  intro pX eX sX mX belX methX cX ls hE hnm hl
  obtain ⟨hx, hb, hr, hlk, hml, hown, hts, hK, hZ, hH⟩ := hE
  have hl : lv_has ls 6 [(0, .ref r), (1, .ref o), (2, .int (nI N))] := hl
  have hL : ∀ q ∈ ([] : List Loc), (fun z => z = r ∨ z = H.size : Addr → Prop) q.base := fun q h => by cases h
  have hN31 : N < 2 ^ 31 := Nat.lt_of_le_of_lt hN hO.nl31
  have hJ0 := hJ
  refine lv_aload_n hx hb dX9_init_0 rfl (lv_at hl 0 rfl) ?_
  refine lv_aload_n hx hb dX9_init_1 rfl (lv_at hl 1 rfl) ?_
  refine pf_X9_3 (F := fun z => z = r ∨ z = H.size) hx hb hts hown hK hnm h rfl rfl (Nat.le_of_ble_eq_true rfl) dX9_init_2 hL (Or.inl rfl) (fun H1_ locs h1_ ho1_ hL => ?_)
  refine lv_aload_n hx hb dX9_init_5 rfl (lv_at hl 0 rfl) ?_
  refine W.objInit hx hb hown (hts _ q418) (hts _ q68) (hts _ q69) rfl (by rw [hml]; exact hl.1) rfl dX9_init_6 (Nat.le_of_ble_eq_true rfl) (Nat.le_of_ble_eq_true rfl) ?_
  refine W.eq (g2 := F0 mX 9 ls []) rfl ?_
  refine lv_aload_n hx hb dX9_init_9 rfl (lv_at hl 0 rfl) ?_
  refine lv_bipush (v := 12) hx hb dX9_init_10 ib_12 ?_
  refine w_anew (C := "OrderJudge$Line") (t0 := 1) (N := 12) hx hb hown hK (hts _ q419) hK.2.2.2.1.2 rfl rfl (by decide) (Nat.le_of_ble_eq_true rfl) (Nat.le_of_ble_eq_true rfl) dX9_init_12 (fun al Hal_ eal_ hal_ hzal_ hgal_ => ?_)
  have h2_ := at_grow h1_ hgal_
  refine pf_X9_17 (F := fun z => z = r ∨ z = H.size) hx hb hts hown hK hnm h2_ rfl rfl (Nat.le_of_ble_eq_true rfl) dX9_init_15 hL (Or.inl rfl) (fun H3_ locs h3_ ho3_ hL => ?_)
  have h4_ := at_only hal_ ho3_ (by rw [eal_, ho1_.1]; exact Nat.ne_of_gt h.lt)
  refine lv_aload_n hx hb dX9_init_18 rfl (lv_at hl 0 rfl) ?_
  refine lv_iconst (v := 1) hx hb dX9_init_19 ic_1 ?_
  refine pf_X9_21 (F := fun z => z = r ∨ z = H.size) hx hb hts hown hK h3_ rfl rfl (Nat.le_of_ble_eq_true rfl) dX9_init_20 hL (Or.inl rfl) (fun H5_ locs h5_ ho5_ hL => ?_)
  have h6_ := at_only h4_ ho5_ (by rw [eal_, ho1_.1]; exact Nat.ne_of_gt h.lt)
  refine lv_iconst (v := 0) hx hb dX9_init_23 ic_0 ?_
  refine lv_istore_n (lv' := [(3, .int _), (0, .ref _), (1, .ref _), (2, .int _)]) hx hb dX9_init_24 rfl hl (Nat.le_of_ble_eq_true rfl) rfl (fun ls hl => ?_)
  have ea_ := h6_
  rw [ar_0 (L := L) (d := fun _ => 0)] at ea_
  refine loopG (N := N) (nL := 6) (F := fun z => z = r ∨ z = H.size) (lv := fun k => [(0, .ref r), (1, .ref o), (2, .int (nI N)), (3, .int (nI k))]) (I := fun k HI_ => va_at G.1 clA (r, .inr (6, [.ref al, .int (nI (j_arr σ.ln k).2.1), .int (j_arr σ.ln k).2.2.1, .int (j_arr σ.ln k).2.2.2.1, .int (j_arr σ.ln k).2.2.2.2, .ref o])) HI_ ∧ aLn G al 12 (fun j => if j < (j_arr σ.ln k).2.1 then some (L ((j_arr σ.ln k).1 j)) else none) HI_ ∧ KR r H HI_) (fun k hk_k ih_k HIk_ locs ls hIk hL hl => ?_) 0 (Nat.zero_le _) _ _ ls (show va_at G.1 clA (r, .inr (6, [.ref al, .int (nI (j_arr σ.ln 0).2.1), .int (j_arr σ.ln 0).2.2.1, .int (j_arr σ.ln 0).2.2.2.1, .int (j_arr σ.ln 0).2.2.2.2, .ref o])) _ ∧ aLn G al 12 (fun j => if j < (j_arr σ.ln 0).2.1 then some (L ((j_arr σ.ln 0).1 j)) else none) _ ∧ KR r H _ from ⟨h5_, ea_, KR.mk ho1_ hgal_ hzal_ ho3_ ho5_⟩) hL (lv_sub hl [1, 2, 3, 0] rfl)
  replace hl : lv_has ls 6 [(0, .ref r), (1, .ref o), (2, .int (nI N)), (3, .int (nI k))] := hl
  have hJ := hJ.kept (fun q hq => hIk.2.2.2 q (hJ.cell hq) (fun h => hnr (h ▸ hq)))
  obtain ⟨hDk, hdk⟩ := arr_d σ.ln k
  have hD12 : (j_arr σ.ln k).2.1 ≤ 12 := by have := hO.1.2.2; omega
  have hD31 : (j_arr σ.ln k).2.1 < 2 ^ 31 := by omega
  have hdl : ∀ j, j < (j_arr σ.ln k).2.1 → (j_arr σ.ln k).1 j < σ.nl := fun j hj => by have := hdk j hj; omega
  refine lv_iload_n hx hb dX9_init_25 rfl (lv_at hl 3 rfl) ?_
  refine lv_iload_n hx hb dX9_init_26 rfl (lv_at hl 2 rfl) ?_
  refine lv_icmp_ge (tgt := 101) hx hb dX9_init_27 rfl (fun c_27_0 => ?_) (fun c_27_0 => ?_)
  · skip
    have e_k := lp_out hk_k hN31 c_27_0
    subst e_k
    exact g_vret (F := fun z => z = r ∨ z = H.size) (Post := fun oc H' => oc = .returned none ∧ ∃ al : Nat, va_at G.1 clA (r, .inr (6, [.ref al, .int (nI (j_arr σ.ln N).2.1), .int (j_arr σ.ln N).2.2.1, .int (j_arr σ.ln N).2.2.2.1, .int (j_arr σ.ln N).2.2.2.2, .ref o])) H' ∧ aLn G al 12 (fun j => if j < (j_arr σ.ln N).2.1 then some (L ((j_arr σ.ln N).1 j)) else none) H' ∧ KR r H H') hx hb hr hlk hL dX9_init_101 ⟨rfl, al, hIk.1, hIk.2.1, hIk.2.2⟩
  have h_k := lp_in hk_k hN31 c_27_0
  have h_kl : k < σ.nl := Nat.lt_of_lt_of_le h_k hN
  refine lv_iconst (v := 1) hx hb dX9_init_30 ic_1 ?_
  refine lv_istore (lv' := [(4, .int _), (0, .ref _), (1, .ref _), (2, .int _), (3, .int _)]) hx hb dX9_init_31 hl (Nat.le_of_ble_eq_true rfl) rfl (fun ls hl => ?_)
  refine lv_iconst (v := 0) hx hb dX9_init_33 ic_0 ?_
  refine lv_istore (lv' := [(5, .int _), (4, .int _), (0, .ref _), (1, .ref _), (2, .int _), (3, .int _)]) hx hb dX9_init_34 hl (Nat.le_of_ble_eq_true rfl) rfl (fun ls hl => ?_)
  refine loopW (N := (j_arr σ.ln k).2.1) (nL := 6) (lv := fun j => [(0, .ref r), (1, .ref o), (2, .int (nI N)), (3, .int (nI k)), (4, .int (bI (j_isN (fun j => σ.ln ((j_arr σ.ln k).1 j)) (σ.ln k) j))), (5, .int (nI j))]) (fun j hk_j ih_j ls hl => ?_) 0 (Nat.zero_le _) ls (lv_sub hl [2, 3, 4, 5, 1, 0] rfl)
  replace hl : lv_has ls 6 [(0, .ref r), (1, .ref o), (2, .int (nI N)), (3, .int (nI k)), (4, .int (bI (j_isN (fun j => σ.ln ((j_arr σ.ln k).1 j)) (σ.ln k) j))), (5, .int (nI j))] := hl
  refine lv_iload hx hb dX9_init_36 (lv_at hl 5 rfl) ?_
  refine lv_aload_n hx hb dX9_init_38 rfl (lv_at hl 0 rfl) ?_
  refine gf_X9_25 hx hb hts hown hK hIk.1 rfl dX9_init_39 ?_
  refine lv_icmp_ge (tgt := 80) hx hb dX9_init_42 rfl (fun c_42_1 => ?_) (fun c_42_1 => ?_)
  · skip
    have e_j := lp_out hk_j hD31 c_42_1
    subst e_j
    refine lv_iload hx hb dX9_init_80 (lv_at hl 4 rfl) ?_
    refine b_ifeq (tgt := 95) hx hb dX9_init_82 rfl (fun c_82_2 => ?_) (fun c_82_2 => ?_)
    · skip
      refine lv_iinc (v := nI (k + 1)) (k := 3) (lv' := [(3, .int _), (0, .ref _), (1, .ref _), (2, .int _), (4, .int _), (5, .int _)]) hx hb dX9_init_95 hl rfl (nI_1 _) (Nat.le_of_ble_eq_true rfl) rfl (fun ls hl => ?_)
      refine lv_goto (tgt := 25) hx hb dX9_init_98 rfl ?_
      exact ih_k _ _ ls (show va_at G.1 clA (r, .inr (6, [.ref al, .int (nI (j_arr σ.ln (k + 1)).2.1), .int (j_arr σ.ln (k + 1)).2.2.1, .int (j_arr σ.ln (k + 1)).2.2.2.1, .int (j_arr σ.ln (k + 1)).2.2.2.2, .ref o])) _ ∧ aLn G al 12 (fun j => if j < (j_arr σ.ln (k + 1)).2.1 then some (L ((j_arr σ.ln (k + 1)).1 j)) else none) _ ∧ KR r H _ from by rw [arr_f c_82_2]; exact hIk) hL (lv_sub hl [1, 2, 3, 0] rfl) h_k
    refine lv_aload_n hx hb dX9_init_85 rfl (lv_at hl 0 rfl) ?_
    refine lv_aload_n hx hb dX9_init_86 rfl (lv_at hl 1 rfl) ?_
    refine gf_X9_28 hx hb hts hown hK hJ.1 rfl dX9_init_87 ?_
    refine lv_iload_n hx hb dX9_init_90 rfl (lv_at hl 3 rfl) ?_
    refine r_qald hx hb hK hJ.2.2.2.1 dX9_init_91 (k := k) (hO.lt12 h_kl) (by decide) rfl (pa_some h_kl) ?_
    refine g_callV (F := fun z => z = r ∨ z = H.size) (As := [.ref _]) hx hb hml hown hts hK (met_X9_add l G hJ hO hIk.1 hIk.2.1 hD12 hdl (by have := hO.1.2.2; omega) h_kl (by rw [eal_, ho1_.1]; exact Nat.ne_of_lt h.lt) hnr (fun hc => Nat.lt_irrefl _ ((eal_.trans ho1_.1) ▸ hJ0.cell hc))) q428 q430 qs7 q61 q431 hv_X9_add rfl hIk.1 rfl (by decide) hl.1 rfl (Nat.le_of_ble_eq_true rfl) dX9_init_92 ⟨Nat.le_of_ble_eq_true rfl, Nat.le_of_ble_eq_true rfl⟩ (fun q hq => hq.elim Or.inl (fun h => Or.inr (h.trans (eal_.trans ho1_.1)))) hL (fun v5_ H5_ locs hP5_ hL => ?_)
    obtain ⟨hv5_, hat5_, hal5_, hka5_⟩ := hP5_
    cases hv5_
    refine lv_iinc (v := nI (k + 1)) (k := 3) (lv' := [(3, .int _), (0, .ref _), (1, .ref _), (2, .int _), (4, .int _), (5, .int _)]) hx hb dX9_init_95 hl rfl (nI_1 _) (Nat.le_of_ble_eq_true rfl) rfl (fun ls hl => ?_)
    refine lv_goto (tgt := 25) hx hb dX9_init_98 rfl ?_
    exact ih_k _ _ ls (show va_at G.1 clA (r, .inr (6, [.ref al, .int (nI (j_arr σ.ln (k + 1)).2.1), .int (j_arr σ.ln (k + 1)).2.2.1, .int (j_arr σ.ln (k + 1)).2.2.2.1, .int (j_arr σ.ln (k + 1)).2.2.2.2, .ref o])) _ ∧ aLn G al 12 (fun j => if j < (j_arr σ.ln (k + 1)).2.1 then some (L ((j_arr σ.ln (k + 1)).1 j)) else none) _ ∧ KR r H _ from by rw [arr_t c_82_2]; exact ⟨hat5_, hal5_, hIk.2.2.ka (eal_.trans ho1_.1) hka5_⟩) hL (lv_sub hl [1, 2, 3, 0] rfl) h_k
  have h_j := lp_in hk_j hD31 c_42_1
  refine lv_iload hx hb dX9_init_45 (lv_at hl 4 rfl) ?_
  refine cutI (J := 71) (v := bI (!j_same (σ.ln ((j_arr σ.ln k).1 j)) (σ.ln k))) ?_ (fun K57 => ?_)
  rotate_left
  · skip
    refine lv_aload_n hx hb dX9_init_47 rfl (lv_at hl 0 rfl) ?_
    refine gf_X9_17 hx hb hts hown hK hIk.1 rfl dX9_init_48 ?_
    refine lv_iload hx hb dX9_init_51 (lv_at hl 5 rfl) ?_
    refine r_qald hx hb hK hIk.2.1 dX9_init_53 (k := j) (Nat.lt_of_lt_of_le h_j hD12) (by decide) rfl (ar_some h_j) ?_
    refine lv_aload_n hx hb dX9_init_54 rfl (lv_at hl 1 rfl) ?_
    refine gf_X9_28 hx hb hts hown hK hJ.1 rfl dX9_init_55 ?_
    refine lv_iload_n hx hb dX9_init_58 rfl (lv_at hl 3 rfl) ?_
    refine r_qald hx hb hK hJ.2.2.2.1 dX9_init_59 (k := k) (hO.lt12 h_kl) (by decide) rfl (pa_some h_kl) ?_
    refine p_callV (As := [.ref _]) hx hb hml hown hts hK trivial (met_X8_isSame l G (hJ.2.2.2.2.2 _ (hdl _ h_j)) (hJ.2.2.2.2.2 _ h_kl)) q420 q421 q422 q60 q423 hv_X8_isSame rfl (hJ.2.2.2.2.2 _ (hdl _ h_j)) rfl (by decide) hl.1 rfl (Nat.le_of_ble_eq_true rfl) dX9_init_60 ⟨Nat.le_of_ble_eq_true rfl, Nat.le_of_ble_eq_true rfl⟩ ?_
    refine b_ifne (tgt := 70) hx hb dX9_init_63 rfl (fun c_63_2 => ?_) (fun c_63_2 => ?_)
    · skip
      refine lv_iconst (v := 0) hx hb dX9_init_70 ic_0 ?_
      exact K57 _ (by first | with_reducible rfl | (simp only [c_63_2, ↓reduceIte, Bool.true_and, Bool.and_true, Bool.false_and, Bool.and_false, Bool.true_or, Bool.or_true, Bool.false_or, Bool.or_false, Bool.not_true, Bool.not_false, decide_true, decide_false, bI_t, bI_f, Bool.false_eq_true, not_true_eq_false, not_false_eq_true, eq_self, reduceCtorEq, Bool.true_eq_false, and_true, true_and, and_false, false_and, or_true, true_or, or_false, false_or]; done))
    refine lv_iconst (v := 1) hx hb dX9_init_66 ic_1 ?_
    refine lv_goto (tgt := 71) hx hb dX9_init_67 rfl ?_
    exact K57 _ (by first | with_reducible rfl | (simp only [c_63_2, ↓reduceIte, Bool.true_and, Bool.and_true, Bool.false_and, Bool.and_false, Bool.true_or, Bool.or_true, Bool.false_or, Bool.or_false, Bool.not_true, Bool.not_false, decide_true, decide_false, bI_t, bI_f, Bool.false_eq_true, not_true_eq_false, not_false_eq_true, eq_self, reduceCtorEq, Bool.true_eq_false, and_true, true_and, and_false, false_and, or_true, true_or, or_false, false_or]; done))
  refine lv_iand hx hb dX9_init_71 ?_
  refine topi_eq (bI_and _ _) ?_
  refine lv_istore (lv' := [(4, .int _), (0, .ref _), (1, .ref _), (2, .int _), (3, .int _), (5, .int _)]) hx hb dX9_init_72 hl (Nat.le_of_ble_eq_true rfl) rfl (fun ls hl => ?_)
  refine lv_iinc (v := nI (j + 1)) (k := 5) (lv' := [(5, .int _), (4, .int _), (0, .ref _), (1, .ref _), (2, .int _), (3, .int _)]) hx hb dX9_init_74 hl rfl (nI_1 _) (Nat.le_of_ble_eq_true rfl) rfl (fun ls hl => ?_)
  refine lv_goto (tgt := 36) hx hb dX9_init_77 rfl ?_
  exact ih_j ls (lv_sub hl [2, 3, 4, 5, 1, 0] rfl) h_j
theorem dX1_lines_0 : decode cX1_lines 0 = .ok (.iload_n 1, 1) := by decide +kernel
theorem dX1_lines_1 : decode cX1_lines 1 = .ok (.i2l, 1) := by decide +kernel
theorem dX1_lines_2 : decode cX1_lines 2 = .ok (.lconst 0, 1) := by decide +kernel
theorem dX1_lines_3 : decode cX1_lines 3 = .ok (.aload_n 0, 1) := by decide +kernel
theorem dX1_lines_4 : decode cX1_lines 4 = .ok (.getfield 181, 3) := by decide +kernel
theorem dX1_lines_7 : decode cX1_lines 7 = .ok (.i2l, 1) := by decide +kernel
theorem dX1_lines_8 : decode cX1_lines 8 = .ok (.invokestatic 46, 3) := by decide +kernel
theorem dX1_lines_11 : decode cX1_lines 11 = .ok (.ifCond .eq 15, 3) := by decide +kernel
theorem dX1_lines_14 : decode cX1_lines 14 = .ok (.iload_n 2, 1) := by decide +kernel
theorem dX1_lines_15 : decode cX1_lines 15 = .ok (.i2l, 1) := by decide +kernel
theorem dX1_lines_16 : decode cX1_lines 16 = .ok (.lconst 0, 1) := by decide +kernel
theorem dX1_lines_17 : decode cX1_lines 17 = .ok (.ldc2_w 187, 3) := by decide +kernel
theorem dX1_lines_20 : decode cX1_lines 20 = .ok (.invokestatic 46, 3) := by decide +kernel
theorem dX1_lines_23 : decode cX1_lines 23 = .ok (.ifCond .ne 6, 3) := by decide +kernel
theorem dX1_lines_26 : decode cX1_lines 26 = .ok (.bipush (-2), 2) := by decide +kernel
theorem dX1_lines_28 : decode cX1_lines 28 = .ok (.ireturn, 1) := by decide +kernel
theorem dX1_lines_29 : decode cX1_lines 29 = .ok (.new 189, 3) := by decide +kernel
theorem dX1_lines_32 : decode cX1_lines 32 = .ok (.dup, 1) := by decide +kernel
theorem dX1_lines_33 : decode cX1_lines 33 = .ok (.aload_n 0, 1) := by decide +kernel
theorem dX1_lines_34 : decode cX1_lines 34 = .ok (.iload_n 1, 1) := by decide +kernel
theorem dX1_lines_35 : decode cX1_lines 35 = .ok (.invokespecial 191, 3) := by decide +kernel
theorem dX1_lines_38 : decode cX1_lines 38 = .ok (.astore_n 3, 1) := by decide +kernel
theorem dX1_lines_39 : decode cX1_lines 39 = .ok (.iload_n 2, 1) := by decide +kernel
theorem dX1_lines_40 : decode cX1_lines 40 = .ok (.tableswitch 79 0 4 #[36, 41, 46, 51, 56], 36) := by decide +kernel
theorem dX1_lines_76 : decode cX1_lines 76 = .ok (.aload_n 3, 1) := by decide +kernel
theorem dX1_lines_77 : decode cX1_lines 77 = .ok (.getfield 194, 3) := by decide +kernel
theorem dX1_lines_80 : decode cX1_lines 80 = .ok (.ireturn, 1) := by decide +kernel
theorem dX1_lines_81 : decode cX1_lines 81 = .ok (.aload_n 3, 1) := by decide +kernel
theorem dX1_lines_82 : decode cX1_lines 82 = .ok (.getfield 197, 3) := by decide +kernel
theorem dX1_lines_85 : decode cX1_lines 85 = .ok (.ireturn, 1) := by decide +kernel
theorem dX1_lines_86 : decode cX1_lines 86 = .ok (.aload_n 3, 1) := by decide +kernel
theorem dX1_lines_87 : decode cX1_lines 87 = .ok (.getfield 200, 3) := by decide +kernel
theorem dX1_lines_90 : decode cX1_lines 90 = .ok (.ireturn, 1) := by decide +kernel
theorem dX1_lines_91 : decode cX1_lines 91 = .ok (.aload_n 3, 1) := by decide +kernel
theorem dX1_lines_92 : decode cX1_lines 92 = .ok (.invokevirtual 203, 3) := by decide +kernel
theorem dX1_lines_95 : decode cX1_lines 95 = .ok (.ireturn, 1) := by decide +kernel
theorem dX1_lines_96 : decode cX1_lines 96 = .ok (.aload_n 3, 1) := by decide +kernel
theorem dX1_lines_97 : decode cX1_lines 97 = .ok (.getfield 197, 3) := by decide +kernel
theorem dX1_lines_100 : decode cX1_lines 100 = .ok (.ifCond .ne 7, 3) := by decide +kernel
theorem dX1_lines_103 : decode cX1_lines 103 = .ok (.iconst 0, 1) := by decide +kernel
theorem dX1_lines_104 : decode cX1_lines 104 = .ok (.goto 14, 3) := by decide +kernel
theorem dX1_lines_107 : decode cX1_lines 107 = .ok (.aload_n 3, 1) := by decide +kernel
theorem dX1_lines_108 : decode cX1_lines 108 = .ok (.getfield 200, 3) := by decide +kernel
theorem dX1_lines_111 : decode cX1_lines 111 = .ok (.iconst 2, 1) := by decide +kernel
theorem dX1_lines_112 : decode cX1_lines 112 = .ok (.aload_n 3, 1) := by decide +kernel
theorem dX1_lines_113 : decode cX1_lines 113 = .ok (.getfield 194, 3) := by decide +kernel
theorem dX1_lines_116 : decode cX1_lines 116 = .ok (.imul, 1) := by decide +kernel
theorem dX1_lines_117 : decode cX1_lines 117 = .ok (.isub, 1) := by decide +kernel
theorem dX1_lines_118 : decode cX1_lines 118 = .ok (.ireturn, 1) := by decide +kernel
theorem dX1_lines_119 : decode cX1_lines 119 = .ok (.aload_n 3, 1) := by decide +kernel
theorem dX1_lines_120 : decode cX1_lines 120 = .ok (.getfield 207, 3) := by decide +kernel
theorem dX1_lines_123 : decode cX1_lines 123 = .ok (.ireturn, 1) := by decide +kernel
set_option maxHeartbeats 800000 in
theorem met_X1_lines (l : Launch) (G : GG) {H : Heap} {o : Nat} {B P L : Nat → Nat} {σ : Sg} {n w : Int32} (hJ : JW G H o B P L σ) (hO : Ok σ) (hS : JS o B P L σ) : GM l yX1_lines cX1_lines 4 (some .int) 4 2 18 97 G H [.ref o, .int n, .int w] (fun oc H' => oc = .returned (some (.int (s_lines σ n w (j_linesV σ.ln)))) ∧ JP G H o B P L σ σ H') (fun z => ownJ o B z ∨ H.size ≤ z) := by
  refine gm_intro pl_X1_lines (Nat.le_of_ble_eq_true rfl) ?_
  intro pX eX sX mX belX methX cX ls hE hnm hl
  obtain ⟨hx, hb, hr, hlk, hml, hown, hts, hK, hZ, hH⟩ := hE
  have hl : lv_has ls 4 [(0, .ref o), (1, .int n), (2, .int w)] := hl
  have hL : ∀ q ∈ ([] : List Loc), (fun z => ownJ o B z ∨ H.size ≤ z : Addr → Prop) q.base := fun q h => by cases h
  refine lv_iload_n hx hb dX1_lines_0 rfl (lv_at hl 1 rfl) ?_
  refine lv_i2l hx hb dX1_lines_1 rfl ?_
  refine lv_lconst (v := 0) hx hb dX1_lines_2 rfl ?_
  refine lv_aload_n hx hb dX1_lines_3 rfl (lv_at hl 0 rfl) ?_
  refine gf_X1_181 hx hb hts hown hK hJ.1 rfl dX1_lines_4 ?_
  refine lv_i2l hx hb dX1_lines_7 rfl ?_
  refine p_callS (As := [.long _, .long _, .long _]) hx hb hml hown hts hK trivial (met_X1_isIn l G ) q110 q111 q42 q112 hd_X1_isIn rfl (by decide) hl.1 rfl (Nat.le_of_ble_eq_true rfl) dX1_lines_8 ⟨Nat.le_of_ble_eq_true rfl, Nat.le_of_ble_eq_true rfl⟩ ?_
  refine b_ifeq (tgt := 26) hx hb dX1_lines_11 rfl (fun c_11 => ?_) (fun c_11 => ?_)
  · skip
    rw [isIn_many0] at c_11
    refine lv_bipush (v := -2) hx hb dX1_lines_26 ib_m2 ?_
    refine W.widen (k := 2) (n := 18) (Nat.le_of_ble_eq_true rfl) (Nat.le_of_ble_eq_true rfl) ?_
    exact g_iret (F := fun z => ownJ o B z ∨ H.size ≤ z) (Post := fun oc H' => oc = .returned (some (.int (s_lines σ n w (j_linesV σ.ln)))) ∧ JP G H o B P L σ σ H') hx hb hr hlk hL dX1_lines_28 (i_post (by first | with_reducible rfl | (simp only [s_lines, j_linesV, c_11, nz10, nz20, nz21, nz30, nz31, nz32, nz40, nz41, nz42, nz43, ↓reduceIte, Bool.true_and, Bool.and_true, Bool.false_and, Bool.and_false, Bool.true_or, Bool.or_true, Bool.false_or, Bool.or_false, Bool.not_true, Bool.not_false, decide_true, decide_false, bI_t, bI_f, Bool.false_eq_true, not_true_eq_false, not_false_eq_true, eq_self, reduceCtorEq, Bool.true_eq_false, and_true, true_and, and_false, false_and, or_true, true_or, or_false, false_or]; done)) (JP.rf hJ hS))
  rw [isIn_many0] at c_11
  obtain ⟨N, hN, rfl, -⟩ := many_elim (rn := σ.nl) (k := 0) (n := n) (by decide) hO.nl31 c_11
  have hN31 : N < 2 ^ 31 := Nat.lt_of_le_of_lt hN hO.nl31
  refine lv_iload_n hx hb dX1_lines_14 rfl (lv_at hl 2 rfl) ?_
  refine lv_i2l hx hb dX1_lines_15 rfl ?_
  refine lv_lconst (v := 0) hx hb dX1_lines_16 rfl ?_
  refine lv_ldc2 hx hb hown (hts _ q412) dX1_lines_17 ?_
  refine p_callS (As := [.long _, .long _, .long _]) hx hb hml hown hts hK trivial (met_X1_isIn l G ) q110 q111 q42 q112 hd_X1_isIn rfl (by decide) hl.1 rfl (Nat.le_of_ble_eq_true rfl) dX1_lines_20 ⟨Nat.le_of_ble_eq_true rfl, Nat.le_of_ble_eq_true rfl⟩ ?_
  refine b_ifne (tgt := 29) hx hb dX1_lines_23 rfl (fun c_23 => ?_) (fun c_23 => ?_)
  · skip
    rw [isIn_5] at c_23
    refine nw_X9 hx hb hts hown q413 hK (Nat.le_of_ble_eq_true rfl) (Nat.le_of_ble_eq_true rfl) dX1_lines_29 (fun nq Hnq_ enq_ hnq_ hznq_ hgnq_ => ?_)
    have h1_ := at_grow hJ.1 hgnq_
    refine lv_dup hx hb dX1_lines_32 rfl ?_
    refine lv_aload_n hx hb dX1_lines_33 rfl (lv_at hl 0 rfl) ?_
    refine lv_iload_n hx hb dX1_lines_34 rfl (lv_at hl 1 rfl) ?_
    refine g_callI (F := fun z => ownJ o B z ∨ H.size ≤ z) (As := [.ref _, .int _]) hx hb hml hown hts hK (met_X9_init l G (hJ.kept (fun q hq => hgnq_.2 q (hJ.cell hq))) hO hN hnq_ (fun hc => Nat.lt_irrefl _ (enq_ ▸ hJ.cell hc))) rfl q415 q416 q61 q417 hd_X9_init rfl (by decide) hl.1 rfl (Nat.le_of_ble_eq_true rfl) dX1_lines_35 ⟨Nat.le_of_ble_eq_true rfl, Nat.le_of_ble_eq_true rfl⟩ (fun q hq => hq.elim (fun h => Or.inr (Nat.le_of_eq (h.trans enq_).symm)) (fun h => Or.inr (by rw [h, hznq_]; exact Nat.le_succ _))) hL (fun v5_ H5_ locs hP5_ hL => ?_)
    obtain ⟨hv5_, al, hr0, ha0, hkr_⟩ := hP5_
    cases hv5_
    have hg_ := hgnq_.kr (Nat.le_of_eq enq_.symm) hkr_
    obtain ⟨hDN, hdN⟩ := arr_d σ.ln N
    have hD : (j_arr σ.ln N).2.1 ≤ 12 := by have := hO.1.2.2; omega
    have hd : ∀ j, j < (j_arr σ.ln N).2.1 → (j_arr σ.ln N).1 j < σ.nl := fun j hj => by have := hdN j hj; omega
    have hJ2_ := hJ.kept (fun q hq => hg_.2 q (hJ.cell hq))
    refine lv_astore_n (lv' := [(3, .ref _), (0, .ref _), (1, .int _), (2, .int _)]) hx hb dX1_lines_38 rfl hl (Nat.le_of_ble_eq_true rfl) rfl (fun ls hl => ?_)
    refine lv_iload_n hx hb dX1_lines_39 rfl (lv_at hl 3 rfl) ?_
    rcases sw_4 w with c_40 | rfl | rfl | rfl | rfl | rfl
    · skip
      refine lv_tableOut (tgt := 119) hx hb dX1_lines_40 c_40.1 rfl ?_
      refine lv_aload_n hx hb dX1_lines_119 rfl (lv_at hl 0 rfl) ?_
      refine gf_X1_207 hx hb hts hown hK hr0 rfl dX1_lines_120 ?_
      exact g_iret (F := fun z => ownJ o B z ∨ H.size ≤ z) (Post := fun oc H' => oc = .returned (some (.int (s_lines σ (nI N) w (j_linesV σ.ln)))) ∧ JP G H o B P L σ σ H') hx hb hr hlk hL dX1_lines_123 (i_post (by first | with_reducible rfl | (simp only [s_lines, j_linesV, c_11, ixn hN31, c_23, c_40.2, nz10, nz20, nz21, nz30, nz31, nz32, nz40, nz41, nz42, nz43, ↓reduceIte, Bool.true_and, Bool.and_true, Bool.false_and, Bool.and_false, Bool.true_or, Bool.or_true, Bool.false_or, Bool.or_false, Bool.not_true, Bool.not_false, decide_true, decide_false, bI_t, bI_f, Bool.false_eq_true, not_true_eq_false, not_false_eq_true, eq_self, reduceCtorEq, Bool.true_eq_false, and_true, true_and, and_false, false_and, or_true, true_or, or_false, false_or]; done) | (simp only [c_11, ixn hN31, c_23, ↓reduceIte, Bool.true_and, Bool.and_true, Bool.false_and, Bool.and_false, Bool.true_or, Bool.or_true, Bool.false_or, Bool.or_false, Bool.not_true, Bool.not_false, decide_true, decide_false, bI_t, bI_f, Bool.false_eq_true, not_true_eq_false, not_false_eq_true, eq_self, reduceCtorEq, Bool.true_eq_false, and_true, true_and, and_false, false_and, or_true, true_or, or_false, false_or] at c_40; done) | (simp only [c_11, ixn hN31, c_40.2, ↓reduceIte, Bool.true_and, Bool.and_true, Bool.false_and, Bool.and_false, Bool.true_or, Bool.or_true, Bool.false_or, Bool.or_false, Bool.not_true, Bool.not_false, decide_true, decide_false, bI_t, bI_f, Bool.false_eq_true, not_true_eq_false, not_false_eq_true, eq_self, reduceCtorEq, Bool.true_eq_false, and_true, true_and, and_false, false_and, or_true, true_or, or_false, false_or] at c_23; done) | (simp only [ixn hN31, c_23, c_40.2, ↓reduceIte, Bool.true_and, Bool.and_true, Bool.false_and, Bool.and_false, Bool.true_or, Bool.or_true, Bool.false_or, Bool.or_false, Bool.not_true, Bool.not_false, decide_true, decide_false, bI_t, bI_f, Bool.false_eq_true, not_true_eq_false, not_false_eq_true, eq_self, reduceCtorEq, Bool.true_eq_false, and_true, true_and, and_false, false_and, or_true, true_or, or_false, false_or] at c_11; done)) (JP.grow hJ hS hg_))
    · skip
      refine lv_tableIn (tgt := 76) hx hb dX1_lines_40 (by decide) (by decide) rfl rfl ?_
      refine lv_aload_n hx hb dX1_lines_76 rfl (lv_at hl 0 rfl) ?_
      refine gf_X1_194 hx hb hts hown hK hr0 rfl dX1_lines_77 ?_
      exact g_iret (F := fun z => ownJ o B z ∨ H.size ≤ z) (Post := fun oc H' => oc = .returned (some (.int (s_lines σ (nI N) w (j_linesV σ.ln)))) ∧ JP G H o B P L σ σ H') hx hb hr hlk hL dX1_lines_80 (i_post (by first | with_reducible rfl | (simp only [s_lines, j_linesV, c_11, ixn hN31, c_23, nz10, nz20, nz21, nz30, nz31, nz32, nz40, nz41, nz42, nz43, ↓reduceIte, Bool.true_and, Bool.and_true, Bool.false_and, Bool.and_false, Bool.true_or, Bool.or_true, Bool.false_or, Bool.or_false, Bool.not_true, Bool.not_false, decide_true, decide_false, bI_t, bI_f, Bool.false_eq_true, not_true_eq_false, not_false_eq_true, eq_self, reduceCtorEq, Bool.true_eq_false, and_true, true_and, and_false, false_and, or_true, true_or, or_false, false_or]; done) | (simp only [c_11, ixn hN31, ↓reduceIte, Bool.true_and, Bool.and_true, Bool.false_and, Bool.and_false, Bool.true_or, Bool.or_true, Bool.false_or, Bool.or_false, Bool.not_true, Bool.not_false, decide_true, decide_false, bI_t, bI_f, Bool.false_eq_true, not_true_eq_false, not_false_eq_true, eq_self, reduceCtorEq, Bool.true_eq_false, and_true, true_and, and_false, false_and, or_true, true_or, or_false, false_or] at c_23; done) | (simp only [ixn hN31, c_23, ↓reduceIte, Bool.true_and, Bool.and_true, Bool.false_and, Bool.and_false, Bool.true_or, Bool.or_true, Bool.false_or, Bool.or_false, Bool.not_true, Bool.not_false, decide_true, decide_false, bI_t, bI_f, Bool.false_eq_true, not_true_eq_false, not_false_eq_true, eq_self, reduceCtorEq, Bool.true_eq_false, and_true, true_and, and_false, false_and, or_true, true_or, or_false, false_or] at c_11; done)) (JP.grow hJ hS hg_))
    · skip
      refine lv_tableIn (tgt := 81) hx hb dX1_lines_40 (by decide) (by decide) rfl rfl ?_
      refine lv_aload_n hx hb dX1_lines_81 rfl (lv_at hl 0 rfl) ?_
      refine gf_X1_197 hx hb hts hown hK hr0 rfl dX1_lines_82 ?_
      exact g_iret (F := fun z => ownJ o B z ∨ H.size ≤ z) (Post := fun oc H' => oc = .returned (some (.int (s_lines σ (nI N) w (j_linesV σ.ln)))) ∧ JP G H o B P L σ σ H') hx hb hr hlk hL dX1_lines_85 (i_post (by first | with_reducible rfl | (simp only [s_lines, j_linesV, c_11, ixn hN31, c_23, nz10, nz20, nz21, nz30, nz31, nz32, nz40, nz41, nz42, nz43, ↓reduceIte, Bool.true_and, Bool.and_true, Bool.false_and, Bool.and_false, Bool.true_or, Bool.or_true, Bool.false_or, Bool.or_false, Bool.not_true, Bool.not_false, decide_true, decide_false, bI_t, bI_f, Bool.false_eq_true, not_true_eq_false, not_false_eq_true, eq_self, reduceCtorEq, Bool.true_eq_false, and_true, true_and, and_false, false_and, or_true, true_or, or_false, false_or]; done) | (simp only [c_11, ixn hN31, ↓reduceIte, Bool.true_and, Bool.and_true, Bool.false_and, Bool.and_false, Bool.true_or, Bool.or_true, Bool.false_or, Bool.or_false, Bool.not_true, Bool.not_false, decide_true, decide_false, bI_t, bI_f, Bool.false_eq_true, not_true_eq_false, not_false_eq_true, eq_self, reduceCtorEq, Bool.true_eq_false, and_true, true_and, and_false, false_and, or_true, true_or, or_false, false_or] at c_23; done) | (simp only [ixn hN31, c_23, ↓reduceIte, Bool.true_and, Bool.and_true, Bool.false_and, Bool.and_false, Bool.true_or, Bool.or_true, Bool.false_or, Bool.or_false, Bool.not_true, Bool.not_false, decide_true, decide_false, bI_t, bI_f, Bool.false_eq_true, not_true_eq_false, not_false_eq_true, eq_self, reduceCtorEq, Bool.true_eq_false, and_true, true_and, and_false, false_and, or_true, true_or, or_false, false_or] at c_11; done)) (JP.grow hJ hS hg_))
    · skip
      refine lv_tableIn (tgt := 86) hx hb dX1_lines_40 (by decide) (by decide) rfl rfl ?_
      refine lv_aload_n hx hb dX1_lines_86 rfl (lv_at hl 0 rfl) ?_
      refine gf_X1_200 hx hb hts hown hK hr0 rfl dX1_lines_87 ?_
      exact g_iret (F := fun z => ownJ o B z ∨ H.size ≤ z) (Post := fun oc H' => oc = .returned (some (.int (s_lines σ (nI N) w (j_linesV σ.ln)))) ∧ JP G H o B P L σ σ H') hx hb hr hlk hL dX1_lines_90 (i_post (by first | with_reducible rfl | (simp only [s_lines, j_linesV, c_11, ixn hN31, c_23, nz10, nz20, nz21, nz30, nz31, nz32, nz40, nz41, nz42, nz43, ↓reduceIte, Bool.true_and, Bool.and_true, Bool.false_and, Bool.and_false, Bool.true_or, Bool.or_true, Bool.false_or, Bool.or_false, Bool.not_true, Bool.not_false, decide_true, decide_false, bI_t, bI_f, Bool.false_eq_true, not_true_eq_false, not_false_eq_true, eq_self, reduceCtorEq, Bool.true_eq_false, and_true, true_and, and_false, false_and, or_true, true_or, or_false, false_or]; done) | (simp only [c_11, ixn hN31, ↓reduceIte, Bool.true_and, Bool.and_true, Bool.false_and, Bool.and_false, Bool.true_or, Bool.or_true, Bool.false_or, Bool.or_false, Bool.not_true, Bool.not_false, decide_true, decide_false, bI_t, bI_f, Bool.false_eq_true, not_true_eq_false, not_false_eq_true, eq_self, reduceCtorEq, Bool.true_eq_false, and_true, true_and, and_false, false_and, or_true, true_or, or_false, false_or] at c_23; done) | (simp only [ixn hN31, c_23, ↓reduceIte, Bool.true_and, Bool.and_true, Bool.false_and, Bool.and_false, Bool.true_or, Bool.or_true, Bool.false_or, Bool.or_false, Bool.not_true, Bool.not_false, decide_true, decide_false, bI_t, bI_f, Bool.false_eq_true, not_true_eq_false, not_false_eq_true, eq_self, reduceCtorEq, Bool.true_eq_false, and_true, true_and, and_false, false_and, or_true, true_or, or_false, false_or] at c_11; done)) (JP.grow hJ hS hg_))
    · skip
      refine lv_tableIn (tgt := 91) hx hb dX1_lines_40 (by decide) (by decide) rfl rfl ?_
      refine lv_aload_n hx hb dX1_lines_91 rfl (lv_at hl 0 rfl) ?_
      refine p_callV (As := []) hx hb hml hown hts hK trivial (met_X9_pieces l G hJ2_ hO hr0 ha0 hD hd) q467 q468 q469 q61 q470 hv_X9_pieces rfl hr0 rfl (by decide) hl.1 rfl (Nat.le_of_ble_eq_true rfl) dX1_lines_92 ⟨Nat.le_of_ble_eq_true rfl, Nat.le_of_ble_eq_true rfl⟩ ?_
      exact g_iret (F := fun z => ownJ o B z ∨ H.size ≤ z) (Post := fun oc H' => oc = .returned (some (.int (s_lines σ (nI N) w (j_linesV σ.ln)))) ∧ JP G H o B P L σ σ H') hx hb hr hlk hL dX1_lines_95 (i_post (by first | with_reducible rfl | (simp only [s_lines, j_linesV, c_11, ixn hN31, c_23, nz10, nz20, nz21, nz30, nz31, nz32, nz40, nz41, nz42, nz43, ↓reduceIte, Bool.true_and, Bool.and_true, Bool.false_and, Bool.and_false, Bool.true_or, Bool.or_true, Bool.false_or, Bool.or_false, Bool.not_true, Bool.not_false, decide_true, decide_false, bI_t, bI_f, Bool.false_eq_true, not_true_eq_false, not_false_eq_true, eq_self, reduceCtorEq, Bool.true_eq_false, and_true, true_and, and_false, false_and, or_true, true_or, or_false, false_or]; done) | (simp only [c_11, ixn hN31, ↓reduceIte, Bool.true_and, Bool.and_true, Bool.false_and, Bool.and_false, Bool.true_or, Bool.or_true, Bool.false_or, Bool.or_false, Bool.not_true, Bool.not_false, decide_true, decide_false, bI_t, bI_f, Bool.false_eq_true, not_true_eq_false, not_false_eq_true, eq_self, reduceCtorEq, Bool.true_eq_false, and_true, true_and, and_false, false_and, or_true, true_or, or_false, false_or] at c_23; done) | (simp only [ixn hN31, c_23, ↓reduceIte, Bool.true_and, Bool.and_true, Bool.false_and, Bool.and_false, Bool.true_or, Bool.or_true, Bool.false_or, Bool.or_false, Bool.not_true, Bool.not_false, decide_true, decide_false, bI_t, bI_f, Bool.false_eq_true, not_true_eq_false, not_false_eq_true, eq_self, reduceCtorEq, Bool.true_eq_false, and_true, true_and, and_false, false_and, or_true, true_or, or_false, false_or] at c_11; done)) (JP.grow hJ hS hg_))
    · skip
      refine lv_tableIn (tgt := 96) hx hb dX1_lines_40 (by decide) (by decide) rfl rfl ?_
      refine lv_aload_n hx hb dX1_lines_96 rfl (lv_at hl 0 rfl) ?_
      refine gf_X1_197 hx hb hts hown hK hr0 rfl dX1_lines_97 ?_
      refine lv_if_ne (tgt := 107) hx hb dX1_lines_100 rfl (fun c_100 => ?_) (fun c_100 => ?_)
      · skip
        refine lv_aload_n hx hb dX1_lines_107 rfl (lv_at hl 0 rfl) ?_
        refine gf_X1_200 hx hb hts hown hK hr0 rfl dX1_lines_108 ?_
        refine lv_iconst (v := 2) hx hb dX1_lines_111 ic_2 ?_
        refine lv_aload_n hx hb dX1_lines_112 rfl (lv_at hl 0 rfl) ?_
        refine gf_X1_194 hx hb hts hown hK hr0 rfl dX1_lines_113 ?_
        refine lv_imul hx hb dX1_lines_116 ?_
        refine lv_isub hx hb dX1_lines_117 ?_
        exact g_iret (F := fun z => ownJ o B z ∨ H.size ≤ z) (Post := fun oc H' => oc = .returned (some (.int (s_lines σ (nI N) w (j_linesV σ.ln)))) ∧ JP G H o B P L σ σ H') hx hb hr hlk hL dX1_lines_118 (i_post (by first | with_reducible rfl | (simp only [s_lines, j_linesV, c_11, ixn hN31, c_23, c_100, nz10, nz20, nz21, nz30, nz31, nz32, nz40, nz41, nz42, nz43, ↓reduceIte, Bool.true_and, Bool.and_true, Bool.false_and, Bool.and_false, Bool.true_or, Bool.or_true, Bool.false_or, Bool.or_false, Bool.not_true, Bool.not_false, decide_true, decide_false, bI_t, bI_f, Bool.false_eq_true, not_true_eq_false, not_false_eq_true, eq_self, reduceCtorEq, Bool.true_eq_false, and_true, true_and, and_false, false_and, or_true, true_or, or_false, false_or]; done) | (simp only [c_11, ixn hN31, c_23, ↓reduceIte, Bool.true_and, Bool.and_true, Bool.false_and, Bool.and_false, Bool.true_or, Bool.or_true, Bool.false_or, Bool.or_false, Bool.not_true, Bool.not_false, decide_true, decide_false, bI_t, bI_f, Bool.false_eq_true, not_true_eq_false, not_false_eq_true, eq_self, reduceCtorEq, Bool.true_eq_false, and_true, true_and, and_false, false_and, or_true, true_or, or_false, false_or] at c_100; done) | (simp only [c_11, ixn hN31, c_100, ↓reduceIte, Bool.true_and, Bool.and_true, Bool.false_and, Bool.and_false, Bool.true_or, Bool.or_true, Bool.false_or, Bool.or_false, Bool.not_true, Bool.not_false, decide_true, decide_false, bI_t, bI_f, Bool.false_eq_true, not_true_eq_false, not_false_eq_true, eq_self, reduceCtorEq, Bool.true_eq_false, and_true, true_and, and_false, false_and, or_true, true_or, or_false, false_or] at c_23; done) | (simp only [ixn hN31, c_23, c_100, ↓reduceIte, Bool.true_and, Bool.and_true, Bool.false_and, Bool.and_false, Bool.true_or, Bool.or_true, Bool.false_or, Bool.or_false, Bool.not_true, Bool.not_false, decide_true, decide_false, bI_t, bI_f, Bool.false_eq_true, not_true_eq_false, not_false_eq_true, eq_self, reduceCtorEq, Bool.true_eq_false, and_true, true_and, and_false, false_and, or_true, true_or, or_false, false_or] at c_11; done)) (JP.grow hJ hS hg_))
      refine lv_iconst (v := 0) hx hb dX1_lines_103 ic_0 ?_
      refine lv_goto (tgt := 118) hx hb dX1_lines_104 rfl ?_
      exact g_iret (F := fun z => ownJ o B z ∨ H.size ≤ z) (Post := fun oc H' => oc = .returned (some (.int (s_lines σ (nI N) w (j_linesV σ.ln)))) ∧ JP G H o B P L σ σ H') hx hb hr hlk hL dX1_lines_118 (i_post (by first | with_reducible rfl | (simp only [s_lines, j_linesV, c_11, ixn hN31, c_23, eq_true c_100, nz10, nz20, nz21, nz30, nz31, nz32, nz40, nz41, nz42, nz43, ↓reduceIte, Bool.true_and, Bool.and_true, Bool.false_and, Bool.and_false, Bool.true_or, Bool.or_true, Bool.false_or, Bool.or_false, Bool.not_true, Bool.not_false, decide_true, decide_false, bI_t, bI_f, Bool.false_eq_true, not_true_eq_false, not_false_eq_true, eq_self, reduceCtorEq, Bool.true_eq_false, and_true, true_and, and_false, false_and, or_true, true_or, or_false, false_or]; done) | (simp only [c_11, ixn hN31, c_23, ↓reduceIte, Bool.true_and, Bool.and_true, Bool.false_and, Bool.and_false, Bool.true_or, Bool.or_true, Bool.false_or, Bool.or_false, Bool.not_true, Bool.not_false, decide_true, decide_false, bI_t, bI_f, Bool.false_eq_true, not_true_eq_false, not_false_eq_true, eq_self, reduceCtorEq, Bool.true_eq_false, and_true, true_and, and_false, false_and, or_true, true_or, or_false, false_or] at c_100; done) | (simp only [c_11, ixn hN31, eq_true c_100, ↓reduceIte, Bool.true_and, Bool.and_true, Bool.false_and, Bool.and_false, Bool.true_or, Bool.or_true, Bool.false_or, Bool.or_false, Bool.not_true, Bool.not_false, decide_true, decide_false, bI_t, bI_f, Bool.false_eq_true, not_true_eq_false, not_false_eq_true, eq_self, reduceCtorEq, Bool.true_eq_false, and_true, true_and, and_false, false_and, or_true, true_or, or_false, false_or] at c_23; done) | (simp only [ixn hN31, c_23, eq_true c_100, ↓reduceIte, Bool.true_and, Bool.and_true, Bool.false_and, Bool.and_false, Bool.true_or, Bool.or_true, Bool.false_or, Bool.or_false, Bool.not_true, Bool.not_false, decide_true, decide_false, bI_t, bI_f, Bool.false_eq_true, not_true_eq_false, not_false_eq_true, eq_self, reduceCtorEq, Bool.true_eq_false, and_true, true_and, and_false, false_and, or_true, true_or, or_false, false_or] at c_11; done)) (JP.grow hJ hS hg_))
  rw [isIn_5] at c_23
  refine lv_bipush (v := -2) hx hb dX1_lines_26 ib_m2 ?_
  refine W.widen (k := 2) (n := 18) (Nat.le_of_ble_eq_true rfl) (Nat.le_of_ble_eq_true rfl) ?_
  exact g_iret (F := fun z => ownJ o B z ∨ H.size ≤ z) (Post := fun oc H' => oc = .returned (some (.int (s_lines σ (nI N) w (j_linesV σ.ln)))) ∧ JP G H o B P L σ σ H') hx hb hr hlk hL dX1_lines_28 (i_post (by first | with_reducible rfl | (simp only [s_lines, j_linesV, c_11, ixn hN31, c_23, nz10, nz20, nz21, nz30, nz31, nz32, nz40, nz41, nz42, nz43, ↓reduceIte, Bool.true_and, Bool.and_true, Bool.false_and, Bool.and_false, Bool.true_or, Bool.or_true, Bool.false_or, Bool.or_false, Bool.not_true, Bool.not_false, decide_true, decide_false, bI_t, bI_f, Bool.false_eq_true, not_true_eq_false, not_false_eq_true, eq_self, reduceCtorEq, Bool.true_eq_false, and_true, true_and, and_false, false_and, or_true, true_or, or_false, false_or]; done) | (simp only [c_11, ixn hN31, ↓reduceIte, Bool.true_and, Bool.and_true, Bool.false_and, Bool.and_false, Bool.true_or, Bool.or_true, Bool.false_or, Bool.or_false, Bool.not_true, Bool.not_false, decide_true, decide_false, bI_t, bI_f, Bool.false_eq_true, not_true_eq_false, not_false_eq_true, eq_self, reduceCtorEq, Bool.true_eq_false, and_true, true_and, and_false, false_and, or_true, true_or, or_false, false_or] at c_23; done) | (simp only [ixn hN31, c_23, ↓reduceIte, Bool.true_and, Bool.and_true, Bool.false_and, Bool.and_false, Bool.true_or, Bool.or_true, Bool.false_or, Bool.or_false, Bool.not_true, Bool.not_false, decide_true, decide_false, bI_t, bI_f, Bool.false_eq_true, not_true_eq_false, not_false_eq_true, eq_self, reduceCtorEq, Bool.true_eq_false, and_true, true_and, and_false, false_and, or_true, true_or, or_false, false_or] at c_11; done)) (JP.rf hJ hS))
