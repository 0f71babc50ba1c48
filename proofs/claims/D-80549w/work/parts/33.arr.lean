set_option maxRecDepth 100000

theorem ar_some {D : Nat} {L : Nat → Nat} {d : Nat → Nat} {k : Nat} (h : k < D) : (fun j => if j < D then some (L (d j)) else none) k = some (L (d k)) := if_pos h
theorem mx_eq (x y : Int32) : (if x < y then y else x) = if y ≤ x then x else y := by
  by_cases h : x < y
  · rw [if_pos h, if_neg (Int32.not_le.mpr h)]
  · rw [if_neg h, if_pos (Int32.not_lt.mp h)]
def KA (r al : Nat) (H H' : Heap) : Prop := H'.size = H.size ∧ ∀ q, q ≠ r → q ≠ al → H'[q]? = H[q]?
theorem KA.rf {r al : Nat} {H : Heap} : KA r al H H := ⟨rfl, fun _ _ _ => rfl⟩
theorem KA.of {r al a : Nat} {H H' : Heap} (h : Only a H H') (k : a = r ∨ a = al) : KA r al H H' := ⟨h.1, fun q h1 h2 => h.2 q (fun e => k.elim (fun k => h1 (e.trans k)) (fun k => h2 (e.trans k)))⟩
theorem KA.tr {r al : Nat} {H H1 H2 : Heap} (h : KA r al H H1) (k : KA r al H1 H2) : KA r al H H2 := ⟨k.1.trans h.1, fun q a b => (k.2 q a b).trans (h.2 q a b)⟩
theorem addL_s (g : Nat → L3) (l : L3) (n j : Nat) (a : I3) : j_addL g l n (j + 1) a = j_addG g l n j (j_addL g l n j a) := rfl
theorem addG_t {g : Nat → L3} {l : L3} {n j : Nat} {a : I3} (h : j_par l (g j) = true) : j_addG g l n j a = a := by unfold j_addG; rw [if_pos h]
theorem addG_f {g : Nat → L3} {l : L3} {n j : Nat} {a : I3} (h : j_par l (g j) = false) : j_addG g l n j a = (a.1 + (if (decide (j_thru g l (g j) j = 0) && decide (j_thru g l (g j) n = 1)) = true then 1 else 0), a.2.1 + (if decide (j_thru g l (g j) j = 0) = true then 1 else 0), if j_thru g l (g j) n + 1 ≤ a.2.2 then a.2.2 else j_thru g l (g j) n + 1) := by
  unfold j_addG; rw [if_neg (by rw [h]; decide)]
theorem ar_up {D z : Nat} {L d : Nat → Nat} : va_up (fun j => if j < D then some (L (d j)) else none) D (some (L z)) = fun j => if j < D + 1 then some (L (updN d D z j)) else none := by
  funext j
  show (if j = D then some (L z) else if j < D then some (L (d j)) else none) = if j < D + 1 then some (L (if j = D then z else d j)) else none
  by_cases c : j = D
  · rw [if_pos c, if_pos (by omega), if_pos c]
  · rw [if_neg c, if_neg c]
    by_cases c2 : j < D
    · rw [if_pos c2, if_pos (by omega)]
    · rw [if_neg c2, if_neg (by omega)]
theorem updN_lt {d : Nat → Nat} {D z n : Nat} (hd : ∀ j, j < D → d j < n) (hz : z < n) {j : Nat} (hj : j < D + 1) : updN d D z j < n := by
  unfold updN
  by_cases c : j = D
  · rw [if_pos c]; exact hz
  · rw [if_neg c]; exact hd j (by omega)
theorem dX9_through_0 : decode cX9_through 0 = .ok (.iconst 0, 1) := by decide +kernel
theorem dX9_through_1 : decode cX9_through 1 = .ok (.istore 4, 2) := by decide +kernel
theorem dX9_through_3 : decode cX9_through 3 = .ok (.iconst 0, 1) := by decide +kernel
theorem dX9_through_4 : decode cX9_through 4 = .ok (.istore 5, 2) := by decide +kernel
theorem dX9_through_6 : decode cX9_through 6 = .ok (.iload 5, 2) := by decide +kernel
theorem dX9_through_8 : decode cX9_through 8 = .ok (.iload_n 3, 1) := by decide +kernel
theorem dX9_through_9 : decode cX9_through 9 = .ok (.if_icmp .ge 34, 3) := by decide +kernel
theorem dX9_through_12 : decode cX9_through 12 = .ok (.iload 4, 2) := by decide +kernel
theorem dX9_through_14 : decode cX9_through 14 = .ok (.aload_n 0, 1) := by decide +kernel
theorem dX9_through_15 : decode cX9_through 15 = .ok (.getfield 17, 3) := by decide +kernel
theorem dX9_through_18 : decode cX9_through 18 = .ok (.iload 5, 2) := by decide +kernel
theorem dX9_through_20 : decode cX9_through 20 = .ok (.aaload, 1) := by decide +kernel
theorem dX9_through_21 : decode cX9_through 21 = .ok (.aload_n 1, 1) := by decide +kernel
theorem dX9_through_22 : decode cX9_through 22 = .ok (.aload_n 2, 1) := by decide +kernel
theorem dX9_through_23 : decode cX9_through 23 = .ok (.invokevirtual 39, 3) := by decide +kernel
theorem dX9_through_26 : decode cX9_through 26 = .ok (.ifCond .eq 7, 3) := by decide +kernel
theorem dX9_through_29 : decode cX9_through 29 = .ok (.iconst 1, 1) := by decide +kernel
theorem dX9_through_30 : decode cX9_through 30 = .ok (.goto 4, 3) := by decide +kernel
theorem dX9_through_33 : decode cX9_through 33 = .ok (.iconst 0, 1) := by decide +kernel
theorem dX9_through_34 : decode cX9_through 34 = .ok (.iadd, 1) := by decide +kernel
theorem dX9_through_35 : decode cX9_through 35 = .ok (.istore 4, 2) := by decide +kernel
theorem dX9_through_37 : decode cX9_through 37 = .ok (.iinc 5 1, 3) := by decide +kernel
theorem dX9_through_40 : decode cX9_through 40 = .ok (.goto (-34), 3) := by decide +kernel
theorem dX9_through_43 : decode cX9_through 43 = .ok (.iload 4, 2) := by decide +kernel
theorem dX9_through_45 : decode cX9_through 45 = .ok (.ireturn, 1) := by decide +kernel
set_option maxHeartbeats 4000000 in
theorem met_X9_through (l : Launch) (G : GG) {H : Heap} {o : Nat} {B P L : Nat → Nat} {σ : Sg} {r al D : Nat} {d : Nat → Nat} {mt cl mo : Int32} {u v n : Nat} {p q : L3} (hJ : JW G H o B P L σ) (hO : Ok σ) (hr0 : va_at G.1 clA (r, .inr (6, [.ref al, .int (nI D), .int mt, .int cl, .int mo, .ref o])) H) (ha0 : aLn G al 12 (fun j => if j < D then some (L (d j)) else none) H) (hD : D ≤ 12) (hd : ∀ j, j < D → d j < σ.nl) (hu : LnAt G H u p) (hv : LnAt G H v q) (hn : n ≤ D) : PM l yX9_through cX9_through 6 (some .int) 1 22 G H [.ref r, .ref u, .ref v, .int (nI n)] (some (.int (j_thru (fun j => σ.ln (d j)) p q n))) := by
  refine pm_intro pl_X9_through (Nat.le_of_ble_eq_true rfl) ?_
  intro pX eX sX mX belX methX cX ls hE hnm hl
  obtain ⟨hx, hb, hr, hlk, hml, hown, hts, hK, hZ, hH⟩ := hE
  have hl : lv_has ls 6 [(0, .ref r), (1, .ref u), (2, .ref v), (3, .int (nI n))] := hl
  have hn31 : n < 2 ^ 31 := by omega
  refine lv_iconst (v := 0) hx hb dX9_through_0 ic_0 ?_
  refine lv_istore (lv' := [(4, .int _), (0, .ref _), (1, .ref _), (2, .ref _), (3, .int _)]) hx hb dX9_through_1 hl (Nat.le_of_ble_eq_true rfl) rfl (fun ls hl => ?_)
  refine lv_iconst (v := 0) hx hb dX9_through_3 ic_0 ?_
  refine lv_istore (lv' := [(5, .int _), (4, .int _), (0, .ref _), (1, .ref _), (2, .ref _), (3, .int _)]) hx hb dX9_through_4 hl (Nat.le_of_ble_eq_true rfl) rfl (fun ls hl => ?_)
  refine loopW (N := n) (nL := 6) (lv := fun k => [(0, .ref r), (1, .ref u), (2, .ref v), (3, .int (nI n)), (4, .int (j_thru (fun j => σ.ln (d j)) p q k)), (5, .int (nI k))]) (fun k hk_k ih_k ls hl => ?_) 0 (Nat.zero_le _) ls (lv_sub hl [2, 3, 4, 5, 1, 0] rfl)
  replace hl : lv_has ls 6 [(0, .ref r), (1, .ref u), (2, .ref v), (3, .int (nI n)), (4, .int (j_thru (fun j => σ.ln (d j)) p q k)), (5, .int (nI k))] := hl
  refine lv_iload hx hb dX9_through_6 (lv_at hl 5 rfl) ?_
  refine lv_iload_n hx hb dX9_through_8 rfl (lv_at hl 3 rfl) ?_
  refine lv_icmp_ge (tgt := 43) hx hb dX9_through_9 rfl (fun c_9_0 => ?_) (fun c_9_0 => ?_)
  · skip
    have e_k := lp_out hk_k hn31 c_9_0
    subst e_k
    refine lv_iload hx hb dX9_through_43 (lv_at hl 4 rfl) ?_
    exact pm_iret hx hb hr hlk hH dX9_through_45 (by first | with_reducible rfl | (simp only [↓reduceIte, Bool.true_and, Bool.and_true, Bool.false_and, Bool.and_false, Bool.true_or, Bool.or_true, Bool.false_or, Bool.or_false, Bool.not_true, Bool.not_false, decide_true, decide_false, bI_t, bI_f, Bool.false_eq_true, not_true_eq_false, not_false_eq_true, eq_self, reduceCtorEq, Bool.true_eq_false, and_true, true_and, and_false, false_and, or_true, true_or, or_false, false_or]; done))
  have h_k := lp_in hk_k hn31 c_9_0
  refine lv_iload hx hb dX9_through_12 (lv_at hl 4 rfl) ?_
  refine cutI (J := 34) (v := if m_thr p q (σ.ln (d k)) = true then 1 else 0) ?_ (fun K51 => ?_)
  rotate_left
  · skip
    refine lv_aload_n hx hb dX9_through_14 rfl (lv_at hl 0 rfl) ?_
    refine gf_X9_17 hx hb hts hown hK hr0 rfl dX9_through_15 ?_
    refine lv_iload hx hb dX9_through_18 (lv_at hl 5 rfl) ?_
    refine r_qald hx hb hK ha0 dX9_through_20 (k := k) (Nat.lt_of_lt_of_le (Nat.lt_of_lt_of_le h_k hn) hD) (by decide) rfl (ar_some (Nat.lt_of_lt_of_le h_k hn)) ?_
    refine lv_aload_n hx hb dX9_through_21 rfl (lv_at hl 1 rfl) ?_
    refine lv_aload_n hx hb dX9_through_22 rfl (lv_at hl 2 rfl) ?_
    refine p_callV (As := [.ref _, .ref _]) hx hb hml hown hts hK hZ (met_X8_goesBy l G (hJ.2.2.2.2.2 _ (hd _ (Nat.lt_of_lt_of_le h_k hn))) hu hv) q437 q438 q439 q60 q440 hv_X8_goesBy rfl (hJ.2.2.2.2.2 _ (hd _ (Nat.lt_of_lt_of_le h_k hn))) rfl (by decide) hl.1 rfl (Nat.le_of_ble_eq_true rfl) dX9_through_23 ⟨Nat.zero_le _, Nat.zero_le _⟩ ?_
    refine b_ifeq (tgt := 33) hx hb dX9_through_26 rfl (fun c_26_1 => ?_) (fun c_26_1 => ?_)
    · skip
      refine lv_iconst (v := 0) hx hb dX9_through_33 ic_0 ?_
      exact K51 _ (by first | with_reducible rfl | (simp only [c_26_1, ↓reduceIte, Bool.true_and, Bool.and_true, Bool.false_and, Bool.and_false, Bool.true_or, Bool.or_true, Bool.false_or, Bool.or_false, Bool.not_true, Bool.not_false, decide_true, decide_false, bI_t, bI_f, Bool.false_eq_true, not_true_eq_false, not_false_eq_true, eq_self, reduceCtorEq, Bool.true_eq_false, and_true, true_and, and_false, false_and, or_true, true_or, or_false, false_or]; done))
    refine lv_iconst (v := 1) hx hb dX9_through_29 ic_1 ?_
    refine lv_goto (tgt := 34) hx hb dX9_through_30 rfl ?_
    exact K51 _ (by first | with_reducible rfl | (simp only [c_26_1, ↓reduceIte, Bool.true_and, Bool.and_true, Bool.false_and, Bool.and_false, Bool.true_or, Bool.or_true, Bool.false_or, Bool.or_false, Bool.not_true, Bool.not_false, decide_true, decide_false, bI_t, bI_f, Bool.false_eq_true, not_true_eq_false, not_false_eq_true, eq_self, reduceCtorEq, Bool.true_eq_false, and_true, true_and, and_false, false_and, or_true, true_or, or_false, false_or]; done))
  refine lv_iadd hx hb dX9_through_34 ?_
  refine lv_istore (lv' := [(4, .int _), (0, .ref _), (1, .ref _), (2, .ref _), (3, .int _), (5, .int _)]) hx hb dX9_through_35 hl (Nat.le_of_ble_eq_true rfl) rfl (fun ls hl => ?_)
  refine lv_iinc (v := nI (k + 1)) (k := 5) (lv' := [(5, .int _), (4, .int _), (0, .ref _), (1, .ref _), (2, .ref _), (3, .int _)]) hx hb dX9_through_37 hl rfl (nI_1 _) (Nat.le_of_ble_eq_true rfl) rfl (fun ls hl => ?_)
  refine lv_goto (tgt := 6) hx hb dX9_through_40 rfl ?_
  exact ih_k ls (lv_sub hl [2, 3, 4, 5, 1, 0] rfl) h_k
theorem dX9_isFirstOn_0 : decode cX9_isFirstOn 0 = .ok (.iload_n 2, 1) := by decide +kernel
theorem dX9_isFirstOn_1 : decode cX9_isFirstOn 1 = .ok (.iload_n 1, 1) := by decide +kernel
theorem dX9_isFirstOn_2 : decode cX9_isFirstOn 2 = .ok (.if_icmp .eq 21, 3) := by decide +kernel
theorem dX9_isFirstOn_5 : decode cX9_isFirstOn 5 = .ok (.aload_n 0, 1) := by decide +kernel
theorem dX9_isFirstOn_6 : decode cX9_isFirstOn 6 = .ok (.getfield 17, 3) := by decide +kernel
theorem dX9_isFirstOn_9 : decode cX9_isFirstOn 9 = .ok (.iload_n 1, 1) := by decide +kernel
theorem dX9_isFirstOn_10 : decode cX9_isFirstOn 10 = .ok (.aaload, 1) := by decide +kernel
theorem dX9_isFirstOn_11 : decode cX9_isFirstOn 11 = .ok (.aload_n 0, 1) := by decide +kernel
theorem dX9_isFirstOn_12 : decode cX9_isFirstOn 12 = .ok (.getfield 17, 3) := by decide +kernel
theorem dX9_isFirstOn_15 : decode cX9_isFirstOn 15 = .ok (.iload_n 2, 1) := by decide +kernel
theorem dX9_isFirstOn_16 : decode cX9_isFirstOn 16 = .ok (.aaload, 1) := by decide +kernel
theorem dX9_isFirstOn_17 : decode cX9_isFirstOn 17 = .ok (.invokevirtual 43, 3) := by decide +kernel
theorem dX9_isFirstOn_20 : decode cX9_isFirstOn 20 = .ok (.ifCond .eq 5, 3) := by decide +kernel
theorem dX9_isFirstOn_23 : decode cX9_isFirstOn 23 = .ok (.iconst 0, 1) := by decide +kernel
theorem dX9_isFirstOn_24 : decode cX9_isFirstOn 24 = .ok (.ireturn, 1) := by decide +kernel
theorem dX9_isFirstOn_25 : decode cX9_isFirstOn 25 = .ok (.iconst 1, 1) := by decide +kernel
theorem dX9_isFirstOn_26 : decode cX9_isFirstOn 26 = .ok (.istore_n 3, 1) := by decide +kernel
theorem dX9_isFirstOn_27 : decode cX9_isFirstOn 27 = .ok (.iconst 0, 1) := by decide +kernel
theorem dX9_isFirstOn_28 : decode cX9_isFirstOn 28 = .ok (.istore 4, 2) := by decide +kernel
theorem dX9_isFirstOn_30 : decode cX9_isFirstOn 30 = .ok (.iload 4, 2) := by decide +kernel
theorem dX9_isFirstOn_32 : decode cX9_isFirstOn 32 = .ok (.iload_n 2, 1) := by decide +kernel
theorem dX9_isFirstOn_33 : decode cX9_isFirstOn 33 = .ok (.if_icmp .ge 48, 3) := by decide +kernel
theorem dX9_isFirstOn_36 : decode cX9_isFirstOn 36 = .ok (.iload_n 3, 1) := by decide +kernel
theorem dX9_isFirstOn_37 : decode cX9_isFirstOn 37 = .ok (.iload 4, 2) := by decide +kernel
theorem dX9_isFirstOn_39 : decode cX9_isFirstOn 39 = .ok (.iload_n 1, 1) := by decide +kernel
theorem dX9_isFirstOn_40 : decode cX9_isFirstOn 40 = .ok (.if_icmp .eq 28, 3) := by decide +kernel
theorem dX9_isFirstOn_43 : decode cX9_isFirstOn 43 = .ok (.aload_n 0, 1) := by decide +kernel
theorem dX9_isFirstOn_44 : decode cX9_isFirstOn 44 = .ok (.getfield 17, 3) := by decide +kernel
theorem dX9_isFirstOn_47 : decode cX9_isFirstOn 47 = .ok (.iload 4, 2) := by decide +kernel
theorem dX9_isFirstOn_49 : decode cX9_isFirstOn 49 = .ok (.aaload, 1) := by decide +kernel
theorem dX9_isFirstOn_50 : decode cX9_isFirstOn 50 = .ok (.aload_n 0, 1) := by decide +kernel
theorem dX9_isFirstOn_51 : decode cX9_isFirstOn 51 = .ok (.getfield 17, 3) := by decide +kernel
theorem dX9_isFirstOn_54 : decode cX9_isFirstOn 54 = .ok (.iload_n 1, 1) := by decide +kernel
theorem dX9_isFirstOn_55 : decode cX9_isFirstOn 55 = .ok (.aaload, 1) := by decide +kernel
theorem dX9_isFirstOn_56 : decode cX9_isFirstOn 56 = .ok (.aload_n 0, 1) := by decide +kernel
theorem dX9_isFirstOn_57 : decode cX9_isFirstOn 57 = .ok (.getfield 17, 3) := by decide +kernel
theorem dX9_isFirstOn_60 : decode cX9_isFirstOn 60 = .ok (.iload_n 2, 1) := by decide +kernel
theorem dX9_isFirstOn_61 : decode cX9_isFirstOn 61 = .ok (.aaload, 1) := by decide +kernel
theorem dX9_isFirstOn_62 : decode cX9_isFirstOn 62 = .ok (.invokevirtual 39, 3) := by decide +kernel
theorem dX9_isFirstOn_65 : decode cX9_isFirstOn 65 = .ok (.ifCond .ne 7, 3) := by decide +kernel
theorem dX9_isFirstOn_68 : decode cX9_isFirstOn 68 = .ok (.iconst 1, 1) := by decide +kernel
theorem dX9_isFirstOn_69 : decode cX9_isFirstOn 69 = .ok (.goto 4, 3) := by decide +kernel
theorem dX9_isFirstOn_72 : decode cX9_isFirstOn 72 = .ok (.iconst 0, 1) := by decide +kernel
theorem dX9_isFirstOn_73 : decode cX9_isFirstOn 73 = .ok (.iand, 1) := by decide +kernel
theorem dX9_isFirstOn_74 : decode cX9_isFirstOn 74 = .ok (.istore_n 3, 1) := by decide +kernel
theorem dX9_isFirstOn_75 : decode cX9_isFirstOn 75 = .ok (.iinc 4 1, 3) := by decide +kernel
theorem dX9_isFirstOn_78 : decode cX9_isFirstOn 78 = .ok (.goto (-48), 3) := by decide +kernel
theorem dX9_isFirstOn_81 : decode cX9_isFirstOn 81 = .ok (.iload_n 3, 1) := by decide +kernel
theorem dX9_isFirstOn_82 : decode cX9_isFirstOn 82 = .ok (.ireturn, 1) := by decide +kernel
set_option maxHeartbeats 4000000 in
theorem met_X9_isFirstOn (l : Launch) (G : GG) {H : Heap} {o : Nat} {B P L : Nat → Nat} {σ : Sg} {r al D : Nat} {d : Nat → Nat} {mt cl mo : Int32} {k j : Nat} (hJ : JW G H o B P L σ) (hO : Ok σ) (hr0 : va_at G.1 clA (r, .inr (6, [.ref al, .int (nI D), .int mt, .int cl, .int mo, .ref o])) H) (ha0 : aLn G al 12 (fun j => if j < D then some (L (d j)) else none) H) (hD : D ≤ 12) (hd : ∀ j, j < D → d j < σ.nl) (h_k : k < D) (h_j : j < D) : PM l yX9_isFirstOn cX9_isFirstOn 5 (some .boolean) 1 22 G H [.ref r, .int (nI k), .int (nI j)] (some (.int (bI (j_fOn (fun j => σ.ln (d j)) k j)))) := by
  refine pm_intro pl_X9_isFirstOn (Nat.le_of_ble_eq_true rfl) ?_
  intro pX eX sX mX belX methX cX ls hE hnm hl
  obtain ⟨hx, hb, hr, hlk, hml, hown, hts, hK, hZ, hH⟩ := hE
  have hl : lv_has ls 5 [(0, .ref r), (1, .int (nI k)), (2, .int (nI j))] := hl
  have hj31 : j < 2 ^ 31 := by omega
  refine lv_iload_n hx hb dX9_isFirstOn_0 rfl (lv_at hl 2 rfl) ?_
  refine lv_iload_n hx hb dX9_isFirstOn_1 rfl (lv_at hl 1 rfl) ?_
  refine lv_icmp_eq (tgt := 23) hx hb dX9_isFirstOn_2 rfl (fun c_2 => ?_) (fun c_2 => ?_)
  · skip
    refine lv_iconst (v := 0) hx hb dX9_isFirstOn_23 ic_0 ?_
    exact pm_zret hx hb hr hlk hH dX9_isFirstOn_24 (by first | with_reducible rfl | (simp only [j_fOn, eq_true ((nI_eq (by omega) (by omega)).mp c_2), ↓reduceIte, Bool.true_and, Bool.and_true, Bool.false_and, Bool.and_false, Bool.true_or, Bool.or_true, Bool.false_or, Bool.or_false, Bool.not_true, Bool.not_false, decide_true, decide_false, bI_t, bI_f, Bool.false_eq_true, not_true_eq_false, not_false_eq_true, eq_self, reduceCtorEq, Bool.true_eq_false, and_true, true_and, and_false, false_and, or_true, true_or, or_false, false_or]; done))
  refine lv_aload_n hx hb dX9_isFirstOn_5 rfl (lv_at hl 0 rfl) ?_
  refine gf_X9_17 hx hb hts hown hK hr0 rfl dX9_isFirstOn_6 ?_
  refine lv_iload_n hx hb dX9_isFirstOn_9 rfl (lv_at hl 1 rfl) ?_
  refine r_qald hx hb hK ha0 dX9_isFirstOn_10 (k := k) (Nat.lt_of_lt_of_le h_k hD) (by decide) rfl (ar_some h_k) ?_
  refine lv_aload_n hx hb dX9_isFirstOn_11 rfl (lv_at hl 0 rfl) ?_
  refine gf_X9_17 hx hb hts hown hK hr0 rfl dX9_isFirstOn_12 ?_
  refine lv_iload_n hx hb dX9_isFirstOn_15 rfl (lv_at hl 2 rfl) ?_
  refine r_qald hx hb hK ha0 dX9_isFirstOn_16 (k := j) (Nat.lt_of_lt_of_le h_j hD) (by decide) rfl (ar_some h_j) ?_
  refine p_callV (As := [.ref _]) hx hb hml hown hts hK hZ (met_X8_isParallel l G (hJ.2.2.2.2.2 _ (hd _ h_k)) (hJ.2.2.2.2.2 _ (hd _ h_j))) q432 q425 q426 q60 q427 hv_X8_isParallel rfl (hJ.2.2.2.2.2 _ (hd _ h_k)) rfl (by decide) hl.1 rfl (Nat.le_of_ble_eq_true rfl) dX9_isFirstOn_17 ⟨Nat.zero_le _, Nat.zero_le _⟩ ?_
  refine b_ifeq (tgt := 25) hx hb dX9_isFirstOn_20 rfl (fun c_20 => ?_) (fun c_20 => ?_)
  · skip
    refine lv_iconst (v := 1) hx hb dX9_isFirstOn_25 ic_1 ?_
    refine lv_istore_n (lv' := [(3, .int _), (0, .ref _), (1, .int _), (2, .int _)]) hx hb dX9_isFirstOn_26 rfl hl (Nat.le_of_ble_eq_true rfl) rfl (fun ls hl => ?_)
    refine lv_iconst (v := 0) hx hb dX9_isFirstOn_27 ic_0 ?_
    refine lv_istore (lv' := [(4, .int _), (3, .int _), (0, .ref _), (1, .int _), (2, .int _)]) hx hb dX9_isFirstOn_28 hl (Nat.le_of_ble_eq_true rfl) rfl (fun ls hl => ?_)
    refine loopW (N := j) (nL := 5) (lv := fun i => [(0, .ref r), (1, .int (nI k)), (2, .int (nI j)), (3, .int (bI (j_fOnL (fun j => σ.ln (d j)) k j i))), (4, .int (nI i))]) (fun i hk_i ih_i ls hl => ?_) 0 (Nat.zero_le _) ls (lv_sub hl [2, 3, 4, 1, 0] rfl)
    replace hl : lv_has ls 5 [(0, .ref r), (1, .int (nI k)), (2, .int (nI j)), (3, .int (bI (j_fOnL (fun j => σ.ln (d j)) k j i))), (4, .int (nI i))] := hl
    refine lv_iload hx hb dX9_isFirstOn_30 (lv_at hl 4 rfl) ?_
    refine lv_iload_n hx hb dX9_isFirstOn_32 rfl (lv_at hl 2 rfl) ?_
    refine lv_icmp_ge (tgt := 81) hx hb dX9_isFirstOn_33 rfl (fun c_33_2 => ?_) (fun c_33_2 => ?_)
    · skip
      have e_i := lp_out hk_i hj31 c_33_2
      subst e_i
      refine lv_iload_n hx hb dX9_isFirstOn_81 rfl (lv_at hl 3 rfl) ?_
      exact pm_zret hx hb hr hlk hH dX9_isFirstOn_82 (by first | with_reducible rfl | (simp only [j_fOn, (eq_false (fun h => c_2 (congrArg nI h)) : (j = k) = False), c_20, ↓reduceIte, Bool.true_and, Bool.and_true, Bool.false_and, Bool.and_false, Bool.true_or, Bool.or_true, Bool.false_or, Bool.or_false, Bool.not_true, Bool.not_false, decide_true, decide_false, bI_t, bI_f, Bool.false_eq_true, not_true_eq_false, not_false_eq_true, eq_self, reduceCtorEq, Bool.true_eq_false, and_true, true_and, and_false, false_and, or_true, true_or, or_false, false_or]; done) | (simp only [(eq_false (fun h => c_2 (congrArg nI h)) : (j = k) = False), ↓reduceIte, Bool.true_and, Bool.and_true, Bool.false_and, Bool.and_false, Bool.true_or, Bool.or_true, Bool.false_or, Bool.or_false, Bool.not_true, Bool.not_false, decide_true, decide_false, bI_t, bI_f, Bool.false_eq_true, not_true_eq_false, not_false_eq_true, eq_self, reduceCtorEq, Bool.true_eq_false, and_true, true_and, and_false, false_and, or_true, true_or, or_false, false_or] at c_20; done) | (simp only [c_20, ↓reduceIte, Bool.true_and, Bool.and_true, Bool.false_and, Bool.and_false, Bool.true_or, Bool.or_true, Bool.false_or, Bool.or_false, Bool.not_true, Bool.not_false, decide_true, decide_false, bI_t, bI_f, Bool.false_eq_true, not_true_eq_false, not_false_eq_true, eq_self, reduceCtorEq, Bool.true_eq_false, and_true, true_and, and_false, false_and, or_true, true_or, or_false, false_or] at c_2; done))
    have h_i := lp_in hk_i hj31 c_33_2
    refine lv_iload_n hx hb dX9_isFirstOn_36 rfl (lv_at hl 3 rfl) ?_
    refine cutI (J := 73) (v := bI (decide (i = k) || !m_thr (σ.ln (d k)) (σ.ln (d j)) (σ.ln (d i)))) ?_ (fun K52 => ?_)
    rotate_left
    · skip
      refine lv_iload hx hb dX9_isFirstOn_37 (lv_at hl 4 rfl) ?_
      refine lv_iload_n hx hb dX9_isFirstOn_39 rfl (lv_at hl 1 rfl) ?_
      refine lv_icmp_eq (tgt := 68) hx hb dX9_isFirstOn_40 rfl (fun c_40_3 => ?_) (fun c_40_3 => ?_)
      · skip
        refine lv_iconst (v := 1) hx hb dX9_isFirstOn_68 ic_1 ?_
        refine lv_goto (tgt := 73) hx hb dX9_isFirstOn_69 rfl ?_
        exact K52 _ (by first | with_reducible rfl | (simp only [j_fOn, (eq_false (fun h => c_2 (congrArg nI h)) : (j = k) = False), c_20, eq_true ((nI_eq (by omega) (by omega)).mp c_40_3), ↓reduceIte, Bool.true_and, Bool.and_true, Bool.false_and, Bool.and_false, Bool.true_or, Bool.or_true, Bool.false_or, Bool.or_false, Bool.not_true, Bool.not_false, decide_true, decide_false, bI_t, bI_f, Bool.false_eq_true, not_true_eq_false, not_false_eq_true, eq_self, reduceCtorEq, Bool.true_eq_false, and_true, true_and, and_false, false_and, or_true, true_or, or_false, false_or]; done) | (simp only [(eq_false (fun h => c_2 (congrArg nI h)) : (j = k) = False), c_20, ↓reduceIte, Bool.true_and, Bool.and_true, Bool.false_and, Bool.and_false, Bool.true_or, Bool.or_true, Bool.false_or, Bool.or_false, Bool.not_true, Bool.not_false, decide_true, decide_false, bI_t, bI_f, Bool.false_eq_true, not_true_eq_false, not_false_eq_true, eq_self, reduceCtorEq, Bool.true_eq_false, and_true, true_and, and_false, false_and, or_true, true_or, or_false, false_or] at c_40_3; done) | (simp only [(eq_false (fun h => c_2 (congrArg nI h)) : (j = k) = False), eq_true ((nI_eq (by omega) (by omega)).mp c_40_3), ↓reduceIte, Bool.true_and, Bool.and_true, Bool.false_and, Bool.and_false, Bool.true_or, Bool.or_true, Bool.false_or, Bool.or_false, Bool.not_true, Bool.not_false, decide_true, decide_false, bI_t, bI_f, Bool.false_eq_true, not_true_eq_false, not_false_eq_true, eq_self, reduceCtorEq, Bool.true_eq_false, and_true, true_and, and_false, false_and, or_true, true_or, or_false, false_or] at c_20; done) | (simp only [c_20, eq_true ((nI_eq (by omega) (by omega)).mp c_40_3), ↓reduceIte, Bool.true_and, Bool.and_true, Bool.false_and, Bool.and_false, Bool.true_or, Bool.or_true, Bool.false_or, Bool.or_false, Bool.not_true, Bool.not_false, decide_true, decide_false, bI_t, bI_f, Bool.false_eq_true, not_true_eq_false, not_false_eq_true, eq_self, reduceCtorEq, Bool.true_eq_false, and_true, true_and, and_false, false_and, or_true, true_or, or_false, false_or] at c_2; done))
      refine lv_aload_n hx hb dX9_isFirstOn_43 rfl (lv_at hl 0 rfl) ?_
      refine gf_X9_17 hx hb hts hown hK hr0 rfl dX9_isFirstOn_44 ?_
      refine lv_iload hx hb dX9_isFirstOn_47 (lv_at hl 4 rfl) ?_
      refine r_qald hx hb hK ha0 dX9_isFirstOn_49 (k := i) (Nat.lt_of_lt_of_le (Nat.lt_trans h_i h_j) hD) (by decide) rfl (ar_some (Nat.lt_trans h_i h_j)) ?_
      refine lv_aload_n hx hb dX9_isFirstOn_50 rfl (lv_at hl 0 rfl) ?_
      refine gf_X9_17 hx hb hts hown hK hr0 rfl dX9_isFirstOn_51 ?_
      refine lv_iload_n hx hb dX9_isFirstOn_54 rfl (lv_at hl 1 rfl) ?_
      refine r_qald hx hb hK ha0 dX9_isFirstOn_55 (k := k) (Nat.lt_of_lt_of_le h_k hD) (by decide) rfl (ar_some h_k) ?_
      refine lv_aload_n hx hb dX9_isFirstOn_56 rfl (lv_at hl 0 rfl) ?_
      refine gf_X9_17 hx hb hts hown hK hr0 rfl dX9_isFirstOn_57 ?_
      refine lv_iload_n hx hb dX9_isFirstOn_60 rfl (lv_at hl 2 rfl) ?_
      refine r_qald hx hb hK ha0 dX9_isFirstOn_61 (k := j) (Nat.lt_of_lt_of_le h_j hD) (by decide) rfl (ar_some h_j) ?_
      refine p_callV (As := [.ref _, .ref _]) hx hb hml hown hts hK hZ (met_X8_goesBy l G (hJ.2.2.2.2.2 _ (hd _ (Nat.lt_trans h_i h_j))) (hJ.2.2.2.2.2 _ (hd _ h_k)) (hJ.2.2.2.2.2 _ (hd _ h_j))) q437 q438 q439 q60 q440 hv_X8_goesBy rfl (hJ.2.2.2.2.2 _ (hd _ (Nat.lt_trans h_i h_j))) rfl (by decide) hl.1 rfl (Nat.le_of_ble_eq_true rfl) dX9_isFirstOn_62 ⟨Nat.zero_le _, Nat.zero_le _⟩ ?_
      refine b_ifne (tgt := 72) hx hb dX9_isFirstOn_65 rfl (fun c_65_4 => ?_) (fun c_65_4 => ?_)
      · skip
        refine lv_iconst (v := 0) hx hb dX9_isFirstOn_72 ic_0 ?_
        exact K52 _ (by first | with_reducible rfl | (simp only [j_fOn, (eq_false (fun h => c_2 (congrArg nI h)) : (j = k) = False), c_20, (eq_false (fun h => c_40_3 (congrArg nI h)) : (i = k) = False), c_65_4, ↓reduceIte, Bool.true_and, Bool.and_true, Bool.false_and, Bool.and_false, Bool.true_or, Bool.or_true, Bool.false_or, Bool.or_false, Bool.not_true, Bool.not_false, decide_true, decide_false, bI_t, bI_f, Bool.false_eq_true, not_true_eq_false, not_false_eq_true, eq_self, reduceCtorEq, Bool.true_eq_false, and_true, true_and, and_false, false_and, or_true, true_or, or_false, false_or]; done) | (simp only [(eq_false (fun h => c_2 (congrArg nI h)) : (j = k) = False), c_20, (eq_false (fun h => c_40_3 (congrArg nI h)) : (i = k) = False), ↓reduceIte, Bool.true_and, Bool.and_true, Bool.false_and, Bool.and_false, Bool.true_or, Bool.or_true, Bool.false_or, Bool.or_false, Bool.not_true, Bool.not_false, decide_true, decide_false, bI_t, bI_f, Bool.false_eq_true, not_true_eq_false, not_false_eq_true, eq_self, reduceCtorEq, Bool.true_eq_false, and_true, true_and, and_false, false_and, or_true, true_or, or_false, false_or] at c_65_4; done) | (simp only [(eq_false (fun h => c_2 (congrArg nI h)) : (j = k) = False), c_20, c_65_4, ↓reduceIte, Bool.true_and, Bool.and_true, Bool.false_and, Bool.and_false, Bool.true_or, Bool.or_true, Bool.false_or, Bool.or_false, Bool.not_true, Bool.not_false, decide_true, decide_false, bI_t, bI_f, Bool.false_eq_true, not_true_eq_false, not_false_eq_true, eq_self, reduceCtorEq, Bool.true_eq_false, and_true, true_and, and_false, false_and, or_true, true_or, or_false, false_or] at c_40_3; done) | (simp only [(eq_false (fun h => c_2 (congrArg nI h)) : (j = k) = False), (eq_false (fun h => c_40_3 (congrArg nI h)) : (i = k) = False), c_65_4, ↓reduceIte, Bool.true_and, Bool.and_true, Bool.false_and, Bool.and_false, Bool.true_or, Bool.or_true, Bool.false_or, Bool.or_false, Bool.not_true, Bool.not_false, decide_true, decide_false, bI_t, bI_f, Bool.false_eq_true, not_true_eq_false, not_false_eq_true, eq_self, reduceCtorEq, Bool.true_eq_false, and_true, true_and, and_false, false_and, or_true, true_or, or_false, false_or] at c_20; done) | (simp only [c_20, (eq_false (fun h => c_40_3 (congrArg nI h)) : (i = k) = False), c_65_4, ↓reduceIte, Bool.true_and, Bool.and_true, Bool.false_and, Bool.and_false, Bool.true_or, Bool.or_true, Bool.false_or, Bool.or_false, Bool.not_true, Bool.not_false, decide_true, decide_false, bI_t, bI_f, Bool.false_eq_true, not_true_eq_false, not_false_eq_true, eq_self, reduceCtorEq, Bool.true_eq_false, and_true, true_and, and_false, false_and, or_true, true_or, or_false, false_or] at c_2; done))
      refine lv_iconst (v := 1) hx hb dX9_isFirstOn_68 ic_1 ?_
      refine lv_goto (tgt := 73) hx hb dX9_isFirstOn_69 rfl ?_
      exact K52 _ (by first | with_reducible rfl | (simp only [j_fOn, (eq_false (fun h => c_2 (congrArg nI h)) : (j = k) = False), c_20, (eq_false (fun h => c_40_3 (congrArg nI h)) : (i = k) = False), c_65_4, ↓reduceIte, Bool.true_and, Bool.and_true, Bool.false_and, Bool.and_false, Bool.true_or, Bool.or_true, Bool.false_or, Bool.or_false, Bool.not_true, Bool.not_false, decide_true, decide_false, bI_t, bI_f, Bool.false_eq_true, not_true_eq_false, not_false_eq_true, eq_self, reduceCtorEq, Bool.true_eq_false, and_true, true_and, and_false, false_and, or_true, true_or, or_false, false_or]; done) | (simp only [(eq_false (fun h => c_2 (congrArg nI h)) : (j = k) = False), c_20, (eq_false (fun h => c_40_3 (congrArg nI h)) : (i = k) = False), ↓reduceIte, Bool.true_and, Bool.and_true, Bool.false_and, Bool.and_false, Bool.true_or, Bool.or_true, Bool.false_or, Bool.or_false, Bool.not_true, Bool.not_false, decide_true, decide_false, bI_t, bI_f, Bool.false_eq_true, not_true_eq_false, not_false_eq_true, eq_self, reduceCtorEq, Bool.true_eq_false, and_true, true_and, and_false, false_and, or_true, true_or, or_false, false_or] at c_65_4; done) | (simp only [(eq_false (fun h => c_2 (congrArg nI h)) : (j = k) = False), c_20, c_65_4, ↓reduceIte, Bool.true_and, Bool.and_true, Bool.false_and, Bool.and_false, Bool.true_or, Bool.or_true, Bool.false_or, Bool.or_false, Bool.not_true, Bool.not_false, decide_true, decide_false, bI_t, bI_f, Bool.false_eq_true, not_true_eq_false, not_false_eq_true, eq_self, reduceCtorEq, Bool.true_eq_false, and_true, true_and, and_false, false_and, or_true, true_or, or_false, false_or] at c_40_3; done) | (simp only [(eq_false (fun h => c_2 (congrArg nI h)) : (j = k) = False), (eq_false (fun h => c_40_3 (congrArg nI h)) : (i = k) = False), c_65_4, ↓reduceIte, Bool.true_and, Bool.and_true, Bool.false_and, Bool.and_false, Bool.true_or, Bool.or_true, Bool.false_or, Bool.or_false, Bool.not_true, Bool.not_false, decide_true, decide_false, bI_t, bI_f, Bool.false_eq_true, not_true_eq_false, not_false_eq_true, eq_self, reduceCtorEq, Bool.true_eq_false, and_true, true_and, and_false, false_and, or_true, true_or, or_false, false_or] at c_20; done) | (simp only [c_20, (eq_false (fun h => c_40_3 (congrArg nI h)) : (i = k) = False), c_65_4, ↓reduceIte, Bool.true_and, Bool.and_true, Bool.false_and, Bool.and_false, Bool.true_or, Bool.or_true, Bool.false_or, Bool.or_false, Bool.not_true, Bool.not_false, decide_true, decide_false, bI_t, bI_f, Bool.false_eq_true, not_true_eq_false, not_false_eq_true, eq_self, reduceCtorEq, Bool.true_eq_false, and_true, true_and, and_false, false_and, or_true, true_or, or_false, false_or] at c_2; done))
    refine lv_iand hx hb dX9_isFirstOn_73 ?_
    refine topi_eq (bI_and _ _) ?_
    refine lv_istore_n (lv' := [(3, .int _), (0, .ref _), (1, .int _), (2, .int _), (4, .int _)]) hx hb dX9_isFirstOn_74 rfl hl (Nat.le_of_ble_eq_true rfl) rfl (fun ls hl => ?_)
    refine lv_iinc (v := nI (i + 1)) (k := 4) (lv' := [(4, .int _), (3, .int _), (0, .ref _), (1, .int _), (2, .int _)]) hx hb dX9_isFirstOn_75 hl rfl (nI_1 _) (Nat.le_of_ble_eq_true rfl) rfl (fun ls hl => ?_)
    refine lv_goto (tgt := 30) hx hb dX9_isFirstOn_78 rfl ?_
    exact ih_i ls (lv_sub hl [2, 3, 4, 1, 0] rfl) h_i
  refine lv_iconst (v := 0) hx hb dX9_isFirstOn_23 ic_0 ?_
  exact pm_zret hx hb hr hlk hH dX9_isFirstOn_24 (by first | with_reducible rfl | (simp only [j_fOn, (eq_false (fun h => c_2 (congrArg nI h)) : (j = k) = False), c_20, ↓reduceIte, Bool.true_and, Bool.and_true, Bool.false_and, Bool.and_false, Bool.true_or, Bool.or_true, Bool.false_or, Bool.or_false, Bool.not_true, Bool.not_false, decide_true, decide_false, bI_t, bI_f, Bool.false_eq_true, not_true_eq_false, not_false_eq_true, eq_self, reduceCtorEq, Bool.true_eq_false, and_true, true_and, and_false, false_and, or_true, true_or, or_false, false_or]; done) | (simp only [(eq_false (fun h => c_2 (congrArg nI h)) : (j = k) = False), ↓reduceIte, Bool.true_and, Bool.and_true, Bool.false_and, Bool.and_false, Bool.true_or, Bool.or_true, Bool.false_or, Bool.or_false, Bool.not_true, Bool.not_false, decide_true, decide_false, bI_t, bI_f, Bool.false_eq_true, not_true_eq_false, not_false_eq_true, eq_self, reduceCtorEq, Bool.true_eq_false, and_true, true_and, and_false, false_and, or_true, true_or, or_false, false_or] at c_20; done) | (simp only [c_20, ↓reduceIte, Bool.true_and, Bool.and_true, Bool.false_and, Bool.and_false, Bool.true_or, Bool.or_true, Bool.false_or, Bool.or_false, Bool.not_true, Bool.not_false, decide_true, decide_false, bI_t, bI_f, Bool.false_eq_true, not_true_eq_false, not_false_eq_true, eq_self, reduceCtorEq, Bool.true_eq_false, and_true, true_and, and_false, false_and, or_true, true_or, or_false, false_or] at c_2; done))
theorem dX9_pieces_0 : decode cX9_pieces 0 = .ok (.iconst 0, 1) := by decide +kernel
theorem dX9_pieces_1 : decode cX9_pieces 1 = .ok (.istore_n 1, 1) := by decide +kernel
theorem dX9_pieces_2 : decode cX9_pieces 2 = .ok (.iconst 0, 1) := by decide +kernel
theorem dX9_pieces_3 : decode cX9_pieces 3 = .ok (.istore_n 2, 1) := by decide +kernel
theorem dX9_pieces_4 : decode cX9_pieces 4 = .ok (.iload_n 2, 1) := by decide +kernel
theorem dX9_pieces_5 : decode cX9_pieces 5 = .ok (.aload_n 0, 1) := by decide +kernel
theorem dX9_pieces_6 : decode cX9_pieces 6 = .ok (.getfield 25, 3) := by decide +kernel
theorem dX9_pieces_9 : decode cX9_pieces 9 = .ok (.if_icmp .ge 45, 3) := by decide +kernel
theorem dX9_pieces_12 : decode cX9_pieces 12 = .ok (.iinc 1 1, 3) := by decide +kernel
theorem dX9_pieces_15 : decode cX9_pieces 15 = .ok (.iconst 0, 1) := by decide +kernel
theorem dX9_pieces_16 : decode cX9_pieces 16 = .ok (.istore_n 3, 1) := by decide +kernel
theorem dX9_pieces_17 : decode cX9_pieces 17 = .ok (.iload_n 3, 1) := by decide +kernel
theorem dX9_pieces_18 : decode cX9_pieces 18 = .ok (.aload_n 0, 1) := by decide +kernel
theorem dX9_pieces_19 : decode cX9_pieces 19 = .ok (.getfield 25, 3) := by decide +kernel
theorem dX9_pieces_22 : decode cX9_pieces 22 = .ok (.if_icmp .ge 26, 3) := by decide +kernel
theorem dX9_pieces_25 : decode cX9_pieces 25 = .ok (.iload_n 1, 1) := by decide +kernel
theorem dX9_pieces_26 : decode cX9_pieces 26 = .ok (.aload_n 0, 1) := by decide +kernel
theorem dX9_pieces_27 : decode cX9_pieces 27 = .ok (.iload_n 2, 1) := by decide +kernel
theorem dX9_pieces_28 : decode cX9_pieces 28 = .ok (.iload_n 3, 1) := by decide +kernel
theorem dX9_pieces_29 : decode cX9_pieces 29 = .ok (.invokevirtual 62, 3) := by decide +kernel
theorem dX9_pieces_32 : decode cX9_pieces 32 = .ok (.ifCond .eq 7, 3) := by decide +kernel
theorem dX9_pieces_35 : decode cX9_pieces 35 = .ok (.iconst 1, 1) := by decide +kernel
theorem dX9_pieces_36 : decode cX9_pieces 36 = .ok (.goto 4, 3) := by decide +kernel
theorem dX9_pieces_39 : decode cX9_pieces 39 = .ok (.iconst 0, 1) := by decide +kernel
theorem dX9_pieces_40 : decode cX9_pieces 40 = .ok (.iadd, 1) := by decide +kernel
theorem dX9_pieces_41 : decode cX9_pieces 41 = .ok (.istore_n 1, 1) := by decide +kernel
theorem dX9_pieces_42 : decode cX9_pieces 42 = .ok (.iinc 3 1, 3) := by decide +kernel
theorem dX9_pieces_45 : decode cX9_pieces 45 = .ok (.goto (-28), 3) := by decide +kernel
theorem dX9_pieces_48 : decode cX9_pieces 48 = .ok (.iinc 2 1, 3) := by decide +kernel
theorem dX9_pieces_51 : decode cX9_pieces 51 = .ok (.goto (-47), 3) := by decide +kernel
theorem dX9_pieces_54 : decode cX9_pieces 54 = .ok (.iload_n 1, 1) := by decide +kernel
theorem dX9_pieces_55 : decode cX9_pieces 55 = .ok (.ireturn, 1) := by decide +kernel
set_option maxHeartbeats 4000000 in
theorem met_X9_pieces (l : Launch) (G : GG) {H : Heap} {o : Nat} {B P L : Nat → Nat} {σ : Sg} {r al D : Nat} {d : Nat → Nat} {mt cl mo : Int32} (hJ : JW G H o B P L σ) (hO : Ok σ) (hr0 : va_at G.1 clA (r, .inr (6, [.ref al, .int (nI D), .int mt, .int cl, .int mo, .ref o])) H) (ha0 : aLn G al 12 (fun j => if j < D then some (L (d j)) else none) H) (hD : D ≤ 12) (hd : ∀ j, j < D → d j < σ.nl) : PM l yX9_pieces cX9_pieces 4 (some .int) 2 46 G H [.ref r] (some (.int (j_pie (fun j => σ.ln (d j)) D D))) := by
  refine pm_intro pl_X9_pieces (Nat.le_of_ble_eq_true rfl) ?_
  intro pX eX sX mX belX methX cX ls hE hnm hl
  obtain ⟨hx, hb, hr, hlk, hml, hown, hts, hK, hZ, hH⟩ := hE
  have hl : lv_has ls 4 [(0, .ref r)] := hl
  have hD31 : D < 2 ^ 31 := by omega
  refine lv_iconst (v := 0) hx hb dX9_pieces_0 ic_0 ?_
  refine lv_istore_n (lv' := [(1, .int _), (0, .ref _)]) hx hb dX9_pieces_1 rfl hl (Nat.le_of_ble_eq_true rfl) rfl (fun ls hl => ?_)
  refine lv_iconst (v := 0) hx hb dX9_pieces_2 ic_0 ?_
  refine lv_istore_n (lv' := [(2, .int _), (1, .int _), (0, .ref _)]) hx hb dX9_pieces_3 rfl hl (Nat.le_of_ble_eq_true rfl) rfl (fun ls hl => ?_)
  refine loopW (N := D) (nL := 4) (lv := fun k => [(0, .ref r), (1, .int (j_pie (fun j => σ.ln (d j)) D k)), (2, .int (nI k))]) (fun k hk_k ih_k ls hl => ?_) 0 (Nat.zero_le _) ls (lv_sub hl [2, 1, 0] rfl)
  replace hl : lv_has ls 4 [(0, .ref r), (1, .int (j_pie (fun j => σ.ln (d j)) D k)), (2, .int (nI k))] := hl
  refine lv_iload_n hx hb dX9_pieces_4 rfl (lv_at hl 2 rfl) ?_
  refine lv_aload_n hx hb dX9_pieces_5 rfl (lv_at hl 0 rfl) ?_
  refine gf_X9_25 hx hb hts hown hK hr0 rfl dX9_pieces_6 ?_
  refine lv_icmp_ge (tgt := 54) hx hb dX9_pieces_9 rfl (fun c_9_0 => ?_) (fun c_9_0 => ?_)
  · skip
    have e_k := lp_out hk_k hD31 c_9_0
    subst e_k
    refine lv_iload_n hx hb dX9_pieces_54 rfl (lv_at hl 1 rfl) ?_
    exact pm_iret hx hb hr hlk hH dX9_pieces_55 (by first | with_reducible rfl | (simp only [↓reduceIte, Bool.true_and, Bool.and_true, Bool.false_and, Bool.and_false, Bool.true_or, Bool.or_true, Bool.false_or, Bool.or_false, Bool.not_true, Bool.not_false, decide_true, decide_false, bI_t, bI_f, Bool.false_eq_true, not_true_eq_false, not_false_eq_true, eq_self, reduceCtorEq, Bool.true_eq_false, and_true, true_and, and_false, false_and, or_true, true_or, or_false, false_or]; done))
  have h_k := lp_in hk_k hD31 c_9_0
  refine lv_iinc (v := _ + 1) (k := 1) (lv' := [(1, .int _), (0, .ref _), (2, .int _)]) hx hb dX9_pieces_12 hl rfl rfl (Nat.le_of_ble_eq_true rfl) rfl (fun ls hl => ?_)
  refine lv_iconst (v := 0) hx hb dX9_pieces_15 ic_0 ?_
  refine lv_istore_n (lv' := [(3, .int _), (1, .int _), (0, .ref _), (2, .int _)]) hx hb dX9_pieces_16 rfl hl (Nat.le_of_ble_eq_true rfl) rfl (fun ls hl => ?_)
  refine loopW (N := D) (nL := 4) (lv := fun j => [(0, .ref r), (1, .int (j_pieI (fun j => σ.ln (d j)) k j (j_pie (fun j => σ.ln (d j)) D k + 1))), (2, .int (nI k)), (3, .int (nI j))]) (fun j hk_j ih_j ls hl => ?_) 0 (Nat.zero_le _) ls (lv_sub hl [2, 1, 3, 0] rfl)
  replace hl : lv_has ls 4 [(0, .ref r), (1, .int (j_pieI (fun j => σ.ln (d j)) k j (j_pie (fun j => σ.ln (d j)) D k + 1))), (2, .int (nI k)), (3, .int (nI j))] := hl
  refine lv_iload_n hx hb dX9_pieces_17 rfl (lv_at hl 3 rfl) ?_
  refine lv_aload_n hx hb dX9_pieces_18 rfl (lv_at hl 0 rfl) ?_
  refine gf_X9_25 hx hb hts hown hK hr0 rfl dX9_pieces_19 ?_
  refine lv_icmp_ge (tgt := 48) hx hb dX9_pieces_22 rfl (fun c_22_1 => ?_) (fun c_22_1 => ?_)
  · skip
    have e_j := lp_out hk_j hD31 c_22_1
    subst e_j
    refine lv_iinc (v := nI (k + 1)) (k := 2) (lv' := [(2, .int _), (0, .ref _), (1, .int _), (3, .int _)]) hx hb dX9_pieces_48 hl rfl (nI_1 _) (Nat.le_of_ble_eq_true rfl) rfl (fun ls hl => ?_)
    refine lv_goto (tgt := 4) hx hb dX9_pieces_51 rfl ?_
    exact ih_k ls (lv_sub hl [1, 2, 0] rfl) h_k
  have h_j := lp_in hk_j hD31 c_22_1
  refine lv_iload_n hx hb dX9_pieces_25 rfl (lv_at hl 1 rfl) ?_
  refine cutI (J := 40) (v := if j_fOn (fun j => σ.ln (d j)) k j = true then 1 else 0) ?_ (fun K53 => ?_)
  rotate_left
  · skip
    refine lv_aload_n hx hb dX9_pieces_26 rfl (lv_at hl 0 rfl) ?_
    refine lv_iload_n hx hb dX9_pieces_27 rfl (lv_at hl 2 rfl) ?_
    refine lv_iload_n hx hb dX9_pieces_28 rfl (lv_at hl 3 rfl) ?_
    refine p_callV (As := [.int _, .int _]) hx hb hml hown hts hK hZ (met_X9_isFirstOn l G hJ hO hr0 ha0 hD hd h_k h_j) q471 q473 qs9 q61 q474 hv_X9_isFirstOn rfl hr0 rfl (by decide) hl.1 rfl (Nat.le_of_ble_eq_true rfl) dX9_pieces_29 ⟨Nat.zero_le _, Nat.zero_le _⟩ ?_
    refine b_ifeq (tgt := 39) hx hb dX9_pieces_32 rfl (fun c_32_2 => ?_) (fun c_32_2 => ?_)
    · skip
      refine lv_iconst (v := 0) hx hb dX9_pieces_39 ic_0 ?_
      exact K53 _ (by first | with_reducible rfl | (simp only [c_32_2, ↓reduceIte, Bool.true_and, Bool.and_true, Bool.false_and, Bool.and_false, Bool.true_or, Bool.or_true, Bool.false_or, Bool.or_false, Bool.not_true, Bool.not_false, decide_true, decide_false, bI_t, bI_f, Bool.false_eq_true, not_true_eq_false, not_false_eq_true, eq_self, reduceCtorEq, Bool.true_eq_false, and_true, true_and, and_false, false_and, or_true, true_or, or_false, false_or]; done))
    refine lv_iconst (v := 1) hx hb dX9_pieces_35 ic_1 ?_
    refine lv_goto (tgt := 40) hx hb dX9_pieces_36 rfl ?_
    exact K53 _ (by first | with_reducible rfl | (simp only [c_32_2, ↓reduceIte, Bool.true_and, Bool.and_true, Bool.false_and, Bool.and_false, Bool.true_or, Bool.or_true, Bool.false_or, Bool.or_false, Bool.not_true, Bool.not_false, decide_true, decide_false, bI_t, bI_f, Bool.false_eq_true, not_true_eq_false, not_false_eq_true, eq_self, reduceCtorEq, Bool.true_eq_false, and_true, true_and, and_false, false_and, or_true, true_or, or_false, false_or]; done))
  refine lv_iadd hx hb dX9_pieces_40 ?_
  refine lv_istore_n (lv' := [(1, .int _), (0, .ref _), (2, .int _), (3, .int _)]) hx hb dX9_pieces_41 rfl hl (Nat.le_of_ble_eq_true rfl) rfl (fun ls hl => ?_)
  refine lv_iinc (v := nI (j + 1)) (k := 3) (lv' := [(3, .int _), (1, .int _), (0, .ref _), (2, .int _)]) hx hb dX9_pieces_42 hl rfl (nI_1 _) (Nat.le_of_ble_eq_true rfl) rfl (fun ls hl => ?_)
  refine lv_goto (tgt := 17) hx hb dX9_pieces_45 rfl ?_
  exact ih_j ls (lv_sub hl [2, 1, 3, 0] rfl) h_j
theorem dX9_add_0 : decode cX9_add 0 = .ok (.aload_n 0, 1) := by decide +kernel
theorem dX9_add_1 : decode cX9_add 1 = .ok (.getfield 25, 3) := by decide +kernel
theorem dX9_add_4 : decode cX9_add 4 = .ok (.istore_n 2, 1) := by decide +kernel
theorem dX9_add_5 : decode cX9_add 5 = .ok (.aload_n 0, 1) := by decide +kernel
theorem dX9_add_6 : decode cX9_add 6 = .ok (.getfield 17, 3) := by decide +kernel
theorem dX9_add_9 : decode cX9_add 9 = .ok (.iload_n 2, 1) := by decide +kernel
theorem dX9_add_10 : decode cX9_add 10 = .ok (.aload_n 1, 1) := by decide +kernel
theorem dX9_add_11 : decode cX9_add 11 = .ok (.aastore, 1) := by decide +kernel
theorem dX9_add_12 : decode cX9_add 12 = .ok (.aload_n 0, 1) := by decide +kernel
theorem dX9_add_13 : decode cX9_add 13 = .ok (.dup, 1) := by decide +kernel
theorem dX9_add_14 : decode cX9_add 14 = .ok (.getfield 25, 3) := by decide +kernel
theorem dX9_add_17 : decode cX9_add 17 = .ok (.iconst 1, 1) := by decide +kernel
theorem dX9_add_18 : decode cX9_add 18 = .ok (.iadd, 1) := by decide +kernel
theorem dX9_add_19 : decode cX9_add 19 = .ok (.putfield 25, 3) := by decide +kernel
theorem dX9_add_22 : decode cX9_add 22 = .ok (.iconst 0, 1) := by decide +kernel
theorem dX9_add_23 : decode cX9_add 23 = .ok (.istore_n 3, 1) := by decide +kernel
theorem dX9_add_24 : decode cX9_add 24 = .ok (.iload_n 3, 1) := by decide +kernel
theorem dX9_add_25 : decode cX9_add 25 = .ok (.iload_n 2, 1) := by decide +kernel
theorem dX9_add_26 : decode cX9_add 26 = .ok (.if_icmp .ge 120, 3) := by decide +kernel
theorem dX9_add_29 : decode cX9_add 29 = .ok (.aload_n 1, 1) := by decide +kernel
theorem dX9_add_30 : decode cX9_add 30 = .ok (.aload_n 0, 1) := by decide +kernel
theorem dX9_add_31 : decode cX9_add 31 = .ok (.getfield 17, 3) := by decide +kernel
theorem dX9_add_34 : decode cX9_add 34 = .ok (.iload_n 3, 1) := by decide +kernel
theorem dX9_add_35 : decode cX9_add 35 = .ok (.aaload, 1) := by decide +kernel
theorem dX9_add_36 : decode cX9_add 36 = .ok (.invokevirtual 43, 3) := by decide +kernel
theorem dX9_add_39 : decode cX9_add 39 = .ok (.ifCond .eq 6, 3) := by decide +kernel
theorem dX9_add_42 : decode cX9_add 42 = .ok (.goto 98, 3) := by decide +kernel
theorem dX9_add_45 : decode cX9_add 45 = .ok (.aload_n 0, 1) := by decide +kernel
theorem dX9_add_46 : decode cX9_add 46 = .ok (.aload_n 1, 1) := by decide +kernel
theorem dX9_add_47 : decode cX9_add 47 = .ok (.aload_n 0, 1) := by decide +kernel
theorem dX9_add_48 : decode cX9_add 48 = .ok (.getfield 17, 3) := by decide +kernel
theorem dX9_add_51 : decode cX9_add 51 = .ok (.iload_n 3, 1) := by decide +kernel
theorem dX9_add_52 : decode cX9_add 52 = .ok (.aaload, 1) := by decide +kernel
theorem dX9_add_53 : decode cX9_add 53 = .ok (.iload_n 2, 1) := by decide +kernel
theorem dX9_add_54 : decode cX9_add 54 = .ok (.invokevirtual 46, 3) := by decide +kernel
theorem dX9_add_57 : decode cX9_add 57 = .ok (.istore 4, 2) := by decide +kernel
theorem dX9_add_59 : decode cX9_add 59 = .ok (.aload_n 0, 1) := by decide +kernel
theorem dX9_add_60 : decode cX9_add 60 = .ok (.aload_n 1, 1) := by decide +kernel
theorem dX9_add_61 : decode cX9_add 61 = .ok (.aload_n 0, 1) := by decide +kernel
theorem dX9_add_62 : decode cX9_add 62 = .ok (.getfield 17, 3) := by decide +kernel
theorem dX9_add_65 : decode cX9_add 65 = .ok (.iload_n 3, 1) := by decide +kernel
theorem dX9_add_66 : decode cX9_add 66 = .ok (.aaload, 1) := by decide +kernel
theorem dX9_add_67 : decode cX9_add 67 = .ok (.iload_n 3, 1) := by decide +kernel
theorem dX9_add_68 : decode cX9_add 68 = .ok (.invokevirtual 46, 3) := by decide +kernel
theorem dX9_add_71 : decode cX9_add 71 = .ok (.ifCond .ne 7, 3) := by decide +kernel
theorem dX9_add_74 : decode cX9_add 74 = .ok (.iconst 1, 1) := by decide +kernel
theorem dX9_add_75 : decode cX9_add 75 = .ok (.goto 4, 3) := by decide +kernel
theorem dX9_add_78 : decode cX9_add 78 = .ok (.iconst 0, 1) := by decide +kernel
theorem dX9_add_79 : decode cX9_add 79 = .ok (.istore 5, 2) := by decide +kernel
theorem dX9_add_81 : decode cX9_add 81 = .ok (.aload_n 0, 1) := by decide +kernel
theorem dX9_add_82 : decode cX9_add 82 = .ok (.dup, 1) := by decide +kernel
theorem dX9_add_83 : decode cX9_add 83 = .ok (.getfield 21, 3) := by decide +kernel
theorem dX9_add_86 : decode cX9_add 86 = .ok (.iload 5, 2) := by decide +kernel
theorem dX9_add_88 : decode cX9_add 88 = .ok (.ifCond .eq 7, 3) := by decide +kernel
theorem dX9_add_91 : decode cX9_add 91 = .ok (.iconst 1, 1) := by decide +kernel
theorem dX9_add_92 : decode cX9_add 92 = .ok (.goto 4, 3) := by decide +kernel
theorem dX9_add_95 : decode cX9_add 95 = .ok (.iconst 0, 1) := by decide +kernel
theorem dX9_add_96 : decode cX9_add 96 = .ok (.iadd, 1) := by decide +kernel
theorem dX9_add_97 : decode cX9_add 97 = .ok (.putfield 21, 3) := by decide +kernel
theorem dX9_add_100 : decode cX9_add 100 = .ok (.aload_n 0, 1) := by decide +kernel
theorem dX9_add_101 : decode cX9_add 101 = .ok (.dup, 1) := by decide +kernel
theorem dX9_add_102 : decode cX9_add 102 = .ok (.getfield 50, 3) := by decide +kernel
theorem dX9_add_105 : decode cX9_add 105 = .ok (.iload 5, 2) := by decide +kernel
theorem dX9_add_107 : decode cX9_add 107 = .ok (.ifCond .eq 13, 3) := by decide +kernel
theorem dX9_add_110 : decode cX9_add 110 = .ok (.iload 4, 2) := by decide +kernel
theorem dX9_add_112 : decode cX9_add 112 = .ok (.iconst 1, 1) := by decide +kernel
theorem dX9_add_113 : decode cX9_add 113 = .ok (.if_icmp .ne 7, 3) := by decide +kernel
theorem dX9_add_116 : decode cX9_add 116 = .ok (.iconst 1, 1) := by decide +kernel
theorem dX9_add_117 : decode cX9_add 117 = .ok (.goto 4, 3) := by decide +kernel
theorem dX9_add_120 : decode cX9_add 120 = .ok (.iconst 0, 1) := by decide +kernel
theorem dX9_add_121 : decode cX9_add 121 = .ok (.iadd, 1) := by decide +kernel
theorem dX9_add_122 : decode cX9_add 122 = .ok (.putfield 50, 3) := by decide +kernel
theorem dX9_add_125 : decode cX9_add 125 = .ok (.aload_n 0, 1) := by decide +kernel
theorem dX9_add_126 : decode cX9_add 126 = .ok (.aload_n 0, 1) := by decide +kernel
theorem dX9_add_127 : decode cX9_add 127 = .ok (.getfield 53, 3) := by decide +kernel
theorem dX9_add_130 : decode cX9_add 130 = .ok (.iload 4, 2) := by decide +kernel
theorem dX9_add_132 : decode cX9_add 132 = .ok (.iconst 1, 1) := by decide +kernel
theorem dX9_add_133 : decode cX9_add 133 = .ok (.iadd, 1) := by decide +kernel
theorem dX9_add_134 : decode cX9_add 134 = .ok (.invokestatic 56, 3) := by decide +kernel
theorem dX9_add_137 : decode cX9_add 137 = .ok (.putfield 53, 3) := by decide +kernel
theorem dX9_add_140 : decode cX9_add 140 = .ok (.iinc 3 1, 3) := by decide +kernel
theorem dX9_add_143 : decode cX9_add 143 = .ok (.goto (-119), 3) := by decide +kernel
theorem dX9_add_146 : decode cX9_add 146 = .ok (.aload_n 0, 1) := by decide +kernel
theorem dX9_add_147 : decode cX9_add 147 = .ok (.dup, 1) := by decide +kernel
theorem dX9_add_148 : decode cX9_add 148 = .ok (.getfield 21, 3) := by decide +kernel
theorem dX9_add_151 : decode cX9_add 151 = .ok (.iconst 1, 1) := by decide +kernel
theorem dX9_add_152 : decode cX9_add 152 = .ok (.iadd, 1) := by decide +kernel
theorem dX9_add_153 : decode cX9_add 153 = .ok (.putfield 21, 3) := by decide +kernel
theorem dX9_add_156 : decode cX9_add 156 = .ok (.return_, 1) := by decide +kernel
set_option maxHeartbeats 800000 in
theorem met_X9_add (l : Launch) (G : GG) {H : Heap} {o : Nat} {B P L : Nat → Nat} {σ : Sg} {r al D : Nat} {d : Nat → Nat} {mt cl mo : Int32} {z : Nat} (hJ : JW G H o B P L σ) (hO : Ok σ) (hr0 : va_at G.1 clA (r, .inr (6, [.ref al, .int (nI D), .int mt, .int cl, .int mo, .ref o])) H) (ha0 : aLn G al 12 (fun j => if j < D then some (L (d j)) else none) H) (hD : D ≤ 12) (hd : ∀ j, j < D → d j < σ.nl) (hD12 : D < 12) (hz : z < σ.nl) (hra : r ≠ al) (hnr : ¬ cellJ o B P L σ r) (hna : ¬ cellJ o B P L σ al) : GM l yX9_add cX9_add 6 none 2 0 0 47 G H [.ref r, .ref (L z)] (fun oc H' => oc = .returned none ∧ va_at G.1 clA (r, .inr (6, [.ref al, .int (nI (D + 1)), .int (j_addL (fun j => σ.ln (updN d D z j)) (σ.ln z) D D (mt, cl, mo)).1, .int ((j_addL (fun j => σ.ln (updN d D z j)) (σ.ln z) D D (mt, cl, mo)).2.1 + 1), .int (j_addL (fun j => σ.ln (updN d D z j)) (σ.ln z) D D (mt, cl, mo)).2.2, .ref o])) H' ∧ aLn G al 12 (fun j => if j < D + 1 then some (L ((updN d D z) j)) else none) H' ∧ KA r al H H') (fun z => z = r ∨ z = al) := by
  refine gm_intro pl_X9_add (Nat.le_of_ble_eq_true rfl) ?_
  intro pX eX sX mX belX methX cX ls hE hnm hl
  obtain ⟨hx, hb, hr, hlk, hml, hown, hts, hK, hZ, hH⟩ := hE
  have hl : lv_has ls 6 [(0, .ref r), (1, .ref (L z))] := hl
  have hL : ∀ q ∈ ([] : List Loc), (fun z => z = r ∨ z = al : Addr → Prop) q.base := fun q h => by cases h
  have hD31 : D < 2 ^ 31 := by omega
  have hD' : D + 1 ≤ 12 := by omega
  have hd' : ∀ j, j < D + 1 → updN d D z j < σ.nl := fun j hj => updN_lt hd hz hj
  refine lv_aload_n hx hb dX9_add_0 rfl (lv_at hl 0 rfl) ?_
  refine gf_X9_25 hx hb hts hown hK hr0 rfl dX9_add_1 ?_
  refine lv_istore_n (lv' := [(2, .int _), (0, .ref _), (1, .ref _)]) hx hb dX9_add_4 rfl hl (Nat.le_of_ble_eq_true rfl) rfl (fun ls hl => ?_)
  refine lv_aload_n hx hb dX9_add_5 rfl (lv_at hl 1 rfl) ?_
  refine gf_X9_17 hx hb hts hown hK hr0 rfl dX9_add_6 ?_
  refine lv_iload_n hx hb dX9_add_9 rfl (lv_at hl 0 rfl) ?_
  refine lv_aload_n hx hb dX9_add_10 rfl (lv_at hl 2 rfl) ?_
  refine w_aast (F := fun z => z = r ∨ z = al) (t0 := 1) (ci := 2) hx hb hK ha0 rfl rfl (hJ.2.2.2.2.2 _ hz) dX9_add_11 (k := D) hD12 (by decide) rfl hL (Or.inr rfl) (fun HA7_ locs hA7_ hoA7_ hL => ?_)
  have h1_ := at_only hr0 hoA7_ hra
  refine lv_aload_n hx hb dX9_add_12 rfl (lv_at hl 1 rfl) ?_
  refine lv_dup hx hb dX9_add_13 rfl ?_
  refine gf_X9_25 hx hb hts hown hK h1_ rfl dX9_add_14 ?_
  refine lv_iconst (v := 1) hx hb dX9_add_17 ic_1 ?_
  refine lv_iadd hx hb dX9_add_18 ?_
  refine topi_eq (nI_1 _) ?_
  refine pf_X9_25 (F := fun z => z = r ∨ z = al) hx hb hts hown hK h1_ rfl rfl (Nat.le_of_ble_eq_true rfl) dX9_add_19 hL (Or.inl rfl) (fun H2_ locs h2_ ho2_ hL => ?_)
  have h3_ := at_only hA7_ ho2_ (Ne.symm hra)
  refine lv_iconst (v := 0) hx hb dX9_add_22 ic_0 ?_
  refine lv_istore_n (lv' := [(3, .int _), (2, .int _), (0, .ref _), (1, .ref _)]) hx hb dX9_add_23 rfl hl (Nat.le_of_ble_eq_true rfl) rfl (fun ls hl => ?_)
  have ea_ := h3_
  rw [ar_up] at ea_
  refine loopG (N := D) (nL := 6) (F := fun z => z = r ∨ z = al) (lv := fun j => [(0, .ref r), (1, .ref (L z)), (2, .int (nI D)), (3, .int (nI j))]) (I := fun j HI_ => va_at G.1 clA (r, .inr (6, [.ref al, .int (nI (D + 1)), .int (j_addL (fun j => σ.ln (updN d D z j)) (σ.ln z) D j (mt, cl, mo)).1, .int (j_addL (fun j => σ.ln (updN d D z j)) (σ.ln z) D j (mt, cl, mo)).2.1, .int (j_addL (fun j => σ.ln (updN d D z j)) (σ.ln z) D j (mt, cl, mo)).2.2, .ref o])) HI_ ∧ aLn G al 12 (fun j => if j < D + 1 then some (L ((updN d D z) j)) else none) HI_ ∧ KA r al H HI_) (fun j hk_j ih_j HIj_ locs ls hIj hL hl => ?_) 0 (Nat.zero_le _) _ _ ls ⟨h2_, ea_, (KA.tr (KA.tr KA.rf (KA.of hoA7_ (Or.inr rfl))) (KA.of ho2_ (Or.inl rfl)))⟩ hL (lv_sub hl [2, 3, 1, 0] rfl)
  replace hl : lv_has ls 6 [(0, .ref r), (1, .ref (L z)), (2, .int (nI D)), (3, .int (nI j))] := hl
  have hJ := hJ.kept (fun q hq => hIj.2.2.2 q (fun h => hnr (h ▸ hq)) (fun h => hna (h ▸ hq)))
  refine lv_iload_n hx hb dX9_add_24 rfl (lv_at hl 3 rfl) ?_
  refine lv_iload_n hx hb dX9_add_25 rfl (lv_at hl 2 rfl) ?_
  refine lv_icmp_ge (tgt := 146) hx hb dX9_add_26 rfl (fun c_26_0 => ?_) (fun c_26_0 => ?_)
  · skip
    have e_j := lp_out hk_j hD31 c_26_0
    subst e_j
    refine lv_aload_n hx hb dX9_add_146 rfl (lv_at hl 0 rfl) ?_
    refine lv_dup hx hb dX9_add_147 rfl ?_
    refine gf_X9_21 hx hb hts hown hK hIj.1 rfl dX9_add_148 ?_
    refine lv_iconst (v := 1) hx hb dX9_add_151 ic_1 ?_
    refine lv_iadd hx hb dX9_add_152 ?_
    refine pf_X9_21 (F := fun z => z = r ∨ z = al) hx hb hts hown hK hIj.1 rfl rfl (Nat.le_of_ble_eq_true rfl) dX9_add_153 hL (Or.inl rfl) (fun H4_ locs h4_ ho4_ hL => ?_)
    have h5_ := at_only hIj.2.1 ho4_ (Ne.symm hra)
    exact g_vret (F := fun z => z = r ∨ z = al) (Post := fun oc H' => oc = .returned none ∧ va_at G.1 clA (r, .inr (6, [.ref al, .int (nI (D + 1)), .int (j_addL (fun j => σ.ln (updN d D z j)) (σ.ln z) D D (mt, cl, mo)).1, .int ((j_addL (fun j => σ.ln (updN d D z j)) (σ.ln z) D D (mt, cl, mo)).2.1 + 1), .int (j_addL (fun j => σ.ln (updN d D z j)) (σ.ln z) D D (mt, cl, mo)).2.2, .ref o])) H' ∧ aLn G al 12 (fun j => if j < D + 1 then some (L ((updN d D z) j)) else none) H' ∧ KA r al H H') hx hb hr hlk hL dX9_add_156 ⟨rfl, h4_, h5_, (KA.tr hIj.2.2 (KA.of ho4_ (Or.inl rfl)))⟩
  have h_j := lp_in hk_j hD31 c_26_0
  refine lv_aload_n hx hb dX9_add_29 rfl (lv_at hl 1 rfl) ?_
  refine lv_aload_n hx hb dX9_add_30 rfl (lv_at hl 0 rfl) ?_
  refine gf_X9_17 hx hb hts hown hK hIj.1 rfl dX9_add_31 ?_
  refine lv_iload_n hx hb dX9_add_34 rfl (lv_at hl 3 rfl) ?_
  refine r_qald hx hb hK hIj.2.1 dX9_add_35 (k := j) (Nat.lt_of_lt_of_le (Nat.lt_succ_of_lt h_j) hD') (by decide) rfl (ar_some (Nat.lt_succ_of_lt h_j)) ?_
  refine p_callV (As := [.ref _]) hx hb hml hown hts hK trivial (met_X8_isParallel l G (hJ.2.2.2.2.2 _ hz) (hJ.2.2.2.2.2 _ (hd' _ (Nat.lt_succ_of_lt h_j)))) q432 q425 q426 q60 q427 hv_X8_isParallel rfl (hJ.2.2.2.2.2 _ hz) rfl (by decide) hl.1 rfl (Nat.le_of_ble_eq_true rfl) dX9_add_36 ⟨Nat.le_of_ble_eq_true rfl, Nat.le_of_ble_eq_true rfl⟩ ?_
  refine b_ifeq (tgt := 45) hx hb dX9_add_39 rfl (fun c_39_1 => ?_) (fun c_39_1 => ?_)
  · skip
    refine lv_aload_n hx hb dX9_add_45 rfl (lv_at hl 0 rfl) ?_
    refine lv_aload_n hx hb dX9_add_46 rfl (lv_at hl 1 rfl) ?_
    refine lv_aload_n hx hb dX9_add_47 rfl (lv_at hl 0 rfl) ?_
    refine gf_X9_17 hx hb hts hown hK hIj.1 rfl dX9_add_48 ?_
    refine lv_iload_n hx hb dX9_add_51 rfl (lv_at hl 3 rfl) ?_
    refine r_qald hx hb hK hIj.2.1 dX9_add_52 (k := j) (Nat.lt_of_lt_of_le (Nat.lt_succ_of_lt h_j) hD') (by decide) rfl (ar_some (Nat.lt_succ_of_lt h_j)) ?_
    refine lv_iload_n hx hb dX9_add_53 rfl (lv_at hl 2 rfl) ?_
    refine p_callV (As := [.ref _, .ref _, .int _]) hx hb hml hown hts hK trivial (met_X9_through l G hJ hO hIj.1 hIj.2.1 hD' hd' (hJ.2.2.2.2.2 _ hz) (hJ.2.2.2.2.2 _ (hd' _ (Nat.lt_succ_of_lt h_j))) (Nat.le_succ D)) q433 q435 qs8 q61 q436 hv_X9_through rfl hIj.1 rfl (by decide) hl.1 rfl (Nat.le_of_ble_eq_true rfl) dX9_add_54 ⟨Nat.le_of_ble_eq_true rfl, Nat.le_of_ble_eq_true rfl⟩ ?_
    refine lv_istore (lv' := [(4, .int _), (0, .ref _), (1, .ref _), (2, .int _), (3, .int _)]) hx hb dX9_add_57 hl (Nat.le_of_ble_eq_true rfl) rfl (fun ls hl => ?_)
    refine cutI (J := 79) (v := bI (decide ((j_thru (fun j => σ.ln (updN d D z j)) (σ.ln z) (σ.ln (updN d D z j)) j) = 0))) ?_ (fun K54 => ?_)
    rotate_left
    · skip
      refine lv_aload_n hx hb dX9_add_59 rfl (lv_at hl 1 rfl) ?_
      refine lv_aload_n hx hb dX9_add_60 rfl (lv_at hl 2 rfl) ?_
      refine lv_aload_n hx hb dX9_add_61 rfl (lv_at hl 1 rfl) ?_
      refine gf_X9_17 hx hb hts hown hK hIj.1 rfl dX9_add_62 ?_
      refine lv_iload_n hx hb dX9_add_65 rfl (lv_at hl 4 rfl) ?_
      refine r_qald hx hb hK hIj.2.1 dX9_add_66 (k := j) (Nat.lt_of_lt_of_le (Nat.lt_succ_of_lt h_j) hD') (by decide) rfl (ar_some (Nat.lt_succ_of_lt h_j)) ?_
      refine lv_iload_n hx hb dX9_add_67 rfl (lv_at hl 4 rfl) ?_
      refine p_callV (As := [.ref _, .ref _, .int _]) hx hb hml hown hts hK trivial (met_X9_through l G hJ hO hIj.1 hIj.2.1 hD' hd' (hJ.2.2.2.2.2 _ hz) (hJ.2.2.2.2.2 _ (hd' _ (Nat.lt_succ_of_lt h_j))) (Nat.le_of_lt (Nat.lt_succ_of_lt h_j))) q433 q435 qs8 q61 q436 hv_X9_through rfl hIj.1 rfl (by decide) hl.1 rfl (Nat.le_of_ble_eq_true rfl) dX9_add_68 ⟨Nat.le_of_ble_eq_true rfl, Nat.le_of_ble_eq_true rfl⟩ ?_
      refine lv_if_ne (tgt := 78) hx hb dX9_add_71 rfl (fun c_71_2 => ?_) (fun c_71_2 => ?_)
      · skip
        refine lv_iconst (v := 0) hx hb dX9_add_78 ic_0 ?_
        exact K54 _ (by first | with_reducible rfl | (simp only [c_39_1, c_71_2, ↓reduceIte, Bool.true_and, Bool.and_true, Bool.false_and, Bool.and_false, Bool.true_or, Bool.or_true, Bool.false_or, Bool.or_false, Bool.not_true, Bool.not_false, decide_true, decide_false, bI_t, bI_f, Bool.false_eq_true, not_true_eq_false, not_false_eq_true, eq_self, reduceCtorEq, Bool.true_eq_false, and_true, true_and, and_false, false_and, or_true, true_or, or_false, false_or]; done) | (simp only [c_39_1, ↓reduceIte, Bool.true_and, Bool.and_true, Bool.false_and, Bool.and_false, Bool.true_or, Bool.or_true, Bool.false_or, Bool.or_false, Bool.not_true, Bool.not_false, decide_true, decide_false, bI_t, bI_f, Bool.false_eq_true, not_true_eq_false, not_false_eq_true, eq_self, reduceCtorEq, Bool.true_eq_false, and_true, true_and, and_false, false_and, or_true, true_or, or_false, false_or] at c_71_2; done) | (simp only [c_71_2, ↓reduceIte, Bool.true_and, Bool.and_true, Bool.false_and, Bool.and_false, Bool.true_or, Bool.or_true, Bool.false_or, Bool.or_false, Bool.not_true, Bool.not_false, decide_true, decide_false, bI_t, bI_f, Bool.false_eq_true, not_true_eq_false, not_false_eq_true, eq_self, reduceCtorEq, Bool.true_eq_false, and_true, true_and, and_false, false_and, or_true, true_or, or_false, false_or] at c_39_1; done))
      refine lv_iconst (v := 1) hx hb dX9_add_74 ic_1 ?_
      refine lv_goto (tgt := 79) hx hb dX9_add_75 rfl ?_
      exact K54 _ (by first | with_reducible rfl | (simp only [c_39_1, eq_true c_71_2, ↓reduceIte, Bool.true_and, Bool.and_true, Bool.false_and, Bool.and_false, Bool.true_or, Bool.or_true, Bool.false_or, Bool.or_false, Bool.not_true, Bool.not_false, decide_true, decide_false, bI_t, bI_f, Bool.false_eq_true, not_true_eq_false, not_false_eq_true, eq_self, reduceCtorEq, Bool.true_eq_false, and_true, true_and, and_false, false_and, or_true, true_or, or_false, false_or]; done) | (simp only [c_39_1, ↓reduceIte, Bool.true_and, Bool.and_true, Bool.false_and, Bool.and_false, Bool.true_or, Bool.or_true, Bool.false_or, Bool.or_false, Bool.not_true, Bool.not_false, decide_true, decide_false, bI_t, bI_f, Bool.false_eq_true, not_true_eq_false, not_false_eq_true, eq_self, reduceCtorEq, Bool.true_eq_false, and_true, true_and, and_false, false_and, or_true, true_or, or_false, false_or] at c_71_2; done) | (simp only [eq_true c_71_2, ↓reduceIte, Bool.true_and, Bool.and_true, Bool.false_and, Bool.and_false, Bool.true_or, Bool.or_true, Bool.false_or, Bool.or_false, Bool.not_true, Bool.not_false, decide_true, decide_false, bI_t, bI_f, Bool.false_eq_true, not_true_eq_false, not_false_eq_true, eq_self, reduceCtorEq, Bool.true_eq_false, and_true, true_and, and_false, false_and, or_true, true_or, or_false, false_or] at c_39_1; done))
    refine lv_istore (lv' := [(5, .int _), (4, .int _), (0, .ref _), (1, .ref _), (2, .int _), (3, .int _)]) hx hb dX9_add_79 hl (Nat.le_of_ble_eq_true rfl) rfl (fun ls hl => ?_)
    refine lv_aload_n hx hb dX9_add_81 rfl (lv_at hl 2 rfl) ?_
    refine lv_dup hx hb dX9_add_82 rfl ?_
    refine gf_X9_21 hx hb hts hown hK hIj.1 rfl dX9_add_83 ?_
    refine cutI (J := 96) (v := if decide ((j_thru (fun j => σ.ln (updN d D z j)) (σ.ln z) (σ.ln (updN d D z j)) j) = 0) = true then 1 else 0) ?_ (fun K55 => ?_)
    rotate_left
    · skip
      refine lv_iload hx hb dX9_add_86 (lv_at hl 0 rfl) ?_
      refine b_ifeq (tgt := 95) hx hb dX9_add_88 rfl (fun c_88_2 => ?_) (fun c_88_2 => ?_)
      · skip
        refine lv_iconst (v := 0) hx hb dX9_add_95 ic_0 ?_
        exact K55 _ (by first | with_reducible rfl | (simp only [c_39_1, c_88_2, ↓reduceIte, Bool.true_and, Bool.and_true, Bool.false_and, Bool.and_false, Bool.true_or, Bool.or_true, Bool.false_or, Bool.or_false, Bool.not_true, Bool.not_false, decide_true, decide_false, bI_t, bI_f, Bool.false_eq_true, not_true_eq_false, not_false_eq_true, eq_self, reduceCtorEq, Bool.true_eq_false, and_true, true_and, and_false, false_and, or_true, true_or, or_false, false_or]; done) | (simp only [c_39_1, ↓reduceIte, Bool.true_and, Bool.and_true, Bool.false_and, Bool.and_false, Bool.true_or, Bool.or_true, Bool.false_or, Bool.or_false, Bool.not_true, Bool.not_false, decide_true, decide_false, bI_t, bI_f, Bool.false_eq_true, not_true_eq_false, not_false_eq_true, eq_self, reduceCtorEq, Bool.true_eq_false, and_true, true_and, and_false, false_and, or_true, true_or, or_false, false_or] at c_88_2; done) | (simp only [c_88_2, ↓reduceIte, Bool.true_and, Bool.and_true, Bool.false_and, Bool.and_false, Bool.true_or, Bool.or_true, Bool.false_or, Bool.or_false, Bool.not_true, Bool.not_false, decide_true, decide_false, bI_t, bI_f, Bool.false_eq_true, not_true_eq_false, not_false_eq_true, eq_self, reduceCtorEq, Bool.true_eq_false, and_true, true_and, and_false, false_and, or_true, true_or, or_false, false_or] at c_39_1; done))
      refine lv_iconst (v := 1) hx hb dX9_add_91 ic_1 ?_
      refine lv_goto (tgt := 96) hx hb dX9_add_92 rfl ?_
      exact K55 _ (by first | with_reducible rfl | (simp only [c_39_1, c_88_2, ↓reduceIte, Bool.true_and, Bool.and_true, Bool.false_and, Bool.and_false, Bool.true_or, Bool.or_true, Bool.false_or, Bool.or_false, Bool.not_true, Bool.not_false, decide_true, decide_false, bI_t, bI_f, Bool.false_eq_true, not_true_eq_false, not_false_eq_true, eq_self, reduceCtorEq, Bool.true_eq_false, and_true, true_and, and_false, false_and, or_true, true_or, or_false, false_or]; done) | (simp only [c_39_1, ↓reduceIte, Bool.true_and, Bool.and_true, Bool.false_and, Bool.and_false, Bool.true_or, Bool.or_true, Bool.false_or, Bool.or_false, Bool.not_true, Bool.not_false, decide_true, decide_false, bI_t, bI_f, Bool.false_eq_true, not_true_eq_false, not_false_eq_true, eq_self, reduceCtorEq, Bool.true_eq_false, and_true, true_and, and_false, false_and, or_true, true_or, or_false, false_or] at c_88_2; done) | (simp only [c_88_2, ↓reduceIte, Bool.true_and, Bool.and_true, Bool.false_and, Bool.and_false, Bool.true_or, Bool.or_true, Bool.false_or, Bool.or_false, Bool.not_true, Bool.not_false, decide_true, decide_false, bI_t, bI_f, Bool.false_eq_true, not_true_eq_false, not_false_eq_true, eq_self, reduceCtorEq, Bool.true_eq_false, and_true, true_and, and_false, false_and, or_true, true_or, or_false, false_or] at c_39_1; done))
    refine lv_iadd hx hb dX9_add_96 ?_
    refine pf_X9_21 (F := fun z => z = r ∨ z = al) hx hb hts hown hK hIj.1 rfl rfl (Nat.le_of_ble_eq_true rfl) dX9_add_97 hL (Or.inl rfl) (fun H6_ locs h6_ ho6_ hL => ?_)
    have h7_ := at_only hIj.2.1 ho6_ (Ne.symm hra)
    refine lv_aload_n hx hb dX9_add_100 rfl (lv_at hl 2 rfl) ?_
    refine lv_dup hx hb dX9_add_101 rfl ?_
    refine gf_X9_50 hx hb hts hown hK h6_ rfl dX9_add_102 ?_
    refine cutI (J := 121) (v := if (decide ((j_thru (fun j => σ.ln (updN d D z j)) (σ.ln z) (σ.ln (updN d D z j)) j) = 0) && decide ((j_thru (fun j => σ.ln (updN d D z j)) (σ.ln z) (σ.ln (updN d D z j)) D) = 1)) = true then 1 else 0) ?_ (fun K56 => ?_)
    rotate_left
    · skip
      refine lv_iload hx hb dX9_add_105 (lv_at hl 0 rfl) ?_
      refine b_ifeq (tgt := 120) hx hb dX9_add_107 rfl (fun c_107_2 => ?_) (fun c_107_2 => ?_)
      · skip
        refine lv_iconst (v := 0) hx hb dX9_add_120 ic_0 ?_
        exact K56 _ (by first | with_reducible rfl | (simp only [c_39_1, c_107_2, ↓reduceIte, Bool.true_and, Bool.and_true, Bool.false_and, Bool.and_false, Bool.true_or, Bool.or_true, Bool.false_or, Bool.or_false, Bool.not_true, Bool.not_false, decide_true, decide_false, bI_t, bI_f, Bool.false_eq_true, not_true_eq_false, not_false_eq_true, eq_self, reduceCtorEq, Bool.true_eq_false, and_true, true_and, and_false, false_and, or_true, true_or, or_false, false_or]; done) | (simp only [c_39_1, ↓reduceIte, Bool.true_and, Bool.and_true, Bool.false_and, Bool.and_false, Bool.true_or, Bool.or_true, Bool.false_or, Bool.or_false, Bool.not_true, Bool.not_false, decide_true, decide_false, bI_t, bI_f, Bool.false_eq_true, not_true_eq_false, not_false_eq_true, eq_self, reduceCtorEq, Bool.true_eq_false, and_true, true_and, and_false, false_and, or_true, true_or, or_false, false_or] at c_107_2; done) | (simp only [c_107_2, ↓reduceIte, Bool.true_and, Bool.and_true, Bool.false_and, Bool.and_false, Bool.true_or, Bool.or_true, Bool.false_or, Bool.or_false, Bool.not_true, Bool.not_false, decide_true, decide_false, bI_t, bI_f, Bool.false_eq_true, not_true_eq_false, not_false_eq_true, eq_self, reduceCtorEq, Bool.true_eq_false, and_true, true_and, and_false, false_and, or_true, true_or, or_false, false_or] at c_39_1; done))
      refine lv_iload hx hb dX9_add_110 (lv_at hl 1 rfl) ?_
      refine lv_iconst (v := 1) hx hb dX9_add_112 ic_1 ?_
      refine lv_icmp_ne (tgt := 120) hx hb dX9_add_113 rfl (fun c_113_3 => ?_) (fun c_113_3 => ?_)
      · skip
        refine lv_iconst (v := 0) hx hb dX9_add_120 ic_0 ?_
        exact K56 _ (by first | with_reducible rfl | (simp only [c_39_1, c_107_2, c_113_3, ↓reduceIte, Bool.true_and, Bool.and_true, Bool.false_and, Bool.and_false, Bool.true_or, Bool.or_true, Bool.false_or, Bool.or_false, Bool.not_true, Bool.not_false, decide_true, decide_false, bI_t, bI_f, Bool.false_eq_true, not_true_eq_false, not_false_eq_true, eq_self, reduceCtorEq, Bool.true_eq_false, and_true, true_and, and_false, false_and, or_true, true_or, or_false, false_or]; done) | (simp only [c_39_1, c_107_2, ↓reduceIte, Bool.true_and, Bool.and_true, Bool.false_and, Bool.and_false, Bool.true_or, Bool.or_true, Bool.false_or, Bool.or_false, Bool.not_true, Bool.not_false, decide_true, decide_false, bI_t, bI_f, Bool.false_eq_true, not_true_eq_false, not_false_eq_true, eq_self, reduceCtorEq, Bool.true_eq_false, and_true, true_and, and_false, false_and, or_true, true_or, or_false, false_or] at c_113_3; done) | (simp only [c_39_1, c_113_3, ↓reduceIte, Bool.true_and, Bool.and_true, Bool.false_and, Bool.and_false, Bool.true_or, Bool.or_true, Bool.false_or, Bool.or_false, Bool.not_true, Bool.not_false, decide_true, decide_false, bI_t, bI_f, Bool.false_eq_true, not_true_eq_false, not_false_eq_true, eq_self, reduceCtorEq, Bool.true_eq_false, and_true, true_and, and_false, false_and, or_true, true_or, or_false, false_or] at c_107_2; done) | (simp only [c_107_2, c_113_3, ↓reduceIte, Bool.true_and, Bool.and_true, Bool.false_and, Bool.and_false, Bool.true_or, Bool.or_true, Bool.false_or, Bool.or_false, Bool.not_true, Bool.not_false, decide_true, decide_false, bI_t, bI_f, Bool.false_eq_true, not_true_eq_false, not_false_eq_true, eq_self, reduceCtorEq, Bool.true_eq_false, and_true, true_and, and_false, false_and, or_true, true_or, or_false, false_or] at c_39_1; done))
      refine lv_iconst (v := 1) hx hb dX9_add_116 ic_1 ?_
      refine lv_goto (tgt := 121) hx hb dX9_add_117 rfl ?_
      exact K56 _ (by first | with_reducible rfl | (simp only [c_39_1, c_107_2, eq_true c_113_3, ↓reduceIte, Bool.true_and, Bool.and_true, Bool.false_and, Bool.and_false, Bool.true_or, Bool.or_true, Bool.false_or, Bool.or_false, Bool.not_true, Bool.not_false, decide_true, decide_false, bI_t, bI_f, Bool.false_eq_true, not_true_eq_false, not_false_eq_true, eq_self, reduceCtorEq, Bool.true_eq_false, and_true, true_and, and_false, false_and, or_true, true_or, or_false, false_or]; done) | (simp only [c_39_1, c_107_2, ↓reduceIte, Bool.true_and, Bool.and_true, Bool.false_and, Bool.and_false, Bool.true_or, Bool.or_true, Bool.false_or, Bool.or_false, Bool.not_true, Bool.not_false, decide_true, decide_false, bI_t, bI_f, Bool.false_eq_true, not_true_eq_false, not_false_eq_true, eq_self, reduceCtorEq, Bool.true_eq_false, and_true, true_and, and_false, false_and, or_true, true_or, or_false, false_or] at c_113_3; done) | (simp only [c_39_1, eq_true c_113_3, ↓reduceIte, Bool.true_and, Bool.and_true, Bool.false_and, Bool.and_false, Bool.true_or, Bool.or_true, Bool.false_or, Bool.or_false, Bool.not_true, Bool.not_false, decide_true, decide_false, bI_t, bI_f, Bool.false_eq_true, not_true_eq_false, not_false_eq_true, eq_self, reduceCtorEq, Bool.true_eq_false, and_true, true_and, and_false, false_and, or_true, true_or, or_false, false_or] at c_107_2; done) | (simp only [c_107_2, eq_true c_113_3, ↓reduceIte, Bool.true_and, Bool.and_true, Bool.false_and, Bool.and_false, Bool.true_or, Bool.or_true, Bool.false_or, Bool.or_false, Bool.not_true, Bool.not_false, decide_true, decide_false, bI_t, bI_f, Bool.false_eq_true, not_true_eq_false, not_false_eq_true, eq_self, reduceCtorEq, Bool.true_eq_false, and_true, true_and, and_false, false_and, or_true, true_or, or_false, false_or] at c_39_1; done))
    refine lv_iadd hx hb dX9_add_121 ?_
    refine pf_X9_50 (F := fun z => z = r ∨ z = al) hx hb hts hown hK h6_ rfl rfl (Nat.le_of_ble_eq_true rfl) dX9_add_122 hL (Or.inl rfl) (fun H8_ locs h8_ ho8_ hL => ?_)
    have h9_ := at_only h7_ ho8_ (Ne.symm hra)
    refine lv_aload_n hx hb dX9_add_125 rfl (lv_at hl 2 rfl) ?_
    refine lv_aload_n hx hb dX9_add_126 rfl (lv_at hl 2 rfl) ?_
    refine gf_X9_53 hx hb hts hown hK h8_ rfl dX9_add_127 ?_
    refine lv_iload hx hb dX9_add_130 (lv_at hl 1 rfl) ?_
    refine lv_iconst (v := 1) hx hb dX9_add_132 ic_1 ?_
    refine lv_iadd hx hb dX9_add_133 ?_
    refine va_mmax hx hb (by rw [hml]; exact hl.1.symm) hown (hts _ q441) (hts _ q442) (hts _ q54) (hts _ q443) (Nat.le_of_ble_eq_true rfl) (Nat.le_of_ble_eq_true rfl) (Nat.zero_le _) (Nat.zero_le _) dX9_add_134 ?_
    refine topi_eq (mx_eq _ _) ?_
    refine pf_X9_53 (F := fun z => z = r ∨ z = al) hx hb hts hown hK h8_ rfl rfl (Nat.le_of_ble_eq_true rfl) dX9_add_137 hL (Or.inl rfl) (fun H10_ locs h10_ ho10_ hL => ?_)
    have h11_ := at_only h9_ ho10_ (Ne.symm hra)
    refine lv_iinc (v := nI (j + 1)) (k := 5) (lv' := [(3, .int _), (5, .int _), (4, .int _), (0, .ref _), (1, .ref _), (2, .int _)]) hx hb dX9_add_140 hl rfl (nI_1 _) (Nat.le_of_ble_eq_true rfl) rfl (fun ls hl => ?_)
    refine lv_goto (tgt := 24) hx hb dX9_add_143 rfl ?_
    exact ih_j _ _ ls (show va_at G.1 clA (r, .inr (6, [.ref al, .int (nI (D + 1)), .int (j_addL (fun j => σ.ln (updN d D z j)) (σ.ln z) D (j + 1) (mt, cl, mo)).1, .int (j_addL (fun j => σ.ln (updN d D z j)) (σ.ln z) D (j + 1) (mt, cl, mo)).2.1, .int (j_addL (fun j => σ.ln (updN d D z j)) (σ.ln z) D (j + 1) (mt, cl, mo)).2.2, .ref o])) _ ∧ aLn G al 12 (fun j => if j < D + 1 then some (L ((updN d D z) j)) else none) _ ∧ KA r al H _ from by rw [addL_s, addG_f (g := (fun j => σ.ln (updN d D z j))) c_39_1]; exact ⟨h10_, h11_, (KA.tr (KA.tr (KA.tr hIj.2.2 (KA.of ho6_ (Or.inl rfl))) (KA.of ho8_ (Or.inl rfl))) (KA.of ho10_ (Or.inl rfl)))⟩) hL (lv_sub hl [3, 4, 5, 0] rfl) h_j
  refine lv_goto (tgt := 140) hx hb dX9_add_42 rfl ?_
  refine lv_iinc (v := nI (j + 1)) (k := 3) (lv' := [(3, .int _), (0, .ref _), (1, .ref _), (2, .int _)]) hx hb dX9_add_140 hl rfl (nI_1 _) (Nat.le_of_ble_eq_true rfl) rfl (fun ls hl => ?_)
  refine lv_goto (tgt := 24) hx hb dX9_add_143 rfl ?_
  exact ih_j _ _ ls (show va_at G.1 clA (r, .inr (6, [.ref al, .int (nI (D + 1)), .int (j_addL (fun j => σ.ln (updN d D z j)) (σ.ln z) D (j + 1) (mt, cl, mo)).1, .int (j_addL (fun j => σ.ln (updN d D z j)) (σ.ln z) D (j + 1) (mt, cl, mo)).2.1, .int (j_addL (fun j => σ.ln (updN d D z j)) (σ.ln z) D (j + 1) (mt, cl, mo)).2.2, .ref o])) HIj_ ∧ aLn G al 12 (fun j => if j < D + 1 then some (L ((updN d D z) j)) else none) HIj_ ∧ KA r al H HIj_ from by rw [addL_s, addG_t (g := (fun j => σ.ln (updN d D z j))) c_39_1]; exact hIj) hL (lv_sub hl [1, 2, 3, 0] rfl) h_j
