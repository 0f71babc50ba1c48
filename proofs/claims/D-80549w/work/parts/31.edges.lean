set_option maxRecDepth 100000

theorem i_post {v f : Int32} {P : Prop} (h : f = v) (k : P) : (Outcome.returned (some (Value.int v)) = .returned (some (.int f))) ∧ P := by subst h; exact ⟨rfl, k⟩
theorem ref_many {σ : Sg} {n k : Int32} (c : s_refused σ n k = 0) : m_isMany σ.rn n k = true ∧ wh σ.rw (ix n) = true := by
  unfold s_refused at c
  split at c
  · next h =>
    split at c
    · next h4 => exact ⟨h, h4⟩
    · exact absurd c (by decide)
  · exact absurd c (by decide)
theorem ref_nmany {σ : Sg} {n k : Int32} (c : ¬ s_refused σ n k = 0) : (m_isMany σ.rn n k && wh σ.rw (ix n)) = false := by
  unfold s_refused at c
  cases h1 : m_isMany σ.rn n k with
  | false => rfl
  | true =>
    cases h2 : wh σ.rw (ix n) with
    | false => rfl
    | true => rw [h1, h2] at c; exact absurd rfl c
theorem dX5_init_0 : decode cX5_init 0 = .ok (.aload_n 0, 1) := by decide +kernel
theorem dX5_init_1 : decode cX5_init 1 = .ok (.aload_n 1, 1) := by decide +kernel
theorem dX5_init_2 : decode cX5_init 2 = .ok (.putfield 1, 3) := by decide +kernel
theorem dX5_init_5 : decode cX5_init 5 = .ok (.aload_n 0, 1) := by decide +kernel
theorem dX5_init_6 : decode cX5_init 6 = .ok (.invokespecial 7, 3) := by decide +kernel
theorem dX5_init_9 : decode cX5_init 9 = .ok (.return_, 1) := by decide +kernel
set_option maxHeartbeats 800000 in
theorem met_X5_init (l : Launch) (G : GG) {H : Heap} {o : Nat} {a : Nat} (h : va_at G.1 clA (o, .inr (3, [.int 0, .int 0, .int 0, .null])) H)  : GM l yX5_init cX5_init 2 none 1 0 0 12 G H [.ref o, .ref a] (fun oc H' => oc = .returned none ∧ va_at G.1 clA (o, .inr (3, [.int 0, .int 0, .int 0, .ref a])) H' ∧ Only o H H') (fun z => z = o) := by
  refine gm_intro pl_X5_init (Nat.le_of_ble_eq_true rfl) ?_
  intro pX eX sX mX belX methX cX ls hE hnm hl
  obtain ⟨hx, hb, hr, hlk, hml, hown, hts, hK, hZ, hH⟩ := hE
  have hl : lv_has ls 2 [(0, .ref o), (1, .ref a)] := hl
  have hL : ∀ q ∈ ([] : List Loc), (fun z => z = o : Addr → Prop) q.base := fun q h => by cases h
  refine lv_aload_n hx hb dX5_init_0 rfl (lv_at hl 0 rfl) ?_
  refine lv_aload_n hx hb dX5_init_1 rfl (lv_at hl 1 rfl) ?_
  refine pf_X5_1 (F := fun z => z = o) hx hb hts hown hK hnm h rfl rfl (Nat.le_of_ble_eq_true rfl) dX5_init_2 hL rfl (fun H1_ locs h1_ ho1_ hL => ?_)
  refine lv_aload_n hx hb dX5_init_5 rfl (lv_at hl 0 rfl) ?_
  refine W.objInit hx hb hown (hts _ q289) (hts _ q68) (hts _ q69) rfl (by rw [hml]; exact hl.1) rfl dX5_init_6 (Nat.le_of_ble_eq_true rfl) (Nat.le_of_ble_eq_true rfl) ?_
  refine W.eq (g2 := F0 mX 9 ls []) rfl ?_
  exact g_vret (F := fun z => z = o) (Post := fun oc H' => oc = .returned none ∧ va_at G.1 clA (o, .inr (3, [.int 0, .int 0, .int 0, .ref a])) H' ∧ Only o H H') hx hb hr hlk hL dX5_init_9 ⟨rfl, h1_, ho1_⟩
theorem dX5_of_0 : decode cX5_of 0 = .ok (.iconst 0, 1) := by decide +kernel
theorem dX5_of_1 : decode cX5_of 1 = .ok (.istore_n 3, 1) := by decide +kernel
theorem dX5_of_2 : decode cX5_of 2 = .ok (.iload_n 3, 1) := by decide +kernel
theorem dX5_of_3 : decode cX5_of 3 = .ok (.iload_n 1, 1) := by decide +kernel
theorem dX5_of_4 : decode cX5_of 4 = .ok (.if_icmp .ge 144, 3) := by decide +kernel
theorem dX5_of_7 : decode cX5_of 7 = .ok (.aload_n 0, 1) := by decide +kernel
theorem dX5_of_8 : decode cX5_of 8 = .ok (.getfield 1, 3) := by decide +kernel
theorem dX5_of_11 : decode cX5_of 11 = .ok (.getfield 13, 3) := by decide +kernel
theorem dX5_of_14 : decode cX5_of 14 = .ok (.iload_n 3, 1) := by decide +kernel
theorem dX5_of_15 : decode cX5_of 15 = .ok (.aaload, 1) := by decide +kernel
theorem dX5_of_16 : decode cX5_of 16 = .ok (.astore 4, 2) := by decide +kernel
theorem dX5_of_18 : decode cX5_of 18 = .ok (.aload_n 0, 1) := by decide +kernel
theorem dX5_of_19 : decode cX5_of 19 = .ok (.getfield 1, 3) := by decide +kernel
theorem dX5_of_22 : decode cX5_of 22 = .ok (.iload_n 3, 1) := by decide +kernel
theorem dX5_of_23 : decode cX5_of 23 = .ok (.iload_n 1, 1) := by decide +kernel
theorem dX5_of_24 : decode cX5_of 24 = .ok (.invokevirtual 19, 3) := by decide +kernel
theorem dX5_of_27 : decode cX5_of 27 = .ok (.astore 5, 2) := by decide +kernel
theorem dX5_of_29 : decode cX5_of 29 = .ok (.aload_n 0, 1) := by decide +kernel
theorem dX5_of_30 : decode cX5_of 30 = .ok (.dup, 1) := by decide +kernel
theorem dX5_of_31 : decode cX5_of 31 = .ok (.getfield 23, 3) := by decide +kernel
theorem dX5_of_34 : decode cX5_of 34 = .ok (.aload_n 2, 1) := by decide +kernel
theorem dX5_of_35 : decode cX5_of 35 = .ok (.aload 4, 2) := by decide +kernel
theorem dX5_of_37 : decode cX5_of 37 = .ok (.aload 5, 2) := by decide +kernel
theorem dX5_of_39 : decode cX5_of 39 = .ok (.invokestatic 27, 3) := by decide +kernel
theorem dX5_of_42 : decode cX5_of 42 = .ok (.ior, 1) := by decide +kernel
theorem dX5_of_43 : decode cX5_of 43 = .ok (.putfield 23, 3) := by decide +kernel
theorem dX5_of_46 : decode cX5_of 46 = .ok (.aload 4, 2) := by decide +kernel
theorem dX5_of_48 : decode cX5_of 48 = .ok (.aload 5, 2) := by decide +kernel
theorem dX5_of_50 : decode cX5_of 50 = .ok (.aload_n 2, 1) := by decide +kernel
theorem dX5_of_51 : decode cX5_of 51 = .ok (.invokestatic 31, 3) := by decide +kernel
theorem dX5_of_54 : decode cX5_of 54 = .ok (.istore 6, 2) := by decide +kernel
theorem dX5_of_56 : decode cX5_of 56 = .ok (.aload_n 0, 1) := by decide +kernel
theorem dX5_of_57 : decode cX5_of 57 = .ok (.dup, 1) := by decide +kernel
theorem dX5_of_58 : decode cX5_of 58 = .ok (.getfield 35, 3) := by decide +kernel
theorem dX5_of_61 : decode cX5_of 61 = .ok (.aload 4, 2) := by decide +kernel
theorem dX5_of_63 : decode cX5_of 63 = .ok (.getfield 39, 3) := by decide +kernel
theorem dX5_of_66 : decode cX5_of 66 = .ok (.aload_n 2, 1) := by decide +kernel
theorem dX5_of_67 : decode cX5_of 67 = .ok (.getfield 39, 3) := by decide +kernel
theorem dX5_of_70 : decode cX5_of 70 = .ok (.if_icmp .gt 24, 3) := by decide +kernel
theorem dX5_of_73 : decode cX5_of 73 = .ok (.aload 5, 2) := by decide +kernel
theorem dX5_of_75 : decode cX5_of 75 = .ok (.getfield 39, 3) := by decide +kernel
theorem dX5_of_78 : decode cX5_of 78 = .ok (.aload_n 2, 1) := by decide +kernel
theorem dX5_of_79 : decode cX5_of 79 = .ok (.getfield 39, 3) := by decide +kernel
theorem dX5_of_82 : decode cX5_of 82 = .ok (.if_icmp .le 12, 3) := by decide +kernel
theorem dX5_of_85 : decode cX5_of 85 = .ok (.iload 6, 2) := by decide +kernel
theorem dX5_of_87 : decode cX5_of 87 = .ok (.ifCond .le 7, 3) := by decide +kernel
theorem dX5_of_90 : decode cX5_of 90 = .ok (.iconst 1, 1) := by decide +kernel
theorem dX5_of_91 : decode cX5_of 91 = .ok (.goto 4, 3) := by decide +kernel
theorem dX5_of_94 : decode cX5_of 94 = .ok (.iconst 0, 1) := by decide +kernel
theorem dX5_of_95 : decode cX5_of 95 = .ok (.iadd, 1) := by decide +kernel
theorem dX5_of_96 : decode cX5_of 96 = .ok (.putfield 35, 3) := by decide +kernel
theorem dX5_of_99 : decode cX5_of 99 = .ok (.aload_n 0, 1) := by decide +kernel
theorem dX5_of_100 : decode cX5_of 100 = .ok (.dup, 1) := by decide +kernel
theorem dX5_of_101 : decode cX5_of 101 = .ok (.getfield 44, 3) := by decide +kernel
theorem dX5_of_104 : decode cX5_of 104 = .ok (.aload 5, 2) := by decide +kernel
theorem dX5_of_106 : decode cX5_of 106 = .ok (.getfield 39, 3) := by decide +kernel
theorem dX5_of_109 : decode cX5_of 109 = .ok (.aload_n 2, 1) := by decide +kernel
theorem dX5_of_110 : decode cX5_of 110 = .ok (.getfield 39, 3) := by decide +kernel
theorem dX5_of_113 : decode cX5_of 113 = .ok (.if_icmp .gt 24, 3) := by decide +kernel
theorem dX5_of_116 : decode cX5_of 116 = .ok (.aload 4, 2) := by decide +kernel
theorem dX5_of_118 : decode cX5_of 118 = .ok (.getfield 39, 3) := by decide +kernel
theorem dX5_of_121 : decode cX5_of 121 = .ok (.aload_n 2, 1) := by decide +kernel
theorem dX5_of_122 : decode cX5_of 122 = .ok (.getfield 39, 3) := by decide +kernel
theorem dX5_of_125 : decode cX5_of 125 = .ok (.if_icmp .le 12, 3) := by decide +kernel
theorem dX5_of_128 : decode cX5_of 128 = .ok (.iload 6, 2) := by decide +kernel
theorem dX5_of_130 : decode cX5_of 130 = .ok (.ifCond .ge 7, 3) := by decide +kernel
theorem dX5_of_133 : decode cX5_of 133 = .ok (.iconst 1, 1) := by decide +kernel
theorem dX5_of_134 : decode cX5_of 134 = .ok (.goto 4, 3) := by decide +kernel
theorem dX5_of_137 : decode cX5_of 137 = .ok (.iconst 0, 1) := by decide +kernel
theorem dX5_of_138 : decode cX5_of 138 = .ok (.iadd, 1) := by decide +kernel
theorem dX5_of_139 : decode cX5_of 139 = .ok (.putfield 44, 3) := by decide +kernel
theorem dX5_of_142 : decode cX5_of 142 = .ok (.iinc 3 1, 3) := by decide +kernel
theorem dX5_of_145 : decode cX5_of 145 = .ok (.goto (-143), 3) := by decide +kernel
theorem dX5_of_148 : decode cX5_of 148 = .ok (.aload_n 0, 1) := by decide +kernel
theorem dX5_of_149 : decode cX5_of 149 = .ok (.areturn, 1) := by decide +kernel
set_option maxHeartbeats 800000 in
theorem met_X5_of (l : Launch) (G : GG) {H : Heap} {o : Nat} {B P L : Nat → Nat} {σ : Sg} {e b N : Nat} (hJ : JW G H o B P L σ) (hO : Ok σ) (hN : N ≤ σ.rn) (hr_ : HR σ N) (i_b : b < σ.np) (he : va_at G.1 clA (e, .inr (3, [.int 0, .int 0, .int 0, .ref o])) H) (hne : ¬ cellJ o B P L σ e) : GM l yX5_of cX5_of 7 (some (.object "OrderJudge$Edges")) 4 0 0 93 G H [.ref e, .int (nI N), .ref (P b)] (fun oc H' => oc = .returned (some (.ref e)) ∧ va_at G.1 clA (e, .inr (3, [.int (j_edO σ N (σ.pt b) N).1, .int (j_edO σ N (σ.pt b) N).2.1, .int (bI (j_edO σ N (σ.pt b) N).2.2), .ref o])) H' ∧ Only e H H') (fun z => z = e) := by
  refine gm_intro pl_X5_of (Nat.le_of_ble_eq_true rfl) ?_
  intro pX eX sX mX belX methX cX ls hE hnm hl
  obtain ⟨hx, hb, hr, hlk, hml, hown, hts, hK, hZ, hH⟩ := hE
  have hl : lv_has ls 7 [(0, .ref e), (1, .int (nI N)), (2, .ref (P b))] := hl
  have hL : ∀ q ∈ ([] : List Loc), (fun z => z = e : Addr → Prop) q.base := fun q h => by cases h
  have hN31 : N < 2 ^ 31 := Nat.lt_of_le_of_lt hN hO.rn31
  have hnP : ∀ i, i < σ.np → P i ≠ e := fun i hi h => hne (h ▸ Or.inr (Or.inl ⟨i, hi, rfl⟩))
  refine lv_iconst (v := 0) hx hb dX5_of_0 ic_0 ?_
  refine lv_istore_n (lv' := [(3, .int _), (0, .ref _), (1, .int _), (2, .ref _)]) hx hb dX5_of_1 rfl hl (Nat.le_of_ble_eq_true rfl) rfl (fun ls hl => ?_)
  refine loopG (N := N) (nL := 7) (F := fun z => z = e) (lv := fun k => [(0, .ref e), (1, .int (nI N)), (2, .ref (P b)), (3, .int (nI k))]) (I := fun k HI_ => va_at G.1 clA (e, .inr (3, [.int (j_edO σ N (σ.pt b) k).1, .int (j_edO σ N (σ.pt b) k).2.1, .int (bI (j_edO σ N (σ.pt b) k).2.2), .ref o])) HI_ ∧ Only e H HI_) (fun k hk_k ih_k HIk_ locs ls hIk hL hl => ?_) 0 (Nat.zero_le _) _ _ ls ⟨he, Only.rf⟩ hL (lv_sub hl [1, 2, 3, 0] rfl)
  replace hl : lv_has ls 7 [(0, .ref e), (1, .int (nI N)), (2, .ref (P b)), (3, .int (nI k))] := hl
  have hJ := hJ.kept (fun q hq => hIk.2.2 q (fun h => hne (h ▸ hq)))
  refine lv_iload_n hx hb dX5_of_2 rfl (lv_at hl 3 rfl) ?_
  refine lv_iload_n hx hb dX5_of_3 rfl (lv_at hl 1 rfl) ?_
  refine lv_icmp_ge (tgt := 148) hx hb dX5_of_4 rfl (fun c_4_0 => ?_) (fun c_4_0 => ?_)
  · skip
    have e_k := lp_out hk_k hN31 c_4_0
    subst e_k
    refine lv_aload_n hx hb dX5_of_148 rfl (lv_at hl 0 rfl) ?_
    exact g_aret (F := fun z => z = e) (Post := fun oc H' => oc = .returned (some (.ref e)) ∧ va_at G.1 clA (e, .inr (3, [.int (j_edO σ N (σ.pt b) N).1, .int (j_edO σ N (σ.pt b) N).2.1, .int (bI (j_edO σ N (σ.pt b) N).2.2), .ref o])) H' ∧ Only e H H') hx hb hr hlk hL dX5_of_149 ⟨rfl, hIk.1, hIk.2⟩
  have h_k := lp_in hk_k hN31 c_4_0
  refine lv_aload_n hx hb dX5_of_7 rfl (lv_at hl 0 rfl) ?_
  refine gf_X5_1 hx hb hts hown hK hIk.1 rfl dX5_of_8 ?_
  refine gf_X5_13 hx hb hts hown hK hJ.1 rfl dX5_of_11 ?_
  refine lv_iload_n hx hb dX5_of_14 rfl (lv_at hl 3 rfl) ?_
  refine r_pald hx hb hK hJ.2.2.1 dX5_of_15 (k := k) (Nat.lt_of_lt_of_le h_k hN) hO.rn31 rfl (ra_some (hr_ _ h_k).1) ?_
  refine lv_astore (lv' := [(4, .ref _), (0, .ref _), (1, .int _), (2, .ref _), (3, .int _)]) hx hb dX5_of_16 hl (Nat.le_of_ble_eq_true rfl) rfl (fun ls hl => ?_)
  refine lv_aload_n hx hb dX5_of_18 rfl (lv_at hl 1 rfl) ?_
  refine gf_X5_1 hx hb hts hown hK hIk.1 rfl dX5_of_19 ?_
  refine lv_iload_n hx hb dX5_of_22 rfl (lv_at hl 4 rfl) ?_
  refine lv_iload_n hx hb dX5_of_23 rfl (lv_at hl 2 rfl) ?_
  refine p_callVN (As := [.int _, .int _]) hx hb hml hown hts hK trivial (met_X1_next l G hJ hO hN hr_ h_k) nM_X5_19 q278 qs4 q42 q279 hd_X1_next rfl hJ.1 rfl (by decide) hl.1 rfl (Nat.le_of_ble_eq_true rfl) dX5_of_24 ⟨Nat.le_of_ble_eq_true rfl, Nat.le_of_ble_eq_true rfl⟩ ?_
  refine lv_astore (lv' := [(5, .ref _), (4, .ref _), (0, .ref _), (1, .int _), (2, .ref _), (3, .int _)]) hx hb dX5_of_27 hl (Nat.le_of_ble_eq_true rfl) rfl (fun ls hl => ?_)
  refine lv_aload_n hx hb dX5_of_29 rfl (lv_at hl 2 rfl) ?_
  refine lv_dup hx hb dX5_of_30 rfl ?_
  refine gf_X5_23 hx hb hts hown hK hIk.1 rfl dX5_of_31 ?_
  refine lv_aload_n hx hb dX5_of_34 rfl (lv_at hl 4 rfl) ?_
  refine lv_aload hx hb dX5_of_35 (lv_at hl 1 rfl) ?_
  refine lv_aload hx hb dX5_of_37 (lv_at hl 0 rfl) ?_
  refine p_callSN (As := [.ref _, .ref _, .ref _]) hx hb hml hown hts hK trivial (met_X1_isOnWay l G (hJ.2.2.2.2.1 _ i_b) (hJ.2.2.2.2.1 _ (hr_ _ h_k).2) (hJ.2.2.2.2.1 _ (hr_ _ (nx_lt h_k)).2)) nM_X5_27 q262 q42 q263 hd_X1_isOnWay rfl (by decide) hl.1 rfl (Nat.le_of_ble_eq_true rfl) dX5_of_39 ⟨Nat.le_of_ble_eq_true rfl, Nat.le_of_ble_eq_true rfl⟩ ?_
  refine lv_ior hx hb dX5_of_42 ?_
  refine topi_eq (bI_or _ _) ?_
  refine pf_X5_23 (F := fun z => z = e) hx hb hts hown hK hIk.1 (bI_nar _) (bI_fit _) (Nat.le_of_ble_eq_true rfl) dX5_of_43 hL rfl (fun H1_ locs h1_ ho1_ hL => ?_)
  have h2_ := at_only (hJ.2.2.2.2.1 _ i_b) ho1_ (hnP _ i_b)
  have h3_ := at_only (hJ.2.2.2.2.1 _ (hr_ _ h_k).2) ho1_ (hnP _ (hr_ _ h_k).2)
  have h4_ := at_only (hJ.2.2.2.2.1 _ (hr_ _ (nx_lt h_k)).2) ho1_ (hnP _ (hr_ _ (nx_lt h_k)).2)
  refine lv_aload hx hb dX5_of_46 (lv_at hl 1 rfl) ?_
  refine lv_aload hx hb dX5_of_48 (lv_at hl 0 rfl) ?_
  refine lv_aload_n hx hb dX5_of_50 rfl (lv_at hl 4 rfl) ?_
  refine p_callSN (As := [.ref _, .ref _, .ref _]) hx hb hml hown hts hK trivial (met_X1_turn l G h3_ h4_ h2_) nM_X5_31 q193 q42 q194 hd_X1_turn rfl (by decide) hl.1 rfl (Nat.le_of_ble_eq_true rfl) dX5_of_51 ⟨Nat.le_of_ble_eq_true rfl, Nat.le_of_ble_eq_true rfl⟩ ?_
  refine lv_istore (lv' := [(6, .int _), (5, .ref _), (4, .ref _), (0, .ref _), (1, .int _), (2, .ref _), (3, .int _)]) hx hb dX5_of_54 hl (Nat.le_of_ble_eq_true rfl) rfl (fun ls hl => ?_)
  refine lv_aload_n hx hb dX5_of_56 rfl (lv_at hl 3 rfl) ?_
  refine lv_dup hx hb dX5_of_57 rfl ?_
  refine gf_X5_35 hx hb hts hown hK h1_ rfl dX5_of_58 ?_
  refine cutI (J := 95) (v := if j_up (σ.rp k) (σ.rp (nx k N)) (σ.pt b) = true then 1 else 0) ?_ (fun K49 => ?_)
  rotate_left
  · skip
    refine lv_aload hx hb dX5_of_61 (lv_at hl 2 rfl) ?_
    refine gf_X5_39 hx hb hts hown hK h3_ rfl dX5_of_63 ?_
    refine lv_aload_n hx hb dX5_of_66 rfl (lv_at hl 5 rfl) ?_
    refine gf_X5_39 hx hb hts hown hK h2_ rfl dX5_of_67 ?_
    refine lv_icmp_gt (tgt := 94) hx hb dX5_of_70 rfl (fun c_70_1 => ?_) (fun c_70_1 => ?_)
    · skip
      refine lv_iconst (v := 0) hx hb dX5_of_94 ic_0 ?_
      exact K49 _ (by first | with_reducible rfl | (simp only [j_up, c_70_1, Int32.not_le.mpr c_70_1, ↓reduceIte, Bool.true_and, Bool.and_true, Bool.false_and, Bool.and_false, Bool.true_or, Bool.or_true, Bool.false_or, Bool.or_false, Bool.not_true, Bool.not_false, decide_true, decide_false, bI_t, bI_f, Bool.false_eq_true, not_true_eq_false, not_false_eq_true, eq_self, reduceCtorEq, Bool.true_eq_false, and_true, true_and, and_false, false_and, or_true, true_or, or_false, false_or]; done))
    refine lv_aload hx hb dX5_of_73 (lv_at hl 1 rfl) ?_
    refine gf_X5_39 hx hb hts hown hK h4_ rfl dX5_of_75 ?_
    refine lv_aload_n hx hb dX5_of_78 rfl (lv_at hl 5 rfl) ?_
    refine gf_X5_39 hx hb hts hown hK h2_ rfl dX5_of_79 ?_
    refine lv_icmp_le (tgt := 94) hx hb dX5_of_82 rfl (fun c_82_2 => ?_) (fun c_82_2 => ?_)
    · skip
      refine lv_iconst (v := 0) hx hb dX5_of_94 ic_0 ?_
      exact K49 _ (by first | with_reducible rfl | (simp only [j_up, c_70_1, Int32.not_lt.mp c_70_1, c_82_2, Int32.not_lt.mpr c_82_2, ↓reduceIte, Bool.true_and, Bool.and_true, Bool.false_and, Bool.and_false, Bool.true_or, Bool.or_true, Bool.false_or, Bool.or_false, Bool.not_true, Bool.not_false, decide_true, decide_false, bI_t, bI_f, Bool.false_eq_true, not_true_eq_false, not_false_eq_true, eq_self, reduceCtorEq, Bool.true_eq_false, and_true, true_and, and_false, false_and, or_true, true_or, or_false, false_or]; done) | (simp only [c_70_1, Int32.not_lt.mp c_70_1, ↓reduceIte, Bool.true_and, Bool.and_true, Bool.false_and, Bool.and_false, Bool.true_or, Bool.or_true, Bool.false_or, Bool.or_false, Bool.not_true, Bool.not_false, decide_true, decide_false, bI_t, bI_f, Bool.false_eq_true, not_true_eq_false, not_false_eq_true, eq_self, reduceCtorEq, Bool.true_eq_false, and_true, true_and, and_false, false_and, or_true, true_or, or_false, false_or] at c_82_2; done) | (simp only [c_82_2, Int32.not_lt.mpr c_82_2, ↓reduceIte, Bool.true_and, Bool.and_true, Bool.false_and, Bool.and_false, Bool.true_or, Bool.or_true, Bool.false_or, Bool.or_false, Bool.not_true, Bool.not_false, decide_true, decide_false, bI_t, bI_f, Bool.false_eq_true, not_true_eq_false, not_false_eq_true, eq_self, reduceCtorEq, Bool.true_eq_false, and_true, true_and, and_false, false_and, or_true, true_or, or_false, false_or] at c_70_1; done))
    refine lv_iload hx hb dX5_of_85 (lv_at hl 0 rfl) ?_
    refine lv_if_le (tgt := 94) hx hb dX5_of_87 rfl (fun c_87_3 => ?_) (fun c_87_3 => ?_)
    · skip
      refine lv_iconst (v := 0) hx hb dX5_of_94 ic_0 ?_
      exact K49 _ (by first | with_reducible rfl | (simp only [j_up, c_70_1, Int32.not_lt.mp c_70_1, c_82_2, Int32.not_le.mp c_82_2, c_87_3, Int32.not_lt.mpr c_87_3, ↓reduceIte, Bool.true_and, Bool.and_true, Bool.false_and, Bool.and_false, Bool.true_or, Bool.or_true, Bool.false_or, Bool.or_false, Bool.not_true, Bool.not_false, decide_true, decide_false, bI_t, bI_f, Bool.false_eq_true, not_true_eq_false, not_false_eq_true, eq_self, reduceCtorEq, Bool.true_eq_false, and_true, true_and, and_false, false_and, or_true, true_or, or_false, false_or]; done) | (simp only [c_70_1, Int32.not_lt.mp c_70_1, c_82_2, Int32.not_le.mp c_82_2, ↓reduceIte, Bool.true_and, Bool.and_true, Bool.false_and, Bool.and_false, Bool.true_or, Bool.or_true, Bool.false_or, Bool.or_false, Bool.not_true, Bool.not_false, decide_true, decide_false, bI_t, bI_f, Bool.false_eq_true, not_true_eq_false, not_false_eq_true, eq_self, reduceCtorEq, Bool.true_eq_false, and_true, true_and, and_false, false_and, or_true, true_or, or_false, false_or] at c_87_3; done) | (simp only [c_70_1, Int32.not_lt.mp c_70_1, c_87_3, Int32.not_lt.mpr c_87_3, ↓reduceIte, Bool.true_and, Bool.and_true, Bool.false_and, Bool.and_false, Bool.true_or, Bool.or_true, Bool.false_or, Bool.or_false, Bool.not_true, Bool.not_false, decide_true, decide_false, bI_t, bI_f, Bool.false_eq_true, not_true_eq_false, not_false_eq_true, eq_self, reduceCtorEq, Bool.true_eq_false, and_true, true_and, and_false, false_and, or_true, true_or, or_false, false_or] at c_82_2; done) | (simp only [c_82_2, Int32.not_le.mp c_82_2, c_87_3, Int32.not_lt.mpr c_87_3, ↓reduceIte, Bool.true_and, Bool.and_true, Bool.false_and, Bool.and_false, Bool.true_or, Bool.or_true, Bool.false_or, Bool.or_false, Bool.not_true, Bool.not_false, decide_true, decide_false, bI_t, bI_f, Bool.false_eq_true, not_true_eq_false, not_false_eq_true, eq_self, reduceCtorEq, Bool.true_eq_false, and_true, true_and, and_false, false_and, or_true, true_or, or_false, false_or] at c_70_1; done))
    refine lv_iconst (v := 1) hx hb dX5_of_90 ic_1 ?_
    refine lv_goto (tgt := 95) hx hb dX5_of_91 rfl ?_
    exact K49 _ (by first | with_reducible rfl | (simp only [j_up, c_70_1, Int32.not_lt.mp c_70_1, c_82_2, Int32.not_le.mp c_82_2, c_87_3, Int32.not_le.mp c_87_3, ↓reduceIte, Bool.true_and, Bool.and_true, Bool.false_and, Bool.and_false, Bool.true_or, Bool.or_true, Bool.false_or, Bool.or_false, Bool.not_true, Bool.not_false, decide_true, decide_false, bI_t, bI_f, Bool.false_eq_true, not_true_eq_false, not_false_eq_true, eq_self, reduceCtorEq, Bool.true_eq_false, and_true, true_and, and_false, false_and, or_true, true_or, or_false, false_or]; done) | (simp only [c_70_1, Int32.not_lt.mp c_70_1, c_82_2, Int32.not_le.mp c_82_2, ↓reduceIte, Bool.true_and, Bool.and_true, Bool.false_and, Bool.and_false, Bool.true_or, Bool.or_true, Bool.false_or, Bool.or_false, Bool.not_true, Bool.not_false, decide_true, decide_false, bI_t, bI_f, Bool.false_eq_true, not_true_eq_false, not_false_eq_true, eq_self, reduceCtorEq, Bool.true_eq_false, and_true, true_and, and_false, false_and, or_true, true_or, or_false, false_or] at c_87_3; done) | (simp only [c_70_1, Int32.not_lt.mp c_70_1, c_87_3, Int32.not_le.mp c_87_3, ↓reduceIte, Bool.true_and, Bool.and_true, Bool.false_and, Bool.and_false, Bool.true_or, Bool.or_true, Bool.false_or, Bool.or_false, Bool.not_true, Bool.not_false, decide_true, decide_false, bI_t, bI_f, Bool.false_eq_true, not_true_eq_false, not_false_eq_true, eq_self, reduceCtorEq, Bool.true_eq_false, and_true, true_and, and_false, false_and, or_true, true_or, or_false, false_or] at c_82_2; done) | (simp only [c_82_2, Int32.not_le.mp c_82_2, c_87_3, Int32.not_le.mp c_87_3, ↓reduceIte, Bool.true_and, Bool.and_true, Bool.false_and, Bool.and_false, Bool.true_or, Bool.or_true, Bool.false_or, Bool.or_false, Bool.not_true, Bool.not_false, decide_true, decide_false, bI_t, bI_f, Bool.false_eq_true, not_true_eq_false, not_false_eq_true, eq_self, reduceCtorEq, Bool.true_eq_false, and_true, true_and, and_false, false_and, or_true, true_or, or_false, false_or] at c_70_1; done))
  refine lv_iadd hx hb dX5_of_95 ?_
  refine pf_X5_35 (F := fun z => z = e) hx hb hts hown hK h1_ rfl rfl (Nat.le_of_ble_eq_true rfl) dX5_of_96 hL rfl (fun H5_ locs h5_ ho5_ hL => ?_)
  have h6_ := at_only h2_ ho5_ (hnP _ i_b)
  have h7_ := at_only h3_ ho5_ (hnP _ (hr_ _ h_k).2)
  have h8_ := at_only h4_ ho5_ (hnP _ (hr_ _ (nx_lt h_k)).2)
  refine lv_aload_n hx hb dX5_of_99 rfl (lv_at hl 3 rfl) ?_
  refine lv_dup hx hb dX5_of_100 rfl ?_
  refine gf_X5_44 hx hb hts hown hK h5_ rfl dX5_of_101 ?_
  refine cutI (J := 138) (v := if j_dn (σ.rp k) (σ.rp (nx k N)) (σ.pt b) = true then 1 else 0) ?_ (fun K50 => ?_)
  rotate_left
  · skip
    refine lv_aload hx hb dX5_of_104 (lv_at hl 1 rfl) ?_
    refine gf_X5_39 hx hb hts hown hK h8_ rfl dX5_of_106 ?_
    refine lv_aload_n hx hb dX5_of_109 rfl (lv_at hl 5 rfl) ?_
    refine gf_X5_39 hx hb hts hown hK h6_ rfl dX5_of_110 ?_
    refine lv_icmp_gt (tgt := 137) hx hb dX5_of_113 rfl (fun c_113_1 => ?_) (fun c_113_1 => ?_)
    · skip
      refine lv_iconst (v := 0) hx hb dX5_of_137 ic_0 ?_
      exact K50 _ (by first | with_reducible rfl | (simp only [j_dn, c_113_1, Int32.not_le.mpr c_113_1, ↓reduceIte, Bool.true_and, Bool.and_true, Bool.false_and, Bool.and_false, Bool.true_or, Bool.or_true, Bool.false_or, Bool.or_false, Bool.not_true, Bool.not_false, decide_true, decide_false, bI_t, bI_f, Bool.false_eq_true, not_true_eq_false, not_false_eq_true, eq_self, reduceCtorEq, Bool.true_eq_false, and_true, true_and, and_false, false_and, or_true, true_or, or_false, false_or]; done))
    refine lv_aload hx hb dX5_of_116 (lv_at hl 2 rfl) ?_
    refine gf_X5_39 hx hb hts hown hK h7_ rfl dX5_of_118 ?_
    refine lv_aload_n hx hb dX5_of_121 rfl (lv_at hl 5 rfl) ?_
    refine gf_X5_39 hx hb hts hown hK h6_ rfl dX5_of_122 ?_
    refine lv_icmp_le (tgt := 137) hx hb dX5_of_125 rfl (fun c_125_2 => ?_) (fun c_125_2 => ?_)
    · skip
      refine lv_iconst (v := 0) hx hb dX5_of_137 ic_0 ?_
      exact K50 _ (by first | with_reducible rfl | (simp only [j_dn, c_113_1, Int32.not_lt.mp c_113_1, c_125_2, Int32.not_lt.mpr c_125_2, ↓reduceIte, Bool.true_and, Bool.and_true, Bool.false_and, Bool.and_false, Bool.true_or, Bool.or_true, Bool.false_or, Bool.or_false, Bool.not_true, Bool.not_false, decide_true, decide_false, bI_t, bI_f, Bool.false_eq_true, not_true_eq_false, not_false_eq_true, eq_self, reduceCtorEq, Bool.true_eq_false, and_true, true_and, and_false, false_and, or_true, true_or, or_false, false_or]; done) | (simp only [c_113_1, Int32.not_lt.mp c_113_1, ↓reduceIte, Bool.true_and, Bool.and_true, Bool.false_and, Bool.and_false, Bool.true_or, Bool.or_true, Bool.false_or, Bool.or_false, Bool.not_true, Bool.not_false, decide_true, decide_false, bI_t, bI_f, Bool.false_eq_true, not_true_eq_false, not_false_eq_true, eq_self, reduceCtorEq, Bool.true_eq_false, and_true, true_and, and_false, false_and, or_true, true_or, or_false, false_or] at c_125_2; done) | (simp only [c_125_2, Int32.not_lt.mpr c_125_2, ↓reduceIte, Bool.true_and, Bool.and_true, Bool.false_and, Bool.and_false, Bool.true_or, Bool.or_true, Bool.false_or, Bool.or_false, Bool.not_true, Bool.not_false, decide_true, decide_false, bI_t, bI_f, Bool.false_eq_true, not_true_eq_false, not_false_eq_true, eq_self, reduceCtorEq, Bool.true_eq_false, and_true, true_and, and_false, false_and, or_true, true_or, or_false, false_or] at c_113_1; done))
    refine lv_iload hx hb dX5_of_128 (lv_at hl 0 rfl) ?_
    refine lv_if_ge (tgt := 137) hx hb dX5_of_130 rfl (fun c_130_3 => ?_) (fun c_130_3 => ?_)
    · skip
      refine lv_iconst (v := 0) hx hb dX5_of_137 ic_0 ?_
      exact K50 _ (by first | with_reducible rfl | (simp only [j_dn, c_113_1, Int32.not_lt.mp c_113_1, c_125_2, Int32.not_le.mp c_125_2, c_130_3, Int32.not_lt.mpr c_130_3, ↓reduceIte, Bool.true_and, Bool.and_true, Bool.false_and, Bool.and_false, Bool.true_or, Bool.or_true, Bool.false_or, Bool.or_false, Bool.not_true, Bool.not_false, decide_true, decide_false, bI_t, bI_f, Bool.false_eq_true, not_true_eq_false, not_false_eq_true, eq_self, reduceCtorEq, Bool.true_eq_false, and_true, true_and, and_false, false_and, or_true, true_or, or_false, false_or]; done) | (simp only [c_113_1, Int32.not_lt.mp c_113_1, c_125_2, Int32.not_le.mp c_125_2, ↓reduceIte, Bool.true_and, Bool.and_true, Bool.false_and, Bool.and_false, Bool.true_or, Bool.or_true, Bool.false_or, Bool.or_false, Bool.not_true, Bool.not_false, decide_true, decide_false, bI_t, bI_f, Bool.false_eq_true, not_true_eq_false, not_false_eq_true, eq_self, reduceCtorEq, Bool.true_eq_false, and_true, true_and, and_false, false_and, or_true, true_or, or_false, false_or] at c_130_3; done) | (simp only [c_113_1, Int32.not_lt.mp c_113_1, c_130_3, Int32.not_lt.mpr c_130_3, ↓reduceIte, Bool.true_and, Bool.and_true, Bool.false_and, Bool.and_false, Bool.true_or, Bool.or_true, Bool.false_or, Bool.or_false, Bool.not_true, Bool.not_false, decide_true, decide_false, bI_t, bI_f, Bool.false_eq_true, not_true_eq_false, not_false_eq_true, eq_self, reduceCtorEq, Bool.true_eq_false, and_true, true_and, and_false, false_and, or_true, true_or, or_false, false_or] at c_125_2; done) | (simp only [c_125_2, Int32.not_le.mp c_125_2, c_130_3, Int32.not_lt.mpr c_130_3, ↓reduceIte, Bool.true_and, Bool.and_true, Bool.false_and, Bool.and_false, Bool.true_or, Bool.or_true, Bool.false_or, Bool.or_false, Bool.not_true, Bool.not_false, decide_true, decide_false, bI_t, bI_f, Bool.false_eq_true, not_true_eq_false, not_false_eq_true, eq_self, reduceCtorEq, Bool.true_eq_false, and_true, true_and, and_false, false_and, or_true, true_or, or_false, false_or] at c_113_1; done))
    refine lv_iconst (v := 1) hx hb dX5_of_133 ic_1 ?_
    refine lv_goto (tgt := 138) hx hb dX5_of_134 rfl ?_
    exact K50 _ (by first | with_reducible rfl | (simp only [j_dn, c_113_1, Int32.not_lt.mp c_113_1, c_125_2, Int32.not_le.mp c_125_2, c_130_3, Int32.not_le.mp c_130_3, ↓reduceIte, Bool.true_and, Bool.and_true, Bool.false_and, Bool.and_false, Bool.true_or, Bool.or_true, Bool.false_or, Bool.or_false, Bool.not_true, Bool.not_false, decide_true, decide_false, bI_t, bI_f, Bool.false_eq_true, not_true_eq_false, not_false_eq_true, eq_self, reduceCtorEq, Bool.true_eq_false, and_true, true_and, and_false, false_and, or_true, true_or, or_false, false_or]; done) | (simp only [c_113_1, Int32.not_lt.mp c_113_1, c_125_2, Int32.not_le.mp c_125_2, ↓reduceIte, Bool.true_and, Bool.and_true, Bool.false_and, Bool.and_false, Bool.true_or, Bool.or_true, Bool.false_or, Bool.or_false, Bool.not_true, Bool.not_false, decide_true, decide_false, bI_t, bI_f, Bool.false_eq_true, not_true_eq_false, not_false_eq_true, eq_self, reduceCtorEq, Bool.true_eq_false, and_true, true_and, and_false, false_and, or_true, true_or, or_false, false_or] at c_130_3; done) | (simp only [c_113_1, Int32.not_lt.mp c_113_1, c_130_3, Int32.not_le.mp c_130_3, ↓reduceIte, Bool.true_and, Bool.and_true, Bool.false_and, Bool.and_false, Bool.true_or, Bool.or_true, Bool.false_or, Bool.or_false, Bool.not_true, Bool.not_false, decide_true, decide_false, bI_t, bI_f, Bool.false_eq_true, not_true_eq_false, not_false_eq_true, eq_self, reduceCtorEq, Bool.true_eq_false, and_true, true_and, and_false, false_and, or_true, true_or, or_false, false_or] at c_125_2; done) | (simp only [c_125_2, Int32.not_le.mp c_125_2, c_130_3, Int32.not_le.mp c_130_3, ↓reduceIte, Bool.true_and, Bool.and_true, Bool.false_and, Bool.and_false, Bool.true_or, Bool.or_true, Bool.false_or, Bool.or_false, Bool.not_true, Bool.not_false, decide_true, decide_false, bI_t, bI_f, Bool.false_eq_true, not_true_eq_false, not_false_eq_true, eq_self, reduceCtorEq, Bool.true_eq_false, and_true, true_and, and_false, false_and, or_true, true_or, or_false, false_or] at c_113_1; done))
  refine lv_iadd hx hb dX5_of_138 ?_
  refine pf_X5_44 (F := fun z => z = e) hx hb hts hown hK h5_ rfl rfl (Nat.le_of_ble_eq_true rfl) dX5_of_139 hL rfl (fun H9_ locs h9_ ho9_ hL => ?_)
  have h10_ := at_only h6_ ho9_ (hnP _ i_b)
  have h11_ := at_only h7_ ho9_ (hnP _ (hr_ _ h_k).2)
  have h12_ := at_only h8_ ho9_ (hnP _ (hr_ _ (nx_lt h_k)).2)
  refine lv_iinc (v := nI (k + 1)) (k := 6) (lv' := [(3, .int _), (6, .int _), (5, .ref _), (4, .ref _), (0, .ref _), (1, .int _), (2, .ref _)]) hx hb dX5_of_142 hl rfl (nI_1 _) (Nat.le_of_ble_eq_true rfl) rfl (fun ls hl => ?_)
  refine lv_goto (tgt := 2) hx hb dX5_of_145 rfl ?_
  exact ih_k _ _ ls ⟨h9_, (((hIk.2.tr ho1_).tr ho5_).tr ho9_)⟩ hL (lv_sub hl [4, 5, 6, 0] rfl) h_k
theorem dX1_polygon_0 : decode cX1_polygon 0 = .ok (.aload_n 0, 1) := by decide +kernel
theorem dX1_polygon_1 : decode cX1_polygon 1 = .ok (.iload_n 2, 1) := by decide +kernel
theorem dX1_polygon_2 : decode cX1_polygon 2 = .ok (.invokevirtual 50, 3) := by decide +kernel
theorem dX1_polygon_5 : decode cX1_polygon 5 = .ok (.ifCond .eq 12, 3) := by decide +kernel
theorem dX1_polygon_8 : decode cX1_polygon 8 = .ok (.aload_n 0, 1) := by decide +kernel
theorem dX1_polygon_9 : decode cX1_polygon 9 = .ok (.iload_n 1, 1) := by decide +kernel
theorem dX1_polygon_10 : decode cX1_polygon 10 = .ok (.iconst 1, 1) := by decide +kernel
theorem dX1_polygon_11 : decode cX1_polygon 11 = .ok (.invokevirtual 130, 3) := by decide +kernel
theorem dX1_polygon_14 : decode cX1_polygon 14 = .ok (.goto 5, 3) := by decide +kernel
theorem dX1_polygon_17 : decode cX1_polygon 17 = .ok (.bipush (-2), 2) := by decide +kernel
theorem dX1_polygon_19 : decode cX1_polygon 19 = .ok (.istore_n 3, 1) := by decide +kernel
theorem dX1_polygon_20 : decode cX1_polygon 20 = .ok (.iload_n 3, 1) := by decide +kernel
theorem dX1_polygon_21 : decode cX1_polygon 21 = .ok (.ifCond .eq 5, 3) := by decide +kernel
theorem dX1_polygon_24 : decode cX1_polygon 24 = .ok (.iload_n 3, 1) := by decide +kernel
theorem dX1_polygon_25 : decode cX1_polygon 25 = .ok (.ireturn, 1) := by decide +kernel
theorem dX1_polygon_26 : decode cX1_polygon 26 = .ok (.new 137, 3) := by decide +kernel
theorem dX1_polygon_29 : decode cX1_polygon 29 = .ok (.dup, 1) := by decide +kernel
theorem dX1_polygon_30 : decode cX1_polygon 30 = .ok (.aload_n 0, 1) := by decide +kernel
theorem dX1_polygon_31 : decode cX1_polygon 31 = .ok (.invokespecial 139, 3) := by decide +kernel
theorem dX1_polygon_34 : decode cX1_polygon 34 = .ok (.iload_n 1, 1) := by decide +kernel
theorem dX1_polygon_35 : decode cX1_polygon 35 = .ok (.aload_n 0, 1) := by decide +kernel
theorem dX1_polygon_36 : decode cX1_polygon 36 = .ok (.getfield 26, 3) := by decide +kernel
theorem dX1_polygon_39 : decode cX1_polygon 39 = .ok (.iload_n 2, 1) := by decide +kernel
theorem dX1_polygon_40 : decode cX1_polygon 40 = .ok (.aaload, 1) := by decide +kernel
theorem dX1_polygon_41 : decode cX1_polygon 41 = .ok (.invokevirtual 142, 3) := by decide +kernel
theorem dX1_polygon_44 : decode cX1_polygon 44 = .ok (.astore 4, 2) := by decide +kernel
theorem dX1_polygon_46 : decode cX1_polygon 46 = .ok (.aload 4, 2) := by decide +kernel
theorem dX1_polygon_48 : decode cX1_polygon 48 = .ok (.getfield 146, 3) := by decide +kernel
theorem dX1_polygon_51 : decode cX1_polygon 51 = .ok (.ifCond .eq 7, 3) := by decide +kernel
theorem dX1_polygon_54 : decode cX1_polygon 54 = .ok (.iconst 2, 1) := by decide +kernel
theorem dX1_polygon_55 : decode cX1_polygon 55 = .ok (.goto 16, 3) := by decide +kernel
theorem dX1_polygon_58 : decode cX1_polygon 58 = .ok (.aload 4, 2) := by decide +kernel
theorem dX1_polygon_60 : decode cX1_polygon 60 = .ok (.getfield 147, 3) := by decide +kernel
theorem dX1_polygon_63 : decode cX1_polygon 63 = .ok (.aload 4, 2) := by decide +kernel
theorem dX1_polygon_65 : decode cX1_polygon 65 = .ok (.getfield 150, 3) := by decide +kernel
theorem dX1_polygon_68 : decode cX1_polygon 68 = .ok (.iadd, 1) := by decide +kernel
theorem dX1_polygon_69 : decode cX1_polygon 69 = .ok (.iconst 2, 1) := by decide +kernel
theorem dX1_polygon_70 : decode cX1_polygon 70 = .ok (.irem, 1) := by decide +kernel
theorem dX1_polygon_71 : decode cX1_polygon 71 = .ok (.ireturn, 1) := by decide +kernel
set_option maxHeartbeats 800000 in
theorem met_X1_polygon (l : Launch) (G : GG) {H : Heap} {o : Nat} {B P L : Nat → Nat} {σ : Sg} {n b : Int32} (hJ : JW G H o B P L σ) (hO : Ok σ) (hS : JS o B P L σ) : GM l yX1_polygon cX1_polygon 5 (some .int) 5 1 4 119 G H [.ref o, .int n, .int b] (fun oc H' => oc = .returned (some (.int (pubRP σ n b (j_poly σ)))) ∧ JP G H o B P L σ σ H') (fun z => ownJ o B z ∨ z = H.size) := by
  refine gm_intro pl_X1_polygon (Nat.le_of_ble_eq_true rfl) ?_
  intro pX eX sX mX belX methX cX ls hE hnm hl
  obtain ⟨hx, hb, hr, hlk, hml, hown, hts, hK, hZ, hH⟩ := hE
  have hl : lv_has ls 5 [(0, .ref o), (1, .int n), (2, .int b)] := hl
  have hL : ∀ q ∈ ([] : List Loc), (fun z => ownJ o B z ∨ z = H.size : Addr → Prop) q.base := fun q h => by cases h
  refine lv_aload_n hx hb dX1_polygon_0 rfl (lv_at hl 0 rfl) ?_
  refine lv_iload_n hx hb dX1_polygon_1 rfl (lv_at hl 2 rfl) ?_
  refine p_callV (As := [.int _]) hx hb hml hown hts hK trivial (met_X1_isPoint l G hJ hO ) q156 q158 qs1 q42 q159 hv_X1_isPoint rfl hJ.1 rfl (by decide) hl.1 rfl (Nat.le_of_ble_eq_true rfl) dX1_polygon_2 ⟨Nat.le_of_ble_eq_true rfl, Nat.le_of_ble_eq_true rfl⟩ ?_
  refine b_ifeq (tgt := 17) hx hb dX1_polygon_5 rfl (fun c_5 => ?_) (fun c_5 => ?_)
  · skip
    refine lv_bipush (v := -2) hx hb dX1_polygon_17 ib_m2 ?_
    refine lv_istore_n (lv' := [(3, .int _), (0, .ref _), (1, .int _), (2, .int _)]) hx hb dX1_polygon_19 rfl hl (Nat.le_of_ble_eq_true rfl) rfl (fun ls hl => ?_)
    refine lv_iload_n hx hb dX1_polygon_20 rfl (lv_at hl 0 rfl) ?_
    refine lv_if_eq (tgt := 26) hx hb dX1_polygon_21 rfl (fun c_21 => absurd c_21 (by decide)) (fun _ => ?_)
    refine lv_iload_n hx hb dX1_polygon_24 rfl (lv_at hl 0 rfl) ?_
    refine W.widen (k := 1) (n := 4) (Nat.le_of_ble_eq_true rfl) (Nat.le_of_ble_eq_true rfl) ?_
    exact g_iret (F := fun z => ownJ o B z ∨ z = H.size) (Post := fun oc H' => oc = .returned (some (.int (pubRP σ n b (j_poly σ)))) ∧ JP G H o B P L σ σ H') hx hb hr hlk hL dX1_polygon_25 (i_post (by first | with_reducible rfl | (simp only [j_poly, pubRP_f c_5, ↓reduceIte, Bool.true_and, Bool.and_true, Bool.false_and, Bool.and_false, Bool.true_or, Bool.or_true, Bool.false_or, Bool.or_false, Bool.not_true, Bool.not_false, decide_true, decide_false, bI_t, bI_f, Bool.false_eq_true, not_true_eq_false, not_false_eq_true, eq_self, reduceCtorEq, Bool.true_eq_false, and_true, true_and, and_false, false_and, or_true, true_or, or_false, false_or]; done)) (JP.rf hJ hS))
  obtain ⟨b_, i_b, rfl⟩ := isPt_elim hO.1.1 c_5
  refine lv_aload_n hx hb dX1_polygon_8 rfl (lv_at hl 0 rfl) ?_
  refine lv_iload_n hx hb dX1_polygon_9 rfl (lv_at hl 1 rfl) ?_
  refine lv_iconst (v := 1) hx hb dX1_polygon_10 ic_1 ?_
  refine p_callV (As := [.int _, .int _]) hx hb hml hown hts hK trivial (met_X1_refused l G hJ hO (by decide)) q272 q274 qs3 q42 q275 hv_X1_refused rfl hJ.1 rfl (by decide) hl.1 rfl (Nat.le_of_ble_eq_true rfl) dX1_polygon_11 ⟨Nat.le_of_ble_eq_true rfl, Nat.le_of_ble_eq_true rfl⟩ ?_
  refine lv_goto (tgt := 19) hx hb dX1_polygon_14 rfl ?_
  refine lv_istore_n (lv' := [(3, .int _), (0, .ref _), (1, .int _), (2, .int _)]) hx hb dX1_polygon_19 rfl hl (Nat.le_of_ble_eq_true rfl) rfl (fun ls hl => ?_)
  refine lv_iload_n hx hb dX1_polygon_20 rfl (lv_at hl 0 rfl) ?_
  refine lv_if_eq (tgt := 26) hx hb dX1_polygon_21 rfl (fun c_21 => ?_) (fun c_21 => ?_)
  · skip
    obtain ⟨N, hN, rfl, hge, hw_⟩ := ref_elim (by decide) hO c_21
    have hN31 : N < 2 ^ 31 := Nat.lt_of_le_of_lt hN hO.rn31
    have e1_ : (1 : Int32).toInt = 1 := rfl
    have e3_ : (3 : Int32).toInt = 3 := rfl
    have hpos : 0 < N := by omega
    have hr_ := HR.of hO hw_
    refine nw_X5 hx hb hts hown q284 hK (Nat.le_of_ble_eq_true rfl) (Nat.le_of_ble_eq_true rfl) dX1_polygon_26 (fun nq Hnq_ enq_ hnq_ hznq_ hgnq_ => ?_)
    have h1_ := at_grow hJ.1 hgnq_
    have h2_ := at_grow hJ.2.1 hgnq_
    refine lv_dup hx hb dX1_polygon_29 rfl ?_
    refine lv_aload_n hx hb dX1_polygon_30 rfl (lv_at hl 1 rfl) ?_
    refine g_callIN (F := fun z => ownJ o B z ∨ z = H.size) (As := [.ref _]) hx hb hml hown hts hK (met_X5_init l G hnq_) rfl nM_X1_139 q287 q56 q288 hd_X5_init rfl (by decide) hl.1 rfl (Nat.le_of_ble_eq_true rfl) dX1_polygon_31 ⟨Nat.le_of_ble_eq_true rfl, Nat.le_of_ble_eq_true rfl⟩ (fun q hq => Or.inr (hq.trans enq_)) hL (fun v2_ H2_ locs hP2_ hL => ?_)
    obtain ⟨hv2_, hat2_, hon2_⟩ := hP2_
    cases hv2_
    have h3_ := at_only h1_ hon2_ (by rw [enq_]; exact Nat.ne_of_lt hJ.1.lt)
    have h4_ := at_only h2_ hon2_ (by rw [enq_]; exact Nat.ne_of_lt hJ.2.1.lt)
    refine lv_iload_n hx hb dX1_polygon_34 rfl (lv_at hl 2 rfl) ?_
    refine lv_aload_n hx hb dX1_polygon_35 rfl (lv_at hl 1 rfl) ?_
    refine gf_X1_26 hx hb hts hown hK h3_ rfl dX1_polygon_36 ?_
    refine lv_iload_n hx hb dX1_polygon_39 rfl (lv_at hl 3 rfl) ?_
    refine r_pald hx hb hK h4_ dX1_polygon_40 (k := b_) (hO.lt60 i_b) (by decide) rfl (pa_some i_b) ?_
    refine g_callV (F := fun z => ownJ o B z ∨ z = H.size) (As := [.int _, .ref _]) hx hb hml hown hts hK (met_X5_of l G (hJ.kept (fun q hq => (Grow.only hgnq_ (Nat.le_of_eq enq_.symm) hon2_).2 q (hJ.cell hq))) hO hN hr_ i_b hat2_ (fun h => Nat.lt_irrefl _ (enq_ ▸ hJ.cell h))) q306 q307 q308 q56 q309 hv_X5_of rfl hat2_ rfl (by decide) hl.1 rfl (Nat.le_of_ble_eq_true rfl) dX1_polygon_41 ⟨Nat.le_of_ble_eq_true rfl, Nat.le_of_ble_eq_true rfl⟩ (fun q hq => Or.inr (hq.trans enq_)) hL (fun v4_ H4_ locs hP4_ hL => ?_)
    obtain ⟨hv4_, hat4_, hon4_⟩ := hP4_
    cases hv4_
    have h5_ := at_only h3_ hon4_ (by rw [enq_]; exact Nat.ne_of_lt hJ.1.lt)
    have h6_ := at_only h4_ hon4_ (by rw [enq_]; exact Nat.ne_of_lt hJ.2.1.lt)
    refine lv_astore (lv' := [(4, .ref _), (3, .int _), (0, .ref _), (1, .int _), (2, .int _)]) hx hb dX1_polygon_44 hl (Nat.le_of_ble_eq_true rfl) rfl (fun ls hl => ?_)
    refine lv_aload hx hb dX1_polygon_46 (lv_at hl 0 rfl) ?_
    refine gf_X1_146 hx hb hts hown hK hat4_ rfl dX1_polygon_48 ?_
    refine b_ifeq (tgt := 58) hx hb dX1_polygon_51 rfl (fun c_51 => ?_) (fun c_51 => ?_)
    · skip
      refine lv_aload hx hb dX1_polygon_58 (lv_at hl 0 rfl) ?_
      refine gf_X1_147 hx hb hts hown hK hat4_ rfl dX1_polygon_60 ?_
      refine lv_aload hx hb dX1_polygon_63 (lv_at hl 0 rfl) ?_
      refine gf_X1_150 hx hb hts hown hK hat4_ rfl dX1_polygon_65 ?_
      refine lv_iadd hx hb dX1_polygon_68 ?_
      refine lv_iconst (v := 2) hx hb dX1_polygon_69 ic_2 ?_
      refine lv_irem hx hb dX1_polygon_70 (by decide) ?_
      exact g_iret (F := fun z => ownJ o B z ∨ z = H.size) (Post := fun oc H' => oc = .returned (some (.int (pubRP σ (nI N) (nI b_) (j_poly σ)))) ∧ JP G H o B P L σ σ H') hx hb hr hlk hL dX1_polygon_71 (i_post (by first | with_reducible rfl | (simp only [j_poly, pubRP_R c_5, hO.ix i_b, pubR_eq c_21, ixn hN31, c_51, ↓reduceIte, Bool.true_and, Bool.and_true, Bool.false_and, Bool.and_false, Bool.true_or, Bool.or_true, Bool.false_or, Bool.or_false, Bool.not_true, Bool.not_false, decide_true, decide_false, bI_t, bI_f, Bool.false_eq_true, not_true_eq_false, not_false_eq_true, eq_self, reduceCtorEq, Bool.true_eq_false, and_true, true_and, and_false, false_and, or_true, true_or, or_false, false_or]; done) | (simp only [pubRP_R c_5, hO.ix i_b, pubR_eq c_21, ixn hN31, ↓reduceIte, Bool.true_and, Bool.and_true, Bool.false_and, Bool.and_false, Bool.true_or, Bool.or_true, Bool.false_or, Bool.or_false, Bool.not_true, Bool.not_false, decide_true, decide_false, bI_t, bI_f, Bool.false_eq_true, not_true_eq_false, not_false_eq_true, eq_self, reduceCtorEq, Bool.true_eq_false, and_true, true_and, and_false, false_and, or_true, true_or, or_false, false_or] at c_51; done) | (simp only [pubRP_R c_5, hO.ix i_b, ixn hN31, c_51, ↓reduceIte, Bool.true_and, Bool.and_true, Bool.false_and, Bool.and_false, Bool.true_or, Bool.or_true, Bool.false_or, Bool.or_false, Bool.not_true, Bool.not_false, decide_true, decide_false, bI_t, bI_f, Bool.false_eq_true, not_true_eq_false, not_false_eq_true, eq_self, reduceCtorEq, Bool.true_eq_false, and_true, true_and, and_false, false_and, or_true, true_or, or_false, false_or] at c_21; done) | (simp only [hO.ix i_b, pubR_eq c_21, ixn hN31, c_51, ↓reduceIte, Bool.true_and, Bool.and_true, Bool.false_and, Bool.and_false, Bool.true_or, Bool.or_true, Bool.false_or, Bool.or_false, Bool.not_true, Bool.not_false, decide_true, decide_false, bI_t, bI_f, Bool.false_eq_true, not_true_eq_false, not_false_eq_true, eq_self, reduceCtorEq, Bool.true_eq_false, and_true, true_and, and_false, false_and, or_true, true_or, or_false, false_or] at c_5; done)) (JP.grow hJ hS (Grow.only (Grow.only hgnq_ (Nat.le_of_eq enq_.symm) hon2_) (Nat.le_of_eq enq_.symm) hon4_)))
    refine lv_iconst (v := 2) hx hb dX1_polygon_54 ic_2 ?_
    refine lv_goto (tgt := 71) hx hb dX1_polygon_55 rfl ?_
    exact g_iret (F := fun z => ownJ o B z ∨ z = H.size) (Post := fun oc H' => oc = .returned (some (.int (pubRP σ (nI N) (nI b_) (j_poly σ)))) ∧ JP G H o B P L σ σ H') hx hb hr hlk hL dX1_polygon_71 (i_post (by first | with_reducible rfl | (simp only [j_poly, pubRP_R c_5, hO.ix i_b, pubR_eq c_21, ixn hN31, c_51, ↓reduceIte, Bool.true_and, Bool.and_true, Bool.false_and, Bool.and_false, Bool.true_or, Bool.or_true, Bool.false_or, Bool.or_false, Bool.not_true, Bool.not_false, decide_true, decide_false, bI_t, bI_f, Bool.false_eq_true, not_true_eq_false, not_false_eq_true, eq_self, reduceCtorEq, Bool.true_eq_false, and_true, true_and, and_false, false_and, or_true, true_or, or_false, false_or]; done) | (simp only [pubRP_R c_5, hO.ix i_b, pubR_eq c_21, ixn hN31, ↓reduceIte, Bool.true_and, Bool.and_true, Bool.false_and, Bool.and_false, Bool.true_or, Bool.or_true, Bool.false_or, Bool.or_false, Bool.not_true, Bool.not_false, decide_true, decide_false, bI_t, bI_f, Bool.false_eq_true, not_true_eq_false, not_false_eq_true, eq_self, reduceCtorEq, Bool.true_eq_false, and_true, true_and, and_false, false_and, or_true, true_or, or_false, false_or] at c_51; done) | (simp only [pubRP_R c_5, hO.ix i_b, ixn hN31, c_51, ↓reduceIte, Bool.true_and, Bool.and_true, Bool.false_and, Bool.and_false, Bool.true_or, Bool.or_true, Bool.false_or, Bool.or_false, Bool.not_true, Bool.not_false, decide_true, decide_false, bI_t, bI_f, Bool.false_eq_true, not_true_eq_false, not_false_eq_true, eq_self, reduceCtorEq, Bool.true_eq_false, and_true, true_and, and_false, false_and, or_true, true_or, or_false, false_or] at c_21; done) | (simp only [hO.ix i_b, pubR_eq c_21, ixn hN31, c_51, ↓reduceIte, Bool.true_and, Bool.and_true, Bool.false_and, Bool.and_false, Bool.true_or, Bool.or_true, Bool.false_or, Bool.or_false, Bool.not_true, Bool.not_false, decide_true, decide_false, bI_t, bI_f, Bool.false_eq_true, not_true_eq_false, not_false_eq_true, eq_self, reduceCtorEq, Bool.true_eq_false, and_true, true_and, and_false, false_and, or_true, true_or, or_false, false_or] at c_5; done)) (JP.grow hJ hS (Grow.only (Grow.only hgnq_ (Nat.le_of_eq enq_.symm) hon2_) (Nat.le_of_eq enq_.symm) hon4_)))
  refine lv_iload_n hx hb dX1_polygon_24 rfl (lv_at hl 0 rfl) ?_
  refine W.widen (k := 1) (n := 4) (Nat.le_of_ble_eq_true rfl) (Nat.le_of_ble_eq_true rfl) ?_
  exact g_iret (F := fun z => ownJ o B z ∨ z = H.size) (Post := fun oc H' => oc = .returned (some (.int (pubRP σ n (nI b_) (j_poly σ)))) ∧ JP G H o B P L σ σ H') hx hb hr hlk hL dX1_polygon_25 (i_post (by first | with_reducible rfl | (simp only [j_poly, pubRP_R c_5, hO.ix i_b, pubR_ne c_21, ↓reduceIte, Bool.true_and, Bool.and_true, Bool.false_and, Bool.and_false, Bool.true_or, Bool.or_true, Bool.false_or, Bool.or_false, Bool.not_true, Bool.not_false, decide_true, decide_false, bI_t, bI_f, Bool.false_eq_true, not_true_eq_false, not_false_eq_true, eq_self, reduceCtorEq, Bool.true_eq_false, and_true, true_and, and_false, false_and, or_true, true_or, or_false, false_or]; done) | (simp only [pubRP_R c_5, hO.ix i_b, ↓reduceIte, Bool.true_and, Bool.and_true, Bool.false_and, Bool.and_false, Bool.true_or, Bool.or_true, Bool.false_or, Bool.or_false, Bool.not_true, Bool.not_false, decide_true, decide_false, bI_t, bI_f, Bool.false_eq_true, not_true_eq_false, not_false_eq_true, eq_self, reduceCtorEq, Bool.true_eq_false, and_true, true_and, and_false, false_and, or_true, true_or, or_false, false_or] at c_21; done) | (simp only [hO.ix i_b, pubR_ne c_21, ↓reduceIte, Bool.true_and, Bool.and_true, Bool.false_and, Bool.and_false, Bool.true_or, Bool.or_true, Bool.false_or, Bool.or_false, Bool.not_true, Bool.not_false, decide_true, decide_false, bI_t, bI_f, Bool.false_eq_true, not_true_eq_false, not_false_eq_true, eq_self, reduceCtorEq, Bool.true_eq_false, and_true, true_and, and_false, false_and, or_true, true_or, or_false, false_or] at c_5; done)) (JP.rf hJ hS))
theorem dX1_winding_0 : decode cX1_winding 0 = .ok (.aload_n 0, 1) := by decide +kernel
theorem dX1_winding_1 : decode cX1_winding 1 = .ok (.iload_n 2, 1) := by decide +kernel
theorem dX1_winding_2 : decode cX1_winding 2 = .ok (.invokevirtual 50, 3) := by decide +kernel
theorem dX1_winding_5 : decode cX1_winding 5 = .ok (.ifCond .eq 12, 3) := by decide +kernel
theorem dX1_winding_8 : decode cX1_winding 8 = .ok (.aload_n 0, 1) := by decide +kernel
theorem dX1_winding_9 : decode cX1_winding 9 = .ok (.iload_n 1, 1) := by decide +kernel
theorem dX1_winding_10 : decode cX1_winding 10 = .ok (.iconst 1, 1) := by decide +kernel
theorem dX1_winding_11 : decode cX1_winding 11 = .ok (.invokevirtual 130, 3) := by decide +kernel
theorem dX1_winding_14 : decode cX1_winding 14 = .ok (.ifCond .eq 6, 3) := by decide +kernel
theorem dX1_winding_17 : decode cX1_winding 17 = .ok (.bipush (-100), 2) := by decide +kernel
theorem dX1_winding_19 : decode cX1_winding 19 = .ok (.ireturn, 1) := by decide +kernel
theorem dX1_winding_20 : decode cX1_winding 20 = .ok (.new 137, 3) := by decide +kernel
theorem dX1_winding_23 : decode cX1_winding 23 = .ok (.dup, 1) := by decide +kernel
theorem dX1_winding_24 : decode cX1_winding 24 = .ok (.aload_n 0, 1) := by decide +kernel
theorem dX1_winding_25 : decode cX1_winding 25 = .ok (.invokespecial 139, 3) := by decide +kernel
theorem dX1_winding_28 : decode cX1_winding 28 = .ok (.iload_n 1, 1) := by decide +kernel
theorem dX1_winding_29 : decode cX1_winding 29 = .ok (.aload_n 0, 1) := by decide +kernel
theorem dX1_winding_30 : decode cX1_winding 30 = .ok (.getfield 26, 3) := by decide +kernel
theorem dX1_winding_33 : decode cX1_winding 33 = .ok (.iload_n 2, 1) := by decide +kernel
theorem dX1_winding_34 : decode cX1_winding 34 = .ok (.aaload, 1) := by decide +kernel
theorem dX1_winding_35 : decode cX1_winding 35 = .ok (.invokevirtual 142, 3) := by decide +kernel
theorem dX1_winding_38 : decode cX1_winding 38 = .ok (.astore_n 3, 1) := by decide +kernel
theorem dX1_winding_39 : decode cX1_winding 39 = .ok (.aload_n 3, 1) := by decide +kernel
theorem dX1_winding_40 : decode cX1_winding 40 = .ok (.getfield 146, 3) := by decide +kernel
theorem dX1_winding_43 : decode cX1_winding 43 = .ok (.ifCond .eq 8, 3) := by decide +kernel
theorem dX1_winding_46 : decode cX1_winding 46 = .ok (.bipush 100, 2) := by decide +kernel
theorem dX1_winding_48 : decode cX1_winding 48 = .ok (.goto 12, 3) := by decide +kernel
theorem dX1_winding_51 : decode cX1_winding 51 = .ok (.aload_n 3, 1) := by decide +kernel
theorem dX1_winding_52 : decode cX1_winding 52 = .ok (.getfield 147, 3) := by decide +kernel
theorem dX1_winding_55 : decode cX1_winding 55 = .ok (.aload_n 3, 1) := by decide +kernel
theorem dX1_winding_56 : decode cX1_winding 56 = .ok (.getfield 150, 3) := by decide +kernel
theorem dX1_winding_59 : decode cX1_winding 59 = .ok (.isub, 1) := by decide +kernel
theorem dX1_winding_60 : decode cX1_winding 60 = .ok (.ireturn, 1) := by decide +kernel
set_option maxHeartbeats 800000 in
theorem met_X1_winding (l : Launch) (G : GG) {H : Heap} {o : Nat} {B P L : Nat → Nat} {σ : Sg} {n b : Int32} (hJ : JW G H o B P L σ) (hO : Ok σ) (hS : JS o B P L σ) : GM l yX1_winding cX1_winding 4 (some .int) 5 1 4 119 G H [.ref o, .int n, .int b] (fun oc H' => oc = .returned (some (.int (j_wind σ n b))) ∧ JP G H o B P L σ σ H') (fun z => ownJ o B z ∨ z = H.size) := by
  refine gm_intro pl_X1_winding (Nat.le_of_ble_eq_true rfl) ?_
  intro pX eX sX mX belX methX cX ls hE hnm hl
  obtain ⟨hx, hb, hr, hlk, hml, hown, hts, hK, hZ, hH⟩ := hE
  have hl : lv_has ls 4 [(0, .ref o), (1, .int n), (2, .int b)] := hl
  have hL : ∀ q ∈ ([] : List Loc), (fun z => ownJ o B z ∨ z = H.size : Addr → Prop) q.base := fun q h => by cases h
  refine lv_aload_n hx hb dX1_winding_0 rfl (lv_at hl 0 rfl) ?_
  refine lv_iload_n hx hb dX1_winding_1 rfl (lv_at hl 2 rfl) ?_
  refine p_callV (As := [.int _]) hx hb hml hown hts hK trivial (met_X1_isPoint l G hJ hO ) q156 q158 qs1 q42 q159 hv_X1_isPoint rfl hJ.1 rfl (by decide) hl.1 rfl (Nat.le_of_ble_eq_true rfl) dX1_winding_2 ⟨Nat.le_of_ble_eq_true rfl, Nat.le_of_ble_eq_true rfl⟩ ?_
  refine b_ifeq (tgt := 17) hx hb dX1_winding_5 rfl (fun c_5 => ?_) (fun c_5 => ?_)
  · skip
    refine lv_bipush (v := -100) hx hb dX1_winding_17 ib_m100 ?_
    refine W.widen (k := 1) (n := 4) (Nat.le_of_ble_eq_true rfl) (Nat.le_of_ble_eq_true rfl) ?_
    exact g_iret (F := fun z => ownJ o B z ∨ z = H.size) (Post := fun oc H' => oc = .returned (some (.int (j_wind σ n b))) ∧ JP G H o B P L σ σ H') hx hb hr hlk hL dX1_winding_19 (i_post (by first | with_reducible rfl | (simp only [j_wind, c_5, ↓reduceIte, Bool.true_and, Bool.and_true, Bool.false_and, Bool.and_false, Bool.true_or, Bool.or_true, Bool.false_or, Bool.or_false, Bool.not_true, Bool.not_false, decide_true, decide_false, bI_t, bI_f, Bool.false_eq_true, not_true_eq_false, not_false_eq_true, eq_self, reduceCtorEq, Bool.true_eq_false, and_true, true_and, and_false, false_and, or_true, true_or, or_false, false_or]; done)) (JP.rf hJ hS))
  obtain ⟨b_, i_b, rfl⟩ := isPt_elim hO.1.1 c_5
  refine lv_aload_n hx hb dX1_winding_8 rfl (lv_at hl 0 rfl) ?_
  refine lv_iload_n hx hb dX1_winding_9 rfl (lv_at hl 1 rfl) ?_
  refine lv_iconst (v := 1) hx hb dX1_winding_10 ic_1 ?_
  refine p_callV (As := [.int _, .int _]) hx hb hml hown hts hK trivial (met_X1_refused l G hJ hO (by decide)) q272 q274 qs3 q42 q275 hv_X1_refused rfl hJ.1 rfl (by decide) hl.1 rfl (Nat.le_of_ble_eq_true rfl) dX1_winding_11 ⟨Nat.le_of_ble_eq_true rfl, Nat.le_of_ble_eq_true rfl⟩ ?_
  refine lv_if_eq (tgt := 20) hx hb dX1_winding_14 rfl (fun c_14 => ?_) (fun c_14 => ?_)
  · skip
    have hwd_ := ref_many c_14
    obtain ⟨N, hN, rfl, hge, hw_⟩ := ref_elim (by decide) hO c_14
    have hN31 : N < 2 ^ 31 := Nat.lt_of_le_of_lt hN hO.rn31
    have e1_ : (1 : Int32).toInt = 1 := rfl
    have e3_ : (3 : Int32).toInt = 3 := rfl
    have hpos : 0 < N := by omega
    have hr_ := HR.of hO hw_
    refine nw_X5 hx hb hts hown q284 hK (Nat.le_of_ble_eq_true rfl) (Nat.le_of_ble_eq_true rfl) dX1_winding_20 (fun nq Hnq_ enq_ hnq_ hznq_ hgnq_ => ?_)
    have h1_ := at_grow hJ.1 hgnq_
    have h2_ := at_grow hJ.2.1 hgnq_
    refine lv_dup hx hb dX1_winding_23 rfl ?_
    refine lv_aload_n hx hb dX1_winding_24 rfl (lv_at hl 0 rfl) ?_
    refine g_callIN (F := fun z => ownJ o B z ∨ z = H.size) (As := [.ref _]) hx hb hml hown hts hK (met_X5_init l G hnq_) rfl nM_X1_139 q287 q56 q288 hd_X5_init rfl (by decide) hl.1 rfl (Nat.le_of_ble_eq_true rfl) dX1_winding_25 ⟨Nat.le_of_ble_eq_true rfl, Nat.le_of_ble_eq_true rfl⟩ (fun q hq => Or.inr (hq.trans enq_)) hL (fun v2_ H2_ locs hP2_ hL => ?_)
    obtain ⟨hv2_, hat2_, hon2_⟩ := hP2_
    cases hv2_
    have h3_ := at_only h1_ hon2_ (by rw [enq_]; exact Nat.ne_of_lt hJ.1.lt)
    have h4_ := at_only h2_ hon2_ (by rw [enq_]; exact Nat.ne_of_lt hJ.2.1.lt)
    refine lv_iload_n hx hb dX1_winding_28 rfl (lv_at hl 1 rfl) ?_
    refine lv_aload_n hx hb dX1_winding_29 rfl (lv_at hl 0 rfl) ?_
    refine gf_X1_26 hx hb hts hown hK h3_ rfl dX1_winding_30 ?_
    refine lv_iload_n hx hb dX1_winding_33 rfl (lv_at hl 2 rfl) ?_
    refine r_pald hx hb hK h4_ dX1_winding_34 (k := b_) (hO.lt60 i_b) (by decide) rfl (pa_some i_b) ?_
    refine g_callV (F := fun z => ownJ o B z ∨ z = H.size) (As := [.int _, .ref _]) hx hb hml hown hts hK (met_X5_of l G (hJ.kept (fun q hq => (Grow.only hgnq_ (Nat.le_of_eq enq_.symm) hon2_).2 q (hJ.cell hq))) hO hN hr_ i_b hat2_ (fun h => Nat.lt_irrefl _ (enq_ ▸ hJ.cell h))) q306 q307 q308 q56 q309 hv_X5_of rfl hat2_ rfl (by decide) hl.1 rfl (Nat.le_of_ble_eq_true rfl) dX1_winding_35 ⟨Nat.le_of_ble_eq_true rfl, Nat.le_of_ble_eq_true rfl⟩ (fun q hq => Or.inr (hq.trans enq_)) hL (fun v4_ H4_ locs hP4_ hL => ?_)
    obtain ⟨hv4_, hat4_, hon4_⟩ := hP4_
    cases hv4_
    have h5_ := at_only h3_ hon4_ (by rw [enq_]; exact Nat.ne_of_lt hJ.1.lt)
    have h6_ := at_only h4_ hon4_ (by rw [enq_]; exact Nat.ne_of_lt hJ.2.1.lt)
    refine lv_astore_n (lv' := [(3, .ref _), (0, .ref _), (1, .int _), (2, .int _)]) hx hb dX1_winding_38 rfl hl (Nat.le_of_ble_eq_true rfl) rfl (fun ls hl => ?_)
    refine lv_aload_n hx hb dX1_winding_39 rfl (lv_at hl 0 rfl) ?_
    refine gf_X1_146 hx hb hts hown hK hat4_ rfl dX1_winding_40 ?_
    refine b_ifeq (tgt := 51) hx hb dX1_winding_43 rfl (fun c_43 => ?_) (fun c_43 => ?_)
    · skip
      refine lv_aload_n hx hb dX1_winding_51 rfl (lv_at hl 0 rfl) ?_
      refine gf_X1_147 hx hb hts hown hK hat4_ rfl dX1_winding_52 ?_
      refine lv_aload_n hx hb dX1_winding_55 rfl (lv_at hl 0 rfl) ?_
      refine gf_X1_150 hx hb hts hown hK hat4_ rfl dX1_winding_56 ?_
      refine lv_isub hx hb dX1_winding_59 ?_
      exact g_iret (F := fun z => ownJ o B z ∨ z = H.size) (Post := fun oc H' => oc = .returned (some (.int (j_wind σ (nI N) (nI b_)))) ∧ JP G H o B P L σ σ H') hx hb hr hlk hL dX1_winding_60 (i_post (by first | with_reducible rfl | (simp only [j_wind, c_5, hO.ix i_b, hwd_.1, ixn hN31, hw_, c_43, ↓reduceIte, Bool.true_and, Bool.and_true, Bool.false_and, Bool.and_false, Bool.true_or, Bool.or_true, Bool.false_or, Bool.or_false, Bool.not_true, Bool.not_false, decide_true, decide_false, bI_t, bI_f, Bool.false_eq_true, not_true_eq_false, not_false_eq_true, eq_self, reduceCtorEq, Bool.true_eq_false, and_true, true_and, and_false, false_and, or_true, true_or, or_false, false_or]; done) | (simp only [c_5, hO.ix i_b, hwd_.1, ixn hN31, hw_, ↓reduceIte, Bool.true_and, Bool.and_true, Bool.false_and, Bool.and_false, Bool.true_or, Bool.or_true, Bool.false_or, Bool.or_false, Bool.not_true, Bool.not_false, decide_true, decide_false, bI_t, bI_f, Bool.false_eq_true, not_true_eq_false, not_false_eq_true, eq_self, reduceCtorEq, Bool.true_eq_false, and_true, true_and, and_false, false_and, or_true, true_or, or_false, false_or] at c_43; done) | (simp only [hO.ix i_b, hwd_.1, ixn hN31, hw_, c_43, ↓reduceIte, Bool.true_and, Bool.and_true, Bool.false_and, Bool.and_false, Bool.true_or, Bool.or_true, Bool.false_or, Bool.or_false, Bool.not_true, Bool.not_false, decide_true, decide_false, bI_t, bI_f, Bool.false_eq_true, not_true_eq_false, not_false_eq_true, eq_self, reduceCtorEq, Bool.true_eq_false, and_true, true_and, and_false, false_and, or_true, true_or, or_false, false_or] at c_5; done)) (JP.grow hJ hS (Grow.only (Grow.only hgnq_ (Nat.le_of_eq enq_.symm) hon2_) (Nat.le_of_eq enq_.symm) hon4_)))
    refine lv_bipush (v := 100) hx hb dX1_winding_46 ib_100 ?_
    refine lv_goto (tgt := 60) hx hb dX1_winding_48 rfl ?_
    exact g_iret (F := fun z => ownJ o B z ∨ z = H.size) (Post := fun oc H' => oc = .returned (some (.int (j_wind σ (nI N) (nI b_)))) ∧ JP G H o B P L σ σ H') hx hb hr hlk hL dX1_winding_60 (i_post (by first | with_reducible rfl | (simp only [j_wind, c_5, hO.ix i_b, hwd_.1, ixn hN31, hw_, c_43, ↓reduceIte, Bool.true_and, Bool.and_true, Bool.false_and, Bool.and_false, Bool.true_or, Bool.or_true, Bool.false_or, Bool.or_false, Bool.not_true, Bool.not_false, decide_true, decide_false, bI_t, bI_f, Bool.false_eq_true, not_true_eq_false, not_false_eq_true, eq_self, reduceCtorEq, Bool.true_eq_false, and_true, true_and, and_false, false_and, or_true, true_or, or_false, false_or]; done) | (simp only [c_5, hO.ix i_b, hwd_.1, ixn hN31, hw_, ↓reduceIte, Bool.true_and, Bool.and_true, Bool.false_and, Bool.and_false, Bool.true_or, Bool.or_true, Bool.false_or, Bool.or_false, Bool.not_true, Bool.not_false, decide_true, decide_false, bI_t, bI_f, Bool.false_eq_true, not_true_eq_false, not_false_eq_true, eq_self, reduceCtorEq, Bool.true_eq_false, and_true, true_and, and_false, false_and, or_true, true_or, or_false, false_or] at c_43; done) | (simp only [hO.ix i_b, hwd_.1, ixn hN31, hw_, c_43, ↓reduceIte, Bool.true_and, Bool.and_true, Bool.false_and, Bool.and_false, Bool.true_or, Bool.or_true, Bool.false_or, Bool.or_false, Bool.not_true, Bool.not_false, decide_true, decide_false, bI_t, bI_f, Bool.false_eq_true, not_true_eq_false, not_false_eq_true, eq_self, reduceCtorEq, Bool.true_eq_false, and_true, true_and, and_false, false_and, or_true, true_or, or_false, false_or] at c_5; done)) (JP.grow hJ hS (Grow.only (Grow.only hgnq_ (Nat.le_of_eq enq_.symm) hon2_) (Nat.le_of_eq enq_.symm) hon4_)))
  have hwd_ := ref_nmany c_14
  refine lv_bipush (v := -100) hx hb dX1_winding_17 ib_m100 ?_
  refine W.widen (k := 1) (n := 4) (Nat.le_of_ble_eq_true rfl) (Nat.le_of_ble_eq_true rfl) ?_
  exact g_iret (F := fun z => ownJ o B z ∨ z = H.size) (Post := fun oc H' => oc = .returned (some (.int (j_wind σ n (nI b_)))) ∧ JP G H o B P L σ σ H') hx hb hr hlk hL dX1_winding_19 (i_post (by first | with_reducible rfl | (simp only [j_wind, c_5, hO.ix i_b, hwd_, ↓reduceIte, Bool.true_and, Bool.and_true, Bool.false_and, Bool.and_false, Bool.true_or, Bool.or_true, Bool.false_or, Bool.or_false, Bool.not_true, Bool.not_false, decide_true, decide_false, bI_t, bI_f, Bool.false_eq_true, not_true_eq_false, not_false_eq_true, eq_self, reduceCtorEq, Bool.true_eq_false, and_true, true_and, and_false, false_and, or_true, true_or, or_false, false_or]; done)) (JP.rf hJ hS))
