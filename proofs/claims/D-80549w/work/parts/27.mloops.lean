set_option maxRecDepth 100000

section LOOPG
variable {p : Program} {l : Launch} {e : Env} {R : Room} {s : State} {m : MethodId} {args : Array Value} {below : List Frame} {meth : Method} {c : Code} {cells slots : Nat} {Q : State → Prop} {rest : List Value}
/-- a loop that counts up to N and writes -/
theorem loopG {N head nL : Nat} {F : Nat → Prop} {lv : Nat → List (Nat × Value)} {I : Nat → Heap → Prop} (step : ∀ k, k ≤ N → (∀ (H : Heap) (locs : List Loc) (ls : Array Slot), I (k + 1) H → (∀ q ∈ locs, F q.base) → lv_has ls nL (lv (k + 1)) → k < N → W p l e R s m args below meth c H locs cells slots Q (F0 m head ls rest)) → ∀ (H : Heap) (locs : List Loc) (ls : Array Slot), I k H → (∀ q ∈ locs, F q.base) → lv_has ls nL (lv k) → W p l e R s m args below meth c H locs cells slots Q (F0 m head ls rest)) :
    ∀ k, k ≤ N → ∀ (H : Heap) (locs : List Loc) (ls : Array Slot), I k H → (∀ q ∈ locs, F q.base) → lv_has ls nL (lv k) → W p l e R s m args below meth c H locs cells slots Q (F0 m head ls rest) := by
  have key : ∀ d k, k + d = N → ∀ (H : Heap) (locs : List Loc) (ls : Array Slot), I k H → (∀ q ∈ locs, F q.base) → lv_has ls nL (lv k) → W p l e R s m args below meth c H locs cells slots Q (F0 m head ls rest) := by
    intro d
    induction d with
    | zero => intro k hk H locs ls hI hL hl; exact step k (by omega) (fun _ _ _ _ _ _ h => absurd h (by omega)) H locs ls hI hL hl
    | succ d ih => intro k hk H locs ls hI hL hl; exact step k (by omega) (fun H2 locs2 ls2 h1 h2 h3 _ => ih (k + 1) (by omega) H2 locs2 ls2 h1 h2 h3) H locs ls hI hL hl
  intro k hk
  exact key (N - k) k (by omega)
end LOOPG
theorem arr_congr {cI : ClassId} {N : Nat} {f g : Nat → Value} (h : ∀ j, j < N → f j = g j) : arrV cI N f = arrV cI N g := by
  unfold arrV
  congr 2
  funext j
  exact h j.val j.isLt
theorem aI4.congr {G : GG} {a n : Nat} {f g : Nat → Int32} {H : Heap} (h : aI4 G a n f H) (k : ∀ j, j < n → f j = g j) : aI4 G a n g H := by
  show H[a]? = some (arrV G.2.2.2.1 n (fun j => .int (g j)))
  rw [arr_congr (g := fun j => .int (f j)) (fun j hj => by rw [k j hj])]
  exact h
def Iz (G : GG) (H : Heap) (o : Nat) (A : Nat → Nat) (σ : Sg) (th : Int32) (f : Nat → Int32) (k : Nat) (H' : Heap) : Prop :=
  o14 G o A σ th H' ∧ aI4 G (A 0) 60 (fun i => (σ.pt i).1) H' ∧ aI4 G (A 1) 60 (fun i => (σ.pt i).2) H' ∧ aI4 G (A 2) 24 (fun i => if i < k then -1 else f i) H' ∧ aL8 G (A 3) 12 (fun i => (σ.ln i).1) H' ∧ aL8 G (A 4) 12 (fun i => (σ.ln i).2.1) H' ∧ aL8 G (A 5) 12 (fun i => (σ.ln i).2.2) H' ∧ KM o A H H'
theorem Iz.step {G : GG} {H H' H2 : Heap} {o : Nat} {A : Nat → Nat} {σ : Sg} {th : Int32} {f : Nat → Int32} {k : Nat} (h : Iz G H o A σ th f k H') (hS : MS o A) (hf : aI4 G (A 2) 24 (upd (fun i => if i < k then -1 else f i) k (-1)) H2) (ho : Only (A 2) H' H2) : Iz G H o A σ th f (k + 1) H2 := by
  obtain ⟨h0, h1, h2, h3, h4, h5, h6, h7⟩ := h
  refine ⟨at_only h0 ho (hS.1 2 (by decide)), at_only h1 ho (hS.2 0 2 (by decide) (by decide) (by decide)), at_only h2 ho (hS.2 1 2 (by decide) (by decide) (by decide)), ?_, at_only h4 ho (hS.2 3 2 (by decide) (by decide) (by decide)), at_only h5 ho (hS.2 4 2 (by decide) (by decide) (by decide)), at_only h6 ho (hS.2 5 2 (by decide) (by decide) (by decide)), KM.tr h7 (KM.of ho (Or.inr ⟨2, by decide, rfl⟩))⟩
  have e : upd (fun i => if i < k then -1 else f i) k (-1) = fun i => if i < k + 1 then -1 else f i := by
    funext i
    unfold upd
    by_cases h : i = k
    · rw [if_pos h, if_pos (by omega)]
    · rw [if_neg h]
      show (if i < k then -1 else f i) = _
      by_cases h2 : i < k
      · rw [if_pos h2, if_pos (by omega)]
      · rw [if_neg h2, if_neg (by omega)]
  rw [e] at hf
  exact hf
theorem Iz.done {G : GG} {H H' : Heap} {o : Nat} {A : Nat → Nat} {σ : Sg} {th : Int32} {f : Nat → Int32} (h : Iz G H o A σ th f 24 H') (hr : ∀ i, σ.rw i = none) : MP G H o A σ th H' := by
  obtain ⟨h0, h1, h2, h3, h4, h5, h6, h7⟩ := h
  exact ⟨⟨h0, h1, h2, h3.congr (fun j hj => by rw [if_pos hj, hr j]; rfl), h4, h5, h6⟩, h7⟩
def m_size (σ : Sg) (th n : Int32) : Int32 × (Sg × Int32) := if n ≤ 24 then (if 0 ≤ n then (nI σ.rn, t_row σ (ix n), th) else (0, σ, 1)) else (-2, σ, th)
theorem i64_z : (0 : Int32).toInt64 = 0 := by decide +kernel
theorem br_comm (a b c d : Int64) : a * d - c * b = s_br a b c d := by unfold s_br; rw [Int64.mul_comm c b]
def s_areaS (σ : Sg) (N k : Nat) : Int64 := itr (fun i a => a + s_br (σ.rp i).1.toInt64 (σ.rp i).2.toInt64 (σ.rp (nx i N)).1.toInt64 (σ.rp (nx i N)).2.toInt64) k 0
def m_area (σ : Sg) (th n : Int32) (b : Int64) : Int64 × (Sg × Int32) := if m_isMany σ.rn n 1 then (if wh σ.rw (ix n) then (if b = 0 then (0, σ, 1) else (s_areaS σ (ix n) (ix n) / b, σ, th)) else (0, σ, th)) else (0, σ, th)
theorem pr_postL {α : Type} {f : Int64 × α} {v : Int64} {t : α} {P : α → Prop} (h : f = (v, t)) (k : P t) : (Outcome.returned (some (Value.long v)) = .returned (some (.long f.1))) ∧ P f.2 := by subst h; exact ⟨rfl, k⟩

theorem row_le {n : Int32} (h : n ≤ 24) (k : 0 ≤ n) : ix n ≤ 24 := by
  obtain ⟨j, hj, e⟩ := nI_of (Int32.not_lt.mpr k)
  subst e
  rw [ixn hj]
  have : (24 : Int32) = nI 24 := rfl
  rw [this] at h
  exact (nI_leI hj (by decide)).mp h
theorem row_eq {n : Int32} (k : 0 ≤ n) : n = nI (ix n) := by
  obtain ⟨j, hj, e⟩ := nI_of (Int32.not_lt.mpr k)
  subst e
  rw [ixn hj]
theorem dX2_size_0 : decode cX2_size 0 = .ok (.iload_n 1, 1) := by decide +kernel
theorem dX2_size_1 : decode cX2_size 1 = .ok (.bipush 24, 2) := by decide +kernel
theorem dX2_size_3 : decode cX2_size 3 = .ok (.if_icmp .le 6, 3) := by decide +kernel
theorem dX2_size_6 : decode cX2_size 6 = .ok (.bipush (-2), 2) := by decide +kernel
theorem dX2_size_8 : decode cX2_size 8 = .ok (.ireturn, 1) := by decide +kernel
theorem dX2_size_9 : decode cX2_size 9 = .ok (.iload_n 1, 1) := by decide +kernel
theorem dX2_size_10 : decode cX2_size 10 = .ok (.ifCond .ge 9, 3) := by decide +kernel
theorem dX2_size_13 : decode cX2_size 13 = .ok (.aload_n 0, 1) := by decide +kernel
theorem dX2_size_14 : decode cX2_size 14 = .ok (.iconst 1, 1) := by decide +kernel
theorem dX2_size_15 : decode cX2_size 15 = .ok (.invokevirtual 62, 3) := by decide +kernel
theorem dX2_size_18 : decode cX2_size 18 = .ok (.ireturn, 1) := by decide +kernel
theorem dX2_size_19 : decode cX2_size 19 = .ok (.aload_n 0, 1) := by decide +kernel
theorem dX2_size_20 : decode cX2_size 20 = .ok (.getfield 66, 3) := by decide +kernel
theorem dX2_size_23 : decode cX2_size 23 = .ok (.istore_n 2, 1) := by decide +kernel
theorem dX2_size_24 : decode cX2_size 24 = .ok (.aload_n 0, 1) := by decide +kernel
theorem dX2_size_25 : decode cX2_size 25 = .ok (.iload_n 1, 1) := by decide +kernel
theorem dX2_size_26 : decode cX2_size 26 = .ok (.putfield 66, 3) := by decide +kernel
theorem dX2_size_29 : decode cX2_size 29 = .ok (.iconst 0, 1) := by decide +kernel
theorem dX2_size_30 : decode cX2_size 30 = .ok (.istore_n 3, 1) := by decide +kernel
theorem dX2_size_31 : decode cX2_size 31 = .ok (.iload_n 3, 1) := by decide +kernel
theorem dX2_size_32 : decode cX2_size 32 = .ok (.bipush 24, 2) := by decide +kernel
theorem dX2_size_34 : decode cX2_size 34 = .ok (.if_icmp .ge 16, 3) := by decide +kernel
theorem dX2_size_37 : decode cX2_size 37 = .ok (.aload_n 0, 1) := by decide +kernel
theorem dX2_size_38 : decode cX2_size 38 = .ok (.getfield 20, 3) := by decide +kernel
theorem dX2_size_41 : decode cX2_size 41 = .ok (.iload_n 3, 1) := by decide +kernel
theorem dX2_size_42 : decode cX2_size 42 = .ok (.iconst (-1), 1) := by decide +kernel
theorem dX2_size_43 : decode cX2_size 43 = .ok (.iastore, 1) := by decide +kernel
theorem dX2_size_44 : decode cX2_size 44 = .ok (.iinc 3 1, 3) := by decide +kernel
theorem dX2_size_47 : decode cX2_size 47 = .ok (.goto (-16), 3) := by decide +kernel
theorem dX2_size_50 : decode cX2_size 50 = .ok (.iload_n 2, 1) := by decide +kernel
theorem dX2_size_51 : decode cX2_size 51 = .ok (.ireturn, 1) := by decide +kernel
set_option maxHeartbeats 800000 in
theorem met_X2_size (l : Launch) (G : GG) {H : Heap} {o : Nat} {A : Nat → Nat} {σ : Sg} {th : Int32} {n : Int32} (hM : MW G H o A σ th) (hO : Ok σ) (hS : MS o A) : GM l yX2_size cX2_size 4 (some .int) 1 0 0 21 G H [.ref o, .int n] (fun oc H' => oc = .returned (some (.int (m_size σ th n).1)) ∧ MP G H o A (m_size σ th n).2.1 (m_size σ th n).2.2 H') (fun z => ownM o A z) := by
  refine gm_intro pl_X2_size (Nat.le_of_ble_eq_true rfl) ?_
  intro pX eX sX mX belX methX cX ls hE hnm hl
  obtain ⟨hx, hb, hr, hlk, hml, hown, hts, hK, hZ, hH⟩ := hE
  have hl : lv_has ls 4 [(0, .ref o), (1, .int n)] := hl
  have hL : ∀ q ∈ ([] : List Loc), (fun z => ownM o A z : Addr → Prop) q.base := fun q h => by cases h
  refine lv_iload_n hx hb dX2_size_0 rfl (lv_at hl 1 rfl) ?_
  refine lv_bipush (v := 24) hx hb dX2_size_1 ib_24 ?_
  refine lv_icmp_le (tgt := 9) hx hb dX2_size_3 rfl (fun c_3 => ?_) (fun c_3 => ?_)
  · skip
    refine lv_iload_n hx hb dX2_size_9 rfl (lv_at hl 1 rfl) ?_
    refine lv_if_ge (tgt := 19) hx hb dX2_size_10 rfl (fun c_10 => ?_) (fun c_10 => ?_)
    · skip
      refine lv_aload_n hx hb dX2_size_19 rfl (lv_at hl 0 rfl) ?_
      refine gf_X2_66 hx hb hts hown hK hM.1 rfl dX2_size_20 ?_
      refine lv_istore_n (lv' := [(2, .int _), (0, .ref _), (1, .int _)]) hx hb dX2_size_23 rfl hl (Nat.le_of_ble_eq_true rfl) rfl (fun ls hl => ?_)
      refine lv_aload_n hx hb dX2_size_24 rfl (lv_at hl 1 rfl) ?_
      refine lv_iload_n hx hb dX2_size_25 rfl (lv_at hl 2 rfl) ?_
      refine pf_X2_66 (F := fun z => ownM o A z) hx hb hts hown hK hM.1 rfl rfl (Nat.le_of_ble_eq_true rfl) dX2_size_26 hL (Or.inl rfl) (fun H1_ locs h1_ ho1_ hL => ?_)
      have h2_ := at_only hM.2.1 ho1_ (Ne.symm (hS.1 0 (by decide)))
      have h3_ := at_only hM.2.2.1 ho1_ (Ne.symm (hS.1 1 (by decide)))
      have h4_ := at_only hM.2.2.2.1 ho1_ (Ne.symm (hS.1 2 (by decide)))
      have h5_ := at_only hM.2.2.2.2.1 ho1_ (Ne.symm (hS.1 3 (by decide)))
      have h6_ := at_only hM.2.2.2.2.2.1 ho1_ (Ne.symm (hS.1 4 (by decide)))
      have h7_ := at_only hM.2.2.2.2.2.2 ho1_ (Ne.symm (hS.1 5 (by decide)))
      refine lv_iconst (v := 0) hx hb dX2_size_29 ic_0 ?_
      refine lv_istore_n (lv' := [(3, .int _), (2, .int _), (0, .ref _), (1, .int _)]) hx hb dX2_size_30 rfl hl (Nat.le_of_ble_eq_true rfl) rfl (fun ls hl => ?_)
      have hn0_ : ix n ≤ 24 := row_le c_3 c_10
      have en_ : n = nI (ix n) := row_eq c_10
      have hz_ : Iz G H o A (t_row σ (ix n)) th (fun i => rI (σ.rw i)) 0 _ := ⟨by rw [en_] at h1_; exact h1_, h2_, h3_, h4_, h5_, h6_, h7_, KM.of ho1_ (Or.inl rfl)⟩
      refine loopG (N := 24) (nL := 4) (F := fun z => ownM o A z) (lv := fun k => [(0, .ref o), (2, .int (nI σ.rn)), (3, .int (nI k))]) (I := Iz G H o A (t_row σ (ix n)) th (fun i => rI (σ.rw i))) (fun k hk_k ih_k HI_ locs ls hI hL hl => ?_) 0 (Nat.zero_le _) _ _ ls hz_ hL (lv_sub hl [2, 1, 0] rfl)
      replace hl : lv_has ls 4 [(0, .ref o), (2, .int (nI σ.rn)), (3, .int (nI k))] := hl
      refine lv_iload_n hx hb dX2_size_31 rfl (lv_at hl 2 rfl) ?_
      refine lv_bipush (v := 24) hx hb dX2_size_32 ib_24 ?_
      refine lv_icmp_ge (tgt := 50) hx hb dX2_size_34 rfl (fun c_ => ?_) (fun c_ => ?_)
      · have e_k := lp_out (N := 24) hk_k (by decide) c_
        subst e_k
        refine lv_iload_n hx hb dX2_size_50 rfl (lv_at hl 1 rfl) ?_
        exact g_iret (F := fun z => ownM o A z) (Post := fun oc H' => oc = .returned (some (.int (m_size σ th n).1)) ∧ MP G H o A (m_size σ th n).2.1 (m_size σ th n).2.2 H') hx hb hr hlk hL dX2_size_51 (pr_post (t := (t_row σ (ix n), th)) (P := fun τ => MP G H o A τ.1 τ.2 _) (by first | with_reducible rfl | (simp only [m_size, c_3, Int32.not_lt.mpr c_3, c_10, Int32.not_lt.mpr c_10, ↓reduceIte, Bool.true_and, Bool.and_true, Bool.false_and, Bool.and_false, Bool.true_or, Bool.or_true, Bool.false_or, Bool.or_false, Bool.not_true, Bool.not_false, decide_true, decide_false, bI_t, bI_f, Bool.false_eq_true, not_true_eq_false, not_false_eq_true, eq_self, reduceCtorEq, Bool.true_eq_false, and_true, true_and, and_false, false_and, or_true, true_or, or_false, false_or]; done) | (simp only [c_3, Int32.not_lt.mpr c_3, ↓reduceIte, Bool.true_and, Bool.and_true, Bool.false_and, Bool.and_false, Bool.true_or, Bool.or_true, Bool.false_or, Bool.or_false, Bool.not_true, Bool.not_false, decide_true, decide_false, bI_t, bI_f, Bool.false_eq_true, not_true_eq_false, not_false_eq_true, eq_self, reduceCtorEq, Bool.true_eq_false, and_true, true_and, and_false, false_and, or_true, true_or, or_false, false_or] at c_10; done) | (simp only [c_10, Int32.not_lt.mpr c_10, ↓reduceIte, Bool.true_and, Bool.and_true, Bool.false_and, Bool.and_false, Bool.true_or, Bool.or_true, Bool.false_or, Bool.or_false, Bool.not_true, Bool.not_false, decide_true, decide_false, bI_t, bI_f, Bool.false_eq_true, not_true_eq_false, not_false_eq_true, eq_self, reduceCtorEq, Bool.true_eq_false, and_true, true_and, and_false, false_and, or_true, true_or, or_false, false_or] at c_3; done)) (hI.done (fun _ => rfl)))
      · have h_k := lp_in (N := 24) hk_k (by decide) c_
        refine lv_aload_n hx hb dX2_size_37 rfl (lv_at hl 0 rfl) ?_
        refine gf_X2_20 hx hb hts hown hK hI.1 rfl dX2_size_38 ?_
        refine lv_iload_n hx hb dX2_size_41 rfl (lv_at hl 2 rfl) ?_
        refine lv_iconst (v := -1) hx hb dX2_size_42 ic_m1 ?_
        refine w_iast (F := fun z => ownM o A z) hx hb hK hI.2.2.2.1 dX2_size_43 (k := k) h_k (by decide) rfl hL (Or.inr ⟨2, by decide, rfl⟩) (fun H2_ locs hf_ ho_ hL => ?_)
        refine lv_iinc (v := nI (k + 1)) (k := 2) (lv' := [(3, .int _), (0, .ref _), (2, .int _)]) hx hb dX2_size_44 hl rfl (nI_1 _) (Nat.le_of_ble_eq_true rfl) rfl (fun ls hl => ?_)
        refine lv_goto (tgt := 31) hx hb dX2_size_47 rfl ?_
        exact ih_k _ _ ls (hI.step hS hf_ ho_) hL (lv_sub hl [1, 2, 0] rfl) h_k
    refine lv_aload_n hx hb dX2_size_13 rfl (lv_at hl 0 rfl) ?_
    refine lv_iconst (v := 1) hx hb dX2_size_14 ic_1 ?_
    refine g_callV (F := fun z => ownM o A z) (As := [.int _]) hx hb hml hown hts hK (met_X2_fail l G hM.1) q720 q722 qs12 q43 q723 hv_X2_fail rfl hM.1 rfl (by decide) hl.1 rfl (Nat.le_of_ble_eq_true rfl) dX2_size_15 ⟨Nat.le_of_ble_eq_true rfl, Nat.le_of_ble_eq_true rfl⟩ (fun _ h => Or.inl h) hL (fun v1_ H1_ locs hP1_ hL => ?_)
    obtain ⟨hv1_, hat_, hon_⟩ := hP1_
    cases hv1_
    exact g_iret (F := fun z => ownM o A z) (Post := fun oc H' => oc = .returned (some (.int (m_size σ th n).1)) ∧ MP G H o A (m_size σ th n).2.1 (m_size σ th n).2.2 H') hx hb hr hlk hL dX2_size_18 (pr_post (t := (σ, 1)) (P := fun τ => MP G H o A τ.1 τ.2 _) (by first | with_reducible rfl | (simp only [m_size, c_3, Int32.not_lt.mpr c_3, c_10, Int32.not_le.mp c_10, ↓reduceIte, Bool.true_and, Bool.and_true, Bool.false_and, Bool.and_false, Bool.true_or, Bool.or_true, Bool.false_or, Bool.or_false, Bool.not_true, Bool.not_false, decide_true, decide_false, bI_t, bI_f, Bool.false_eq_true, not_true_eq_false, not_false_eq_true, eq_self, reduceCtorEq, Bool.true_eq_false, and_true, true_and, and_false, false_and, or_true, true_or, or_false, false_or]; done) | (simp only [c_3, Int32.not_lt.mpr c_3, ↓reduceIte, Bool.true_and, Bool.and_true, Bool.false_and, Bool.and_false, Bool.true_or, Bool.or_true, Bool.false_or, Bool.or_false, Bool.not_true, Bool.not_false, decide_true, decide_false, bI_t, bI_f, Bool.false_eq_true, not_true_eq_false, not_false_eq_true, eq_self, reduceCtorEq, Bool.true_eq_false, and_true, true_and, and_false, false_and, or_true, true_or, or_false, false_or] at c_10; done) | (simp only [c_10, Int32.not_le.mp c_10, ↓reduceIte, Bool.true_and, Bool.and_true, Bool.false_and, Bool.and_false, Bool.true_or, Bool.or_true, Bool.false_or, Bool.or_false, Bool.not_true, Bool.not_false, decide_true, decide_false, bI_t, bI_f, Bool.false_eq_true, not_true_eq_false, not_false_eq_true, eq_self, reduceCtorEq, Bool.true_eq_false, and_true, true_and, and_false, false_and, or_true, true_or, or_false, false_or] at c_3; done)) (MP.o (σ' := σ) hM hS rfl rfl rfl hat_ hon_))
  refine lv_bipush (v := -2) hx hb dX2_size_6 ib_m2 ?_
  exact g_iret (F := fun z => ownM o A z) (Post := fun oc H' => oc = .returned (some (.int (m_size σ th n).1)) ∧ MP G H o A (m_size σ th n).2.1 (m_size σ th n).2.2 H') hx hb hr hlk hL dX2_size_8 (pr_post (t := (σ, th)) (P := fun τ => MP G H o A τ.1 τ.2 _) (by first | with_reducible rfl | (simp only [m_size, c_3, Int32.not_le.mp c_3, ↓reduceIte, Bool.true_and, Bool.and_true, Bool.false_and, Bool.and_false, Bool.true_or, Bool.or_true, Bool.false_or, Bool.or_false, Bool.not_true, Bool.not_false, decide_true, decide_false, bI_t, bI_f, Bool.false_eq_true, not_true_eq_false, not_false_eq_true, eq_self, reduceCtorEq, Bool.true_eq_false, and_true, true_and, and_false, false_and, or_true, true_or, or_false, false_or]; done)) (MP.rf hM))
theorem dX2_area_0 : decode cX2_area 0 = .ok (.aload_n 0, 1) := by decide +kernel
theorem dX2_area_1 : decode cX2_area 1 = .ok (.iload_n 1, 1) := by decide +kernel
theorem dX2_area_2 : decode cX2_area 2 = .ok (.iconst 1, 1) := by decide +kernel
theorem dX2_area_3 : decode cX2_area 3 = .ok (.invokevirtual 139, 3) := by decide +kernel
theorem dX2_area_6 : decode cX2_area 6 = .ok (.ifCond .eq 11, 3) := by decide +kernel
theorem dX2_area_9 : decode cX2_area 9 = .ok (.aload_n 0, 1) := by decide +kernel
theorem dX2_area_10 : decode cX2_area 10 = .ok (.iload_n 1, 1) := by decide +kernel
theorem dX2_area_11 : decode cX2_area 11 = .ok (.invokevirtual 142, 3) := by decide +kernel
theorem dX2_area_14 : decode cX2_area 14 = .ok (.ifCond .ne 5, 3) := by decide +kernel
theorem dX2_area_17 : decode cX2_area 17 = .ok (.lconst 0, 1) := by decide +kernel
theorem dX2_area_18 : decode cX2_area 18 = .ok (.lreturn, 1) := by decide +kernel
theorem dX2_area_19 : decode cX2_area 19 = .ok (.lload_n 2, 1) := by decide +kernel
theorem dX2_area_20 : decode cX2_area 20 = .ok (.lconst 0, 1) := by decide +kernel
theorem dX2_area_21 : decode cX2_area 21 = .ok (.lcmp, 1) := by decide +kernel
theorem dX2_area_22 : decode cX2_area 22 = .ok (.ifCond .ne 10, 3) := by decide +kernel
theorem dX2_area_25 : decode cX2_area 25 = .ok (.aload_n 0, 1) := by decide +kernel
theorem dX2_area_26 : decode cX2_area 26 = .ok (.iconst 1, 1) := by decide +kernel
theorem dX2_area_27 : decode cX2_area 27 = .ok (.invokevirtual 62, 3) := by decide +kernel
theorem dX2_area_30 : decode cX2_area 30 = .ok (.i2l, 1) := by decide +kernel
theorem dX2_area_31 : decode cX2_area 31 = .ok (.lreturn, 1) := by decide +kernel
theorem dX2_area_32 : decode cX2_area 32 = .ok (.lconst 0, 1) := by decide +kernel
theorem dX2_area_33 : decode cX2_area 33 = .ok (.lstore 4, 2) := by decide +kernel
theorem dX2_area_35 : decode cX2_area 35 = .ok (.iconst 0, 1) := by decide +kernel
theorem dX2_area_36 : decode cX2_area 36 = .ok (.istore 6, 2) := by decide +kernel
theorem dX2_area_38 : decode cX2_area 38 = .ok (.iload 6, 2) := by decide +kernel
theorem dX2_area_40 : decode cX2_area 40 = .ok (.iload_n 1, 1) := by decide +kernel
theorem dX2_area_41 : decode cX2_area 41 = .ok (.if_icmp .ge 67, 3) := by decide +kernel
theorem dX2_area_44 : decode cX2_area 44 = .ok (.aload_n 0, 1) := by decide +kernel
theorem dX2_area_45 : decode cX2_area 45 = .ok (.getfield 20, 3) := by decide +kernel
theorem dX2_area_48 : decode cX2_area 48 = .ok (.iload 6, 2) := by decide +kernel
theorem dX2_area_50 : decode cX2_area 50 = .ok (.iaload, 1) := by decide +kernel
theorem dX2_area_51 : decode cX2_area 51 = .ok (.istore 7, 2) := by decide +kernel
theorem dX2_area_53 : decode cX2_area 53 = .ok (.aload_n 0, 1) := by decide +kernel
theorem dX2_area_54 : decode cX2_area 54 = .ok (.iload 6, 2) := by decide +kernel
theorem dX2_area_56 : decode cX2_area 56 = .ok (.iload_n 1, 1) := by decide +kernel
theorem dX2_area_57 : decode cX2_area 57 = .ok (.invokevirtual 145, 3) := by decide +kernel
theorem dX2_area_60 : decode cX2_area 60 = .ok (.istore 8, 2) := by decide +kernel
theorem dX2_area_62 : decode cX2_area 62 = .ok (.lload 4, 2) := by decide +kernel
theorem dX2_area_64 : decode cX2_area 64 = .ok (.aload_n 0, 1) := by decide +kernel
theorem dX2_area_65 : decode cX2_area 65 = .ok (.getfield 13, 3) := by decide +kernel
theorem dX2_area_68 : decode cX2_area 68 = .ok (.iload 7, 2) := by decide +kernel
theorem dX2_area_70 : decode cX2_area 70 = .ok (.iaload, 1) := by decide +kernel
theorem dX2_area_71 : decode cX2_area 71 = .ok (.i2l, 1) := by decide +kernel
theorem dX2_area_72 : decode cX2_area 72 = .ok (.aload_n 0, 1) := by decide +kernel
theorem dX2_area_73 : decode cX2_area 73 = .ok (.getfield 17, 3) := by decide +kernel
theorem dX2_area_76 : decode cX2_area 76 = .ok (.iload 8, 2) := by decide +kernel
theorem dX2_area_78 : decode cX2_area 78 = .ok (.iaload, 1) := by decide +kernel
theorem dX2_area_79 : decode cX2_area 79 = .ok (.i2l, 1) := by decide +kernel
theorem dX2_area_80 : decode cX2_area 80 = .ok (.lmul, 1) := by decide +kernel
theorem dX2_area_81 : decode cX2_area 81 = .ok (.aload_n 0, 1) := by decide +kernel
theorem dX2_area_82 : decode cX2_area 82 = .ok (.getfield 13, 3) := by decide +kernel
theorem dX2_area_85 : decode cX2_area 85 = .ok (.iload 8, 2) := by decide +kernel
theorem dX2_area_87 : decode cX2_area 87 = .ok (.iaload, 1) := by decide +kernel
theorem dX2_area_88 : decode cX2_area 88 = .ok (.i2l, 1) := by decide +kernel
theorem dX2_area_89 : decode cX2_area 89 = .ok (.aload_n 0, 1) := by decide +kernel
theorem dX2_area_90 : decode cX2_area 90 = .ok (.getfield 17, 3) := by decide +kernel
theorem dX2_area_93 : decode cX2_area 93 = .ok (.iload 7, 2) := by decide +kernel
theorem dX2_area_95 : decode cX2_area 95 = .ok (.iaload, 1) := by decide +kernel
theorem dX2_area_96 : decode cX2_area 96 = .ok (.i2l, 1) := by decide +kernel
theorem dX2_area_97 : decode cX2_area 97 = .ok (.lmul, 1) := by decide +kernel
theorem dX2_area_98 : decode cX2_area 98 = .ok (.lsub, 1) := by decide +kernel
theorem dX2_area_99 : decode cX2_area 99 = .ok (.ladd, 1) := by decide +kernel
theorem dX2_area_100 : decode cX2_area 100 = .ok (.lstore 4, 2) := by decide +kernel
theorem dX2_area_102 : decode cX2_area 102 = .ok (.iinc 6 1, 3) := by decide +kernel
theorem dX2_area_105 : decode cX2_area 105 = .ok (.goto (-67), 3) := by decide +kernel
theorem dX2_area_108 : decode cX2_area 108 = .ok (.lload 4, 2) := by decide +kernel
theorem dX2_area_110 : decode cX2_area 110 = .ok (.lload_n 2, 1) := by decide +kernel
theorem dX2_area_111 : decode cX2_area 111 = .ok (.ldiv, 1) := by decide +kernel
theorem dX2_area_112 : decode cX2_area 112 = .ok (.lreturn, 1) := by decide +kernel
set_option maxHeartbeats 800000 in
theorem met_X2_area (l : Launch) (G : GG) {H : Heap} {o : Nat} {A : Nat → Nat} {σ : Sg} {th : Int32} {n : Int32} {b : Int64} (hM : MW G H o A σ th) (hO : Ok σ) (hS : MS o A) : GM l yX2_area cX2_area 9 (some .long) 1 0 0 23 G H [.ref o, .int n, .long b] (fun oc H' => oc = .returned (some (.long (m_area σ th n b).1)) ∧ MP G H o A (m_area σ th n b).2.1 (m_area σ th n b).2.2 H') (fun z => ownM o A z) := by
  refine gm_intro pl_X2_area (Nat.le_of_ble_eq_true rfl) ?_
  intro pX eX sX mX belX methX cX ls hE hnm hl
  obtain ⟨hx, hb, hr, hlk, hml, hown, hts, hK, hZ, hH⟩ := hE
  have hl : lv_has ls 9 [(0, .ref o), (1, .int n), (2, .long b)] := hl
  have hL : ∀ q ∈ ([] : List Loc), (fun z => ownM o A z : Addr → Prop) q.base := fun q h => by cases h
  refine lv_aload_n hx hb dX2_area_0 rfl (lv_at hl 0 rfl) ?_
  refine lv_iload_n hx hb dX2_area_1 rfl (lv_at hl 1 rfl) ?_
  refine lv_iconst (v := 1) hx hb dX2_area_2 ic_1 ?_
  refine p_callV (As := [.int _, .int _]) hx hb hml hown hts hK trivial (met_X2_isMany l G hM) q840 q842 qs28 q43 q843 hv_X2_isMany rfl hM.1 rfl (by decide) hl.1 rfl (Nat.le_of_ble_eq_true rfl) dX2_area_3 ⟨Nat.le_of_ble_eq_true rfl, Nat.le_of_ble_eq_true rfl⟩ ?_
  refine b_ifeq (tgt := 17) hx hb dX2_area_6 rfl (fun c_6 => ?_) (fun c_6 => ?_)
  · skip
    refine lv_lconst (v := 0) hx hb dX2_area_17 rfl ?_
    exact g_lret (F := fun z => ownM o A z) (Post := fun oc H' => oc = .returned (some (.long (m_area σ th n b).1)) ∧ MP G H o A (m_area σ th n b).2.1 (m_area σ th n b).2.2 H') hx hb hr hlk hL dX2_area_18 (pr_postL (t := (σ, th)) (P := fun τ => MP G H o A τ.1 τ.2 _) (by first | with_reducible rfl | (simp only [m_area, c_6, i64_z, ↓reduceIte, Bool.true_and, Bool.and_true, Bool.false_and, Bool.and_false, Bool.true_or, Bool.or_true, Bool.false_or, Bool.or_false, Bool.not_true, Bool.not_false, decide_true, decide_false, bI_t, bI_f, Bool.false_eq_true, not_true_eq_false, not_false_eq_true, eq_self, reduceCtorEq, Bool.true_eq_false, and_true, true_and, and_false, false_and, or_true, true_or, or_false, false_or]; done)) (MP.rf hM))
  obtain ⟨N, hN, rfl, hge⟩ := many_elim (by decide) hO.rn31 c_6
  have hN31 : N < 2 ^ 31 := Nat.lt_of_le_of_lt hN hO.rn31
  have e1_ : (1 : Int32).toInt = 1 := rfl
  have e3_ : (3 : Int32).toInt = 3 := rfl
  have hpos : 0 < N := by omega
  refine lv_aload_n hx hb dX2_area_9 rfl (lv_at hl 0 rfl) ?_
  refine lv_iload_n hx hb dX2_area_10 rfl (lv_at hl 1 rfl) ?_
  refine p_callV (As := [.int _]) hx hb hml hown hts hK trivial (met_X2_isWhole l G hM hO hN) q844 q846 qs29 q43 q847 hv_X2_isWhole rfl hM.1 rfl (by decide) hl.1 rfl (Nat.le_of_ble_eq_true rfl) dX2_area_11 ⟨Nat.le_of_ble_eq_true rfl, Nat.le_of_ble_eq_true rfl⟩ ?_
  refine b_ifne (tgt := 19) hx hb dX2_area_14 rfl (fun c_14 => ?_) (fun c_14 => ?_)
  · skip
    have hr_ := HR.of hO c_14
    refine lv_lload_n hx hb dX2_area_19 rfl (lv_at hl 2 rfl) ?_
    refine lv_lconst (v := 0) hx hb dX2_area_20 rfl ?_
    refine lc_ne (tgt := 32) hx hb dX2_area_21 dX2_area_22 rfl (fun c_21 => ?_) (fun c_21 => ?_)
    · skip
      refine lv_lconst (v := 0) hx hb dX2_area_32 rfl ?_
      refine lv_lstore (lv' := [(4, .long _), (0, .ref _), (1, .int _), (2, .long _)]) hx hb dX2_area_33 hl (Nat.le_of_ble_eq_true rfl) rfl (fun ls hl => ?_)
      refine lv_iconst (v := 0) hx hb dX2_area_35 ic_0 ?_
      refine lv_istore (lv' := [(6, .int _), (4, .long _), (0, .ref _), (1, .int _), (2, .long _)]) hx hb dX2_area_36 hl (Nat.le_of_ble_eq_true rfl) rfl (fun ls hl => ?_)
      refine loopW (N := N) (nL := 9) (lv := fun i => [(0, .ref o), (1, .int (nI N)), (2, .long b), (4, .long (s_areaS σ N i)), (6, .int (nI i))]) (fun i hk_i ih_i ls hl => ?_) 0 (Nat.zero_le _) ls (lv_sub hl [2, 3, 4, 1, 0] rfl)
      replace hl : lv_has ls 9 [(0, .ref o), (1, .int (nI N)), (2, .long b), (4, .long (s_areaS σ N i)), (6, .int (nI i))] := hl
      refine lv_iload hx hb dX2_area_38 (lv_at hl 4 rfl) ?_
      refine lv_iload_n hx hb dX2_area_40 rfl (lv_at hl 1 rfl) ?_
      refine lv_icmp_ge (tgt := 108) hx hb dX2_area_41 rfl (fun c_41_3 => ?_) (fun c_41_3 => ?_)
      · skip
        have e_i := lp_out hk_i hN31 c_41_3
        subst e_i
        refine lv_lload hx hb dX2_area_108 (lv_at hl 3 rfl) ?_
        refine lv_lload_n hx hb dX2_area_110 rfl (lv_at hl 2 rfl) ?_
        refine lv_ldiv hx hb dX2_area_111 c_21 ?_
        exact g_lret (F := fun z => ownM o A z) (Post := fun oc H' => oc = .returned (some (.long (m_area σ th (nI N) b).1)) ∧ MP G H o A (m_area σ th (nI N) b).2.1 (m_area σ th (nI N) b).2.2 H') hx hb hr hlk hL dX2_area_112 (pr_postL (t := (σ, th)) (P := fun τ => MP G H o A τ.1 τ.2 _) (by first | with_reducible rfl | (simp only [m_area, c_6, ixn hN31, c_14, c_21, i64_z, ↓reduceIte, Bool.true_and, Bool.and_true, Bool.false_and, Bool.and_false, Bool.true_or, Bool.or_true, Bool.false_or, Bool.or_false, Bool.not_true, Bool.not_false, decide_true, decide_false, bI_t, bI_f, Bool.false_eq_true, not_true_eq_false, not_false_eq_true, eq_self, reduceCtorEq, Bool.true_eq_false, and_true, true_and, and_false, false_and, or_true, true_or, or_false, false_or]; done) | (simp only [c_6, ixn hN31, c_14, ↓reduceIte, Bool.true_and, Bool.and_true, Bool.false_and, Bool.and_false, Bool.true_or, Bool.or_true, Bool.false_or, Bool.or_false, Bool.not_true, Bool.not_false, decide_true, decide_false, bI_t, bI_f, Bool.false_eq_true, not_true_eq_false, not_false_eq_true, eq_self, reduceCtorEq, Bool.true_eq_false, and_true, true_and, and_false, false_and, or_true, true_or, or_false, false_or] at c_21; done) | (simp only [c_6, ixn hN31, c_21, ↓reduceIte, Bool.true_and, Bool.and_true, Bool.false_and, Bool.and_false, Bool.true_or, Bool.or_true, Bool.false_or, Bool.or_false, Bool.not_true, Bool.not_false, decide_true, decide_false, bI_t, bI_f, Bool.false_eq_true, not_true_eq_false, not_false_eq_true, eq_self, reduceCtorEq, Bool.true_eq_false, and_true, true_and, and_false, false_and, or_true, true_or, or_false, false_or] at c_14; done) | (simp only [ixn hN31, c_14, c_21, ↓reduceIte, Bool.true_and, Bool.and_true, Bool.false_and, Bool.and_false, Bool.true_or, Bool.or_true, Bool.false_or, Bool.or_false, Bool.not_true, Bool.not_false, decide_true, decide_false, bI_t, bI_f, Bool.false_eq_true, not_true_eq_false, not_false_eq_true, eq_self, reduceCtorEq, Bool.true_eq_false, and_true, true_and, and_false, false_and, or_true, true_or, or_false, false_or] at c_6; done)) (MP.rf hM))
      have h_i := lp_in hk_i hN31 c_41_3
      refine lv_aload_n hx hb dX2_area_44 rfl (lv_at hl 0 rfl) ?_
      refine gf_X2_20 hx hb hts hown hK hM.1 rfl dX2_area_45 ?_
      refine lv_iload hx hb dX2_area_48 (lv_at hl 4 rfl) ?_
      refine r_iald hx hb hK hM.2.2.2.1 dX2_area_50 (k := i) (hO.lt24 (Nat.lt_of_lt_of_le h_i hN)) (by decide) rfl (rI_some (hr_ _ h_i).1) ?_
      refine lv_istore (lv' := [(7, .int _), (0, .ref _), (1, .int _), (2, .long _), (4, .long _), (6, .int _)]) hx hb dX2_area_51 hl (Nat.le_of_ble_eq_true rfl) rfl (fun ls hl => ?_)
      refine lv_aload_n hx hb dX2_area_53 rfl (lv_at hl 1 rfl) ?_
      refine lv_iload hx hb dX2_area_54 (lv_at hl 5 rfl) ?_
      refine lv_iload_n hx hb dX2_area_56 rfl (lv_at hl 2 rfl) ?_
      refine p_callV (As := [.int _, .int _]) hx hb hml hown hts hK trivial (met_X2_next l G hM hO hN hr_ h_i) q848 q850 qs30 q43 q851 hv_X2_next rfl hM.1 rfl (by decide) hl.1 rfl (Nat.le_of_ble_eq_true rfl) dX2_area_57 ⟨Nat.le_of_ble_eq_true rfl, Nat.le_of_ble_eq_true rfl⟩ ?_
      refine lv_istore (lv' := [(8, .int _), (7, .int _), (0, .ref _), (1, .int _), (2, .long _), (4, .long _), (6, .int _)]) hx hb dX2_area_60 hl (Nat.le_of_ble_eq_true rfl) rfl (fun ls hl => ?_)
      refine lv_lload hx hb dX2_area_62 (lv_at hl 5 rfl) ?_
      refine lv_aload_n hx hb dX2_area_64 rfl (lv_at hl 2 rfl) ?_
      refine gf_X2_13 hx hb hts hown hK hM.1 rfl dX2_area_65 ?_
      refine lv_iload hx hb dX2_area_68 (lv_at hl 1 rfl) ?_
      refine r_iald hx hb hK hM.2.1 dX2_area_70 (k := (σ.ri i)) (hO.lt60 (hr_ _ h_i).2) (by decide) rfl rfl ?_
      refine lv_i2l hx hb dX2_area_71 rfl ?_
      refine lv_aload_n hx hb dX2_area_72 rfl (lv_at hl 2 rfl) ?_
      refine gf_X2_17 hx hb hts hown hK hM.1 rfl dX2_area_73 ?_
      refine lv_iload hx hb dX2_area_76 (lv_at hl 0 rfl) ?_
      refine r_iald hx hb hK hM.2.2.1 dX2_area_78 (k := (σ.ri (nx i N))) (hO.lt60 (hr_ _ (nx_lt h_i)).2) (by decide) rfl rfl ?_
      refine lv_i2l hx hb dX2_area_79 rfl ?_
      refine lv_lmul hx hb dX2_area_80 ?_
      refine lv_aload_n hx hb dX2_area_81 rfl (lv_at hl 2 rfl) ?_
      refine gf_X2_13 hx hb hts hown hK hM.1 rfl dX2_area_82 ?_
      refine lv_iload hx hb dX2_area_85 (lv_at hl 0 rfl) ?_
      refine r_iald hx hb hK hM.2.1 dX2_area_87 (k := (σ.ri (nx i N))) (hO.lt60 (hr_ _ (nx_lt h_i)).2) (by decide) rfl rfl ?_
      refine lv_i2l hx hb dX2_area_88 rfl ?_
      refine lv_aload_n hx hb dX2_area_89 rfl (lv_at hl 2 rfl) ?_
      refine gf_X2_17 hx hb hts hown hK hM.1 rfl dX2_area_90 ?_
      refine lv_iload hx hb dX2_area_93 (lv_at hl 1 rfl) ?_
      refine r_iald hx hb hK hM.2.2.1 dX2_area_95 (k := (σ.ri i)) (hO.lt60 (hr_ _ h_i).2) (by decide) rfl rfl ?_
      refine lv_i2l hx hb dX2_area_96 rfl ?_
      refine lv_lmul hx hb dX2_area_97 ?_
      refine lv_lsub hx hb dX2_area_98 ?_
      refine topv_eq (congrArg Value.long (br_comm _ _ _ _)) ?_
      refine lv_ladd hx hb dX2_area_99 ?_
      refine lv_lstore (lv' := [(4, .long _), (8, .int _), (7, .int _), (0, .ref _), (1, .int _), (2, .long _), (6, .int _)]) hx hb dX2_area_100 hl (Nat.le_of_ble_eq_true rfl) rfl (fun ls hl => ?_)
      refine lv_iinc (v := nI (i + 1)) (k := 6) (lv' := [(6, .int _), (4, .long _), (8, .int _), (7, .int _), (0, .ref _), (1, .int _), (2, .long _)]) hx hb dX2_area_102 hl rfl (nI_1 _) (Nat.le_of_ble_eq_true rfl) rfl (fun ls hl => ?_)
      refine lv_goto (tgt := 38) hx hb dX2_area_105 rfl ?_
      exact ih_i ls (lv_sub hl [4, 5, 6, 1, 0] rfl) h_i
    refine lv_aload_n hx hb dX2_area_25 rfl (lv_at hl 0 rfl) ?_
    refine lv_iconst (v := 1) hx hb dX2_area_26 ic_1 ?_
    refine g_callV (F := fun z => ownM o A z) (As := [.int _]) hx hb hml hown hts hK (met_X2_fail l G hM.1) q720 q722 qs12 q43 q723 hv_X2_fail rfl hM.1 rfl (by decide) hl.1 rfl (Nat.le_of_ble_eq_true rfl) dX2_area_27 ⟨Nat.le_of_ble_eq_true rfl, Nat.le_of_ble_eq_true rfl⟩ (fun _ h => Or.inl h) hL (fun v1_ H1_ locs hP1_ hL => ?_)
    obtain ⟨hv1_, hat_, hon_⟩ := hP1_
    cases hv1_
    refine lv_i2l hx hb dX2_area_30 rfl ?_
    exact g_lret (F := fun z => ownM o A z) (Post := fun oc H' => oc = .returned (some (.long (m_area σ th (nI N) b).1)) ∧ MP G H o A (m_area σ th (nI N) b).2.1 (m_area σ th (nI N) b).2.2 H') hx hb hr hlk hL dX2_area_31 (pr_postL (t := (σ, 1)) (P := fun τ => MP G H o A τ.1 τ.2 _) (by first | with_reducible rfl | (simp only [m_area, c_6, ixn hN31, c_14, eq_true c_21, i64_z, ↓reduceIte, Bool.true_and, Bool.and_true, Bool.false_and, Bool.and_false, Bool.true_or, Bool.or_true, Bool.false_or, Bool.or_false, Bool.not_true, Bool.not_false, decide_true, decide_false, bI_t, bI_f, Bool.false_eq_true, not_true_eq_false, not_false_eq_true, eq_self, reduceCtorEq, Bool.true_eq_false, and_true, true_and, and_false, false_and, or_true, true_or, or_false, false_or]; done) | (simp only [c_6, ixn hN31, c_14, ↓reduceIte, Bool.true_and, Bool.and_true, Bool.false_and, Bool.and_false, Bool.true_or, Bool.or_true, Bool.false_or, Bool.or_false, Bool.not_true, Bool.not_false, decide_true, decide_false, bI_t, bI_f, Bool.false_eq_true, not_true_eq_false, not_false_eq_true, eq_self, reduceCtorEq, Bool.true_eq_false, and_true, true_and, and_false, false_and, or_true, true_or, or_false, false_or] at c_21; done) | (simp only [c_6, ixn hN31, eq_true c_21, ↓reduceIte, Bool.true_and, Bool.and_true, Bool.false_and, Bool.and_false, Bool.true_or, Bool.or_true, Bool.false_or, Bool.or_false, Bool.not_true, Bool.not_false, decide_true, decide_false, bI_t, bI_f, Bool.false_eq_true, not_true_eq_false, not_false_eq_true, eq_self, reduceCtorEq, Bool.true_eq_false, and_true, true_and, and_false, false_and, or_true, true_or, or_false, false_or] at c_14; done) | (simp only [ixn hN31, c_14, eq_true c_21, ↓reduceIte, Bool.true_and, Bool.and_true, Bool.false_and, Bool.and_false, Bool.true_or, Bool.or_true, Bool.false_or, Bool.or_false, Bool.not_true, Bool.not_false, decide_true, decide_false, bI_t, bI_f, Bool.false_eq_true, not_true_eq_false, not_false_eq_true, eq_self, reduceCtorEq, Bool.true_eq_false, and_true, true_and, and_false, false_and, or_true, true_or, or_false, false_or] at c_6; done)) (MP.o (σ' := σ) hM hS rfl rfl rfl hat_ hon_))
  refine lv_lconst (v := 0) hx hb dX2_area_17 rfl ?_
  exact g_lret (F := fun z => ownM o A z) (Post := fun oc H' => oc = .returned (some (.long (m_area σ th (nI N) b).1)) ∧ MP G H o A (m_area σ th (nI N) b).2.1 (m_area σ th (nI N) b).2.2 H') hx hb hr hlk hL dX2_area_18 (pr_postL (t := (σ, th)) (P := fun τ => MP G H o A τ.1 τ.2 _) (by first | with_reducible rfl | (simp only [m_area, c_6, ixn hN31, c_14, i64_z, ↓reduceIte, Bool.true_and, Bool.and_true, Bool.false_and, Bool.and_false, Bool.true_or, Bool.or_true, Bool.false_or, Bool.or_false, Bool.not_true, Bool.not_false, decide_true, decide_false, bI_t, bI_f, Bool.false_eq_true, not_true_eq_false, not_false_eq_true, eq_self, reduceCtorEq, Bool.true_eq_false, and_true, true_and, and_false, false_and, or_true, true_or, or_false, false_or]; done) | (simp only [c_6, ixn hN31, ↓reduceIte, Bool.true_and, Bool.and_true, Bool.false_and, Bool.and_false, Bool.true_or, Bool.or_true, Bool.false_or, Bool.or_false, Bool.not_true, Bool.not_false, decide_true, decide_false, bI_t, bI_f, Bool.false_eq_true, not_true_eq_false, not_false_eq_true, eq_self, reduceCtorEq, Bool.true_eq_false, and_true, true_and, and_false, false_and, or_true, true_or, or_false, false_or] at c_14; done) | (simp only [ixn hN31, c_14, ↓reduceIte, Bool.true_and, Bool.and_true, Bool.false_and, Bool.and_false, Bool.true_or, Bool.or_true, Bool.false_or, Bool.or_false, Bool.not_true, Bool.not_false, decide_true, decide_false, bI_t, bI_f, Bool.false_eq_true, not_true_eq_false, not_false_eq_true, eq_self, reduceCtorEq, Bool.true_eq_false, and_true, true_and, and_false, false_and, or_true, true_or, or_false, false_or] at c_6; done)) (MP.rf hM))
