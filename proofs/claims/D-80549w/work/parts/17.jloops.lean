set_option maxRecDepth 100000
section IFACE
variable {p : Program} {l : Launch} {e : Env} {R : Room} {s : State} {m : MethodId} {args : Array Value} {below : List Frame} {meth : Method} {c : Code} {H : Heap} {locs : List Loc} {cells slots : Nat} {Q : State → Prop}
variable {cc : ByteArray} {pc : Nat} {ls : Array Slot} {rest : List Value} {G : GG}
theorem Steps_weak {tb : Tables} {e : Env} {mid below : List Frame} {a b : State} (h : Steps tb e (mid ++ below) a b) : Steps tb e below a b := by
  obtain ⟨n, h1, h2⟩ := h
  exact ⟨n, h1, fun k hk => (h2 k hk).weaken⟩
/-- the contract of a method that only reads, of a class that may not be said initialised: its body walked -/
def PMn (l : Launch) (y : MethodName) (cc : ByteArray) (maxL : Nat) (ret : Option FieldType) (fr lo : Nat) (G : GG) (H : Heap) (av : List Value) (r : Option Value) : Prop :=
  ∀ (p : Program) (e : Env) (s : State) (m : MethodId) (below : List Frame) (meth : Method) (c : Code) (ls : Array Slot), En p s m meth c cc maxL ret y.cls av G H → (meth.name = y.name) → lv_has ls maxL (lv_args 0 av) →
      W p l e ({ frames := fr, cells := 0, slots := 0, locals := lo }) s m av.toArray below meth c H [] 0 0 (MQ below (PQ r) av.toArray s 0 0 (fun _ => False)) (F0 m 0 ls [])
/-- a call through the interface, of a method that only reads and stands in the object's class -/
theorem p_callF {x y : MethodName} {cb : ByteArray} {L nL fr lo n idx cnt b ci : Nat} {ret : Option FieldType} {own C : String} {As st : List Value} {v : Value} {fs : List Value} {T : u_T} {N : Nat} (hx : p.tables.exec = Jvm.exec) (hb : c.code = cc) (hml : c.maxLocals = nL) (hown : s.vm.findClass own = some m.cls) (hts : ∀ w ∈ lw_all, w.before args s = true) (hK : KT G s) (hZ : KS s H)
    (hM : PM l y cb L ret fr lo G H (.ref b :: As) (some v)) (hF : va_Fw C x y s) (q1 : Cond.methodLink own idx x ∈ lw_all) (q2 : Cond.selects C x y ∈ lw_all) (q3 : Cond.instanceMethod y ∈ lw_all) (q4 : Cond.initialized y.cls ∈ lw_all) (q5 : Cond.code y cb L ret ∈ lw_all) (hd : x.cls ≠ "java/lang/invoke/MethodHandle" ∧ x.cls ≠ "java/lang/invoke/VarHandle" ∧ (parseMethodDescriptor x.desc).map (fun d => d.parameters.length) = some n) (hn : As.length = n)
    (ho : va_at G.1 clA (b, .inr (ci, fs)) H) (hc : clA[ci]? = some (C, T, N))
    (hR : fr + 1 ≤ R.frames ∧ 8 + (L + 11) + lo ≤ R.locals) (hsz : ls.size = nL) (hst : st = As.reverse ++ .ref b :: rest) (hW : (rest.map fun v => v.category).sum ≤ 8) (hdg : decode cc pc = .ok (.invokeinterface idx cnt, 5)) (hf : cells ≤ R.cells ∧ slots ≤ R.slots)
    (kk : W p l e R s m args below meth c H locs cells slots Q (F0 m (pc + 5) ls (v :: rest))) : W p l e R s m args below meth c H locs cells slots Q (F0 m pc ls st) := by
  subst hst
  have hg : GoodIn lw_all (va_wsF own idx C x y (ws_ y cb L ret)) := by
    refine lw_app ?_ (lw_meth q5)
    intro w hw
    simp only [List.mem_cons, List.not_mem_nil, or_false] at hw
    rcases hw with e | e | e | e
    · rw [e]; exact q1
    · rw [e]; exact q2
    · rw [e]; exact q3
    · rw [e]; exact q4
  have hr := va_runF (p := p) (e := e) (below := below) (meth := meth) (locs := locs) (H := H) (cells := cells) (slots := slots) (R := R) (rest := rest) (g := F0 m pc ls (As.reverse ++ .ref b :: rest)) (As := As) (nL := nL) (cc := cc) (own := own) (Ts := lw_all) (b := b) (hK.1.1 ci _ hc).2 ⟨hx, hb, hml, hown, hts⟩ hM (va_cwF n hts hg rfl rfl rfl hF hd hR) ⟨PPre.blind, at_recv hK.1 ho hc, fun U hU hW => ⟨rfl, hU, hK.moved hW, hZ.moved hW.alike⟩⟩ rfl hn hsz rfl (lv_room hW) hdg hf
  intro T hT X
  obtain ⟨v', st₀, t, T', L', h0, X', hL, e1, e2, ⟨hv, hh⟩, go⟩ := hr T hT X
  cases hv
  have hL0 : L' = [] := List.eq_nil_iff_forall_not_mem.mpr fun q hq => hL q hq
  subst hL0
  rw [List.append_nil] at X'
  obtain ⟨t2, a1, b1⟩ := kk T' (by rw [e1, hh, h0]) X'
  exact ⟨t2, go t2 a1, b1⟩
/-- a call through the interface, of the interface's own method: its body is walked from within -/
theorem p_callD {x : MethodName} {cb : ByteArray} {L nL fr lo n idx cnt b ci : Nat} {ret : Option FieldType} {own C : String} {As st : List Value} {v : Value} {fs : List Value} {T : u_T} {N : Nat} (hx : p.tables.exec = Jvm.exec) (hb : c.code = cc) (hml : c.maxLocals = nL) (hown : s.vm.findClass own = some m.cls) (hts : ∀ w ∈ lw_all, w.before args s = true) (hK : KT G s) (hZ : KS s H)
    (hM : PMn l x cb L ret fr lo G H (.ref b :: As) (some v)) (hF : va_Fw C x x s) (hKD : KD C x s) (q1 : Cond.methodLink own idx x ∈ lw_all) (q3 : Cond.instanceMethod x ∈ lw_all) (q5 : Cond.code x cb L ret ∈ lw_all) (hpl : plainName x.cls = true) (hlen : (lg_sl (.ref b :: As)).length ≤ L) (hd : x.cls ≠ "java/lang/invoke/MethodHandle" ∧ x.cls ≠ "java/lang/invoke/VarHandle" ∧ (parseMethodDescriptor x.desc).map (fun d => d.parameters.length) = some n) (hn : As.length = n)
    (ho : va_at G.1 clA (b, .inr (ci, fs)) H) (hc : clA[ci]? = some (C, T, N))
    (hR : fr + 1 ≤ R.frames ∧ 8 + (L + 11) + lo ≤ R.locals) (hsz : ls.size = nL) (hst : st = As.reverse ++ .ref b :: rest) (hW : (rest.map fun v => v.category).sum ≤ 8) (hdg : decode cc pc = .ok (.invokeinterface idx cnt, 5)) (hf : cells ≤ R.cells ∧ slots ≤ R.slots)
    (kk : W p l e R s m args below meth c H locs cells slots Q (F0 m (pc + 5) ls (v :: rest))) : W p l e R s m args below meth c H locs cells slots Q (F0 m pc ls st) := by
  subst hst
  obtain ⟨hfc, kB, hkB, -⟩ := (hK.1.1 ci _ hc).2
  obtain ⟨cellB, hcB, hoB, hclB⟩ := at_recv hK.1 ho hc
  have hcls : G.1.1 ci = cellB.cls := Option.some.inj (hfc.symm.trans hclB)
  obtain ⟨hdecl, hface, hpub, hunh, hcast⟩ := hF
  obtain ⟨r0, r, hn0, hrm, hstR, hsigR⟩ := Cond.declares_spec hdecl
  obtain ⟨cL, kL, r1, hcL, hkL, hiL, hfoundL, hn1⟩ := Cond.interfaceMethod_spec hface
  cases hn0.symm.trans hn1
  have hr0cls : r0.cls = cL := Option.some.inj ((findClass_of_methodNamed hn0).symm.trans hcL)
  obtain ⟨hnameR, hdescR⟩ := name_of_methodNamed hn0 hrm
  obtain ⟨mk, methM, hnamed, hmethM, -, habM⟩ := Cond.instanceMethod_spec (hts _ q3)
  cases hn0.symm.trans hnamed
  obtain ⟨c2, r2, k1, k2, k3⟩ := hKD
  cases hclB.symm.trans k1
  cases hn0.symm.trans k2
  cases hrm.symm.trans hmethM
  obtain ⟨methY, cY, hmY, hcY, hcbY, hlY, hretY, hlkY, -, -⟩ := Cond.code_spec hn0 (hts _ q5)
  cases hrm.symm.trans hmY
  have hpubM : hasFlag r.accessFlags Acc.public_ = true := Cond.publicMethod_spec hn0 hrm hpub
  have hway : ((cellB.cls :: s.vm.superclasses cellB.cls).any fun k => (declaredIn s.vm r.name r.desc k).any fun (_, z) => z.isPrivate || z.isStatic) = false := by
    rw [hnameR, hdescR]; exact Cond.unhidden_spec hclB hunh
  obtain ⟨c3, t3, w1, w2, w3⟩ := Cond.castable_spec hcast
  cases hclB.symm.trans w1
  cases hcL.symm.trans w2
  intro T hT X
  have hselP : selectMethod e.platform s.vm cellB.cls r0 = .method r0 := by rw [Launch.admits_selectMethod X.admits]; exact k3
  obtain ⟨vm₁, X₁, hstep₁⟩ := X.invokeinterface hx hown (hts _ q1) hn0 hrm hstR (by rw [hr0cls]; exact hkL) hiL ⟨hd.1, hd.2.1⟩ (a := b) (cell := cellB) (kcell := kB) (by rw [hT]; exact hcB)
    (fun z h => by rw [h] at hoB; cases hoB) (by rw [← hcls]; exact hkB) (by rw [hr0cls]; exact w3) hselP hrm hway hpubM habM (g := F0 m pc ls (As.reverse ++ .ref b :: rest)) rfl (argsL := As) (rest := rest) (by
      have h2 := hd.2.2
      rw [hsigR] at h2
      exact hn.trans (Option.some.inj h2).symm) rfl (by rw [hb]; exact hdg)
  have hal := X₁.warmed.alike
  have hn1 : (T.setVm vm₁).methodNamed? x = some r0 := X₁.named hn0
  have hm1 : (T.setVm vm₁).vm.method? r0 = some r := by rw [hal.method?]; exact hrm
  obtain ⟨Y, hdo⟩ := X₁.into (g := F0 m pc ls rest) rfl (hsz.trans hml.symm) (by rw [hb]; exact hdg) (mk := r0) (Value.ref b :: As).toArray (R' := { frames := fr, cells := 0, slots := 0, locals := lo }) hm1 hcY hlkY (State.plainMethod.of_named (plainFor_of_name hpl) hn1 hm1) hR.1
    (by rw [hlY]; show 2 * (F0 m pc ls rest).monitorRoom + (rest.map fun v => v.category).sum + (L + 11) + lo ≤ R.locals; have := lv_room (m := m) (pc := pc) (ls := ls) (rest := rest) hW; omega) hf.1 hf.2
  have hl := lv_entry (.ref b :: As) (n := L) hlen
  have hW2 := hM p e ((T.setVm vm₁).calling (F0 m pc ls rest) r0 (Value.ref b :: As).toArray) r0 (.java (F0 m pc ls rest) :: below) r cY _ ⟨hx, hcbY, hretY, hlkY, hlY, findClass_of_methodNamed (s := (T.setVm vm₁).calling (F0 m pc ls rest) r0 (Value.ref b :: As).toArray) hn1, fun w hw => pay_in hts lw_self w hw _ _ X₁.warmed, hK.moved X₁.warmed, hZ.moved hal, hT⟩ hnameR hl
  obtain ⟨t, hst2, o, hrun, hend, ⟨ho2, hh⟩, L', hfe, hL⟩ := hW2 _ (by exact hT) Y
  subst ho2
  obtain ⟨-, hwa, hsame⟩ := hfe
  obtain ⟨T', X', -, -, ht⟩ := X₁.outOf (g := F0 m pc ls rest) rfl (by rw [hb]; exact hdg) hend hwa hsame
  have hL0 : L' = [] := List.eq_nil_iff_forall_not_mem.mpr fun q hq => hL q hq
  subst hL0
  rw [List.append_nil] at X'
  have hT' : T'.heap = H := by
    have : t.heap = T'.heap := by rw [ht]; exact State.heap_setTop _ _
    rw [← this, hh]; exact hT
  obtain ⟨t2, a1, b1⟩ := kk T' hT' X'
  refine ⟨t2, hstep₁ _ (fun acts => ?_), b1⟩
  rw [hdo acts]
  have h0 : entryFrame r0 (Value.ref b :: As).toArray cY.maxLocals = F0 r0 0 ((lg_sl (Value.ref b :: As) ++ List.replicate (L - (lg_sl (Value.ref b :: As)).length) Slot.unset).toArray) [] := by rw [hlY, lg_entry_eq]
  have hst3 := Steps_weak (mid := [.java (F0 m pc ls rest)]) (below := below) hst2
  rw [← h0] at hst3
  refine hst3.trans ?_
  rw [ht]
  exact a1
end IFACE
theorem hd_Oc : yOc.cls ≠ "java/lang/invoke/MethodHandle" ∧ yOc.cls ≠ "java/lang/invoke/VarHandle" ∧ (parseMethodDescriptor yOc.desc).map (fun d => d.parameters.length) = some 2 := by decide +kernel
theorem ref_elim {σ : Sg} {n k : Int32} (hk : 0 ≤ k) (hO : Ok σ) (c : s_refused σ n k = 0) : ∃ N : Nat, N ≤ σ.rn ∧ n = nI N ∧ k.toInt ≤ N ∧ wh σ.rw N = true := by
  unfold s_refused at c
  split at c
  · next h =>
    obtain ⟨N, h1, h2, h3⟩ := many_elim hk hO.rn31 h
    refine ⟨N, h1, h2, h3, ?_⟩
    split at c
    · next h4 => rw [h2, ixn (Nat.lt_of_le_of_lt h1 hO.rn31)] at h4; exact h4
    · exact absurd c (by decide)
  · exact absurd c (by decide)
theorem pubR_eq {σ : Sg} {n k : Int32} (c : s_refused σ n k = 0) (f : Nat → Int32) : pubR σ n k f = f (ix n) := by
  unfold s_refused at c
  unfold pubR
  split at c
  · next h =>
    rw [if_pos h]
    split at c
    · next h4 => rw [if_pos h4]
    · exact absurd c (by decide)
  · exact absurd c (by decide)
theorem pubR_ne {σ : Sg} {n k : Int32} (c : ¬ s_refused σ n k = 0) (f : Nat → Int32) : pubR σ n k f = s_refused σ n k := by
  unfold s_refused at c
  unfold pubR s_refused
  split
  · next h =>
    rw [if_pos h] at c
    split
    · next h4 => rw [if_pos h4] at c; exact absurd rfl c
    · rfl
  · rfl
theorem pubRP_R {σ : Sg} {n p : Int32} (hp : isPt σ.np p = true) (f : Nat → Nat → Int32) : pubRP σ n p f = pubR σ n 1 (fun N => f N (ix p)) := by
  unfold pubRP pubR
  rw [hp, Bool.and_true]
theorem pubRP_f {σ : Sg} {n p : Int32} (hp : isPt σ.np p = false) (f : Nat → Nat → Int32) : pubRP σ n p f = -2 := by
  unfold pubRP
  rw [hp, Bool.and_false]
  rfl
theorem i64_sub {a b : Int64} (h1 : -9223372036854775808 ≤ a.toInt - b.toInt) (h2 : a.toInt - b.toInt < 9223372036854775808) : (a - b).toInt = a.toInt - b.toInt := by
  rw [Int64.toInt_sub]; exact Int.bmod_eq_of_le (by omega) (by omega)
theorem i64_add {a b : Int64} (h1 : -9223372036854775808 ≤ a.toInt + b.toInt) (h2 : a.toInt + b.toInt < 9223372036854775808) : (a + b).toInt = a.toInt + b.toInt := by
  rw [Int64.toInt_add]; exact Int.bmod_eq_of_le (by omega) (by omega)
theorem i64_mul {a b : Int64} (h1 : -9223372036854775808 ≤ a.toInt * b.toInt) (h2 : a.toInt * b.toInt < 9223372036854775808) : (a * b).toInt = a.toInt * b.toInt := by
  rw [Int64.toInt_mul]; exact Int.bmod_eq_of_le (by omega) (by omega)
theorem i32_sub {a b : Int32} (h1 : -2147483648 ≤ a.toInt - b.toInt) (h2 : a.toInt - b.toInt < 2147483648) : (a - b).toInt = a.toInt - b.toInt := by
  rw [Int32.toInt_sub]; exact Int.bmod_eq_of_le (by omega) (by omega)
theorem i32_add {a b : Int32} (h1 : -2147483648 ≤ a.toInt + b.toInt) (h2 : a.toInt + b.toInt < 2147483648) : (a + b).toInt = a.toInt + b.toInt := by
  rw [Int32.toInt_add]; exact Int.bmod_eq_of_le (by omega) (by omega)
theorem i32_mul {a b : Int32} (h1 : -2147483648 ≤ a.toInt * b.toInt) (h2 : a.toInt * b.toInt < 2147483648) : (a * b).toInt = a.toInt * b.toInt := by
  rw [Int32.toInt_mul]; exact Int.bmod_eq_of_le (by omega) (by omega)
theorem isIn_1 (i n : Int32) : s_isIn i.toInt64 0 (n.toInt64 - 1) = inR i n := by
  have h1 : (i.toInt64 < 0) ↔ i < 0 := by rw [Int64.lt_iff_toInt_lt, Int32.lt_iff_toInt_lt, Int32.toInt_toInt64]; rfl
  have h2 : (n.toInt64 - 1 < i.toInt64) ↔ ¬ i < n := by
    have b1 := Int32.le_toInt n
    have b2 := Int32.toInt_lt n
    have e0 : (1 : Int64).toInt = 1 := rfl
    have e1 : (n.toInt64 - 1).toInt = n.toInt - 1 := by
      rw [i64_sub (by rw [Int32.toInt_toInt64, e0]; omega) (by rw [Int32.toInt_toInt64, e0]; omega), Int32.toInt_toInt64, e0]
    rw [Int64.lt_iff_toInt_lt, Int32.lt_iff_toInt_lt, Int32.toInt_toInt64, e1]
    omega
  have h3 : (!decide (n.toInt64 - 1 < i.toInt64)) = decide (i < n) := by
    by_cases h : i < n
    · simp [h2, h]
    · simp [h2, h]
  simp only [s_isIn, inR, h1, h3]
def j_cvG (σ : Sg) (N i j : Nat) (w : Int32) : Int32 := if isEnd i j N || decide (s_turn (σ.rp i) (σ.rp (nx i N)) (σ.rp j) = w) then w else 0
def j_cvO (σ : Sg) (N i : Nat) : Int32 := itr (fun i a => itr (j_cvG σ N i) N a) i (s_turn (σ.rp 0) (σ.rp 1) (σ.rp 2))
def j_convex (σ : Sg) (N : Nat) : Int32 := j_cvO σ N N
def j_nrG (σ : Sg) (A k : Nat) (a : Int32 × Int64) : Int32 × Int64 :=
  (if a.2 ≤ s_far (σ.pt A) (σ.rp k) then (if s_far (σ.pt A) (σ.rp k) = a.2 then a.1 ||| (1 <<< (nI k &&& 31)) else a.1) else 1 <<< (nI k &&& 31), if s_far (σ.pt A) (σ.rp k) < a.2 then s_far (σ.pt A) (σ.rp k) else a.2)
def j_nrO (σ : Sg) (A k : Nat) : Int32 × Int64 := itr (j_nrG σ A) k (0, s_far (σ.pt A) (σ.rp 0))
def j_near (σ : Sg) (N A : Nat) : Int32 := (j_nrO σ A N).1
def j_ahead (v : Int64) (i j : Nat) : Bool := decide (v < 0) || (decide (v = 0) && decide (i < j))
theorem dX1_convex_0 : decode cX1_convex 0 = .ok (.aload_n 0, 1) := by decide +kernel
theorem dX1_convex_1 : decode cX1_convex 1 = .ok (.iload_n 1, 1) := by decide +kernel
theorem dX1_convex_2 : decode cX1_convex 2 = .ok (.iconst 3, 1) := by decide +kernel
theorem dX1_convex_3 : decode cX1_convex 3 = .ok (.invokevirtual 130, 3) := by decide +kernel
theorem dX1_convex_6 : decode cX1_convex 6 = .ok (.istore_n 2, 1) := by decide +kernel
theorem dX1_convex_7 : decode cX1_convex 7 = .ok (.iload_n 2, 1) := by decide +kernel
theorem dX1_convex_8 : decode cX1_convex 8 = .ok (.ifCond .eq 5, 3) := by decide +kernel
theorem dX1_convex_11 : decode cX1_convex 11 = .ok (.iload_n 2, 1) := by decide +kernel
theorem dX1_convex_12 : decode cX1_convex 12 = .ok (.ireturn, 1) := by decide +kernel
theorem dX1_convex_13 : decode cX1_convex 13 = .ok (.aload_n 0, 1) := by decide +kernel
theorem dX1_convex_14 : decode cX1_convex 14 = .ok (.getfield 30, 3) := by decide +kernel
theorem dX1_convex_17 : decode cX1_convex 17 = .ok (.iconst 0, 1) := by decide +kernel
theorem dX1_convex_18 : decode cX1_convex 18 = .ok (.aaload, 1) := by decide +kernel
theorem dX1_convex_19 : decode cX1_convex 19 = .ok (.aload_n 0, 1) := by decide +kernel
theorem dX1_convex_20 : decode cX1_convex 20 = .ok (.getfield 30, 3) := by decide +kernel
theorem dX1_convex_23 : decode cX1_convex 23 = .ok (.iconst 1, 1) := by decide +kernel
theorem dX1_convex_24 : decode cX1_convex 24 = .ok (.aaload, 1) := by decide +kernel
theorem dX1_convex_25 : decode cX1_convex 25 = .ok (.aload_n 0, 1) := by decide +kernel
theorem dX1_convex_26 : decode cX1_convex 26 = .ok (.getfield 30, 3) := by decide +kernel
theorem dX1_convex_29 : decode cX1_convex 29 = .ok (.iconst 2, 1) := by decide +kernel
theorem dX1_convex_30 : decode cX1_convex 30 = .ok (.aaload, 1) := by decide +kernel
theorem dX1_convex_31 : decode cX1_convex 31 = .ok (.invokestatic 89, 3) := by decide +kernel
theorem dX1_convex_34 : decode cX1_convex 34 = .ok (.istore_n 3, 1) := by decide +kernel
theorem dX1_convex_35 : decode cX1_convex 35 = .ok (.iconst 0, 1) := by decide +kernel
theorem dX1_convex_36 : decode cX1_convex 36 = .ok (.istore 4, 2) := by decide +kernel
theorem dX1_convex_38 : decode cX1_convex 38 = .ok (.iload 4, 2) := by decide +kernel
theorem dX1_convex_40 : decode cX1_convex 40 = .ok (.iload_n 1, 1) := by decide +kernel
theorem dX1_convex_41 : decode cX1_convex 41 = .ok (.if_icmp .ge 88, 3) := by decide +kernel
theorem dX1_convex_44 : decode cX1_convex 44 = .ok (.iconst 0, 1) := by decide +kernel
theorem dX1_convex_45 : decode cX1_convex 45 = .ok (.istore 5, 2) := by decide +kernel
theorem dX1_convex_47 : decode cX1_convex 47 = .ok (.iload 5, 2) := by decide +kernel
theorem dX1_convex_49 : decode cX1_convex 49 = .ok (.iload_n 1, 1) := by decide +kernel
theorem dX1_convex_50 : decode cX1_convex 50 = .ok (.if_icmp .ge 73, 3) := by decide +kernel
theorem dX1_convex_53 : decode cX1_convex 53 = .ok (.iload 5, 2) := by decide +kernel
theorem dX1_convex_55 : decode cX1_convex 55 = .ok (.iload 4, 2) := by decide +kernel
theorem dX1_convex_57 : decode cX1_convex 57 = .ok (.if_icmp .eq 14, 3) := by decide +kernel
theorem dX1_convex_60 : decode cX1_convex 60 = .ok (.iload 5, 2) := by decide +kernel
theorem dX1_convex_62 : decode cX1_convex 62 = .ok (.iload 4, 2) := by decide +kernel
theorem dX1_convex_64 : decode cX1_convex 64 = .ok (.iconst 1, 1) := by decide +kernel
theorem dX1_convex_65 : decode cX1_convex 65 = .ok (.iadd, 1) := by decide +kernel
theorem dX1_convex_66 : decode cX1_convex 66 = .ok (.iload_n 1, 1) := by decide +kernel
theorem dX1_convex_67 : decode cX1_convex 67 = .ok (.irem, 1) := by decide +kernel
theorem dX1_convex_68 : decode cX1_convex 68 = .ok (.if_icmp .ne 7, 3) := by decide +kernel
theorem dX1_convex_71 : decode cX1_convex 71 = .ok (.iconst 1, 1) := by decide +kernel
theorem dX1_convex_72 : decode cX1_convex 72 = .ok (.goto 4, 3) := by decide +kernel
theorem dX1_convex_75 : decode cX1_convex 75 = .ok (.iconst 0, 1) := by decide +kernel
theorem dX1_convex_76 : decode cX1_convex 76 = .ok (.istore 6, 2) := by decide +kernel
theorem dX1_convex_78 : decode cX1_convex 78 = .ok (.iload 6, 2) := by decide +kernel
theorem dX1_convex_80 : decode cX1_convex 80 = .ok (.ifCond .ne 31, 3) := by decide +kernel
theorem dX1_convex_83 : decode cX1_convex 83 = .ok (.aload_n 0, 1) := by decide +kernel
theorem dX1_convex_84 : decode cX1_convex 84 = .ok (.getfield 30, 3) := by decide +kernel
theorem dX1_convex_87 : decode cX1_convex 87 = .ok (.iload 4, 2) := by decide +kernel
theorem dX1_convex_89 : decode cX1_convex 89 = .ok (.aaload, 1) := by decide +kernel
theorem dX1_convex_90 : decode cX1_convex 90 = .ok (.aload_n 0, 1) := by decide +kernel
theorem dX1_convex_91 : decode cX1_convex 91 = .ok (.iload 4, 2) := by decide +kernel
theorem dX1_convex_93 : decode cX1_convex 93 = .ok (.iload_n 1, 1) := by decide +kernel
theorem dX1_convex_94 : decode cX1_convex 94 = .ok (.invokevirtual 133, 3) := by decide +kernel
theorem dX1_convex_97 : decode cX1_convex 97 = .ok (.aload_n 0, 1) := by decide +kernel
theorem dX1_convex_98 : decode cX1_convex 98 = .ok (.getfield 30, 3) := by decide +kernel
theorem dX1_convex_101 : decode cX1_convex 101 = .ok (.iload 5, 2) := by decide +kernel
theorem dX1_convex_103 : decode cX1_convex 103 = .ok (.aaload, 1) := by decide +kernel
theorem dX1_convex_104 : decode cX1_convex 104 = .ok (.invokestatic 89, 3) := by decide +kernel
theorem dX1_convex_107 : decode cX1_convex 107 = .ok (.iload_n 3, 1) := by decide +kernel
theorem dX1_convex_108 : decode cX1_convex 108 = .ok (.if_icmp .ne 7, 3) := by decide +kernel
theorem dX1_convex_111 : decode cX1_convex 111 = .ok (.iload_n 3, 1) := by decide +kernel
theorem dX1_convex_112 : decode cX1_convex 112 = .ok (.goto 4, 3) := by decide +kernel
theorem dX1_convex_115 : decode cX1_convex 115 = .ok (.iconst 0, 1) := by decide +kernel
theorem dX1_convex_116 : decode cX1_convex 116 = .ok (.istore_n 3, 1) := by decide +kernel
theorem dX1_convex_117 : decode cX1_convex 117 = .ok (.iinc 5 1, 3) := by decide +kernel
theorem dX1_convex_120 : decode cX1_convex 120 = .ok (.goto (-73), 3) := by decide +kernel
theorem dX1_convex_123 : decode cX1_convex 123 = .ok (.iinc 4 1, 3) := by decide +kernel
theorem dX1_convex_126 : decode cX1_convex 126 = .ok (.goto (-88), 3) := by decide +kernel
theorem dX1_convex_129 : decode cX1_convex 129 = .ok (.iload_n 3, 1) := by decide +kernel
theorem dX1_convex_130 : decode cX1_convex 130 = .ok (.ireturn, 1) := by decide +kernel
set_option maxHeartbeats 4000000 in
theorem met_X1_convex (l : Launch) (G : GG) {H : Heap} {o : Nat} {B P L : Nat → Nat} {σ : Sg} {n : Int32} (hJ : JW G H o B P L σ) (hO : Ok σ) : PM l yX1_convex cX1_convex 7 (some .int) 2 49 G H [.ref o, .int n] (some (.int (pubR σ n 3 (j_convex σ)))) := by
  refine pm_intro pl_X1_convex (Nat.le_of_ble_eq_true rfl) ?_
  intro pX eX sX mX belX methX cX ls hE hnm hl
  obtain ⟨hx, hb, hr, hlk, hml, hown, hts, hK, hZ, hH⟩ := hE
  have hl : lv_has ls 7 [(0, .ref o), (1, .int n)] := hl
  refine lv_aload_n hx hb dX1_convex_0 rfl (lv_at hl 0 rfl) ?_
  refine lv_iload_n hx hb dX1_convex_1 rfl (lv_at hl 1 rfl) ?_
  refine lv_iconst (v := 3) hx hb dX1_convex_2 ic_3 ?_
  refine p_callV (As := [.int _, .int _]) hx hb hml hown hts hK hZ (met_X1_refused l G hJ hO (by decide)) q272 q274 qs3 q42 q275 hv_X1_refused rfl hJ.1 rfl (by decide) hl.1 rfl (Nat.le_of_ble_eq_true rfl) dX1_convex_3 ⟨Nat.zero_le _, Nat.zero_le _⟩ ?_
  refine lv_istore_n (lv' := [(2, .int _), (0, .ref _), (1, .int _)]) hx hb dX1_convex_6 rfl hl (Nat.le_of_ble_eq_true rfl) rfl (fun ls hl => ?_)
  refine lv_iload_n hx hb dX1_convex_7 rfl (lv_at hl 0 rfl) ?_
  refine lv_if_eq (tgt := 13) hx hb dX1_convex_8 rfl (fun c_8 => ?_) (fun c_8 => ?_)
  · skip
    obtain ⟨N, hN, rfl, hge, hw_⟩ := ref_elim (by decide) hO c_8
    have hN31 : N < 2 ^ 31 := Nat.lt_of_le_of_lt hN hO.rn31
    have e1_ : (1 : Int32).toInt = 1 := rfl
    have e3_ : (3 : Int32).toInt = 3 := rfl
    have hpos : 0 < N := by omega
    have hr_ := HR.of hO hw_
    refine lv_aload_n hx hb dX1_convex_13 rfl (lv_at hl 1 rfl) ?_
    refine gf_X1_30 hx hb hts hown hK hJ.1 rfl dX1_convex_14 ?_
    refine lv_iconst (v := 0) hx hb dX1_convex_17 ic_0 ?_
    refine r_pald hx hb hK hJ.2.2.1 dX1_convex_18 (k := 0) (Nat.lt_of_lt_of_le hpos hN) hO.rn31 rfl (ra_some (hr_ _ hpos).1) ?_
    refine lv_aload_n hx hb dX1_convex_19 rfl (lv_at hl 1 rfl) ?_
    refine gf_X1_30 hx hb hts hown hK hJ.1 rfl dX1_convex_20 ?_
    refine lv_iconst (v := 1) hx hb dX1_convex_23 ic_1 ?_
    refine r_pald hx hb hK hJ.2.2.1 dX1_convex_24 (k := 1) (Nat.lt_of_lt_of_le (by omega : 1 < N) hN) hO.rn31 rfl (ra_some (hr_ _ (by omega : 1 < N)).1) ?_
    refine lv_aload_n hx hb dX1_convex_25 rfl (lv_at hl 1 rfl) ?_
    refine gf_X1_30 hx hb hts hown hK hJ.1 rfl dX1_convex_26 ?_
    refine lv_iconst (v := 2) hx hb dX1_convex_29 ic_2 ?_
    refine r_pald hx hb hK hJ.2.2.1 dX1_convex_30 (k := 2) (Nat.lt_of_lt_of_le (by omega : 2 < N) hN) hO.rn31 rfl (ra_some (hr_ _ (by omega : 2 < N)).1) ?_
    refine p_callS (As := [.ref _, .ref _, .ref _]) hx hb hml hown hts hK hZ (met_X1_turn l G (hJ.2.2.2.2.1 _ (hr_ _ hpos).2) (hJ.2.2.2.2.1 _ (hr_ _ (by omega : 1 < N)).2) (hJ.2.2.2.2.1 _ (hr_ _ (by omega : 2 < N)).2)) q192 q193 q42 q194 hd_X1_turn rfl (by decide) hl.1 rfl (Nat.le_of_ble_eq_true rfl) dX1_convex_31 ⟨Nat.zero_le _, Nat.zero_le _⟩ ?_
    refine lv_istore_n (lv' := [(3, .int _), (2, .int _), (0, .ref _), (1, .int _)]) hx hb dX1_convex_34 rfl hl (Nat.le_of_ble_eq_true rfl) rfl (fun ls hl => ?_)
    refine lv_iconst (v := 0) hx hb dX1_convex_35 ic_0 ?_
    refine lv_istore (lv' := [(4, .int _), (3, .int _), (2, .int _), (0, .ref _), (1, .int _)]) hx hb dX1_convex_36 hl (Nat.le_of_ble_eq_true rfl) rfl (fun ls hl => ?_)
    refine loopW (N := N) (nL := 7) (lv := fun i => [(0, .ref o), (1, .int (nI N)), (3, .int (j_cvO σ N i)), (4, .int (nI i))]) (fun i hk_i ih_i ls hl => ?_) 0 (Nat.zero_le _) ls (lv_sub hl [3, 4, 1, 0] rfl)
    replace hl : lv_has ls 7 [(0, .ref o), (1, .int (nI N)), (3, .int (j_cvO σ N i)), (4, .int (nI i))] := hl
    refine lv_iload hx hb dX1_convex_38 (lv_at hl 3 rfl) ?_
    refine lv_iload_n hx hb dX1_convex_40 rfl (lv_at hl 1 rfl) ?_
    refine lv_icmp_ge (tgt := 129) hx hb dX1_convex_41 rfl (fun c_41_1 => ?_) (fun c_41_1 => ?_)
    · skip
      have e_i := lp_out hk_i hN31 c_41_1
      subst e_i
      refine lv_iload_n hx hb dX1_convex_129 rfl (lv_at hl 2 rfl) ?_
      exact pm_iret hx hb hr hlk hH dX1_convex_130 (by first | with_reducible rfl | (simp only [j_convex, pubR_eq c_8, ixn hN31, ↓reduceIte, Bool.true_and, Bool.and_true, Bool.false_and, Bool.and_false, Bool.true_or, Bool.or_true, Bool.false_or, Bool.or_false, Bool.not_true, Bool.not_false, decide_true, decide_false, bI_t, bI_f, Bool.false_eq_true, not_true_eq_false, not_false_eq_true, eq_self, reduceCtorEq, Bool.true_eq_false, and_true, true_and, and_false, false_and, or_true, true_or, or_false, false_or]; done))
    have h_i := lp_in hk_i hN31 c_41_1
    refine lv_iconst (v := 0) hx hb dX1_convex_44 ic_0 ?_
    refine lv_istore (lv' := [(5, .int _), (0, .ref _), (1, .int _), (3, .int _), (4, .int _)]) hx hb dX1_convex_45 hl (Nat.le_of_ble_eq_true rfl) rfl (fun ls hl => ?_)
    refine loopW (N := N) (nL := 7) (lv := fun j => [(0, .ref o), (1, .int (nI N)), (3, .int (itr (j_cvG σ N i) j (j_cvO σ N i))), (4, .int (nI i)), (5, .int (nI j))]) (fun j hk_j ih_j ls hl => ?_) 0 (Nat.zero_le _) ls (lv_sub hl [1, 2, 3, 4, 0] rfl)
    replace hl : lv_has ls 7 [(0, .ref o), (1, .int (nI N)), (3, .int (itr (j_cvG σ N i) j (j_cvO σ N i))), (4, .int (nI i)), (5, .int (nI j))] := hl
    refine lv_iload hx hb dX1_convex_47 (lv_at hl 4 rfl) ?_
    refine lv_iload_n hx hb dX1_convex_49 rfl (lv_at hl 1 rfl) ?_
    refine lv_icmp_ge (tgt := 123) hx hb dX1_convex_50 rfl (fun c_50_2 => ?_) (fun c_50_2 => ?_)
    · skip
      have e_j := lp_out hk_j hN31 c_50_2
      subst e_j
      refine lv_iinc (v := nI (i + 1)) (k := 3) (lv' := [(4, .int _), (0, .ref _), (1, .int _), (3, .int _), (5, .int _)]) hx hb dX1_convex_123 hl rfl (nI_1 _) (Nat.le_of_ble_eq_true rfl) rfl (fun ls hl => ?_)
      refine lv_goto (tgt := 38) hx hb dX1_convex_126 rfl ?_
      exact ih_i ls (lv_sub hl [1, 2, 3, 0] rfl) h_i
    have h_j := lp_in hk_j hN31 c_50_2
    refine cutI (J := 76) (v := bI (isEnd i j N)) ?_ (fun K23 => ?_)
    rotate_left
    · skip
      refine lv_iload hx hb dX1_convex_53 (lv_at hl 4 rfl) ?_
      refine lv_iload hx hb dX1_convex_55 (lv_at hl 3 rfl) ?_
      refine lv_icmp_eq (tgt := 71) hx hb dX1_convex_57 rfl (fun c_57_3 => ?_) (fun c_57_3 => ?_)
      · skip
        refine lv_iconst (v := 1) hx hb dX1_convex_71 ic_1 ?_
        refine lv_goto (tgt := 76) hx hb dX1_convex_72 rfl ?_
        exact K23 _ (by first | with_reducible rfl | (simp only [j_convex, isEnd, pubR_eq c_8, ixn hN31, eq_true ((nI_eq (by omega) (by omega)).mp c_57_3), ↓reduceIte, Bool.true_and, Bool.and_true, Bool.false_and, Bool.and_false, Bool.true_or, Bool.or_true, Bool.false_or, Bool.or_false, Bool.not_true, Bool.not_false, decide_true, decide_false, bI_t, bI_f, Bool.false_eq_true, not_true_eq_false, not_false_eq_true, eq_self, reduceCtorEq, Bool.true_eq_false, and_true, true_and, and_false, false_and, or_true, true_or, or_false, false_or]; done) | (simp only [pubR_eq c_8, ixn hN31, ↓reduceIte, Bool.true_and, Bool.and_true, Bool.false_and, Bool.and_false, Bool.true_or, Bool.or_true, Bool.false_or, Bool.or_false, Bool.not_true, Bool.not_false, decide_true, decide_false, bI_t, bI_f, Bool.false_eq_true, not_true_eq_false, not_false_eq_true, eq_self, reduceCtorEq, Bool.true_eq_false, and_true, true_and, and_false, false_and, or_true, true_or, or_false, false_or] at c_57_3; done) | (simp only [ixn hN31, eq_true ((nI_eq (by omega) (by omega)).mp c_57_3), ↓reduceIte, Bool.true_and, Bool.and_true, Bool.false_and, Bool.and_false, Bool.true_or, Bool.or_true, Bool.false_or, Bool.or_false, Bool.not_true, Bool.not_false, decide_true, decide_false, bI_t, bI_f, Bool.false_eq_true, not_true_eq_false, not_false_eq_true, eq_self, reduceCtorEq, Bool.true_eq_false, and_true, true_and, and_false, false_and, or_true, true_or, or_false, false_or] at c_8; done))
      refine lv_iload hx hb dX1_convex_60 (lv_at hl 4 rfl) ?_
      refine lv_iload hx hb dX1_convex_62 (lv_at hl 3 rfl) ?_
      refine lv_iconst (v := 1) hx hb dX1_convex_64 ic_1 ?_
      refine lv_iadd hx hb dX1_convex_65 ?_
      refine lv_iload_n hx hb dX1_convex_66 rfl (lv_at hl 1 rfl) ?_
      refine lv_irem hx hb dX1_convex_67 (nI_ne0 hpos hN31) ?_
      have hm_ := Nat.mod_lt (i + 1) hpos
      refine topi_eq (rem_nI hpos hN31 h_i) ?_
      refine lv_icmp_ne (tgt := 75) hx hb dX1_convex_68 rfl (fun c_68_4 => ?_) (fun c_68_4 => ?_)
      · skip
        refine lv_iconst (v := 0) hx hb dX1_convex_75 ic_0 ?_
        exact K23 _ (by first | with_reducible rfl | (simp only [j_convex, isEnd, pubR_eq c_8, ixn hN31, (eq_false (fun h => c_57_3 (congrArg nI h)) : (j = i) = False), (eq_false (fun h => c_68_4 (congrArg nI h)) : (j = ((i + 1) % N)) = False), ↓reduceIte, Bool.true_and, Bool.and_true, Bool.false_and, Bool.and_false, Bool.true_or, Bool.or_true, Bool.false_or, Bool.or_false, Bool.not_true, Bool.not_false, decide_true, decide_false, bI_t, bI_f, Bool.false_eq_true, not_true_eq_false, not_false_eq_true, eq_self, reduceCtorEq, Bool.true_eq_false, and_true, true_and, and_false, false_and, or_true, true_or, or_false, false_or]; done) | (simp only [pubR_eq c_8, ixn hN31, (eq_false (fun h => c_57_3 (congrArg nI h)) : (j = i) = False), ↓reduceIte, Bool.true_and, Bool.and_true, Bool.false_and, Bool.and_false, Bool.true_or, Bool.or_true, Bool.false_or, Bool.or_false, Bool.not_true, Bool.not_false, decide_true, decide_false, bI_t, bI_f, Bool.false_eq_true, not_true_eq_false, not_false_eq_true, eq_self, reduceCtorEq, Bool.true_eq_false, and_true, true_and, and_false, false_and, or_true, true_or, or_false, false_or] at c_68_4; done) | (simp only [pubR_eq c_8, ixn hN31, (eq_false (fun h => c_68_4 (congrArg nI h)) : (j = ((i + 1) % N)) = False), ↓reduceIte, Bool.true_and, Bool.and_true, Bool.false_and, Bool.and_false, Bool.true_or, Bool.or_true, Bool.false_or, Bool.or_false, Bool.not_true, Bool.not_false, decide_true, decide_false, bI_t, bI_f, Bool.false_eq_true, not_true_eq_false, not_false_eq_true, eq_self, reduceCtorEq, Bool.true_eq_false, and_true, true_and, and_false, false_and, or_true, true_or, or_false, false_or] at c_57_3; done) | (simp only [ixn hN31, (eq_false (fun h => c_57_3 (congrArg nI h)) : (j = i) = False), (eq_false (fun h => c_68_4 (congrArg nI h)) : (j = ((i + 1) % N)) = False), ↓reduceIte, Bool.true_and, Bool.and_true, Bool.false_and, Bool.and_false, Bool.true_or, Bool.or_true, Bool.false_or, Bool.or_false, Bool.not_true, Bool.not_false, decide_true, decide_false, bI_t, bI_f, Bool.false_eq_true, not_true_eq_false, not_false_eq_true, eq_self, reduceCtorEq, Bool.true_eq_false, and_true, true_and, and_false, false_and, or_true, true_or, or_false, false_or] at c_8; done))
      refine lv_iconst (v := 1) hx hb dX1_convex_71 ic_1 ?_
      refine lv_goto (tgt := 76) hx hb dX1_convex_72 rfl ?_
      exact K23 _ (by first | with_reducible rfl | (simp only [j_convex, isEnd, pubR_eq c_8, ixn hN31, (eq_false (fun h => c_57_3 (congrArg nI h)) : (j = i) = False), eq_true ((nI_eq (by omega) (by omega)).mp c_68_4), ↓reduceIte, Bool.true_and, Bool.and_true, Bool.false_and, Bool.and_false, Bool.true_or, Bool.or_true, Bool.false_or, Bool.or_false, Bool.not_true, Bool.not_false, decide_true, decide_false, bI_t, bI_f, Bool.false_eq_true, not_true_eq_false, not_false_eq_true, eq_self, reduceCtorEq, Bool.true_eq_false, and_true, true_and, and_false, false_and, or_true, true_or, or_false, false_or]; done) | (simp only [pubR_eq c_8, ixn hN31, (eq_false (fun h => c_57_3 (congrArg nI h)) : (j = i) = False), ↓reduceIte, Bool.true_and, Bool.and_true, Bool.false_and, Bool.and_false, Bool.true_or, Bool.or_true, Bool.false_or, Bool.or_false, Bool.not_true, Bool.not_false, decide_true, decide_false, bI_t, bI_f, Bool.false_eq_true, not_true_eq_false, not_false_eq_true, eq_self, reduceCtorEq, Bool.true_eq_false, and_true, true_and, and_false, false_and, or_true, true_or, or_false, false_or] at c_68_4; done) | (simp only [pubR_eq c_8, ixn hN31, eq_true ((nI_eq (by omega) (by omega)).mp c_68_4), ↓reduceIte, Bool.true_and, Bool.and_true, Bool.false_and, Bool.and_false, Bool.true_or, Bool.or_true, Bool.false_or, Bool.or_false, Bool.not_true, Bool.not_false, decide_true, decide_false, bI_t, bI_f, Bool.false_eq_true, not_true_eq_false, not_false_eq_true, eq_self, reduceCtorEq, Bool.true_eq_false, and_true, true_and, and_false, false_and, or_true, true_or, or_false, false_or] at c_57_3; done) | (simp only [ixn hN31, (eq_false (fun h => c_57_3 (congrArg nI h)) : (j = i) = False), eq_true ((nI_eq (by omega) (by omega)).mp c_68_4), ↓reduceIte, Bool.true_and, Bool.and_true, Bool.false_and, Bool.and_false, Bool.true_or, Bool.or_true, Bool.false_or, Bool.or_false, Bool.not_true, Bool.not_false, decide_true, decide_false, bI_t, bI_f, Bool.false_eq_true, not_true_eq_false, not_false_eq_true, eq_self, reduceCtorEq, Bool.true_eq_false, and_true, true_and, and_false, false_and, or_true, true_or, or_false, false_or] at c_8; done))
    refine lv_istore (lv' := [(6, .int _), (0, .ref _), (1, .int _), (3, .int _), (4, .int _), (5, .int _)]) hx hb dX1_convex_76 hl (Nat.le_of_ble_eq_true rfl) rfl (fun ls hl => ?_)
    refine cutI (J := 116) (v := if isEnd i j N || decide (s_turn (σ.rp i) (σ.rp (nx i N)) (σ.rp j) = (itr (j_cvG σ N i) j (j_cvO σ N i))) then (itr (j_cvG σ N i) j (j_cvO σ N i)) else 0) ?_ (fun K24 => ?_)
    rotate_left
    · skip
      refine lv_iload hx hb dX1_convex_78 (lv_at hl 0 rfl) ?_
      refine b_ifne (tgt := 111) hx hb dX1_convex_80 rfl (fun c_80_3 => ?_) (fun c_80_3 => ?_)
      · skip
        refine lv_iload_n hx hb dX1_convex_111 rfl (lv_at hl 3 rfl) ?_
        refine lv_goto (tgt := 116) hx hb dX1_convex_112 rfl ?_
        exact K24 _ (by first | with_reducible rfl | (simp only [j_convex, pubR_eq c_8, ixn hN31, c_80_3, ↓reduceIte, Bool.true_and, Bool.and_true, Bool.false_and, Bool.and_false, Bool.true_or, Bool.or_true, Bool.false_or, Bool.or_false, Bool.not_true, Bool.not_false, decide_true, decide_false, bI_t, bI_f, Bool.false_eq_true, not_true_eq_false, not_false_eq_true, eq_self, reduceCtorEq, Bool.true_eq_false, and_true, true_and, and_false, false_and, or_true, true_or, or_false, false_or]; done) | (simp only [pubR_eq c_8, ixn hN31, ↓reduceIte, Bool.true_and, Bool.and_true, Bool.false_and, Bool.and_false, Bool.true_or, Bool.or_true, Bool.false_or, Bool.or_false, Bool.not_true, Bool.not_false, decide_true, decide_false, bI_t, bI_f, Bool.false_eq_true, not_true_eq_false, not_false_eq_true, eq_self, reduceCtorEq, Bool.true_eq_false, and_true, true_and, and_false, false_and, or_true, true_or, or_false, false_or] at c_80_3; done) | (simp only [ixn hN31, c_80_3, ↓reduceIte, Bool.true_and, Bool.and_true, Bool.false_and, Bool.and_false, Bool.true_or, Bool.or_true, Bool.false_or, Bool.or_false, Bool.not_true, Bool.not_false, decide_true, decide_false, bI_t, bI_f, Bool.false_eq_true, not_true_eq_false, not_false_eq_true, eq_self, reduceCtorEq, Bool.true_eq_false, and_true, true_and, and_false, false_and, or_true, true_or, or_false, false_or] at c_8; done))
      refine lv_aload_n hx hb dX1_convex_83 rfl (lv_at hl 1 rfl) ?_
      refine gf_X1_30 hx hb hts hown hK hJ.1 rfl dX1_convex_84 ?_
      refine lv_iload hx hb dX1_convex_87 (lv_at hl 4 rfl) ?_
      refine r_pald hx hb hK hJ.2.2.1 dX1_convex_89 (k := i) (Nat.lt_of_lt_of_le h_i hN) hO.rn31 rfl (ra_some (hr_ _ h_i).1) ?_
      refine lv_aload_n hx hb dX1_convex_90 rfl (lv_at hl 1 rfl) ?_
      refine lv_iload hx hb dX1_convex_91 (lv_at hl 4 rfl) ?_
      refine lv_iload_n hx hb dX1_convex_93 rfl (lv_at hl 2 rfl) ?_
      refine p_callV (As := [.int _, .int _]) hx hb hml hown hts hK hZ (met_X1_next l G hJ hO hN hr_ h_i) q276 q278 qs4 q42 q279 hv_X1_next rfl hJ.1 rfl (by decide) hl.1 rfl (Nat.le_of_ble_eq_true rfl) dX1_convex_94 ⟨Nat.zero_le _, Nat.zero_le _⟩ ?_
      refine lv_aload_n hx hb dX1_convex_97 rfl (lv_at hl 1 rfl) ?_
      refine gf_X1_30 hx hb hts hown hK hJ.1 rfl dX1_convex_98 ?_
      refine lv_iload hx hb dX1_convex_101 (lv_at hl 5 rfl) ?_
      refine r_pald hx hb hK hJ.2.2.1 dX1_convex_103 (k := j) (Nat.lt_of_lt_of_le h_j hN) hO.rn31 rfl (ra_some (hr_ _ h_j).1) ?_
      refine p_callS (As := [.ref _, .ref _, .ref _]) hx hb hml hown hts hK hZ (met_X1_turn l G (hJ.2.2.2.2.1 _ (hr_ _ h_i).2) (hJ.2.2.2.2.1 _ (hr_ _ (nx_lt h_i)).2) (hJ.2.2.2.2.1 _ (hr_ _ h_j).2)) q192 q193 q42 q194 hd_X1_turn rfl (by decide) hl.1 rfl (Nat.le_of_ble_eq_true rfl) dX1_convex_104 ⟨Nat.zero_le _, Nat.zero_le _⟩ ?_
      refine lv_iload_n hx hb dX1_convex_107 rfl (lv_at hl 3 rfl) ?_
      refine lv_icmp_ne (tgt := 115) hx hb dX1_convex_108 rfl (fun c_108_4 => ?_) (fun c_108_4 => ?_)
      · skip
        refine lv_iconst (v := 0) hx hb dX1_convex_115 ic_0 ?_
        exact K24 _ (by first | with_reducible rfl | (simp only [j_convex, pubR_eq c_8, ixn hN31, c_80_3, c_108_4, ↓reduceIte, Bool.true_and, Bool.and_true, Bool.false_and, Bool.and_false, Bool.true_or, Bool.or_true, Bool.false_or, Bool.or_false, Bool.not_true, Bool.not_false, decide_true, decide_false, bI_t, bI_f, Bool.false_eq_true, not_true_eq_false, not_false_eq_true, eq_self, reduceCtorEq, Bool.true_eq_false, and_true, true_and, and_false, false_and, or_true, true_or, or_false, false_or]; done) | (simp only [pubR_eq c_8, ixn hN31, c_80_3, ↓reduceIte, Bool.true_and, Bool.and_true, Bool.false_and, Bool.and_false, Bool.true_or, Bool.or_true, Bool.false_or, Bool.or_false, Bool.not_true, Bool.not_false, decide_true, decide_false, bI_t, bI_f, Bool.false_eq_true, not_true_eq_false, not_false_eq_true, eq_self, reduceCtorEq, Bool.true_eq_false, and_true, true_and, and_false, false_and, or_true, true_or, or_false, false_or] at c_108_4; done) | (simp only [pubR_eq c_8, ixn hN31, c_108_4, ↓reduceIte, Bool.true_and, Bool.and_true, Bool.false_and, Bool.and_false, Bool.true_or, Bool.or_true, Bool.false_or, Bool.or_false, Bool.not_true, Bool.not_false, decide_true, decide_false, bI_t, bI_f, Bool.false_eq_true, not_true_eq_false, not_false_eq_true, eq_self, reduceCtorEq, Bool.true_eq_false, and_true, true_and, and_false, false_and, or_true, true_or, or_false, false_or] at c_80_3; done) | (simp only [ixn hN31, c_80_3, c_108_4, ↓reduceIte, Bool.true_and, Bool.and_true, Bool.false_and, Bool.and_false, Bool.true_or, Bool.or_true, Bool.false_or, Bool.or_false, Bool.not_true, Bool.not_false, decide_true, decide_false, bI_t, bI_f, Bool.false_eq_true, not_true_eq_false, not_false_eq_true, eq_self, reduceCtorEq, Bool.true_eq_false, and_true, true_and, and_false, false_and, or_true, true_or, or_false, false_or] at c_8; done))
      refine lv_iload_n hx hb dX1_convex_111 rfl (lv_at hl 3 rfl) ?_
      refine lv_goto (tgt := 116) hx hb dX1_convex_112 rfl ?_
      exact K24 _ (by first | with_reducible rfl | (simp only [j_convex, pubR_eq c_8, ixn hN31, c_80_3, eq_true c_108_4, ↓reduceIte, Bool.true_and, Bool.and_true, Bool.false_and, Bool.and_false, Bool.true_or, Bool.or_true, Bool.false_or, Bool.or_false, Bool.not_true, Bool.not_false, decide_true, decide_false, bI_t, bI_f, Bool.false_eq_true, not_true_eq_false, not_false_eq_true, eq_self, reduceCtorEq, Bool.true_eq_false, and_true, true_and, and_false, false_and, or_true, true_or, or_false, false_or]; done) | (simp only [pubR_eq c_8, ixn hN31, c_80_3, ↓reduceIte, Bool.true_and, Bool.and_true, Bool.false_and, Bool.and_false, Bool.true_or, Bool.or_true, Bool.false_or, Bool.or_false, Bool.not_true, Bool.not_false, decide_true, decide_false, bI_t, bI_f, Bool.false_eq_true, not_true_eq_false, not_false_eq_true, eq_self, reduceCtorEq, Bool.true_eq_false, and_true, true_and, and_false, false_and, or_true, true_or, or_false, false_or] at c_108_4; done) | (simp only [pubR_eq c_8, ixn hN31, eq_true c_108_4, ↓reduceIte, Bool.true_and, Bool.and_true, Bool.false_and, Bool.and_false, Bool.true_or, Bool.or_true, Bool.false_or, Bool.or_false, Bool.not_true, Bool.not_false, decide_true, decide_false, bI_t, bI_f, Bool.false_eq_true, not_true_eq_false, not_false_eq_true, eq_self, reduceCtorEq, Bool.true_eq_false, and_true, true_and, and_false, false_and, or_true, true_or, or_false, false_or] at c_80_3; done) | (simp only [ixn hN31, c_80_3, eq_true c_108_4, ↓reduceIte, Bool.true_and, Bool.and_true, Bool.false_and, Bool.and_false, Bool.true_or, Bool.or_true, Bool.false_or, Bool.or_false, Bool.not_true, Bool.not_false, decide_true, decide_false, bI_t, bI_f, Bool.false_eq_true, not_true_eq_false, not_false_eq_true, eq_self, reduceCtorEq, Bool.true_eq_false, and_true, true_and, and_false, false_and, or_true, true_or, or_false, false_or] at c_8; done))
    refine lv_istore_n (lv' := [(3, .int _), (6, .int _), (0, .ref _), (1, .int _), (4, .int _), (5, .int _)]) hx hb dX1_convex_116 rfl hl (Nat.le_of_ble_eq_true rfl) rfl (fun ls hl => ?_)
    refine lv_iinc (v := nI (j + 1)) (k := 5) (lv' := [(5, .int _), (3, .int _), (6, .int _), (0, .ref _), (1, .int _), (4, .int _)]) hx hb dX1_convex_117 hl rfl (nI_1 _) (Nat.le_of_ble_eq_true rfl) rfl (fun ls hl => ?_)
    refine lv_goto (tgt := 47) hx hb dX1_convex_120 rfl ?_
    exact ih_j ls (lv_sub hl [3, 4, 1, 5, 0] rfl) h_j
  refine lv_iload_n hx hb dX1_convex_11 rfl (lv_at hl 0 rfl) ?_
  exact pm_iret hx hb hr hlk hH dX1_convex_12 (by first | with_reducible rfl | (simp only [j_convex, pubR_ne c_8, ↓reduceIte, Bool.true_and, Bool.and_true, Bool.false_and, Bool.and_false, Bool.true_or, Bool.or_true, Bool.false_or, Bool.or_false, Bool.not_true, Bool.not_false, decide_true, decide_false, bI_t, bI_f, Bool.false_eq_true, not_true_eq_false, not_false_eq_true, eq_self, reduceCtorEq, Bool.true_eq_false, and_true, true_and, and_false, false_and, or_true, true_or, or_false, false_or]; done))
theorem dX1_nearest_0 : decode cX1_nearest 0 = .ok (.aload_n 0, 1) := by decide +kernel
theorem dX1_nearest_1 : decode cX1_nearest 1 = .ok (.iload_n 1, 1) := by decide +kernel
theorem dX1_nearest_2 : decode cX1_nearest 2 = .ok (.invokevirtual 50, 3) := by decide +kernel
theorem dX1_nearest_5 : decode cX1_nearest 5 = .ok (.ifCond .eq 12, 3) := by decide +kernel
theorem dX1_nearest_8 : decode cX1_nearest 8 = .ok (.aload_n 0, 1) := by decide +kernel
theorem dX1_nearest_9 : decode cX1_nearest 9 = .ok (.iload_n 2, 1) := by decide +kernel
theorem dX1_nearest_10 : decode cX1_nearest 10 = .ok (.iconst 1, 1) := by decide +kernel
theorem dX1_nearest_11 : decode cX1_nearest 11 = .ok (.invokevirtual 130, 3) := by decide +kernel
theorem dX1_nearest_14 : decode cX1_nearest 14 = .ok (.goto 5, 3) := by decide +kernel
theorem dX1_nearest_17 : decode cX1_nearest 17 = .ok (.bipush (-2), 2) := by decide +kernel
theorem dX1_nearest_19 : decode cX1_nearest 19 = .ok (.istore_n 3, 1) := by decide +kernel
theorem dX1_nearest_20 : decode cX1_nearest 20 = .ok (.iload_n 3, 1) := by decide +kernel
theorem dX1_nearest_21 : decode cX1_nearest 21 = .ok (.ifCond .eq 5, 3) := by decide +kernel
theorem dX1_nearest_24 : decode cX1_nearest 24 = .ok (.iload_n 3, 1) := by decide +kernel
theorem dX1_nearest_25 : decode cX1_nearest 25 = .ok (.ireturn, 1) := by decide +kernel
theorem dX1_nearest_26 : decode cX1_nearest 26 = .ok (.aload_n 0, 1) := by decide +kernel
theorem dX1_nearest_27 : decode cX1_nearest 27 = .ok (.getfield 26, 3) := by decide +kernel
theorem dX1_nearest_30 : decode cX1_nearest 30 = .ok (.iload_n 1, 1) := by decide +kernel
theorem dX1_nearest_31 : decode cX1_nearest 31 = .ok (.aaload, 1) := by decide +kernel
theorem dX1_nearest_32 : decode cX1_nearest 32 = .ok (.aload_n 0, 1) := by decide +kernel
theorem dX1_nearest_33 : decode cX1_nearest 33 = .ok (.getfield 30, 3) := by decide +kernel
theorem dX1_nearest_36 : decode cX1_nearest 36 = .ok (.iconst 0, 1) := by decide +kernel
theorem dX1_nearest_37 : decode cX1_nearest 37 = .ok (.aaload, 1) := by decide +kernel
theorem dX1_nearest_38 : decode cX1_nearest 38 = .ok (.invokevirtual 153, 3) := by decide +kernel
theorem dX1_nearest_41 : decode cX1_nearest 41 = .ok (.lstore 4, 2) := by decide +kernel
theorem dX1_nearest_43 : decode cX1_nearest 43 = .ok (.iconst 0, 1) := by decide +kernel
theorem dX1_nearest_44 : decode cX1_nearest 44 = .ok (.istore 6, 2) := by decide +kernel
theorem dX1_nearest_46 : decode cX1_nearest 46 = .ok (.iconst 0, 1) := by decide +kernel
theorem dX1_nearest_47 : decode cX1_nearest 47 = .ok (.istore 7, 2) := by decide +kernel
theorem dX1_nearest_49 : decode cX1_nearest 49 = .ok (.iload 7, 2) := by decide +kernel
theorem dX1_nearest_51 : decode cX1_nearest 51 = .ok (.iload_n 2, 1) := by decide +kernel
theorem dX1_nearest_52 : decode cX1_nearest 52 = .ok (.if_icmp .ge 73, 3) := by decide +kernel
theorem dX1_nearest_55 : decode cX1_nearest 55 = .ok (.aload_n 0, 1) := by decide +kernel
theorem dX1_nearest_56 : decode cX1_nearest 56 = .ok (.getfield 26, 3) := by decide +kernel
theorem dX1_nearest_59 : decode cX1_nearest 59 = .ok (.iload_n 1, 1) := by decide +kernel
theorem dX1_nearest_60 : decode cX1_nearest 60 = .ok (.aaload, 1) := by decide +kernel
theorem dX1_nearest_61 : decode cX1_nearest 61 = .ok (.aload_n 0, 1) := by decide +kernel
theorem dX1_nearest_62 : decode cX1_nearest 62 = .ok (.getfield 30, 3) := by decide +kernel
theorem dX1_nearest_65 : decode cX1_nearest 65 = .ok (.iload 7, 2) := by decide +kernel
theorem dX1_nearest_67 : decode cX1_nearest 67 = .ok (.aaload, 1) := by decide +kernel
theorem dX1_nearest_68 : decode cX1_nearest 68 = .ok (.invokevirtual 153, 3) := by decide +kernel
theorem dX1_nearest_71 : decode cX1_nearest 71 = .ok (.lstore 8, 2) := by decide +kernel
theorem dX1_nearest_73 : decode cX1_nearest 73 = .ok (.lload 8, 2) := by decide +kernel
theorem dX1_nearest_75 : decode cX1_nearest 75 = .ok (.lload 4, 2) := by decide +kernel
theorem dX1_nearest_77 : decode cX1_nearest 77 = .ok (.lcmp, 1) := by decide +kernel
theorem dX1_nearest_78 : decode cX1_nearest 78 = .ok (.ifCond .ge 10, 3) := by decide +kernel
theorem dX1_nearest_81 : decode cX1_nearest 81 = .ok (.iconst 1, 1) := by decide +kernel
theorem dX1_nearest_82 : decode cX1_nearest 82 = .ok (.iload 7, 2) := by decide +kernel
theorem dX1_nearest_84 : decode cX1_nearest 84 = .ok (.ishl, 1) := by decide +kernel
theorem dX1_nearest_85 : decode cX1_nearest 85 = .ok (.goto 23, 3) := by decide +kernel
theorem dX1_nearest_88 : decode cX1_nearest 88 = .ok (.lload 8, 2) := by decide +kernel
theorem dX1_nearest_90 : decode cX1_nearest 90 = .ok (.lload 4, 2) := by decide +kernel
theorem dX1_nearest_92 : decode cX1_nearest 92 = .ok (.lcmp, 1) := by decide +kernel
theorem dX1_nearest_93 : decode cX1_nearest 93 = .ok (.ifCond .ne 13, 3) := by decide +kernel
theorem dX1_nearest_96 : decode cX1_nearest 96 = .ok (.iload 6, 2) := by decide +kernel
theorem dX1_nearest_98 : decode cX1_nearest 98 = .ok (.iconst 1, 1) := by decide +kernel
theorem dX1_nearest_99 : decode cX1_nearest 99 = .ok (.iload 7, 2) := by decide +kernel
theorem dX1_nearest_101 : decode cX1_nearest 101 = .ok (.ishl, 1) := by decide +kernel
theorem dX1_nearest_102 : decode cX1_nearest 102 = .ok (.ior, 1) := by decide +kernel
theorem dX1_nearest_103 : decode cX1_nearest 103 = .ok (.goto 5, 3) := by decide +kernel
theorem dX1_nearest_106 : decode cX1_nearest 106 = .ok (.iload 6, 2) := by decide +kernel
theorem dX1_nearest_108 : decode cX1_nearest 108 = .ok (.istore 6, 2) := by decide +kernel
theorem dX1_nearest_110 : decode cX1_nearest 110 = .ok (.lload 4, 2) := by decide +kernel
theorem dX1_nearest_112 : decode cX1_nearest 112 = .ok (.lload 8, 2) := by decide +kernel
theorem dX1_nearest_114 : decode cX1_nearest 114 = .ok (.invokestatic 157, 3) := by decide +kernel
theorem dX1_nearest_117 : decode cX1_nearest 117 = .ok (.lstore 4, 2) := by decide +kernel
theorem dX1_nearest_119 : decode cX1_nearest 119 = .ok (.iinc 7 1, 3) := by decide +kernel
theorem dX1_nearest_122 : decode cX1_nearest 122 = .ok (.goto (-73), 3) := by decide +kernel
theorem dX1_nearest_125 : decode cX1_nearest 125 = .ok (.iload 6, 2) := by decide +kernel
theorem dX1_nearest_127 : decode cX1_nearest 127 = .ok (.ireturn, 1) := by decide +kernel
set_option maxHeartbeats 4000000 in
theorem met_X1_nearest (l : Launch) (G : GG) {H : Heap} {o : Nat} {B P L : Nat → Nat} {σ : Sg} {b n : Int32} (hJ : JW G H o B P L σ) (hO : Ok σ) : PM l yX1_nearest cX1_nearest 10 (some .int) 2 49 G H [.ref o, .int b, .int n] (some (.int (pubRP σ n b (j_near σ)))) := by
  refine pm_intro pl_X1_nearest (Nat.le_of_ble_eq_true rfl) ?_
  intro pX eX sX mX belX methX cX ls hE hnm hl
  obtain ⟨hx, hb, hr, hlk, hml, hown, hts, hK, hZ, hH⟩ := hE
  have hl : lv_has ls 10 [(0, .ref o), (1, .int b), (2, .int n)] := hl
  refine lv_aload_n hx hb dX1_nearest_0 rfl (lv_at hl 0 rfl) ?_
  refine lv_iload_n hx hb dX1_nearest_1 rfl (lv_at hl 1 rfl) ?_
  refine p_callV (As := [.int _]) hx hb hml hown hts hK hZ (met_X1_isPoint l G hJ hO ) q156 q158 qs1 q42 q159 hv_X1_isPoint rfl hJ.1 rfl (by decide) hl.1 rfl (Nat.le_of_ble_eq_true rfl) dX1_nearest_2 ⟨Nat.zero_le _, Nat.zero_le _⟩ ?_
  refine b_ifeq (tgt := 17) hx hb dX1_nearest_5 rfl (fun c_5 => ?_) (fun c_5 => ?_)
  · skip
    refine lv_bipush (v := -2) hx hb dX1_nearest_17 ib_m2 ?_
    refine lv_istore_n (lv' := [(3, .int _), (0, .ref _), (1, .int _), (2, .int _)]) hx hb dX1_nearest_19 rfl hl (Nat.le_of_ble_eq_true rfl) rfl (fun ls hl => ?_)
    refine lv_iload_n hx hb dX1_nearest_20 rfl (lv_at hl 0 rfl) ?_
    refine lv_if_eq (tgt := 26) hx hb dX1_nearest_21 rfl (fun c_21 => absurd c_21 (by decide)) (fun _ => ?_)
    refine lv_iload_n hx hb dX1_nearest_24 rfl (lv_at hl 0 rfl) ?_
    exact pm_iret hx hb hr hlk hH dX1_nearest_25 (by first | with_reducible rfl | (simp only [j_near, pubRP_f c_5, ↓reduceIte, Bool.true_and, Bool.and_true, Bool.false_and, Bool.and_false, Bool.true_or, Bool.or_true, Bool.false_or, Bool.or_false, Bool.not_true, Bool.not_false, decide_true, decide_false, bI_t, bI_f, Bool.false_eq_true, not_true_eq_false, not_false_eq_true, eq_self, reduceCtorEq, Bool.true_eq_false, and_true, true_and, and_false, false_and, or_true, true_or, or_false, false_or]; done))
  obtain ⟨b_, i_b, rfl⟩ := isPt_elim hO.1.1 c_5
  refine lv_aload_n hx hb dX1_nearest_8 rfl (lv_at hl 0 rfl) ?_
  refine lv_iload_n hx hb dX1_nearest_9 rfl (lv_at hl 2 rfl) ?_
  refine lv_iconst (v := 1) hx hb dX1_nearest_10 ic_1 ?_
  refine p_callV (As := [.int _, .int _]) hx hb hml hown hts hK hZ (met_X1_refused l G hJ hO (by decide)) q272 q274 qs3 q42 q275 hv_X1_refused rfl hJ.1 rfl (by decide) hl.1 rfl (Nat.le_of_ble_eq_true rfl) dX1_nearest_11 ⟨Nat.zero_le _, Nat.zero_le _⟩ ?_
  refine lv_goto (tgt := 19) hx hb dX1_nearest_14 rfl ?_
  refine lv_istore_n (lv' := [(3, .int _), (0, .ref _), (1, .int _), (2, .int _)]) hx hb dX1_nearest_19 rfl hl (Nat.le_of_ble_eq_true rfl) rfl (fun ls hl => ?_)
  refine lv_iload_n hx hb dX1_nearest_20 rfl (lv_at hl 0 rfl) ?_
  refine lv_if_eq (tgt := 26) hx hb dX1_nearest_21 rfl (fun c_21 => ?_) (fun c_21 => ?_)
  · skip
    obtain ⟨N, hN, rfl, hge, hw_⟩ := ref_elim (by decide) hO c_21
    have hN31 : N < 2 ^ 31 := Nat.lt_of_le_of_lt hN hO.rn31
    have e1_ : (1 : Int32).toInt = 1 := rfl
    have e3_ : (3 : Int32).toInt = 3 := rfl
    have hpos : 0 < N := by omega
    have hr_ := HR.of hO hw_
    refine lv_aload_n hx hb dX1_nearest_26 rfl (lv_at hl 1 rfl) ?_
    refine gf_X1_26 hx hb hts hown hK hJ.1 rfl dX1_nearest_27 ?_
    refine lv_iload_n hx hb dX1_nearest_30 rfl (lv_at hl 2 rfl) ?_
    refine r_pald hx hb hK hJ.2.1 dX1_nearest_31 (k := b_) (hO.lt60 i_b) (by decide) rfl (pa_some i_b) ?_
    refine lv_aload_n hx hb dX1_nearest_32 rfl (lv_at hl 1 rfl) ?_
    refine gf_X1_30 hx hb hts hown hK hJ.1 rfl dX1_nearest_33 ?_
    refine lv_iconst (v := 0) hx hb dX1_nearest_36 ic_0 ?_
    refine r_pald hx hb hK hJ.2.2.1 dX1_nearest_37 (k := 0) (Nat.lt_of_lt_of_le hpos hN) hO.rn31 rfl (ra_some (hr_ _ hpos).1) ?_
    refine p_callV (As := [.ref _]) hx hb hml hown hts hK hZ (met_X3_far l G (hJ.2.2.2.2.1 _ i_b) (hJ.2.2.2.2.1 _ (hr_ _ hpos).2)) q321 q322 q323 q44 q324 hv_X3_far rfl (hJ.2.2.2.2.1 _ i_b) rfl (by decide) hl.1 rfl (Nat.le_of_ble_eq_true rfl) dX1_nearest_38 ⟨Nat.zero_le _, Nat.zero_le _⟩ ?_
    refine lv_lstore (lv' := [(4, .long _), (3, .int _), (0, .ref _), (1, .int _), (2, .int _)]) hx hb dX1_nearest_41 hl (Nat.le_of_ble_eq_true rfl) rfl (fun ls hl => ?_)
    refine lv_iconst (v := 0) hx hb dX1_nearest_43 ic_0 ?_
    refine lv_istore (lv' := [(6, .int _), (4, .long _), (3, .int _), (0, .ref _), (1, .int _), (2, .int _)]) hx hb dX1_nearest_44 hl (Nat.le_of_ble_eq_true rfl) rfl (fun ls hl => ?_)
    refine lv_iconst (v := 0) hx hb dX1_nearest_46 ic_0 ?_
    refine lv_istore (lv' := [(7, .int _), (6, .int _), (4, .long _), (3, .int _), (0, .ref _), (1, .int _), (2, .int _)]) hx hb dX1_nearest_47 hl (Nat.le_of_ble_eq_true rfl) rfl (fun ls hl => ?_)
    refine loopW (N := N) (nL := 10) (lv := fun k => [(0, .ref o), (1, .int (nI b_)), (2, .int (nI N)), (4, .long (j_nrO σ b_ k).2), (6, .int (j_nrO σ b_ k).1), (7, .int (nI k))]) (fun k hk_k ih_k ls hl => ?_) 0 (Nat.zero_le _) ls (lv_sub hl [4, 5, 6, 2, 1, 0] rfl)
    replace hl : lv_has ls 10 [(0, .ref o), (1, .int (nI b_)), (2, .int (nI N)), (4, .long (j_nrO σ b_ k).2), (6, .int (j_nrO σ b_ k).1), (7, .int (nI k))] := hl
    refine lv_iload hx hb dX1_nearest_49 (lv_at hl 5 rfl) ?_
    refine lv_iload_n hx hb dX1_nearest_51 rfl (lv_at hl 2 rfl) ?_
    refine lv_icmp_ge (tgt := 125) hx hb dX1_nearest_52 rfl (fun c_52_2 => ?_) (fun c_52_2 => ?_)
    · skip
      have e_k := lp_out hk_k hN31 c_52_2
      subst e_k
      refine lv_iload hx hb dX1_nearest_125 (lv_at hl 4 rfl) ?_
      exact pm_iret hx hb hr hlk hH dX1_nearest_127 (by first | with_reducible rfl | (simp only [j_near, pubRP_R c_5, hO.ix i_b, pubR_eq c_21, ixn hN31, ↓reduceIte, Bool.true_and, Bool.and_true, Bool.false_and, Bool.and_false, Bool.true_or, Bool.or_true, Bool.false_or, Bool.or_false, Bool.not_true, Bool.not_false, decide_true, decide_false, bI_t, bI_f, Bool.false_eq_true, not_true_eq_false, not_false_eq_true, eq_self, reduceCtorEq, Bool.true_eq_false, and_true, true_and, and_false, false_and, or_true, true_or, or_false, false_or]; done) | (simp only [pubRP_R c_5, hO.ix i_b, ixn hN31, ↓reduceIte, Bool.true_and, Bool.and_true, Bool.false_and, Bool.and_false, Bool.true_or, Bool.or_true, Bool.false_or, Bool.or_false, Bool.not_true, Bool.not_false, decide_true, decide_false, bI_t, bI_f, Bool.false_eq_true, not_true_eq_false, not_false_eq_true, eq_self, reduceCtorEq, Bool.true_eq_false, and_true, true_and, and_false, false_and, or_true, true_or, or_false, false_or] at c_21; done) | (simp only [hO.ix i_b, pubR_eq c_21, ixn hN31, ↓reduceIte, Bool.true_and, Bool.and_true, Bool.false_and, Bool.and_false, Bool.true_or, Bool.or_true, Bool.false_or, Bool.or_false, Bool.not_true, Bool.not_false, decide_true, decide_false, bI_t, bI_f, Bool.false_eq_true, not_true_eq_false, not_false_eq_true, eq_self, reduceCtorEq, Bool.true_eq_false, and_true, true_and, and_false, false_and, or_true, true_or, or_false, false_or] at c_5; done))
    have h_k := lp_in hk_k hN31 c_52_2
    refine lv_aload_n hx hb dX1_nearest_55 rfl (lv_at hl 0 rfl) ?_
    refine gf_X1_26 hx hb hts hown hK hJ.1 rfl dX1_nearest_56 ?_
    refine lv_iload_n hx hb dX1_nearest_59 rfl (lv_at hl 1 rfl) ?_
    refine r_pald hx hb hK hJ.2.1 dX1_nearest_60 (k := b_) (hO.lt60 i_b) (by decide) rfl (pa_some i_b) ?_
    refine lv_aload_n hx hb dX1_nearest_61 rfl (lv_at hl 0 rfl) ?_
    refine gf_X1_30 hx hb hts hown hK hJ.1 rfl dX1_nearest_62 ?_
    refine lv_iload hx hb dX1_nearest_65 (lv_at hl 5 rfl) ?_
    refine r_pald hx hb hK hJ.2.2.1 dX1_nearest_67 (k := k) (Nat.lt_of_lt_of_le h_k hN) hO.rn31 rfl (ra_some (hr_ _ h_k).1) ?_
    refine p_callV (As := [.ref _]) hx hb hml hown hts hK hZ (met_X3_far l G (hJ.2.2.2.2.1 _ i_b) (hJ.2.2.2.2.1 _ (hr_ _ h_k).2)) q321 q322 q323 q44 q324 hv_X3_far rfl (hJ.2.2.2.2.1 _ i_b) rfl (by decide) hl.1 rfl (Nat.le_of_ble_eq_true rfl) dX1_nearest_68 ⟨Nat.zero_le _, Nat.zero_le _⟩ ?_
    refine lv_lstore (lv' := [(8, .long _), (0, .ref _), (1, .int _), (2, .int _), (4, .long _), (6, .int _), (7, .int _)]) hx hb dX1_nearest_71 hl (Nat.le_of_ble_eq_true rfl) rfl (fun ls hl => ?_)
    refine cutI (J := 108) (v := if (j_nrO σ b_ k).2 ≤ s_far (σ.pt b_) (σ.rp k) then (if s_far (σ.pt b_) (σ.rp k) = (j_nrO σ b_ k).2 then (j_nrO σ b_ k).1 ||| (1 <<< (nI k &&& 31)) else (j_nrO σ b_ k).1) else 1 <<< (nI k &&& 31)) ?_ (fun K25 => ?_)
    rotate_left
    · skip
      refine lv_lload hx hb dX1_nearest_73 (lv_at hl 0 rfl) ?_
      refine lv_lload hx hb dX1_nearest_75 (lv_at hl 4 rfl) ?_
      refine lc_ge (tgt := 88) hx hb dX1_nearest_77 dX1_nearest_78 rfl (fun c_77_3 => ?_) (fun c_77_3 => ?_)
      · skip
        refine lv_lload hx hb dX1_nearest_88 (lv_at hl 0 rfl) ?_
        refine lv_lload hx hb dX1_nearest_90 (lv_at hl 4 rfl) ?_
        refine lc_ne (tgt := 106) hx hb dX1_nearest_92 dX1_nearest_93 rfl (fun c_92_4 => ?_) (fun c_92_4 => ?_)
        · skip
          refine lv_iload hx hb dX1_nearest_106 (lv_at hl 5 rfl) ?_
          exact K25 _ (by first | with_reducible rfl | (simp only [j_near, pubRP_R c_5, hO.ix i_b, pubR_eq c_21, ixn hN31, c_77_3, Int64.not_lt.mpr c_77_3, c_92_4, ↓reduceIte, Bool.true_and, Bool.and_true, Bool.false_and, Bool.and_false, Bool.true_or, Bool.or_true, Bool.false_or, Bool.or_false, Bool.not_true, Bool.not_false, decide_true, decide_false, bI_t, bI_f, Bool.false_eq_true, not_true_eq_false, not_false_eq_true, eq_self, reduceCtorEq, Bool.true_eq_false, and_true, true_and, and_false, false_and, or_true, true_or, or_false, false_or]; done) | (simp only [pubRP_R c_5, hO.ix i_b, pubR_eq c_21, ixn hN31, c_77_3, Int64.not_lt.mpr c_77_3, ↓reduceIte, Bool.true_and, Bool.and_true, Bool.false_and, Bool.and_false, Bool.true_or, Bool.or_true, Bool.false_or, Bool.or_false, Bool.not_true, Bool.not_false, decide_true, decide_false, bI_t, bI_f, Bool.false_eq_true, not_true_eq_false, not_false_eq_true, eq_self, reduceCtorEq, Bool.true_eq_false, and_true, true_and, and_false, false_and, or_true, true_or, or_false, false_or] at c_92_4; done) | (simp only [pubRP_R c_5, hO.ix i_b, pubR_eq c_21, ixn hN31, c_92_4, ↓reduceIte, Bool.true_and, Bool.and_true, Bool.false_and, Bool.and_false, Bool.true_or, Bool.or_true, Bool.false_or, Bool.or_false, Bool.not_true, Bool.not_false, decide_true, decide_false, bI_t, bI_f, Bool.false_eq_true, not_true_eq_false, not_false_eq_true, eq_self, reduceCtorEq, Bool.true_eq_false, and_true, true_and, and_false, false_and, or_true, true_or, or_false, false_or] at c_77_3; done) | (simp only [pubRP_R c_5, hO.ix i_b, ixn hN31, c_77_3, Int64.not_lt.mpr c_77_3, c_92_4, ↓reduceIte, Bool.true_and, Bool.and_true, Bool.false_and, Bool.and_false, Bool.true_or, Bool.or_true, Bool.false_or, Bool.or_false, Bool.not_true, Bool.not_false, decide_true, decide_false, bI_t, bI_f, Bool.false_eq_true, not_true_eq_false, not_false_eq_true, eq_self, reduceCtorEq, Bool.true_eq_false, and_true, true_and, and_false, false_and, or_true, true_or, or_false, false_or] at c_21; done) | (simp only [hO.ix i_b, pubR_eq c_21, ixn hN31, c_77_3, Int64.not_lt.mpr c_77_3, c_92_4, ↓reduceIte, Bool.true_and, Bool.and_true, Bool.false_and, Bool.and_false, Bool.true_or, Bool.or_true, Bool.false_or, Bool.or_false, Bool.not_true, Bool.not_false, decide_true, decide_false, bI_t, bI_f, Bool.false_eq_true, not_true_eq_false, not_false_eq_true, eq_self, reduceCtorEq, Bool.true_eq_false, and_true, true_and, and_false, false_and, or_true, true_or, or_false, false_or] at c_5; done))
        refine lv_iload hx hb dX1_nearest_96 (lv_at hl 5 rfl) ?_
        refine lv_iconst (v := 1) hx hb dX1_nearest_98 ic_1 ?_
        refine lv_iload hx hb dX1_nearest_99 (lv_at hl 6 rfl) ?_
        refine lv_ishl hx hb dX1_nearest_101 ?_
        refine lv_ior hx hb dX1_nearest_102 ?_
        refine lv_goto (tgt := 108) hx hb dX1_nearest_103 rfl ?_
        exact K25 _ (by first | with_reducible rfl | (simp only [j_near, pubRP_R c_5, hO.ix i_b, pubR_eq c_21, ixn hN31, c_77_3, Int64.not_lt.mpr c_77_3, eq_true c_92_4, ↓reduceIte, Bool.true_and, Bool.and_true, Bool.false_and, Bool.and_false, Bool.true_or, Bool.or_true, Bool.false_or, Bool.or_false, Bool.not_true, Bool.not_false, decide_true, decide_false, bI_t, bI_f, Bool.false_eq_true, not_true_eq_false, not_false_eq_true, eq_self, reduceCtorEq, Bool.true_eq_false, and_true, true_and, and_false, false_and, or_true, true_or, or_false, false_or]; done) | (simp only [pubRP_R c_5, hO.ix i_b, pubR_eq c_21, ixn hN31, c_77_3, Int64.not_lt.mpr c_77_3, ↓reduceIte, Bool.true_and, Bool.and_true, Bool.false_and, Bool.and_false, Bool.true_or, Bool.or_true, Bool.false_or, Bool.or_false, Bool.not_true, Bool.not_false, decide_true, decide_false, bI_t, bI_f, Bool.false_eq_true, not_true_eq_false, not_false_eq_true, eq_self, reduceCtorEq, Bool.true_eq_false, and_true, true_and, and_false, false_and, or_true, true_or, or_false, false_or] at c_92_4; done) | (simp only [pubRP_R c_5, hO.ix i_b, pubR_eq c_21, ixn hN31, eq_true c_92_4, ↓reduceIte, Bool.true_and, Bool.and_true, Bool.false_and, Bool.and_false, Bool.true_or, Bool.or_true, Bool.false_or, Bool.or_false, Bool.not_true, Bool.not_false, decide_true, decide_false, bI_t, bI_f, Bool.false_eq_true, not_true_eq_false, not_false_eq_true, eq_self, reduceCtorEq, Bool.true_eq_false, and_true, true_and, and_false, false_and, or_true, true_or, or_false, false_or] at c_77_3; done) | (simp only [pubRP_R c_5, hO.ix i_b, ixn hN31, c_77_3, Int64.not_lt.mpr c_77_3, eq_true c_92_4, ↓reduceIte, Bool.true_and, Bool.and_true, Bool.false_and, Bool.and_false, Bool.true_or, Bool.or_true, Bool.false_or, Bool.or_false, Bool.not_true, Bool.not_false, decide_true, decide_false, bI_t, bI_f, Bool.false_eq_true, not_true_eq_false, not_false_eq_true, eq_self, reduceCtorEq, Bool.true_eq_false, and_true, true_and, and_false, false_and, or_true, true_or, or_false, false_or] at c_21; done) | (simp only [hO.ix i_b, pubR_eq c_21, ixn hN31, c_77_3, Int64.not_lt.mpr c_77_3, eq_true c_92_4, ↓reduceIte, Bool.true_and, Bool.and_true, Bool.false_and, Bool.and_false, Bool.true_or, Bool.or_true, Bool.false_or, Bool.or_false, Bool.not_true, Bool.not_false, decide_true, decide_false, bI_t, bI_f, Bool.false_eq_true, not_true_eq_false, not_false_eq_true, eq_self, reduceCtorEq, Bool.true_eq_false, and_true, true_and, and_false, false_and, or_true, true_or, or_false, false_or] at c_5; done))
      refine lv_iconst (v := 1) hx hb dX1_nearest_81 ic_1 ?_
      refine lv_iload hx hb dX1_nearest_82 (lv_at hl 6 rfl) ?_
      refine lv_ishl hx hb dX1_nearest_84 ?_
      refine lv_goto (tgt := 108) hx hb dX1_nearest_85 rfl ?_
      exact K25 _ (by first | with_reducible rfl | (simp only [j_near, pubRP_R c_5, hO.ix i_b, pubR_eq c_21, ixn hN31, c_77_3, Int64.not_le.mp c_77_3, ↓reduceIte, Bool.true_and, Bool.and_true, Bool.false_and, Bool.and_false, Bool.true_or, Bool.or_true, Bool.false_or, Bool.or_false, Bool.not_true, Bool.not_false, decide_true, decide_false, bI_t, bI_f, Bool.false_eq_true, not_true_eq_false, not_false_eq_true, eq_self, reduceCtorEq, Bool.true_eq_false, and_true, true_and, and_false, false_and, or_true, true_or, or_false, false_or]; done) | (simp only [pubRP_R c_5, hO.ix i_b, pubR_eq c_21, ixn hN31, ↓reduceIte, Bool.true_and, Bool.and_true, Bool.false_and, Bool.and_false, Bool.true_or, Bool.or_true, Bool.false_or, Bool.or_false, Bool.not_true, Bool.not_false, decide_true, decide_false, bI_t, bI_f, Bool.false_eq_true, not_true_eq_false, not_false_eq_true, eq_self, reduceCtorEq, Bool.true_eq_false, and_true, true_and, and_false, false_and, or_true, true_or, or_false, false_or] at c_77_3; done) | (simp only [pubRP_R c_5, hO.ix i_b, ixn hN31, c_77_3, Int64.not_le.mp c_77_3, ↓reduceIte, Bool.true_and, Bool.and_true, Bool.false_and, Bool.and_false, Bool.true_or, Bool.or_true, Bool.false_or, Bool.or_false, Bool.not_true, Bool.not_false, decide_true, decide_false, bI_t, bI_f, Bool.false_eq_true, not_true_eq_false, not_false_eq_true, eq_self, reduceCtorEq, Bool.true_eq_false, and_true, true_and, and_false, false_and, or_true, true_or, or_false, false_or] at c_21; done) | (simp only [hO.ix i_b, pubR_eq c_21, ixn hN31, c_77_3, Int64.not_le.mp c_77_3, ↓reduceIte, Bool.true_and, Bool.and_true, Bool.false_and, Bool.and_false, Bool.true_or, Bool.or_true, Bool.false_or, Bool.or_false, Bool.not_true, Bool.not_false, decide_true, decide_false, bI_t, bI_f, Bool.false_eq_true, not_true_eq_false, not_false_eq_true, eq_self, reduceCtorEq, Bool.true_eq_false, and_true, true_and, and_false, false_and, or_true, true_or, or_false, false_or] at c_5; done))
    refine lv_istore (lv' := [(6, .int _), (8, .long _), (0, .ref _), (1, .int _), (2, .int _), (4, .long _), (7, .int _)]) hx hb dX1_nearest_108 hl (Nat.le_of_ble_eq_true rfl) rfl (fun ls hl => ?_)
    refine lv_lload hx hb dX1_nearest_110 (lv_at hl 5 rfl) ?_
    refine lv_lload hx hb dX1_nearest_112 (lv_at hl 1 rfl) ?_
    refine va_mmin_long hx hb (by rw [hml]; exact hl.1.symm) hown (hts _ q325) (hts _ q326) (hts _ q54) (hts _ q327) (Nat.le_of_ble_eq_true rfl) (Nat.le_of_ble_eq_true rfl) (Nat.zero_le _) (Nat.zero_le _) dX1_nearest_114 ?_
    refine lv_lstore (lv' := [(4, .long _), (6, .int _), (8, .long _), (0, .ref _), (1, .int _), (2, .int _), (7, .int _)]) hx hb dX1_nearest_117 hl (Nat.le_of_ble_eq_true rfl) rfl (fun ls hl => ?_)
    refine lv_iinc (v := nI (k + 1)) (k := 6) (lv' := [(7, .int _), (4, .long _), (6, .int _), (8, .long _), (0, .ref _), (1, .int _), (2, .int _)]) hx hb dX1_nearest_119 hl rfl (nI_1 _) (Nat.le_of_ble_eq_true rfl) rfl (fun ls hl => ?_)
    refine lv_goto (tgt := 49) hx hb dX1_nearest_122 rfl ?_
    exact ih_k ls (lv_sub hl [4, 5, 6, 1, 2, 0] rfl) h_k
  refine lv_iload_n hx hb dX1_nearest_24 rfl (lv_at hl 0 rfl) ?_
  exact pm_iret hx hb hr hlk hH dX1_nearest_25 (by first | with_reducible rfl | (simp only [j_near, pubRP_R c_5, hO.ix i_b, pubR_ne c_21, ↓reduceIte, Bool.true_and, Bool.and_true, Bool.false_and, Bool.and_false, Bool.true_or, Bool.or_true, Bool.false_or, Bool.or_false, Bool.not_true, Bool.not_false, decide_true, decide_false, bI_t, bI_f, Bool.false_eq_true, not_true_eq_false, not_false_eq_true, eq_self, reduceCtorEq, Bool.true_eq_false, and_true, true_and, and_false, false_and, or_true, true_or, or_false, false_or]; done) | (simp only [pubRP_R c_5, hO.ix i_b, ↓reduceIte, Bool.true_and, Bool.and_true, Bool.false_and, Bool.and_false, Bool.true_or, Bool.or_true, Bool.false_or, Bool.or_false, Bool.not_true, Bool.not_false, decide_true, decide_false, bI_t, bI_f, Bool.false_eq_true, not_true_eq_false, not_false_eq_true, eq_self, reduceCtorEq, Bool.true_eq_false, and_true, true_and, and_false, false_and, or_true, true_or, or_false, false_or] at c_21; done) | (simp only [hO.ix i_b, pubR_ne c_21, ↓reduceIte, Bool.true_and, Bool.and_true, Bool.false_and, Bool.and_false, Bool.true_or, Bool.or_true, Bool.false_or, Bool.or_false, Bool.not_true, Bool.not_false, decide_true, decide_false, bI_t, bI_f, Bool.false_eq_true, not_true_eq_false, not_false_eq_true, eq_self, reduceCtorEq, Bool.true_eq_false, and_true, true_and, and_false, false_and, or_true, true_or, or_false, false_or] at c_5; done))
theorem dX10_isAhead_0 : decode cX10_isAhead 0 = .ok (.aload_n 0, 1) := by decide +kernel
theorem dX10_isAhead_1 : decode cX10_isAhead 1 = .ok (.aload_n 1, 1) := by decide +kernel
theorem dX10_isAhead_2 : decode cX10_isAhead 2 = .ok (.aload_n 3, 1) := by decide +kernel
theorem dX10_isAhead_3 : decode cX10_isAhead 3 = .ok (.invokeinterface 1 3, 5) := by decide +kernel
theorem dX10_isAhead_8 : decode cX10_isAhead 8 = .ok (.lstore 5, 2) := by decide +kernel
theorem dX10_isAhead_10 : decode cX10_isAhead 10 = .ok (.lload 5, 2) := by decide +kernel
theorem dX10_isAhead_12 : decode cX10_isAhead 12 = .ok (.lconst 0, 1) := by decide +kernel
theorem dX10_isAhead_13 : decode cX10_isAhead 13 = .ok (.lcmp, 1) := by decide +kernel
theorem dX10_isAhead_14 : decode cX10_isAhead 14 = .ok (.ifCond .lt 16, 3) := by decide +kernel
theorem dX10_isAhead_17 : decode cX10_isAhead 17 = .ok (.lload 5, 2) := by decide +kernel
theorem dX10_isAhead_19 : decode cX10_isAhead 19 = .ok (.lconst 0, 1) := by decide +kernel
theorem dX10_isAhead_20 : decode cX10_isAhead 20 = .ok (.lcmp, 1) := by decide +kernel
theorem dX10_isAhead_21 : decode cX10_isAhead 21 = .ok (.ifCond .ne 13, 3) := by decide +kernel
theorem dX10_isAhead_24 : decode cX10_isAhead 24 = .ok (.iload_n 2, 1) := by decide +kernel
theorem dX10_isAhead_25 : decode cX10_isAhead 25 = .ok (.iload 4, 2) := by decide +kernel
theorem dX10_isAhead_27 : decode cX10_isAhead 27 = .ok (.if_icmp .ge 7, 3) := by decide +kernel
theorem dX10_isAhead_30 : decode cX10_isAhead 30 = .ok (.iconst 1, 1) := by decide +kernel
theorem dX10_isAhead_31 : decode cX10_isAhead 31 = .ok (.goto 4, 3) := by decide +kernel
theorem dX10_isAhead_34 : decode cX10_isAhead 34 = .ok (.iconst 0, 1) := by decide +kernel
theorem dX10_isAhead_35 : decode cX10_isAhead 35 = .ok (.ireturn, 1) := by decide +kernel
set_option maxHeartbeats 4000000 in
theorem met_ahead_R (l : Launch) (G : GG) {H : Heap} {r0 c0 : Nat} {n0 : Int32} {z : P2} {a b : Nat} {n k : Int32} {p q : P2} {i j : Nat} (hR : va_at G.1 clA (r0, .inr (4, [.ref c0])) H) (hc : PtAt G H c0 n0 z) (ha : PtAt G H a n p) (hb' : PtAt G H b k q) (hi : i < 2 ^ 31) (hj : j < 2 ^ 31) : PMn l yX10_isAhead cX10_isAhead 7 (some .boolean) 3 73 G H [.ref r0, .ref a, .int (nI i), .ref b, .int (nI j)] (some (.int (bI (j_ahead (j_cmpR z p q) i j)))) := by
  intro pX eX sX mX belX methX cX ls hE hnm hl
  obtain ⟨hx, hb, hr, hlk, hml, hown, hts, hK, hZ, hH⟩ := hE
  have hl : lv_has ls 7 [(0, .ref r0), (1, .ref a), (2, .int (nI i)), (3, .ref b), (4, .int (nI j))] := hl
  refine lv_aload_n hx hb dX10_isAhead_0 rfl (lv_at hl 0 rfl) ?_
  refine lv_aload_n hx hb dX10_isAhead_1 rfl (lv_at hl 1 rfl) ?_
  refine lv_aload_n hx hb dX10_isAhead_2 rfl (lv_at hl 3 rfl) ?_
  refine p_callF (As := [.ref _, .ref _]) hx hb hml hown hts hK hZ (met_X6_compare l G hR hc ha hb') hK.2.2.2.2.1.2 q356 q365 q367 q57 q369 hd_Oc rfl hR rfl (by decide) hl.1 rfl (Nat.le_of_ble_eq_true rfl) dX10_isAhead_3 ⟨Nat.zero_le _, Nat.zero_le _⟩ ?_
  refine lv_lstore (lv' := [(5, .long _), (0, .ref _), (1, .ref _), (2, .int _), (3, .ref _), (4, .int _)]) hx hb dX10_isAhead_8 hl (Nat.le_of_ble_eq_true rfl) rfl (fun ls hl => ?_)
  refine lv_lload hx hb dX10_isAhead_10 (lv_at hl 0 rfl) ?_
  refine lv_lconst (v := 0) hx hb dX10_isAhead_12 rfl ?_
  refine lc_lt (tgt := 30) hx hb dX10_isAhead_13 dX10_isAhead_14 rfl (fun c_13 => ?_) (fun c_13 => ?_)
  · skip
    refine lv_iconst (v := 1) hx hb dX10_isAhead_30 ic_1 ?_
    refine lv_goto (tgt := 35) hx hb dX10_isAhead_31 rfl ?_
    exact pm_zret hx hb hr hlk hH dX10_isAhead_35 (by first | with_reducible rfl | (simp only [j_ahead, c_13, Int64.not_le.mpr c_13, ↓reduceIte, Bool.true_and, Bool.and_true, Bool.false_and, Bool.and_false, Bool.true_or, Bool.or_true, Bool.false_or, Bool.or_false, Bool.not_true, Bool.not_false, decide_true, decide_false, bI_t, bI_f, Bool.false_eq_true, not_true_eq_false, not_false_eq_true, eq_self, reduceCtorEq, Bool.true_eq_false, and_true, true_and, and_false, false_and, or_true, true_or, or_false, false_or]; done))
  refine lv_lload hx hb dX10_isAhead_17 (lv_at hl 0 rfl) ?_
  refine lv_lconst (v := 0) hx hb dX10_isAhead_19 rfl ?_
  refine lc_ne (tgt := 34) hx hb dX10_isAhead_20 dX10_isAhead_21 rfl (fun c_20 => ?_) (fun c_20 => ?_)
  · skip
    refine lv_iconst (v := 0) hx hb dX10_isAhead_34 ic_0 ?_
    exact pm_zret hx hb hr hlk hH dX10_isAhead_35 (by first | with_reducible rfl | (simp only [j_ahead, c_13, Int64.not_lt.mp c_13, c_20, ↓reduceIte, Bool.true_and, Bool.and_true, Bool.false_and, Bool.and_false, Bool.true_or, Bool.or_true, Bool.false_or, Bool.or_false, Bool.not_true, Bool.not_false, decide_true, decide_false, bI_t, bI_f, Bool.false_eq_true, not_true_eq_false, not_false_eq_true, eq_self, reduceCtorEq, Bool.true_eq_false, and_true, true_and, and_false, false_and, or_true, true_or, or_false, false_or]; done) | (simp only [c_13, Int64.not_lt.mp c_13, ↓reduceIte, Bool.true_and, Bool.and_true, Bool.false_and, Bool.and_false, Bool.true_or, Bool.or_true, Bool.false_or, Bool.or_false, Bool.not_true, Bool.not_false, decide_true, decide_false, bI_t, bI_f, Bool.false_eq_true, not_true_eq_false, not_false_eq_true, eq_self, reduceCtorEq, Bool.true_eq_false, and_true, true_and, and_false, false_and, or_true, true_or, or_false, false_or] at c_20; done) | (simp only [c_20, ↓reduceIte, Bool.true_and, Bool.and_true, Bool.false_and, Bool.and_false, Bool.true_or, Bool.or_true, Bool.false_or, Bool.or_false, Bool.not_true, Bool.not_false, decide_true, decide_false, bI_t, bI_f, Bool.false_eq_true, not_true_eq_false, not_false_eq_true, eq_self, reduceCtorEq, Bool.true_eq_false, and_true, true_and, and_false, false_and, or_true, true_or, or_false, false_or] at c_13; done))
  refine lv_iload_n hx hb dX10_isAhead_24 rfl (lv_at hl 3 rfl) ?_
  refine lv_iload hx hb dX10_isAhead_25 (lv_at hl 5 rfl) ?_
  refine lv_icmp_ge (tgt := 34) hx hb dX10_isAhead_27 rfl (fun c_27 => ?_) (fun c_27 => ?_)
  · skip
    refine lv_iconst (v := 0) hx hb dX10_isAhead_34 ic_0 ?_
    exact pm_zret hx hb hr hlk hH dX10_isAhead_35 (by first | with_reducible rfl | (simp only [j_ahead, c_13, Int64.not_lt.mp c_13, eq_true c_20, Nat.not_lt.mpr ((nI_leI (a := j) (b := i) (by omega) (by omega)).mp c_27), ↓reduceIte, Bool.true_and, Bool.and_true, Bool.false_and, Bool.and_false, Bool.true_or, Bool.or_true, Bool.false_or, Bool.or_false, Bool.not_true, Bool.not_false, decide_true, decide_false, bI_t, bI_f, Bool.false_eq_true, not_true_eq_false, not_false_eq_true, eq_self, reduceCtorEq, Bool.true_eq_false, and_true, true_and, and_false, false_and, or_true, true_or, or_false, false_or]; done) | (simp only [c_13, Int64.not_lt.mp c_13, eq_true c_20, ↓reduceIte, Bool.true_and, Bool.and_true, Bool.false_and, Bool.and_false, Bool.true_or, Bool.or_true, Bool.false_or, Bool.or_false, Bool.not_true, Bool.not_false, decide_true, decide_false, bI_t, bI_f, Bool.false_eq_true, not_true_eq_false, not_false_eq_true, eq_self, reduceCtorEq, Bool.true_eq_false, and_true, true_and, and_false, false_and, or_true, true_or, or_false, false_or] at c_27; done) | (simp only [c_13, Int64.not_lt.mp c_13, Nat.not_lt.mpr ((nI_leI (a := j) (b := i) (by omega) (by omega)).mp c_27), ↓reduceIte, Bool.true_and, Bool.and_true, Bool.false_and, Bool.and_false, Bool.true_or, Bool.or_true, Bool.false_or, Bool.or_false, Bool.not_true, Bool.not_false, decide_true, decide_false, bI_t, bI_f, Bool.false_eq_true, not_true_eq_false, not_false_eq_true, eq_self, reduceCtorEq, Bool.true_eq_false, and_true, true_and, and_false, false_and, or_true, true_or, or_false, false_or] at c_20; done) | (simp only [eq_true c_20, Nat.not_lt.mpr ((nI_leI (a := j) (b := i) (by omega) (by omega)).mp c_27), ↓reduceIte, Bool.true_and, Bool.and_true, Bool.false_and, Bool.and_false, Bool.true_or, Bool.or_true, Bool.false_or, Bool.or_false, Bool.not_true, Bool.not_false, decide_true, decide_false, bI_t, bI_f, Bool.false_eq_true, not_true_eq_false, not_false_eq_true, eq_self, reduceCtorEq, Bool.true_eq_false, and_true, true_and, and_false, false_and, or_true, true_or, or_false, false_or] at c_13; done))
  refine lv_iconst (v := 1) hx hb dX10_isAhead_30 ic_1 ?_
  refine lv_goto (tgt := 35) hx hb dX10_isAhead_31 rfl ?_
  exact pm_zret hx hb hr hlk hH dX10_isAhead_35 (by first | with_reducible rfl | (simp only [j_ahead, c_13, Int64.not_lt.mp c_13, eq_true c_20, Nat.lt_of_not_le (fun h => c_27 ((nI_leI (a := j) (b := i) (by omega) (by omega)).mpr h)), ↓reduceIte, Bool.true_and, Bool.and_true, Bool.false_and, Bool.and_false, Bool.true_or, Bool.or_true, Bool.false_or, Bool.or_false, Bool.not_true, Bool.not_false, decide_true, decide_false, bI_t, bI_f, Bool.false_eq_true, not_true_eq_false, not_false_eq_true, eq_self, reduceCtorEq, Bool.true_eq_false, and_true, true_and, and_false, false_and, or_true, true_or, or_false, false_or]; done) | (simp only [c_13, Int64.not_lt.mp c_13, eq_true c_20, ↓reduceIte, Bool.true_and, Bool.and_true, Bool.false_and, Bool.and_false, Bool.true_or, Bool.or_true, Bool.false_or, Bool.or_false, Bool.not_true, Bool.not_false, decide_true, decide_false, bI_t, bI_f, Bool.false_eq_true, not_true_eq_false, not_false_eq_true, eq_self, reduceCtorEq, Bool.true_eq_false, and_true, true_and, and_false, false_and, or_true, true_or, or_false, false_or] at c_27; done) | (simp only [c_13, Int64.not_lt.mp c_13, Nat.lt_of_not_le (fun h => c_27 ((nI_leI (a := j) (b := i) (by omega) (by omega)).mpr h)), ↓reduceIte, Bool.true_and, Bool.and_true, Bool.false_and, Bool.and_false, Bool.true_or, Bool.or_true, Bool.false_or, Bool.or_false, Bool.not_true, Bool.not_false, decide_true, decide_false, bI_t, bI_f, Bool.false_eq_true, not_true_eq_false, not_false_eq_true, eq_self, reduceCtorEq, Bool.true_eq_false, and_true, true_and, and_false, false_and, or_true, true_or, or_false, false_or] at c_20; done) | (simp only [eq_true c_20, Nat.lt_of_not_le (fun h => c_27 ((nI_leI (a := j) (b := i) (by omega) (by omega)).mpr h)), ↓reduceIte, Bool.true_and, Bool.and_true, Bool.false_and, Bool.and_false, Bool.true_or, Bool.or_true, Bool.false_or, Bool.or_false, Bool.not_true, Bool.not_false, decide_true, decide_false, bI_t, bI_f, Bool.false_eq_true, not_true_eq_false, not_false_eq_true, eq_self, reduceCtorEq, Bool.true_eq_false, and_true, true_and, and_false, false_and, or_true, true_or, or_false, false_or] at c_13; done))
theorem dX1_placeBy_0 : decode cX1_placeBy 0 = .ok (.iconst (-1), 1) := by decide +kernel
theorem dX1_placeBy_1 : decode cX1_placeBy 1 = .ok (.istore 4, 2) := by decide +kernel
theorem dX1_placeBy_3 : decode cX1_placeBy 3 = .ok (.iconst 0, 1) := by decide +kernel
theorem dX1_placeBy_4 : decode cX1_placeBy 4 = .ok (.istore 5, 2) := by decide +kernel
theorem dX1_placeBy_6 : decode cX1_placeBy 6 = .ok (.iload 5, 2) := by decide +kernel
theorem dX1_placeBy_8 : decode cX1_placeBy 8 = .ok (.iload_n 2, 1) := by decide +kernel
theorem dX1_placeBy_9 : decode cX1_placeBy 9 = .ok (.if_icmp .ge 86, 3) := by decide +kernel
theorem dX1_placeBy_12 : decode cX1_placeBy 12 = .ok (.iconst 0, 1) := by decide +kernel
theorem dX1_placeBy_13 : decode cX1_placeBy 13 = .ok (.istore 6, 2) := by decide +kernel
theorem dX1_placeBy_15 : decode cX1_placeBy 15 = .ok (.iconst 0, 1) := by decide +kernel
theorem dX1_placeBy_16 : decode cX1_placeBy 16 = .ok (.istore 7, 2) := by decide +kernel
theorem dX1_placeBy_18 : decode cX1_placeBy 18 = .ok (.iload 7, 2) := by decide +kernel
theorem dX1_placeBy_20 : decode cX1_placeBy 20 = .ok (.iload_n 2, 1) := by decide +kernel
theorem dX1_placeBy_21 : decode cX1_placeBy 21 = .ok (.if_icmp .ge 53, 3) := by decide +kernel
theorem dX1_placeBy_24 : decode cX1_placeBy 24 = .ok (.iload 6, 2) := by decide +kernel
theorem dX1_placeBy_26 : decode cX1_placeBy 26 = .ok (.iload 7, 2) := by decide +kernel
theorem dX1_placeBy_28 : decode cX1_placeBy 28 = .ok (.iload 5, 2) := by decide +kernel
theorem dX1_placeBy_30 : decode cX1_placeBy 30 = .ok (.if_icmp .eq 34, 3) := by decide +kernel
theorem dX1_placeBy_33 : decode cX1_placeBy 33 = .ok (.aload_n 1, 1) := by decide +kernel
theorem dX1_placeBy_34 : decode cX1_placeBy 34 = .ok (.aload_n 0, 1) := by decide +kernel
theorem dX1_placeBy_35 : decode cX1_placeBy 35 = .ok (.getfield 30, 3) := by decide +kernel
theorem dX1_placeBy_38 : decode cX1_placeBy 38 = .ok (.iload 7, 2) := by decide +kernel
theorem dX1_placeBy_40 : decode cX1_placeBy 40 = .ok (.aaload, 1) := by decide +kernel
theorem dX1_placeBy_41 : decode cX1_placeBy 41 = .ok (.iload 7, 2) := by decide +kernel
theorem dX1_placeBy_43 : decode cX1_placeBy 43 = .ok (.aload_n 0, 1) := by decide +kernel
theorem dX1_placeBy_44 : decode cX1_placeBy 44 = .ok (.getfield 30, 3) := by decide +kernel
theorem dX1_placeBy_47 : decode cX1_placeBy 47 = .ok (.iload 5, 2) := by decide +kernel
theorem dX1_placeBy_49 : decode cX1_placeBy 49 = .ok (.aaload, 1) := by decide +kernel
theorem dX1_placeBy_50 : decode cX1_placeBy 50 = .ok (.iload 5, 2) := by decide +kernel
theorem dX1_placeBy_52 : decode cX1_placeBy 52 = .ok (.invokeinterface 163 5, 5) := by decide +kernel
theorem dX1_placeBy_57 : decode cX1_placeBy 57 = .ok (.ifCond .eq 7, 3) := by decide +kernel
theorem dX1_placeBy_60 : decode cX1_placeBy 60 = .ok (.iconst 1, 1) := by decide +kernel
theorem dX1_placeBy_61 : decode cX1_placeBy 61 = .ok (.goto 4, 3) := by decide +kernel
theorem dX1_placeBy_64 : decode cX1_placeBy 64 = .ok (.iconst 0, 1) := by decide +kernel
theorem dX1_placeBy_65 : decode cX1_placeBy 65 = .ok (.iadd, 1) := by decide +kernel
theorem dX1_placeBy_66 : decode cX1_placeBy 66 = .ok (.istore 6, 2) := by decide +kernel
theorem dX1_placeBy_68 : decode cX1_placeBy 68 = .ok (.iinc 7 1, 3) := by decide +kernel
theorem dX1_placeBy_71 : decode cX1_placeBy 71 = .ok (.goto (-53), 3) := by decide +kernel
theorem dX1_placeBy_74 : decode cX1_placeBy 74 = .ok (.iload 6, 2) := by decide +kernel
theorem dX1_placeBy_76 : decode cX1_placeBy 76 = .ok (.iload_n 3, 1) := by decide +kernel
theorem dX1_placeBy_77 : decode cX1_placeBy 77 = .ok (.if_icmp .ne 8, 3) := by decide +kernel
theorem dX1_placeBy_80 : decode cX1_placeBy 80 = .ok (.iload 5, 2) := by decide +kernel
theorem dX1_placeBy_82 : decode cX1_placeBy 82 = .ok (.goto 5, 3) := by decide +kernel
theorem dX1_placeBy_85 : decode cX1_placeBy 85 = .ok (.iload 4, 2) := by decide +kernel
theorem dX1_placeBy_87 : decode cX1_placeBy 87 = .ok (.istore 4, 2) := by decide +kernel
theorem dX1_placeBy_89 : decode cX1_placeBy 89 = .ok (.iinc 5 1, 3) := by decide +kernel
theorem dX1_placeBy_92 : decode cX1_placeBy 92 = .ok (.goto (-86), 3) := by decide +kernel
theorem dX1_placeBy_95 : decode cX1_placeBy 95 = .ok (.iload 4, 2) := by decide +kernel
theorem dX1_placeBy_97 : decode cX1_placeBy 97 = .ok (.ireturn, 1) := by decide +kernel
set_option maxHeartbeats 4000000 in
theorem met_place_R (l : Launch) (G : GG) {H : Heap} {o : Nat} {B P L : Nat → Nat} {σ : Sg} {r0 c0 : Nat} {n0 : Int32} {z : P2} {N : Nat} {i : Int32} (hJ : JW G H o B P L σ) (hO : Ok σ) (hN : N ≤ σ.rn) (hr_ : HR σ N) (hR : va_at G.1 clA (r0, .inr (4, [.ref c0])) H) (hc : PtAt G H c0 n0 z) : PM l yX1_placeBy cX1_placeBy 8 (some .int) 4 99 G H [.ref o, .ref r0, .int (nI N), .int i] (some (.int (plF (fun j k => j_ahead (j_cmpR z (σ.rp j) (σ.rp k)) j k) N i N))) := by
  refine pm_intro pl_X1_placeBy (Nat.le_of_ble_eq_true rfl) ?_
  intro pX eX sX mX belX methX cX ls hE hnm hl
  obtain ⟨hx, hb, hr, hlk, hml, hown, hts, hK, hZ, hH⟩ := hE
  have hl : lv_has ls 8 [(0, .ref o), (1, .ref r0), (2, .int (nI N)), (3, .int i)] := hl
  have hN31 : N < 2 ^ 31 := Nat.lt_of_le_of_lt hN hO.rn31
  refine lv_iconst (v := -1) hx hb dX1_placeBy_0 ic_m1 ?_
  refine lv_istore (lv' := [(4, .int _), (0, .ref _), (1, .ref _), (2, .int _), (3, .int _)]) hx hb dX1_placeBy_1 hl (Nat.le_of_ble_eq_true rfl) rfl (fun ls hl => ?_)
  refine lv_iconst (v := 0) hx hb dX1_placeBy_3 ic_0 ?_
  refine lv_istore (lv' := [(5, .int _), (4, .int _), (0, .ref _), (1, .ref _), (2, .int _), (3, .int _)]) hx hb dX1_placeBy_4 hl (Nat.le_of_ble_eq_true rfl) rfl (fun ls hl => ?_)
  refine loopW (N := N) (nL := 8) (lv := fun k => [(0, .ref o), (1, .ref r0), (2, .int (nI N)), (3, .int i), (4, .int (plF (fun j k => j_ahead (j_cmpR z (σ.rp j) (σ.rp k)) j k) N i k)), (5, .int (nI k))]) (fun k hk_k ih_k ls hl => ?_) 0 (Nat.zero_le _) ls (lv_sub hl [2, 3, 4, 5, 1, 0] rfl)
  replace hl : lv_has ls 8 [(0, .ref o), (1, .ref r0), (2, .int (nI N)), (3, .int i), (4, .int (plF (fun j k => j_ahead (j_cmpR z (σ.rp j) (σ.rp k)) j k) N i k)), (5, .int (nI k))] := hl
  refine lv_iload hx hb dX1_placeBy_6 (lv_at hl 5 rfl) ?_
  refine lv_iload_n hx hb dX1_placeBy_8 rfl (lv_at hl 2 rfl) ?_
  refine lv_icmp_ge (tgt := 95) hx hb dX1_placeBy_9 rfl (fun c_9_0 => ?_) (fun c_9_0 => ?_)
  · skip
    have e_k := lp_out hk_k hN31 c_9_0
    subst e_k
    refine lv_iload hx hb dX1_placeBy_95 (lv_at hl 4 rfl) ?_
    exact pm_iret hx hb hr hlk hH dX1_placeBy_97 (by first | with_reducible rfl | (simp only [↓reduceIte, Bool.true_and, Bool.and_true, Bool.false_and, Bool.and_false, Bool.true_or, Bool.or_true, Bool.false_or, Bool.or_false, Bool.not_true, Bool.not_false, decide_true, decide_false, bI_t, bI_f, Bool.false_eq_true, not_true_eq_false, not_false_eq_true, eq_self, reduceCtorEq, Bool.true_eq_false, and_true, true_and, and_false, false_and, or_true, true_or, or_false, false_or]; done))
  have h_k := lp_in hk_k hN31 c_9_0
  refine lv_iconst (v := 0) hx hb dX1_placeBy_12 ic_0 ?_
  refine lv_istore (lv' := [(6, .int _), (0, .ref _), (1, .ref _), (2, .int _), (3, .int _), (4, .int _), (5, .int _)]) hx hb dX1_placeBy_13 hl (Nat.le_of_ble_eq_true rfl) rfl (fun ls hl => ?_)
  refine lv_iconst (v := 0) hx hb dX1_placeBy_15 ic_0 ?_
  refine lv_istore (lv' := [(7, .int _), (6, .int _), (0, .ref _), (1, .ref _), (2, .int _), (3, .int _), (4, .int _), (5, .int _)]) hx hb dX1_placeBy_16 hl (Nat.le_of_ble_eq_true rfl) rfl (fun ls hl => ?_)
  refine loopW (N := N) (nL := 8) (lv := fun j => [(0, .ref o), (1, .ref r0), (2, .int (nI N)), (3, .int i), (4, .int (plF (fun j k => j_ahead (j_cmpR z (σ.rp j) (σ.rp k)) j k) N i k)), (5, .int (nI k)), (6, .int (plA (fun j k => j_ahead (j_cmpR z (σ.rp j) (σ.rp k)) j k) k j)), (7, .int (nI j))]) (fun j hk_j ih_j ls hl => ?_) 0 (Nat.zero_le _) ls (lv_sub hl [2, 3, 4, 5, 6, 7, 1, 0] rfl)
  replace hl : lv_has ls 8 [(0, .ref o), (1, .ref r0), (2, .int (nI N)), (3, .int i), (4, .int (plF (fun j k => j_ahead (j_cmpR z (σ.rp j) (σ.rp k)) j k) N i k)), (5, .int (nI k)), (6, .int (plA (fun j k => j_ahead (j_cmpR z (σ.rp j) (σ.rp k)) j k) k j)), (7, .int (nI j))] := hl
  refine lv_iload hx hb dX1_placeBy_18 (lv_at hl 7 rfl) ?_
  refine lv_iload_n hx hb dX1_placeBy_20 rfl (lv_at hl 2 rfl) ?_
  refine lv_icmp_ge (tgt := 74) hx hb dX1_placeBy_21 rfl (fun c_21_1 => ?_) (fun c_21_1 => ?_)
  · skip
    have e_j := lp_out hk_j hN31 c_21_1
    subst e_j
    refine cutI (J := 87) (v := if plA (fun j k => j_ahead (j_cmpR z (σ.rp j) (σ.rp k)) j k) k N = i then nI k else plF (fun j k => j_ahead (j_cmpR z (σ.rp j) (σ.rp k)) j k) N i k) ?_ (fun K26 => ?_)
    rotate_left
    · skip
      refine lv_iload hx hb dX1_placeBy_74 (lv_at hl 6 rfl) ?_
      refine lv_iload_n hx hb dX1_placeBy_76 rfl (lv_at hl 3 rfl) ?_
      refine lv_icmp_ne (tgt := 85) hx hb dX1_placeBy_77 rfl (fun c_77_2 => ?_) (fun c_77_2 => ?_)
      · skip
        refine lv_iload hx hb dX1_placeBy_85 (lv_at hl 4 rfl) ?_
        exact K26 _ (by first | with_reducible rfl | (simp only [c_77_2, ↓reduceIte, Bool.true_and, Bool.and_true, Bool.false_and, Bool.and_false, Bool.true_or, Bool.or_true, Bool.false_or, Bool.or_false, Bool.not_true, Bool.not_false, decide_true, decide_false, bI_t, bI_f, Bool.false_eq_true, not_true_eq_false, not_false_eq_true, eq_self, reduceCtorEq, Bool.true_eq_false, and_true, true_and, and_false, false_and, or_true, true_or, or_false, false_or]; done))
      refine lv_iload hx hb dX1_placeBy_80 (lv_at hl 5 rfl) ?_
      refine lv_goto (tgt := 87) hx hb dX1_placeBy_82 rfl ?_
      exact K26 _ (by first | with_reducible rfl | (simp only [eq_true c_77_2, ↓reduceIte, Bool.true_and, Bool.and_true, Bool.false_and, Bool.and_false, Bool.true_or, Bool.or_true, Bool.false_or, Bool.or_false, Bool.not_true, Bool.not_false, decide_true, decide_false, bI_t, bI_f, Bool.false_eq_true, not_true_eq_false, not_false_eq_true, eq_self, reduceCtorEq, Bool.true_eq_false, and_true, true_and, and_false, false_and, or_true, true_or, or_false, false_or]; done))
    refine lv_istore (lv' := [(4, .int _), (0, .ref _), (1, .ref _), (2, .int _), (3, .int _), (5, .int _), (6, .int _), (7, .int _)]) hx hb dX1_placeBy_87 hl (Nat.le_of_ble_eq_true rfl) rfl (fun ls hl => ?_)
    refine lv_iinc (v := nI (k + 1)) (k := 5) (lv' := [(5, .int _), (4, .int _), (0, .ref _), (1, .ref _), (2, .int _), (3, .int _), (6, .int _), (7, .int _)]) hx hb dX1_placeBy_89 hl rfl (nI_1 _) (Nat.le_of_ble_eq_true rfl) rfl (fun ls hl => ?_)
    refine lv_goto (tgt := 6) hx hb dX1_placeBy_92 rfl ?_
    exact ih_k ls (lv_sub hl [2, 3, 4, 5, 1, 0] rfl) h_k
  have h_j := lp_in hk_j hN31 c_21_1
  refine lv_iload hx hb dX1_placeBy_24 (lv_at hl 6 rfl) ?_
  refine cutI (J := 65) (v := if !decide (j = k) && (fun j k => j_ahead (j_cmpR z (σ.rp j) (σ.rp k)) j k) j k then 1 else 0) ?_ (fun K27 => ?_)
  rotate_left
  · skip
    refine lv_iload hx hb dX1_placeBy_26 (lv_at hl 7 rfl) ?_
    refine lv_iload hx hb dX1_placeBy_28 (lv_at hl 5 rfl) ?_
    refine lv_icmp_eq (tgt := 64) hx hb dX1_placeBy_30 rfl (fun c_30_2 => ?_) (fun c_30_2 => ?_)
    · skip
      refine lv_iconst (v := 0) hx hb dX1_placeBy_64 ic_0 ?_
      exact K27 _ (by first | with_reducible rfl | (simp only [eq_true ((nI_eq (by omega) (by omega)).mp c_30_2), ↓reduceIte, Bool.true_and, Bool.and_true, Bool.false_and, Bool.and_false, Bool.true_or, Bool.or_true, Bool.false_or, Bool.or_false, Bool.not_true, Bool.not_false, decide_true, decide_false, bI_t, bI_f, Bool.false_eq_true, not_true_eq_false, not_false_eq_true, eq_self, reduceCtorEq, Bool.true_eq_false, and_true, true_and, and_false, false_and, or_true, true_or, or_false, false_or]; done))
    refine lv_aload_n hx hb dX1_placeBy_33 rfl (lv_at hl 1 rfl) ?_
    refine lv_aload_n hx hb dX1_placeBy_34 rfl (lv_at hl 0 rfl) ?_
    refine gf_X1_30 hx hb hts hown hK hJ.1 rfl dX1_placeBy_35 ?_
    refine lv_iload hx hb dX1_placeBy_38 (lv_at hl 7 rfl) ?_
    refine r_pald hx hb hK hJ.2.2.1 dX1_placeBy_40 (k := j) (Nat.lt_of_lt_of_le h_j hN) hO.rn31 rfl (ra_some (hr_ _ h_j).1) ?_
    refine lv_iload hx hb dX1_placeBy_41 (lv_at hl 7 rfl) ?_
    refine lv_aload_n hx hb dX1_placeBy_43 rfl (lv_at hl 0 rfl) ?_
    refine gf_X1_30 hx hb hts hown hK hJ.1 rfl dX1_placeBy_44 ?_
    refine lv_iload hx hb dX1_placeBy_47 (lv_at hl 5 rfl) ?_
    refine r_pald hx hb hK hJ.2.2.1 dX1_placeBy_49 (k := k) (Nat.lt_of_lt_of_le h_k hN) hO.rn31 rfl (ra_some (hr_ _ h_k).1) ?_
    refine lv_iload hx hb dX1_placeBy_50 (lv_at hl 5 rfl) ?_
    refine p_callD (As := [.ref _, .int _, .ref _, .int _]) hx hb hml hown hts hK hZ (met_ahead_R l G hR hc (hJ.2.2.2.2.1 _ (hr_ _ h_j).2) (hJ.2.2.2.2.1 _ (hr_ _ h_k).2) (by omega) (by omega)) hK.2.2.2.2.2.1.2 hK.2.2.2.2.2.2.2 q347 q352 q354 pl_X10_isAhead (Nat.le_of_ble_eq_true rfl) hd_X10_isAhead rfl hR rfl (by decide) hl.1 rfl (Nat.le_of_ble_eq_true rfl) dX1_placeBy_52 ⟨Nat.zero_le _, Nat.zero_le _⟩ ?_
    refine b_ifeq (tgt := 64) hx hb dX1_placeBy_57 rfl (fun c_57_3 => ?_) (fun c_57_3 => ?_)
    · skip
      refine lv_iconst (v := 0) hx hb dX1_placeBy_64 ic_0 ?_
      exact K27 _ (by first | with_reducible rfl | (simp only [(eq_false (fun h => c_30_2 (congrArg nI h)) : (j = k) = False), c_57_3, ↓reduceIte, Bool.true_and, Bool.and_true, Bool.false_and, Bool.and_false, Bool.true_or, Bool.or_true, Bool.false_or, Bool.or_false, Bool.not_true, Bool.not_false, decide_true, decide_false, bI_t, bI_f, Bool.false_eq_true, not_true_eq_false, not_false_eq_true, eq_self, reduceCtorEq, Bool.true_eq_false, and_true, true_and, and_false, false_and, or_true, true_or, or_false, false_or]; done) | (simp only [(eq_false (fun h => c_30_2 (congrArg nI h)) : (j = k) = False), ↓reduceIte, Bool.true_and, Bool.and_true, Bool.false_and, Bool.and_false, Bool.true_or, Bool.or_true, Bool.false_or, Bool.or_false, Bool.not_true, Bool.not_false, decide_true, decide_false, bI_t, bI_f, Bool.false_eq_true, not_true_eq_false, not_false_eq_true, eq_self, reduceCtorEq, Bool.true_eq_false, and_true, true_and, and_false, false_and, or_true, true_or, or_false, false_or] at c_57_3; done) | (simp only [c_57_3, ↓reduceIte, Bool.true_and, Bool.and_true, Bool.false_and, Bool.and_false, Bool.true_or, Bool.or_true, Bool.false_or, Bool.or_false, Bool.not_true, Bool.not_false, decide_true, decide_false, bI_t, bI_f, Bool.false_eq_true, not_true_eq_false, not_false_eq_true, eq_self, reduceCtorEq, Bool.true_eq_false, and_true, true_and, and_false, false_and, or_true, true_or, or_false, false_or] at c_30_2; done))
    refine lv_iconst (v := 1) hx hb dX1_placeBy_60 ic_1 ?_
    refine lv_goto (tgt := 65) hx hb dX1_placeBy_61 rfl ?_
    exact K27 _ (by first | with_reducible rfl | (simp only [(eq_false (fun h => c_30_2 (congrArg nI h)) : (j = k) = False), c_57_3, ↓reduceIte, Bool.true_and, Bool.and_true, Bool.false_and, Bool.and_false, Bool.true_or, Bool.or_true, Bool.false_or, Bool.or_false, Bool.not_true, Bool.not_false, decide_true, decide_false, bI_t, bI_f, Bool.false_eq_true, not_true_eq_false, not_false_eq_true, eq_self, reduceCtorEq, Bool.true_eq_false, and_true, true_and, and_false, false_and, or_true, true_or, or_false, false_or]; done) | (simp only [(eq_false (fun h => c_30_2 (congrArg nI h)) : (j = k) = False), ↓reduceIte, Bool.true_and, Bool.and_true, Bool.false_and, Bool.and_false, Bool.true_or, Bool.or_true, Bool.false_or, Bool.or_false, Bool.not_true, Bool.not_false, decide_true, decide_false, bI_t, bI_f, Bool.false_eq_true, not_true_eq_false, not_false_eq_true, eq_self, reduceCtorEq, Bool.true_eq_false, and_true, true_and, and_false, false_and, or_true, true_or, or_false, false_or] at c_57_3; done) | (simp only [c_57_3, ↓reduceIte, Bool.true_and, Bool.and_true, Bool.false_and, Bool.and_false, Bool.true_or, Bool.or_true, Bool.false_or, Bool.or_false, Bool.not_true, Bool.not_false, decide_true, decide_false, bI_t, bI_f, Bool.false_eq_true, not_true_eq_false, not_false_eq_true, eq_self, reduceCtorEq, Bool.true_eq_false, and_true, true_and, and_false, false_and, or_true, true_or, or_false, false_or] at c_30_2; done))
  refine lv_iadd hx hb dX1_placeBy_65 ?_
  refine lv_istore (lv' := [(6, .int _), (0, .ref _), (1, .ref _), (2, .int _), (3, .int _), (4, .int _), (5, .int _), (7, .int _)]) hx hb dX1_placeBy_66 hl (Nat.le_of_ble_eq_true rfl) rfl (fun ls hl => ?_)
  refine lv_iinc (v := nI (j + 1)) (k := 7) (lv' := [(7, .int _), (6, .int _), (0, .ref _), (1, .ref _), (2, .int _), (3, .int _), (4, .int _), (5, .int _)]) hx hb dX1_placeBy_68 hl rfl (nI_1 _) (Nat.le_of_ble_eq_true rfl) rfl (fun ls hl => ?_)
  refine lv_goto (tgt := 18) hx hb dX1_placeBy_71 rfl ?_
  exact ih_j ls (lv_sub hl [2, 3, 4, 5, 6, 7, 1, 0] rfl) h_j
set_option maxHeartbeats 4000000 in
theorem met_ahead_A (l : Launch) (G : GG) {H : Heap} {r0 : Nat} {a b : Nat} {n k : Int32} {p q : P2} {i j : Nat} (hR : va_at G.1 clA (r0, .inr (5, [])) H) (ha : PtAt G H a n p) (hb' : PtAt G H b k q) (hi : i < 2 ^ 31) (hj : j < 2 ^ 31) : PMn l yX10_isAhead cX10_isAhead 7 (some .boolean) 1 22 G H [.ref r0, .ref a, .int (nI i), .ref b, .int (nI j)] (some (.int (bI (j_ahead (j_cmpA p q) i j)))) := by
  intro pX eX sX mX belX methX cX ls hE hnm hl
  obtain ⟨hx, hb, hr, hlk, hml, hown, hts, hK, hZ, hH⟩ := hE
  have hl : lv_has ls 7 [(0, .ref r0), (1, .ref a), (2, .int (nI i)), (3, .ref b), (4, .int (nI j))] := hl
  refine lv_aload_n hx hb dX10_isAhead_0 rfl (lv_at hl 0 rfl) ?_
  refine lv_aload_n hx hb dX10_isAhead_1 rfl (lv_at hl 1 rfl) ?_
  refine lv_aload_n hx hb dX10_isAhead_2 rfl (lv_at hl 3 rfl) ?_
  refine p_callF (As := [.ref _, .ref _]) hx hb hml hown hts hK hZ (met_X7_compare l G hR ha hb') hK.2.2.2.2.1.1 q356 q359 q361 q58 q363 hd_Oc rfl hR rfl (by decide) hl.1 rfl (Nat.le_of_ble_eq_true rfl) dX10_isAhead_3 ⟨Nat.zero_le _, Nat.zero_le _⟩ ?_
  refine lv_lstore (lv' := [(5, .long _), (0, .ref _), (1, .ref _), (2, .int _), (3, .ref _), (4, .int _)]) hx hb dX10_isAhead_8 hl (Nat.le_of_ble_eq_true rfl) rfl (fun ls hl => ?_)
  refine lv_lload hx hb dX10_isAhead_10 (lv_at hl 0 rfl) ?_
  refine lv_lconst (v := 0) hx hb dX10_isAhead_12 rfl ?_
  refine lc_lt (tgt := 30) hx hb dX10_isAhead_13 dX10_isAhead_14 rfl (fun c_13 => ?_) (fun c_13 => ?_)
  · skip
    refine lv_iconst (v := 1) hx hb dX10_isAhead_30 ic_1 ?_
    refine lv_goto (tgt := 35) hx hb dX10_isAhead_31 rfl ?_
    exact pm_zret hx hb hr hlk hH dX10_isAhead_35 (by first | with_reducible rfl | (simp only [j_ahead, c_13, Int64.not_le.mpr c_13, ↓reduceIte, Bool.true_and, Bool.and_true, Bool.false_and, Bool.and_false, Bool.true_or, Bool.or_true, Bool.false_or, Bool.or_false, Bool.not_true, Bool.not_false, decide_true, decide_false, bI_t, bI_f, Bool.false_eq_true, not_true_eq_false, not_false_eq_true, eq_self, reduceCtorEq, Bool.true_eq_false, and_true, true_and, and_false, false_and, or_true, true_or, or_false, false_or]; done))
  refine lv_lload hx hb dX10_isAhead_17 (lv_at hl 0 rfl) ?_
  refine lv_lconst (v := 0) hx hb dX10_isAhead_19 rfl ?_
  refine lc_ne (tgt := 34) hx hb dX10_isAhead_20 dX10_isAhead_21 rfl (fun c_20 => ?_) (fun c_20 => ?_)
  · skip
    refine lv_iconst (v := 0) hx hb dX10_isAhead_34 ic_0 ?_
    exact pm_zret hx hb hr hlk hH dX10_isAhead_35 (by first | with_reducible rfl | (simp only [j_ahead, c_13, Int64.not_lt.mp c_13, c_20, ↓reduceIte, Bool.true_and, Bool.and_true, Bool.false_and, Bool.and_false, Bool.true_or, Bool.or_true, Bool.false_or, Bool.or_false, Bool.not_true, Bool.not_false, decide_true, decide_false, bI_t, bI_f, Bool.false_eq_true, not_true_eq_false, not_false_eq_true, eq_self, reduceCtorEq, Bool.true_eq_false, and_true, true_and, and_false, false_and, or_true, true_or, or_false, false_or]; done) | (simp only [c_13, Int64.not_lt.mp c_13, ↓reduceIte, Bool.true_and, Bool.and_true, Bool.false_and, Bool.and_false, Bool.true_or, Bool.or_true, Bool.false_or, Bool.or_false, Bool.not_true, Bool.not_false, decide_true, decide_false, bI_t, bI_f, Bool.false_eq_true, not_true_eq_false, not_false_eq_true, eq_self, reduceCtorEq, Bool.true_eq_false, and_true, true_and, and_false, false_and, or_true, true_or, or_false, false_or] at c_20; done) | (simp only [c_20, ↓reduceIte, Bool.true_and, Bool.and_true, Bool.false_and, Bool.and_false, Bool.true_or, Bool.or_true, Bool.false_or, Bool.or_false, Bool.not_true, Bool.not_false, decide_true, decide_false, bI_t, bI_f, Bool.false_eq_true, not_true_eq_false, not_false_eq_true, eq_self, reduceCtorEq, Bool.true_eq_false, and_true, true_and, and_false, false_and, or_true, true_or, or_false, false_or] at c_13; done))
  refine lv_iload_n hx hb dX10_isAhead_24 rfl (lv_at hl 3 rfl) ?_
  refine lv_iload hx hb dX10_isAhead_25 (lv_at hl 5 rfl) ?_
  refine lv_icmp_ge (tgt := 34) hx hb dX10_isAhead_27 rfl (fun c_27 => ?_) (fun c_27 => ?_)
  · skip
    refine lv_iconst (v := 0) hx hb dX10_isAhead_34 ic_0 ?_
    exact pm_zret hx hb hr hlk hH dX10_isAhead_35 (by first | with_reducible rfl | (simp only [j_ahead, c_13, Int64.not_lt.mp c_13, eq_true c_20, Nat.not_lt.mpr ((nI_leI (a := j) (b := i) (by omega) (by omega)).mp c_27), ↓reduceIte, Bool.true_and, Bool.and_true, Bool.false_and, Bool.and_false, Bool.true_or, Bool.or_true, Bool.false_or, Bool.or_false, Bool.not_true, Bool.not_false, decide_true, decide_false, bI_t, bI_f, Bool.false_eq_true, not_true_eq_false, not_false_eq_true, eq_self, reduceCtorEq, Bool.true_eq_false, and_true, true_and, and_false, false_and, or_true, true_or, or_false, false_or]; done) | (simp only [c_13, Int64.not_lt.mp c_13, eq_true c_20, ↓reduceIte, Bool.true_and, Bool.and_true, Bool.false_and, Bool.and_false, Bool.true_or, Bool.or_true, Bool.false_or, Bool.or_false, Bool.not_true, Bool.not_false, decide_true, decide_false, bI_t, bI_f, Bool.false_eq_true, not_true_eq_false, not_false_eq_true, eq_self, reduceCtorEq, Bool.true_eq_false, and_true, true_and, and_false, false_and, or_true, true_or, or_false, false_or] at c_27; done) | (simp only [c_13, Int64.not_lt.mp c_13, Nat.not_lt.mpr ((nI_leI (a := j) (b := i) (by omega) (by omega)).mp c_27), ↓reduceIte, Bool.true_and, Bool.and_true, Bool.false_and, Bool.and_false, Bool.true_or, Bool.or_true, Bool.false_or, Bool.or_false, Bool.not_true, Bool.not_false, decide_true, decide_false, bI_t, bI_f, Bool.false_eq_true, not_true_eq_false, not_false_eq_true, eq_self, reduceCtorEq, Bool.true_eq_false, and_true, true_and, and_false, false_and, or_true, true_or, or_false, false_or] at c_20; done) | (simp only [eq_true c_20, Nat.not_lt.mpr ((nI_leI (a := j) (b := i) (by omega) (by omega)).mp c_27), ↓reduceIte, Bool.true_and, Bool.and_true, Bool.false_and, Bool.and_false, Bool.true_or, Bool.or_true, Bool.false_or, Bool.or_false, Bool.not_true, Bool.not_false, decide_true, decide_false, bI_t, bI_f, Bool.false_eq_true, not_true_eq_false, not_false_eq_true, eq_self, reduceCtorEq, Bool.true_eq_false, and_true, true_and, and_false, false_and, or_true, true_or, or_false, false_or] at c_13; done))
  refine lv_iconst (v := 1) hx hb dX10_isAhead_30 ic_1 ?_
  refine lv_goto (tgt := 35) hx hb dX10_isAhead_31 rfl ?_
  exact pm_zret hx hb hr hlk hH dX10_isAhead_35 (by first | with_reducible rfl | (simp only [j_ahead, c_13, Int64.not_lt.mp c_13, eq_true c_20, Nat.lt_of_not_le (fun h => c_27 ((nI_leI (a := j) (b := i) (by omega) (by omega)).mpr h)), ↓reduceIte, Bool.true_and, Bool.and_true, Bool.false_and, Bool.and_false, Bool.true_or, Bool.or_true, Bool.false_or, Bool.or_false, Bool.not_true, Bool.not_false, decide_true, decide_false, bI_t, bI_f, Bool.false_eq_true, not_true_eq_false, not_false_eq_true, eq_self, reduceCtorEq, Bool.true_eq_false, and_true, true_and, and_false, false_and, or_true, true_or, or_false, false_or]; done) | (simp only [c_13, Int64.not_lt.mp c_13, eq_true c_20, ↓reduceIte, Bool.true_and, Bool.and_true, Bool.false_and, Bool.and_false, Bool.true_or, Bool.or_true, Bool.false_or, Bool.or_false, Bool.not_true, Bool.not_false, decide_true, decide_false, bI_t, bI_f, Bool.false_eq_true, not_true_eq_false, not_false_eq_true, eq_self, reduceCtorEq, Bool.true_eq_false, and_true, true_and, and_false, false_and, or_true, true_or, or_false, false_or] at c_27; done) | (simp only [c_13, Int64.not_lt.mp c_13, Nat.lt_of_not_le (fun h => c_27 ((nI_leI (a := j) (b := i) (by omega) (by omega)).mpr h)), ↓reduceIte, Bool.true_and, Bool.and_true, Bool.false_and, Bool.and_false, Bool.true_or, Bool.or_true, Bool.false_or, Bool.or_false, Bool.not_true, Bool.not_false, decide_true, decide_false, bI_t, bI_f, Bool.false_eq_true, not_true_eq_false, not_false_eq_true, eq_self, reduceCtorEq, Bool.true_eq_false, and_true, true_and, and_false, false_and, or_true, true_or, or_false, false_or] at c_20; done) | (simp only [eq_true c_20, Nat.lt_of_not_le (fun h => c_27 ((nI_leI (a := j) (b := i) (by omega) (by omega)).mpr h)), ↓reduceIte, Bool.true_and, Bool.and_true, Bool.false_and, Bool.and_false, Bool.true_or, Bool.or_true, Bool.false_or, Bool.or_false, Bool.not_true, Bool.not_false, decide_true, decide_false, bI_t, bI_f, Bool.false_eq_true, not_true_eq_false, not_false_eq_true, eq_self, reduceCtorEq, Bool.true_eq_false, and_true, true_and, and_false, false_and, or_true, true_or, or_false, false_or] at c_13; done))
set_option maxHeartbeats 4000000 in
theorem met_place_A (l : Launch) (G : GG) {H : Heap} {o : Nat} {B P L : Nat → Nat} {σ : Sg} {r0 : Nat} {N : Nat} {i : Int32} (hJ : JW G H o B P L σ) (hO : Ok σ) (hN : N ≤ σ.rn) (hr_ : HR σ N) (hR : va_at G.1 clA (r0, .inr (5, [])) H) : PM l yX1_placeBy cX1_placeBy 8 (some .int) 2 48 G H [.ref o, .ref r0, .int (nI N), .int i] (some (.int (plF (fun j k => j_ahead (j_cmpA (σ.rp j) (σ.rp k)) j k) N i N))) := by
  refine pm_intro pl_X1_placeBy (Nat.le_of_ble_eq_true rfl) ?_
  intro pX eX sX mX belX methX cX ls hE hnm hl
  obtain ⟨hx, hb, hr, hlk, hml, hown, hts, hK, hZ, hH⟩ := hE
  have hl : lv_has ls 8 [(0, .ref o), (1, .ref r0), (2, .int (nI N)), (3, .int i)] := hl
  have hN31 : N < 2 ^ 31 := Nat.lt_of_le_of_lt hN hO.rn31
  refine lv_iconst (v := -1) hx hb dX1_placeBy_0 ic_m1 ?_
  refine lv_istore (lv' := [(4, .int _), (0, .ref _), (1, .ref _), (2, .int _), (3, .int _)]) hx hb dX1_placeBy_1 hl (Nat.le_of_ble_eq_true rfl) rfl (fun ls hl => ?_)
  refine lv_iconst (v := 0) hx hb dX1_placeBy_3 ic_0 ?_
  refine lv_istore (lv' := [(5, .int _), (4, .int _), (0, .ref _), (1, .ref _), (2, .int _), (3, .int _)]) hx hb dX1_placeBy_4 hl (Nat.le_of_ble_eq_true rfl) rfl (fun ls hl => ?_)
  refine loopW (N := N) (nL := 8) (lv := fun k => [(0, .ref o), (1, .ref r0), (2, .int (nI N)), (3, .int i), (4, .int (plF (fun j k => j_ahead (j_cmpA (σ.rp j) (σ.rp k)) j k) N i k)), (5, .int (nI k))]) (fun k hk_k ih_k ls hl => ?_) 0 (Nat.zero_le _) ls (lv_sub hl [2, 3, 4, 5, 1, 0] rfl)
  replace hl : lv_has ls 8 [(0, .ref o), (1, .ref r0), (2, .int (nI N)), (3, .int i), (4, .int (plF (fun j k => j_ahead (j_cmpA (σ.rp j) (σ.rp k)) j k) N i k)), (5, .int (nI k))] := hl
  refine lv_iload hx hb dX1_placeBy_6 (lv_at hl 5 rfl) ?_
  refine lv_iload_n hx hb dX1_placeBy_8 rfl (lv_at hl 2 rfl) ?_
  refine lv_icmp_ge (tgt := 95) hx hb dX1_placeBy_9 rfl (fun c_9_0 => ?_) (fun c_9_0 => ?_)
  · skip
    have e_k := lp_out hk_k hN31 c_9_0
    subst e_k
    refine lv_iload hx hb dX1_placeBy_95 (lv_at hl 4 rfl) ?_
    exact pm_iret hx hb hr hlk hH dX1_placeBy_97 (by first | with_reducible rfl | (simp only [↓reduceIte, Bool.true_and, Bool.and_true, Bool.false_and, Bool.and_false, Bool.true_or, Bool.or_true, Bool.false_or, Bool.or_false, Bool.not_true, Bool.not_false, decide_true, decide_false, bI_t, bI_f, Bool.false_eq_true, not_true_eq_false, not_false_eq_true, eq_self, reduceCtorEq, Bool.true_eq_false, and_true, true_and, and_false, false_and, or_true, true_or, or_false, false_or]; done))
  have h_k := lp_in hk_k hN31 c_9_0
  refine lv_iconst (v := 0) hx hb dX1_placeBy_12 ic_0 ?_
  refine lv_istore (lv' := [(6, .int _), (0, .ref _), (1, .ref _), (2, .int _), (3, .int _), (4, .int _), (5, .int _)]) hx hb dX1_placeBy_13 hl (Nat.le_of_ble_eq_true rfl) rfl (fun ls hl => ?_)
  refine lv_iconst (v := 0) hx hb dX1_placeBy_15 ic_0 ?_
  refine lv_istore (lv' := [(7, .int _), (6, .int _), (0, .ref _), (1, .ref _), (2, .int _), (3, .int _), (4, .int _), (5, .int _)]) hx hb dX1_placeBy_16 hl (Nat.le_of_ble_eq_true rfl) rfl (fun ls hl => ?_)
  refine loopW (N := N) (nL := 8) (lv := fun j => [(0, .ref o), (1, .ref r0), (2, .int (nI N)), (3, .int i), (4, .int (plF (fun j k => j_ahead (j_cmpA (σ.rp j) (σ.rp k)) j k) N i k)), (5, .int (nI k)), (6, .int (plA (fun j k => j_ahead (j_cmpA (σ.rp j) (σ.rp k)) j k) k j)), (7, .int (nI j))]) (fun j hk_j ih_j ls hl => ?_) 0 (Nat.zero_le _) ls (lv_sub hl [2, 3, 4, 5, 6, 7, 1, 0] rfl)
  replace hl : lv_has ls 8 [(0, .ref o), (1, .ref r0), (2, .int (nI N)), (3, .int i), (4, .int (plF (fun j k => j_ahead (j_cmpA (σ.rp j) (σ.rp k)) j k) N i k)), (5, .int (nI k)), (6, .int (plA (fun j k => j_ahead (j_cmpA (σ.rp j) (σ.rp k)) j k) k j)), (7, .int (nI j))] := hl
  refine lv_iload hx hb dX1_placeBy_18 (lv_at hl 7 rfl) ?_
  refine lv_iload_n hx hb dX1_placeBy_20 rfl (lv_at hl 2 rfl) ?_
  refine lv_icmp_ge (tgt := 74) hx hb dX1_placeBy_21 rfl (fun c_21_1 => ?_) (fun c_21_1 => ?_)
  · skip
    have e_j := lp_out hk_j hN31 c_21_1
    subst e_j
    refine cutI (J := 87) (v := if plA (fun j k => j_ahead (j_cmpA (σ.rp j) (σ.rp k)) j k) k N = i then nI k else plF (fun j k => j_ahead (j_cmpA (σ.rp j) (σ.rp k)) j k) N i k) ?_ (fun K28 => ?_)
    rotate_left
    · skip
      refine lv_iload hx hb dX1_placeBy_74 (lv_at hl 6 rfl) ?_
      refine lv_iload_n hx hb dX1_placeBy_76 rfl (lv_at hl 3 rfl) ?_
      refine lv_icmp_ne (tgt := 85) hx hb dX1_placeBy_77 rfl (fun c_77_2 => ?_) (fun c_77_2 => ?_)
      · skip
        refine lv_iload hx hb dX1_placeBy_85 (lv_at hl 4 rfl) ?_
        exact K28 _ (by first | with_reducible rfl | (simp only [c_77_2, ↓reduceIte, Bool.true_and, Bool.and_true, Bool.false_and, Bool.and_false, Bool.true_or, Bool.or_true, Bool.false_or, Bool.or_false, Bool.not_true, Bool.not_false, decide_true, decide_false, bI_t, bI_f, Bool.false_eq_true, not_true_eq_false, not_false_eq_true, eq_self, reduceCtorEq, Bool.true_eq_false, and_true, true_and, and_false, false_and, or_true, true_or, or_false, false_or]; done))
      refine lv_iload hx hb dX1_placeBy_80 (lv_at hl 5 rfl) ?_
      refine lv_goto (tgt := 87) hx hb dX1_placeBy_82 rfl ?_
      exact K28 _ (by first | with_reducible rfl | (simp only [eq_true c_77_2, ↓reduceIte, Bool.true_and, Bool.and_true, Bool.false_and, Bool.and_false, Bool.true_or, Bool.or_true, Bool.false_or, Bool.or_false, Bool.not_true, Bool.not_false, decide_true, decide_false, bI_t, bI_f, Bool.false_eq_true, not_true_eq_false, not_false_eq_true, eq_self, reduceCtorEq, Bool.true_eq_false, and_true, true_and, and_false, false_and, or_true, true_or, or_false, false_or]; done))
    refine lv_istore (lv' := [(4, .int _), (0, .ref _), (1, .ref _), (2, .int _), (3, .int _), (5, .int _), (6, .int _), (7, .int _)]) hx hb dX1_placeBy_87 hl (Nat.le_of_ble_eq_true rfl) rfl (fun ls hl => ?_)
    refine lv_iinc (v := nI (k + 1)) (k := 5) (lv' := [(5, .int _), (4, .int _), (0, .ref _), (1, .ref _), (2, .int _), (3, .int _), (6, .int _), (7, .int _)]) hx hb dX1_placeBy_89 hl rfl (nI_1 _) (Nat.le_of_ble_eq_true rfl) rfl (fun ls hl => ?_)
    refine lv_goto (tgt := 6) hx hb dX1_placeBy_92 rfl ?_
    exact ih_k ls (lv_sub hl [2, 3, 4, 5, 1, 0] rfl) h_k
  have h_j := lp_in hk_j hN31 c_21_1
  refine lv_iload hx hb dX1_placeBy_24 (lv_at hl 6 rfl) ?_
  refine cutI (J := 65) (v := if !decide (j = k) && (fun j k => j_ahead (j_cmpA (σ.rp j) (σ.rp k)) j k) j k then 1 else 0) ?_ (fun K29 => ?_)
  rotate_left
  · skip
    refine lv_iload hx hb dX1_placeBy_26 (lv_at hl 7 rfl) ?_
    refine lv_iload hx hb dX1_placeBy_28 (lv_at hl 5 rfl) ?_
    refine lv_icmp_eq (tgt := 64) hx hb dX1_placeBy_30 rfl (fun c_30_2 => ?_) (fun c_30_2 => ?_)
    · skip
      refine lv_iconst (v := 0) hx hb dX1_placeBy_64 ic_0 ?_
      exact K29 _ (by first | with_reducible rfl | (simp only [eq_true ((nI_eq (by omega) (by omega)).mp c_30_2), ↓reduceIte, Bool.true_and, Bool.and_true, Bool.false_and, Bool.and_false, Bool.true_or, Bool.or_true, Bool.false_or, Bool.or_false, Bool.not_true, Bool.not_false, decide_true, decide_false, bI_t, bI_f, Bool.false_eq_true, not_true_eq_false, not_false_eq_true, eq_self, reduceCtorEq, Bool.true_eq_false, and_true, true_and, and_false, false_and, or_true, true_or, or_false, false_or]; done))
    refine lv_aload_n hx hb dX1_placeBy_33 rfl (lv_at hl 1 rfl) ?_
    refine lv_aload_n hx hb dX1_placeBy_34 rfl (lv_at hl 0 rfl) ?_
    refine gf_X1_30 hx hb hts hown hK hJ.1 rfl dX1_placeBy_35 ?_
    refine lv_iload hx hb dX1_placeBy_38 (lv_at hl 7 rfl) ?_
    refine r_pald hx hb hK hJ.2.2.1 dX1_placeBy_40 (k := j) (Nat.lt_of_lt_of_le h_j hN) hO.rn31 rfl (ra_some (hr_ _ h_j).1) ?_
    refine lv_iload hx hb dX1_placeBy_41 (lv_at hl 7 rfl) ?_
    refine lv_aload_n hx hb dX1_placeBy_43 rfl (lv_at hl 0 rfl) ?_
    refine gf_X1_30 hx hb hts hown hK hJ.1 rfl dX1_placeBy_44 ?_
    refine lv_iload hx hb dX1_placeBy_47 (lv_at hl 5 rfl) ?_
    refine r_pald hx hb hK hJ.2.2.1 dX1_placeBy_49 (k := k) (Nat.lt_of_lt_of_le h_k hN) hO.rn31 rfl (ra_some (hr_ _ h_k).1) ?_
    refine lv_iload hx hb dX1_placeBy_50 (lv_at hl 5 rfl) ?_
    refine p_callD (As := [.ref _, .int _, .ref _, .int _]) hx hb hml hown hts hK hZ (met_ahead_A l G hR (hJ.2.2.2.2.1 _ (hr_ _ h_j).2) (hJ.2.2.2.2.1 _ (hr_ _ h_k).2) (by omega) (by omega)) hK.2.2.2.2.2.1.1 hK.2.2.2.2.2.2.1 q347 q352 q354 pl_X10_isAhead (Nat.le_of_ble_eq_true rfl) hd_X10_isAhead rfl hR rfl (by decide) hl.1 rfl (Nat.le_of_ble_eq_true rfl) dX1_placeBy_52 ⟨Nat.zero_le _, Nat.zero_le _⟩ ?_
    refine b_ifeq (tgt := 64) hx hb dX1_placeBy_57 rfl (fun c_57_3 => ?_) (fun c_57_3 => ?_)
    · skip
      refine lv_iconst (v := 0) hx hb dX1_placeBy_64 ic_0 ?_
      exact K29 _ (by first | with_reducible rfl | (simp only [(eq_false (fun h => c_30_2 (congrArg nI h)) : (j = k) = False), c_57_3, ↓reduceIte, Bool.true_and, Bool.and_true, Bool.false_and, Bool.and_false, Bool.true_or, Bool.or_true, Bool.false_or, Bool.or_false, Bool.not_true, Bool.not_false, decide_true, decide_false, bI_t, bI_f, Bool.false_eq_true, not_true_eq_false, not_false_eq_true, eq_self, reduceCtorEq, Bool.true_eq_false, and_true, true_and, and_false, false_and, or_true, true_or, or_false, false_or]; done) | (simp only [(eq_false (fun h => c_30_2 (congrArg nI h)) : (j = k) = False), ↓reduceIte, Bool.true_and, Bool.and_true, Bool.false_and, Bool.and_false, Bool.true_or, Bool.or_true, Bool.false_or, Bool.or_false, Bool.not_true, Bool.not_false, decide_true, decide_false, bI_t, bI_f, Bool.false_eq_true, not_true_eq_false, not_false_eq_true, eq_self, reduceCtorEq, Bool.true_eq_false, and_true, true_and, and_false, false_and, or_true, true_or, or_false, false_or] at c_57_3; done) | (simp only [c_57_3, ↓reduceIte, Bool.true_and, Bool.and_true, Bool.false_and, Bool.and_false, Bool.true_or, Bool.or_true, Bool.false_or, Bool.or_false, Bool.not_true, Bool.not_false, decide_true, decide_false, bI_t, bI_f, Bool.false_eq_true, not_true_eq_false, not_false_eq_true, eq_self, reduceCtorEq, Bool.true_eq_false, and_true, true_and, and_false, false_and, or_true, true_or, or_false, false_or] at c_30_2; done))
    refine lv_iconst (v := 1) hx hb dX1_placeBy_60 ic_1 ?_
    refine lv_goto (tgt := 65) hx hb dX1_placeBy_61 rfl ?_
    exact K29 _ (by first | with_reducible rfl | (simp only [(eq_false (fun h => c_30_2 (congrArg nI h)) : (j = k) = False), c_57_3, ↓reduceIte, Bool.true_and, Bool.and_true, Bool.false_and, Bool.and_false, Bool.true_or, Bool.or_true, Bool.false_or, Bool.or_false, Bool.not_true, Bool.not_false, decide_true, decide_false, bI_t, bI_f, Bool.false_eq_true, not_true_eq_false, not_false_eq_true, eq_self, reduceCtorEq, Bool.true_eq_false, and_true, true_and, and_false, false_and, or_true, true_or, or_false, false_or]; done) | (simp only [(eq_false (fun h => c_30_2 (congrArg nI h)) : (j = k) = False), ↓reduceIte, Bool.true_and, Bool.and_true, Bool.false_and, Bool.and_false, Bool.true_or, Bool.or_true, Bool.false_or, Bool.or_false, Bool.not_true, Bool.not_false, decide_true, decide_false, bI_t, bI_f, Bool.false_eq_true, not_true_eq_false, not_false_eq_true, eq_self, reduceCtorEq, Bool.true_eq_false, and_true, true_and, and_false, false_and, or_true, true_or, or_false, false_or] at c_57_3; done) | (simp only [c_57_3, ↓reduceIte, Bool.true_and, Bool.and_true, Bool.false_and, Bool.and_false, Bool.true_or, Bool.or_true, Bool.false_or, Bool.or_false, Bool.not_true, Bool.not_false, decide_true, decide_false, bI_t, bI_f, Bool.false_eq_true, not_true_eq_false, not_false_eq_true, eq_self, reduceCtorEq, Bool.true_eq_false, and_true, true_and, and_false, false_and, or_true, true_or, or_false, false_or] at c_30_2; done))
  refine lv_iadd hx hb dX1_placeBy_65 ?_
  refine lv_istore (lv' := [(6, .int _), (0, .ref _), (1, .ref _), (2, .int _), (3, .int _), (4, .int _), (5, .int _), (7, .int _)]) hx hb dX1_placeBy_66 hl (Nat.le_of_ble_eq_true rfl) rfl (fun ls hl => ?_)
  refine lv_iinc (v := nI (j + 1)) (k := 7) (lv' := [(7, .int _), (6, .int _), (0, .ref _), (1, .ref _), (2, .int _), (3, .int _), (4, .int _), (5, .int _)]) hx hb dX1_placeBy_68 hl rfl (nI_1 _) (Nat.le_of_ble_eq_true rfl) rfl (fun ls hl => ?_)
  refine lv_goto (tgt := 18) hx hb dX1_placeBy_71 rfl ?_
  exact ih_j ls (lv_sub hl [2, 3, 4, 5, 6, 7, 1, 0] rfl) h_j
