set_option maxRecDepth 100000
/-! Math.abs and Math.max of floats: the machine has entries in their place. -/
def rowAbsF : NativeRow := (NativeRow.find? Native.java_lang_Math.nans.rows "java/lang/Math" "abs" "(F)F").get (by decide +kernel)
def rowMaxF : NativeRow := (NativeRow.find? Native.java_lang_Math.nans.rows "java/lang/Math" "max" "(FF)F").get (by decide +kernel)
theorem rowAbsF_at (p : Program) : NativeRow.find? p.tables.natives "java/lang/Math" "abs" "(F)F" = some rowAbsF := by cases p <;> rfl
theorem rowMaxF_at (p : Program) : NativeRow.find? p.tables.natives "java/lang/Math" "max" "(FF)F" = some rowMaxF := by cases p <;> rfl
theorem run_of_wp {α : Type} {M : Sem α} {r : α} {e : Env} {S : State} (h : wpRun M (fun v s _ => v = r ∧ s = S) (fun _ _ _ => False) e S) : ∃ acts, M.run e S = .ok r S acts := by
  have h' := (wpRun_iff_run _ _ _ _ _).mp h
  cases hr : M.run e S with
  | ok v s acts => rw [hr] at h'; obtain ⟨rfl, rfl⟩ := h'; exact ⟨_, rfl⟩
  | ctl x s acts => rw [hr] at h'; cases x <;> exact h'.elim
theorem n32_abs {a : UInt32} (h : vf_n32 a) : vf_n32 (fAbs a) := by
  unfold vf_n32 fAbs at *
  rw [UInt32.and_assoc, UInt32.and_self]; exact h
theorem absF_run {a : UInt32} (ha : vf_n32 a) (e : Env) (S : State) : ∃ acts, (rowAbsF.sem #[.float a]).run e S = .ok (some (.float (fAbs a))) S acts := by
  refine run_of_wp ?_
  have e1 : rowAbsF.sem #[.float a] = (do
      let r ← anyNaN32 (fAbs a)
      mark "nat.java_lang_Math.abs/float"
      Pure.pure (some (.float r))) := rfl
  have hn : fAbs a &&& 0x7fffffff ≤ 0x7f800000 := n32_abs ha
  rw [e1]
  simp [jvm, wpRun, anyNaN32, hn]
theorem maxF_run {a b : UInt32} (ha : FP.fIsNaN a = false) (hb : FP.fIsNaN b = false) (e : Env) (S : State) : ∃ acts, (rowMaxF.sem #[.float a, .float b]).run e S = .ok (some (.float (fMax a b))) S acts := by
  refine run_of_wp ?_
  have e1 : rowMaxF.sem #[.float a, .float b] = (do
      let r ← if FP.fIsNaN a then anyNaN32 a else if FP.fIsNaN b then anyNaN32 b else Pure.pure (fMax a b)
      mark "nat.java_lang_Math.max/float"
      Pure.pure (some (.float r))) := rfl
  rw [e1]
  simp [jvm, wpRun, ha, hb]
theorem FV.isN {a : UInt32} {v : Rat} {k : Int} (h : FV a v k) : FP.fIsNaN a = false := by
  obtain ⟨s, c, q, d, -⟩ := h
  show decide (FP.Core.decode FP.Core.b32 a.toNat = .nan) = false
  rw [d]; rfl
theorem ovr_some {tb : Tables} {e : Env} {s : State} {f : JFrame} {k : Class} {x : Method} {row : NativeRow} (hpc : f.pc = 0) (hk : s.vm.classes[f.method.cls]? = some k) (hn : k.name = "java/lang/Math") (hl : k.loader = none) (hx : k.methods[f.method.idx]? = some x) (hr : NativeRow.find? tb.natives k.name x.name x.desc = some row) : overridden tb e s f = some row := by
  have hin : overriddenIn.contains k.name = true := by rw [hn]; decide
  unfold overridden
  simp only [hpc, hk, hin, hl, hx, hr]
  rfl
section NAT
variable {p : Program} {l : Launch} {e : Env} {R : Room} {s : State} {m : MethodId} {args : Array Value} {below : List Frame} {meth : Method} {c : Code} {H : Heap} {locs : List Loc} {cells slots : Nat} {Q : State → Prop}
variable {cc : ByteArray} {pc : Nat} {ls : Array Slot} {rest : List Value}
theorem n_absF {own : String} {idx nL : Nat} {a : UInt32} (hx : p.tables.exec = Jvm.exec) (hb : c.code = cc) (hml : c.maxLocals = nL) (hown : s.vm.findClass own = some m.cls) (hts : ∀ w ∈ lw_all, w.before args s = true) (q1 : Cond.methodLink own idx ⟨"java/lang/Math", "abs", "(F)F"⟩ ∈ lw_all) (hsz : ls.size = nL) (hW : (rest.map fun v => v.category).sum ≤ 8) (hdg : decode cc pc = .ok (.invokestatic idx, 3)) (hR : 1 ≤ R.frames ∧ 8 + (1 + 11) ≤ R.locals) (ha : vf_n32 a)
    (kk : W p l e R s m args below meth c H locs cells slots Q (F0 m (pc + 3) ls (.float (fAbs a) :: rest))) : W p l e R s m args below meth c H locs cells slots Q (F0 m pc ls (.float a :: rest)) := by
  intro T hT X
  have hcode := hts _ q173
  obtain ⟨mk, hnamed⟩ := Cond.code_named hcode
  obtain ⟨mS, cS, hmS, hcS, -, hlS, -, hlkS, -, hsig⟩ := Cond.code_spec hnamed hcode
  obtain ⟨kS, hkS, hkn⟩ := className_of_methodNamed hnamed
  obtain ⟨hnm, hdsc⟩ := name_of_methodNamed hnamed hmS
  have hloader : kS.loader = none := Vm.bootOf_findClass (findClass_of_methodNamed hnamed) hkS
  have hpd : parseMethodDescriptor "(F)F" = some { parameters := [.float], returnType := some .float } := by decide +kernel
  have hpar : mS.sig.parameters.length = 1 := by
    have h3 : parseMethodDescriptor "(F)F" = some mS.sig := hsig
    rw [hpd] at h3
    rw [← Option.some.inj h3]; rfl
  obtain ⟨vm1, X1, hgo⟩ := X.invokestatic hx hown (hts _ q1) hnamed hmS (Cond.static_spec hnamed hmS (hts _ q172)) hkS (Cond.initialized_spec (findClass_of_methodNamed hnamed) hkS (hts _ q54)) (by decide) (g := F0 m pc ls (.float a :: rest)) rfl (argsL := [.float a]) (rest := rest) (by rw [hpar]; rfl) rfl (by rw [hb]; exact hdg)
  have hal := X1.warmed.alike
  have hm1 : (T.setVm vm1).vm.method? mk = some mS := by rw [hal.method?]; exact hmS
  obtain ⟨k1, hk1, hkn1⟩ := className_of_methodNamed (X1.named hnamed)
  have hx1 : k1.methods[mk.idx]? = some mS := by have h9 := hm1; simp only [Vm.method?] at h9; rw [hk1] at h9; exact h9
  have hld1 : k1.loader = none := Vm.bootOf_findClass (findClass_of_methodNamed (X1.named hnamed)) hk1
  obtain ⟨t, a1, b1⟩ := kk (T.setVm vm1) hT X1
  refine ⟨t, hgo _ (fun acts => ?_), b1⟩
  obtain ⟨g0, hfr⟩ := X1.frames_eq
  have hcur : (T.setVm vm1).cur < (T.setVm vm1).threads.size := State.cur_lt_of_frames hfr
  have hroom := X1.notFull (g := F0 m pc ls rest) (hsz.trans hml.symm) (vars := cS.maxLocals) hR.1 (by rw [hlS]; have := lv_room (m := m) (pc := pc) (ls := ls) (rest := rest) hW; have h10 := hR.2; show 2 * (F0 m pc ls rest).monitorRoom + (rest.map fun v => v.category).sum + (1 + 11) ≤ R.locals; omega)
  show Steps p.tables e below (doInvoke e ((T.setVm vm1).setTop (F0 m pc ls rest)) acts mk #[.float a]).1 t
  rw [(doInvoke_java (s := (T.setVm vm1).setTop (F0 m pc ls rest)) (e := e) (acts := acts) (args := #[.float a]) (meth := mS) (code := cS) hm1 hcS hlkS hroom).1, hlS]
  have hst : (T.setVm vm1).setTop (F0 m pc ls rest) = (T.setVm vm1).setFrames (.java (F0 m pc ls rest) :: below) := State.setTop_of_frames _ hfr
  have hU : ((T.setVm vm1).setTop (F0 m pc ls rest)).pushFrame (.java { method := mk, pc := 0, locals := argsToLocals #[.float a] 1, stack := [], locked := none }) = (T.setVm vm1).setFrames (.java (entryFrame mk #[.float a] 1) :: .java (F0 m pc ls rest) :: below) := by
    rw [State.pushFrame, State.frames_setTop _ hfr, hst, State.setFrames_setFrames]; rfl
  rw [hU]
  have hf1 : ((T.setVm vm1).setFrames (.java (entryFrame mk #[.float a] 1) :: .java (F0 m pc ls rest) :: below)).frames = .java (entryFrame mk #[.float a] 1) :: .java (F0 m pc ls rest) :: below := State.frames_setFrames _ hcur
  have hov : overridden p.tables e ((T.setVm vm1).setFrames (.java (entryFrame mk #[.float a] 1) :: .java (F0 m pc ls rest) :: below)) (entryFrame mk #[.float a] 1) = some rowAbsF :=
    ovr_some (k := k1) (x := mS) rfl hk1 hkn1 hld1 hx1 (by rw [hkn1, hnm, hdsc]; exact rowAbsF_at p)
  obtain ⟨acts2, hr2⟩ := absF_run ha e ((T.setVm vm1).setFrames (.native { method := mk, args := #[.float a] } :: .java (F0 m pc ls rest) :: below))
  have hcd : ∀ F : List Frame, ((T.setVm vm1).setFrames F).code? m = some c := fun F => by
    have h9 := X1.here.code
    rw [State.code?_eq] at h9 ⊢
    exact h9
  have hdg' : decode c.code pc = .ok (.invokestatic idx, 3) := by rw [hb]; exact hdg
  have hfs : handOver ((T.setVm vm1).setFrames (.native { method := mk, args := #[.float a] } :: .java (F0 m pc ls rest) :: below)) (some (.float (fAbs a))) (.java (F0 m pc ls rest) :: below) = some (.java (F0 m (pc + 3) ls (.float (fAbs a) :: rest)) :: below) := by
    simp [handOver, hcd, hdg', Except.toOption]
  have hb2 : ∀ F : List Frame, (((T.setVm vm1).setFrames F).vm.classes[mk.cls]?.bind fun y => y.methods[mk.idx]?) = some mS := fun F => by
    show ((T.setVm vm1).vm.classes[mk.cls]?.bind fun y => y.methods[mk.idx]?) = some mS
    rw [hk1]; exact hx1
  have hb3 : (vm1.classes[mk.cls]?.bind fun y => y.methods[mk.idx]?) = some mS := hb2 []
  have htk : ∀ n : Nat, List.take (1 + n) ([.float a] : List Value) = [.float a] := fun n => List.take_of_length_le (Nat.le_add_right 1 n)
  have hstep : (stepThread p.tables e ((T.setVm vm1).setFrames (.java (entryFrame mk #[.float a] 1) :: .java (F0 m pc ls rest) :: below))).1 = (T.setVm vm1).setTop (F0 m (pc + 3) ls (.float (fAbs a) :: rest)) := by
    unfold stepThread
    simp only [hf1, hov]
    simp [entryFrame, argsToLocals, Value.category, argCount, hb2, hb3, hpar, htk, hr2, afterNative]
    rw [doReturn_native (f := { method := mk, args := #[.float a] }) (below := .java (F0 m pc ls rest) :: below) (State.frames_setFrames _ hcur) rfl hfs, State.setFrames_setFrames, ← State.setTop_of_frames _ hfr]
  refine Steps.head ⟨X1.here.running, by simpa using X1.here.runnable, by simpa using X1.here.alone⟩ ⟨[.java (entryFrame mk #[.float a] 1), .java (F0 m pc ls rest)], by rw [hf1]; rfl, by simp, by simp⟩ ?_
  rw [hstep]
  exact a1
theorem n_maxF {own : String} {idx nL : Nat} {a b : UInt32} (hx : p.tables.exec = Jvm.exec) (hb : c.code = cc) (hml : c.maxLocals = nL) (hown : s.vm.findClass own = some m.cls) (hts : ∀ w ∈ lw_all, w.before args s = true) (q1 : Cond.methodLink own idx ⟨"java/lang/Math", "max", "(FF)F"⟩ ∈ lw_all) (hsz : ls.size = nL) (hW : (rest.map fun v => v.category).sum ≤ 8) (hdg : decode cc pc = .ok (.invokestatic idx, 3)) (hR : 1 ≤ R.frames ∧ 8 + (2 + 11) ≤ R.locals) (ha : FP.fIsNaN a = false) (hb2' : FP.fIsNaN b = false)
    (kk : W p l e R s m args below meth c H locs cells slots Q (F0 m (pc + 3) ls (.float (fMax a b) :: rest))) : W p l e R s m args below meth c H locs cells slots Q (F0 m pc ls (.float b :: .float a :: rest)) := by
  intro T hT X
  have hcode := hts _ q183
  obtain ⟨mk, hnamed⟩ := Cond.code_named hcode
  obtain ⟨mS, cS, hmS, hcS, -, hlS, -, hlkS, -, hsig⟩ := Cond.code_spec hnamed hcode
  obtain ⟨kS, hkS, hkn⟩ := className_of_methodNamed hnamed
  obtain ⟨hnm, hdsc⟩ := name_of_methodNamed hnamed hmS
  have hloader : kS.loader = none := Vm.bootOf_findClass (findClass_of_methodNamed hnamed) hkS
  have hpd : parseMethodDescriptor "(FF)F" = some { parameters := [.float, .float], returnType := some .float } := by decide +kernel
  have hpar : mS.sig.parameters.length = 2 := by
    have h3 : parseMethodDescriptor "(FF)F" = some mS.sig := hsig
    rw [hpd] at h3
    rw [← Option.some.inj h3]; rfl
  obtain ⟨vm1, X1, hgo⟩ := X.invokestatic hx hown (hts _ q1) hnamed hmS (Cond.static_spec hnamed hmS (hts _ q182)) hkS (Cond.initialized_spec (findClass_of_methodNamed hnamed) hkS (hts _ q54)) (by decide) (g := F0 m pc ls (.float b :: .float a :: rest)) rfl (argsL := [.float a, .float b]) (rest := rest) (by rw [hpar]; rfl) rfl (by rw [hb]; exact hdg)
  have hal := X1.warmed.alike
  have hm1 : (T.setVm vm1).vm.method? mk = some mS := by rw [hal.method?]; exact hmS
  obtain ⟨k1, hk1, hkn1⟩ := className_of_methodNamed (X1.named hnamed)
  have hx1 : k1.methods[mk.idx]? = some mS := by have h9 := hm1; simp only [Vm.method?] at h9; rw [hk1] at h9; exact h9
  have hld1 : k1.loader = none := Vm.bootOf_findClass (findClass_of_methodNamed (X1.named hnamed)) hk1
  obtain ⟨t, a1, b1⟩ := kk (T.setVm vm1) hT X1
  refine ⟨t, hgo _ (fun acts => ?_), b1⟩
  obtain ⟨g0, hfr⟩ := X1.frames_eq
  have hcur : (T.setVm vm1).cur < (T.setVm vm1).threads.size := State.cur_lt_of_frames hfr
  have hroom := X1.notFull (g := F0 m pc ls rest) (hsz.trans hml.symm) (vars := cS.maxLocals) hR.1 (by rw [hlS]; have := lv_room (m := m) (pc := pc) (ls := ls) (rest := rest) hW; have h10 := hR.2; show 2 * (F0 m pc ls rest).monitorRoom + (rest.map fun v => v.category).sum + (2 + 11) ≤ R.locals; omega)
  show Steps p.tables e below (doInvoke e ((T.setVm vm1).setTop (F0 m pc ls rest)) acts mk #[.float a, .float b]).1 t
  rw [(doInvoke_java (s := (T.setVm vm1).setTop (F0 m pc ls rest)) (e := e) (acts := acts) (args := #[.float a, .float b]) (meth := mS) (code := cS) hm1 hcS hlkS hroom).1, hlS]
  have hst : (T.setVm vm1).setTop (F0 m pc ls rest) = (T.setVm vm1).setFrames (.java (F0 m pc ls rest) :: below) := State.setTop_of_frames _ hfr
  have hU : ((T.setVm vm1).setTop (F0 m pc ls rest)).pushFrame (.java { method := mk, pc := 0, locals := argsToLocals #[.float a, .float b] 2, stack := [], locked := none }) = (T.setVm vm1).setFrames (.java (entryFrame mk #[.float a, .float b] 2) :: .java (F0 m pc ls rest) :: below) := by
    rw [State.pushFrame, State.frames_setTop _ hfr, hst, State.setFrames_setFrames]; rfl
  rw [hU]
  have hf1 : ((T.setVm vm1).setFrames (.java (entryFrame mk #[.float a, .float b] 2) :: .java (F0 m pc ls rest) :: below)).frames = .java (entryFrame mk #[.float a, .float b] 2) :: .java (F0 m pc ls rest) :: below := State.frames_setFrames _ hcur
  have hov : overridden p.tables e ((T.setVm vm1).setFrames (.java (entryFrame mk #[.float a, .float b] 2) :: .java (F0 m pc ls rest) :: below)) (entryFrame mk #[.float a, .float b] 2) = some rowMaxF :=
    ovr_some (k := k1) (x := mS) rfl hk1 hkn1 hld1 hx1 (by rw [hkn1, hnm, hdsc]; exact rowMaxF_at p)
  obtain ⟨acts2, hr2⟩ := maxF_run ha hb2' e ((T.setVm vm1).setFrames (.native { method := mk, args := #[.float a, .float b] } :: .java (F0 m pc ls rest) :: below))
  have hcd : ∀ F : List Frame, ((T.setVm vm1).setFrames F).code? m = some c := fun F => by
    have h9 := X1.here.code
    rw [State.code?_eq] at h9 ⊢
    exact h9
  have hdg' : decode c.code pc = .ok (.invokestatic idx, 3) := by rw [hb]; exact hdg
  have hfs : handOver ((T.setVm vm1).setFrames (.native { method := mk, args := #[.float a, .float b] } :: .java (F0 m pc ls rest) :: below)) (some (.float (fMax a b))) (.java (F0 m pc ls rest) :: below) = some (.java (F0 m (pc + 3) ls (.float (fMax a b) :: rest)) :: below) := by
    simp [handOver, hcd, hdg', Except.toOption]
  have hb2 : ∀ F : List Frame, (((T.setVm vm1).setFrames F).vm.classes[mk.cls]?.bind fun y => y.methods[mk.idx]?) = some mS := fun F => by
    show ((T.setVm vm1).vm.classes[mk.cls]?.bind fun y => y.methods[mk.idx]?) = some mS
    rw [hk1]; exact hx1
  have hb3 : (vm1.classes[mk.cls]?.bind fun y => y.methods[mk.idx]?) = some mS := hb2 []
  have htk : ∀ n : Nat, List.take (2 + n) ([.float a, .float b] : List Value) = [.float a, .float b] := fun n => List.take_of_length_le (Nat.le_add_right 2 n)
  have hstep : (stepThread p.tables e ((T.setVm vm1).setFrames (.java (entryFrame mk #[.float a, .float b] 2) :: .java (F0 m pc ls rest) :: below))).1 = (T.setVm vm1).setTop (F0 m (pc + 3) ls (.float (fMax a b) :: rest)) := by
    unfold stepThread
    simp only [hf1, hov]
    simp [entryFrame, argsToLocals, Value.category, argCount, hb2, hb3, hpar, htk, hr2, afterNative]
    rw [doReturn_native (f := { method := mk, args := #[.float a, .float b] }) (below := .java (F0 m pc ls rest) :: below) (State.frames_setFrames _ hcur) rfl hfs, State.setFrames_setFrames, ← State.setTop_of_frames _ hfr]
  refine Steps.head ⟨X1.here.running, by simpa using X1.here.runnable, by simpa using X1.here.alone⟩ ⟨[.java (entryFrame mk #[.float a, .float b] 2), .java (F0 m pc ls rest)], by rw [hf1]; rfl, by simp, by simp⟩ ?_
  rw [hstep]
  exact a1
/-- tests of floats -/
theorem cmpV_l (o : Option Ordering) : (Op.cmpValue o .l ≤ 0 ↔ ¬ o = some .gt) := by
  cases o with
  | none => exact ⟨fun _ h => (by cases h), fun _ => by decide⟩
  | some x => cases x with
    | lt => exact ⟨fun _ h => (by cases h), fun _ => by decide⟩
    | eq => exact ⟨fun _ h => (by cases h), fun _ => by decide⟩
    | gt => exact ⟨fun h => absurd h (by decide), fun h => absurd rfl h⟩
theorem cmpV_g (o : Option Ordering) : (0 ≤ Op.cmpValue o .g ↔ ¬ o = some .lt) := by
  cases o with
  | none => exact ⟨fun _ h => (by cases h), fun _ => by decide⟩
  | some x => cases x with
    | lt => exact ⟨fun h => absurd h (by decide), fun h => absurd rfl h⟩
    | eq => exact ⟨fun _ h => (by cases h), fun _ => by decide⟩
    | gt => exact ⟨fun _ h => (by cases h), fun _ => by decide⟩
theorem fc_l_le {x y : UInt32} {off : Int} {tgt : Nat} (hx : p.tables.exec = Jvm.exec) (hb : c.code = cc) (hd1 : decode cc pc = .ok (.fcmp .l, 1)) (hdg : decode cc (pc + 1) = .ok (.ifCond .le off, 3)) (ht : ((pc + 1 : Nat) : Int) + off = (tgt : Int))
    (kt : fGt x y = false → W p l e R s m args below meth c H locs cells slots Q (F0 m tgt ls rest)) (kf : fGt x y = true → W p l e R s m args below meth c H locs cells slots Q (F0 m (pc + 4) ls rest)) : W p l e R s m args below meth c H locs cells slots Q (F0 m pc ls (.float y :: .float x :: rest)) :=
  lv_fcmp hx hb hd1 (lv_if_le hx hb hdg ht (fun h => kt (decide_eq_false ((cmpV_l _).mp h))) (fun h => kf (decide_eq_true (Classical.byContradiction fun q => h ((cmpV_l _).mpr q)))))
theorem fc_g_ge {x y : UInt32} {off : Int} {tgt : Nat} (hx : p.tables.exec = Jvm.exec) (hb : c.code = cc) (hd1 : decode cc pc = .ok (.fcmp .g, 1)) (hdg : decode cc (pc + 1) = .ok (.ifCond .ge off, 3)) (ht : ((pc + 1 : Nat) : Int) + off = (tgt : Int))
    (kt : fLt x y = false → W p l e R s m args below meth c H locs cells slots Q (F0 m tgt ls rest)) (kf : fLt x y = true → W p l e R s m args below meth c H locs cells slots Q (F0 m (pc + 4) ls rest)) : W p l e R s m args below meth c H locs cells slots Q (F0 m pc ls (.float y :: .float x :: rest)) :=
  lv_fcmp hx hb hd1 (lv_if_ge hx hb hdg ht (fun h => kt (decide_eq_false ((cmpV_g _).mp h))) (fun h => kf (decide_eq_true (Classical.byContradiction fun q => h ((cmpV_g _).mpr q)))))
end NAT
