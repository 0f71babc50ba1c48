set_option maxRecDepth 100000
/-! The base: one picture of the tables for every method (KT), the contract of a method that only reads (PM), rows for calls and reads. -/
abbrev GG : Type := va_G × (ClassId × ClassId × ClassId × ClassId)
def clA : List vw_C := [(RX1, TX1, 9), (RX3, TX3, 5), (RX8, TX8, 3), (RX5, TX5, 4), (RX6, TX6, 1), (RX7, TX7, 0), (RX9, TX9, 6), (RX2, TX2, 14)]
def tysA (G : GG) : List (ClassId × FieldType) := [(G.2.1, .object "OrderJudge$Point"), (G.2.2.1, .object "OrderJudge$Line"), (G.2.2.2.1, .int), (G.2.2.2.2, .long)]
def nestF : List (String × Nat × String × String × String) := [("OrderJudge", 1, "OrderJudge$Point", "x", "I"), ("OrderJudge", 7, "OrderJudge$Point", "y", "I"), ("OrderJudge", 63, "OrderJudge$Point", "number", "I"), ("OrderJudge", 146, "OrderJudge$Edges", "isOn", "Z"), ("OrderJudge", 147, "OrderJudge$Edges", "rises", "I"), ("OrderJudge", 150, "OrderJudge$Edges", "falls", "I"), ("OrderJudge", 194, "OrderJudge$Arrangement", "different", "I"), ("OrderJudge", 197, "OrderJudge$Arrangement", "meets", "I"), ("OrderJudge", 200, "OrderJudge$Arrangement", "cells", "I"), ("OrderJudge", 207, "OrderJudge$Arrangement", "most", "I"), ("OrderJudge$Across", 7, "OrderJudge$Point", "x", "I"), ("OrderJudge$Across", 13, "OrderJudge$Point", "y", "I"), ("OrderJudge$Arrangement", 28, "OrderJudge", "line", "[LOrderJudge$Line;"), ("OrderJudge$Edges", 13, "OrderJudge", "row", "[LOrderJudge$Point;"), ("OrderJudge$Edges", 39, "OrderJudge$Point", "y", "I"), ("OrderJudge$Filter", 23, "OrderJudge$Point", "fx", "F"), ("OrderJudge$Filter", 27, "OrderJudge$Point", "fy", "F"), ("OrderJudge$Line", 7, "OrderJudge$Point", "y", "I"), ("OrderJudge$Line", 19, "OrderJudge$Point", "x", "I"), ("OrderJudge$Round", 19, "OrderJudge$Point", "y", "I"), ("OrderJudge$Round", 23, "OrderJudge$Point", "x", "I")]
def nestM : List (String × Nat × MethodName) := [("OrderJudge", 139, yX5_init), ("OrderJudge", 180, yX7_init), ("OrderJudge$Edges", 19, yX1_next), ("OrderJudge$Edges", 27, yX1_isOnWay), ("OrderJudge$Edges", 31, yX1_turn), ("OrderJudge$Round", 30, yX1_turn)]
def nfW (q : String × Nat × String × String × String) : Cond := .fieldLinkNest q.1 q.2.1 q.2.2.1 q.2.2.2.1 q.2.2.2.2 "OrderJudge"
def nmW (q : String × Nat × MethodName) : Cond := .methodLinkNest q.1 q.2.1 q.2.2 "OrderJudge"
def yOc : MethodName := ⟨RX10, "compare", "(LOrderJudge$Point;LOrderJudge$Point;)J"⟩
/-- an interface's own method is the one that runs at the class C -/
def KD (C : String) (x : MethodName) (U : State) : Prop := ∃ (c : ClassId) (r : MethodId), U.vm.findClass C = some c ∧ U.methodNamed? x = some r ∧ selectMethod {} U.vm c r = .method r
theorem KD.moved {C : String} {x : MethodName} {u U : State} (hvm : u.vm.Alike U.vm) (h : KD C x u) : KD C x U := by
  obtain ⟨c, r, h1, h2, h3⟩ := h
  have h4 : (u.setVm U.vm).methodNamed? x = some r := by rw [State.methodNamed?_setVm hvm]; exact h2
  exact ⟨c, r, by rw [hvm.findClass]; exact h1, h4, by rw [hvm.selectMethod]; exact h3⟩
def KT (G : GG) (U : State) : Prop := va_K G.1 clA (tysA G) U ∧ (∀ q ∈ nestF, va_Nw (nfW q) U) ∧ (∀ q ∈ nestM, va_Nw (nmW q) U) ∧ (va_AO "OrderJudge$Point" U ∧ va_AO "OrderJudge$Line" U) ∧ (va_Fw RX7 yOc yX7_compare U ∧ va_Fw RX6 yOc yX6_compare U) ∧ (va_Fw RX7 yX10_isAhead yX10_isAhead U ∧ va_Fw RX6 yX10_isAhead yX10_isAhead U) ∧ (KD RX7 yX10_isAhead U ∧ KD RX6 yX10_isAhead U)
theorem KT.moved {G : GG} {s U : State} (hW : s.WarmedH U.vm) (h : KT G s) : KT G U := by
  obtain ⟨h1, h2, h3, ⟨h4, h5⟩, ⟨h6, h7⟩, ⟨h8, h9⟩, h10, h11⟩ := h
  have a := hW.alike
  have n1 : RX10 ≠ "java/lang/invoke/MethodHandle" ∧ RX10 ≠ "java/lang/invoke/VarHandle" := by decide +kernel
  exact ⟨va_K.moved a h1, fun q hq => va_Nw.warmF hW (h2 q hq), fun q hq => va_Nw.warmM hW (h3 q hq), ⟨h4.moved a, h5.moved a⟩, ⟨va_Fw.moved n1 a h6, va_Fw.moved n1 a h7⟩, ⟨va_Fw.moved n1 a h8, va_Fw.moved n1 a h9⟩, h10.moved a, h11.moved a⟩
/-- (what statics hold: nothing is read of them) -/
def KS (_ : State) (_ : Heap) : Prop := True
theorem KS.moved {u U : State} {H : Heap} (_ : u.vm.Alike U.vm) (_ : KS u H) : KS U H := trivial
def bI (b : Bool) : Int32 := if b then 1 else 0
theorem bI_t : bI true = 1 := rfl
theorem bI_f : bI false = 0 := rfl
theorem bI_nar (b : Bool) : narrow .boolean (.int (bI b)) = .int (bI b) := by cases b <;> decide +kernel
theorem bI_fit (b : Bool) : fits .boolean (.int (bI b)) = true := by cases b <;> decide +kernel
theorem bI_ne {b : Bool} (h : ¬ bI b = 0) : b = true := by cases b <;> simp_all [bI]
theorem bI_eq {b : Bool} (h : bI b = 0) : b = false := by cases b <;> simp_all [bI]
/-- the answer of a method that only reads -/
def PQ (r : Option Value) : Array Value → State → Outcome → State → Prop := fun _ st o t => o = .returned r ∧ t.heap = st.heap
def PPre (G : GG) (H : Heap) (av : List Value) : Array Value → State → Prop := fun v U => v = av.toArray ∧ U.heap = H ∧ KT G U ∧ KS U H
/-- the contract of a method that only reads: it answers r -/
def PM (l : Launch) (y : MethodName) (cc : ByteArray) (maxL : Nat) (ret : Option FieldType) (fr lo : Nat) (G : GG) (H : Heap) (av : List Value) (r : Option Value) : Prop :=
  Met l y (ws_ y cc maxL ret) ({ frames := fr, cells := 0, slots := 0, locals := lo }) (PPre G H av) (PQ r) 0 0 (fun _ => False)
/-- any contract: what is left of the heap, and how it ends, by Post -/
def GM (l : Launch) (y : MethodName) (cc : ByteArray) (maxL : Nat) (ret : Option FieldType) (fr mc ms lo : Nat) (G : GG) (H : Heap) (av : List Value) (Post : Outcome → Heap → Prop) (free : Addr → Prop) : Prop :=
  Met l y (ws_ y cc maxL ret) ({ frames := fr, cells := mc, slots := ms, locals := lo }) (PPre G H av) (fun _ _ o t => Post o t.heap) mc ms free
theorem PPre.blind {G : GG} {H : Heap} {av : List Value} : FrameBlind (PPre G H av) := fun a U g mk h => by
  obtain ⟨h1, h2, h3, h4⟩ := h
  exact ⟨h1, h2, by
    obtain ⟨k1, k2, k3, ⟨k4, k5⟩, ⟨k6, k7⟩, ⟨k8, k9⟩, k10, k11⟩ := h3
    exact ⟨va_K.moved (u := U) (U := U.calling g mk a) (Vm.Alike.refl U.vm) k1, fun q hq => va_Nw.same rfl rfl (k2 q hq), fun q hq => va_Nw.same rfl rfl (k3 q hq), ⟨k4.moved (Vm.Alike.refl U.vm), k5.moved (Vm.Alike.refl U.vm)⟩, ⟨k6.moved (by decide +kernel) (Vm.Alike.refl U.vm), k7.moved (by decide +kernel) (Vm.Alike.refl U.vm)⟩, ⟨k8.moved (by decide +kernel) (Vm.Alike.refl U.vm), k9.moved (by decide +kernel) (Vm.Alike.refl U.vm)⟩, k10.moved (Vm.Alike.refl U.vm), k11.moved (Vm.Alike.refl U.vm)⟩, KS.moved (Vm.Alike.refl U.vm) h4⟩
/-- what a walk has at a method's entry -/
def En (p : Program) (s : State) (m : MethodId) (meth : Method) (c : Code) (cc : ByteArray) (maxL : Nat) (ret : Option FieldType) (own : String) (av : List Value) (G : GG) (H : Heap) : Prop :=
  p.tables.exec = Jvm.exec ∧ c.code = cc ∧ meth.sig.returnType = ret ∧ meth.locks = false ∧ c.maxLocals = maxL ∧ s.vm.findClass own = some m.cls ∧ (∀ w ∈ lw_all, w.before av.toArray s = true) ∧ KT G s ∧ KS s H ∧ s.heap = H
theorem pm_intro {l : Launch} {y : MethodName} {cc : ByteArray} {maxL : Nat} {ret : Option FieldType} {fr lo : Nat} {G : GG} {H : Heap} {av : List Value} {r : Option Value} (hpl : plainName y.cls = true) (hlen : (lg_sl av).length ≤ maxL)
    (body : ∀ (p : Program) (e : Env) (s : State) (m : MethodId) (below : List Frame) (meth : Method) (c : Code) (ls : Array Slot), En p s m meth c cc maxL ret y.cls av G H → (meth.name = y.name) → lv_has ls maxL (lv_args 0 av) →
      W p l e ({ frames := fr, cells := 0, slots := 0, locals := lo }) s m av.toArray below meth c H [] 0 0 (MQ below (PQ r) av.toArray s 0 0 (fun _ => False)) (F0 m 0 ls [])) : PM l y cc maxL ret fr lo G H av r := by
  unfold PM
  refine Met.ofW (cc := cc) (maxL := maxL) (ret := ret) hpl rfl ?_
  intro p e s m args below meth c s₁ B hml hv
  obtain ⟨rfl, hH, hK, hZ⟩ := hv
  have hts := atoms_spec (ws := ws_ y cc maxL ret) B.pre
  have hts : ∀ w ∈ lw_all, w.before _ s = true := fun w h => hts w (List.mem_cons_of_mem _ h)
  have hl := lv_entry av (n := maxL) hlen
  rw [lg_entry_eq]
  generalize (lg_sl av ++ List.replicate (maxL - (lg_sl av).length) Slot.unset).toArray = ls at hl ⊢
  subst hH
  exact body p e s m below meth c ls ⟨B.exec, B.bytes, B.returns, B.notSynchronized, hml, findClass_of_methodNamed B.named, hts, hK, hZ, rfl⟩ (name_of_methodNamed B.named B.method).1 hl
theorem gm_intro {l : Launch} {y : MethodName} {cc : ByteArray} {maxL : Nat} {ret : Option FieldType} {fr mc ms lo : Nat} {G : GG} {H : Heap} {av : List Value} {Post : Outcome → Heap → Prop} {free : Addr → Prop} (hpl : plainName y.cls = true) (hlen : (lg_sl av).length ≤ maxL)
    (body : ∀ (p : Program) (e : Env) (s : State) (m : MethodId) (below : List Frame) (meth : Method) (c : Code) (ls : Array Slot), En p s m meth c cc maxL ret y.cls av G H → (meth.name = y.name) → lv_has ls maxL (lv_args 0 av) →
      W p l e ({ frames := fr, cells := mc, slots := ms, locals := lo }) s m av.toArray below meth c H [] 0 0 (MQ below (fun _ _ o t => Post o t.heap) av.toArray s mc ms free) (F0 m 0 ls [])) : GM l y cc maxL ret fr mc ms lo G H av Post free := by
  unfold GM
  refine Met.ofW (cc := cc) (maxL := maxL) (ret := ret) hpl rfl ?_
  intro p e s m args below meth c s₁ B hml hv
  obtain ⟨rfl, hH, hK, hZ⟩ := hv
  have hts := atoms_spec (ws := ws_ y cc maxL ret) B.pre
  have hts : ∀ w ∈ lw_all, w.before _ s = true := fun w h => hts w (List.mem_cons_of_mem _ h)
  have hl := lv_entry av (n := maxL) hlen
  rw [lg_entry_eq]
  generalize (lg_sl av ++ List.replicate (maxL - (lg_sl av).length) Slot.unset).toArray = ls at hl ⊢
  subst hH
  exact body p e s m below meth c ls ⟨B.exec, B.bytes, B.returns, B.notSynchronized, hml, findClass_of_methodNamed B.named, hts, hK, hZ, rfl⟩ (name_of_methodNamed B.named B.method).1 hl
section BR
variable {p : Program} {l : Launch} {e : Env} {R : Room} {s : State} {m : MethodId} {args : Array Value} {below : List Frame} {meth : Method} {c : Code} {H : Heap} {locs : List Loc} {cells slots : Nat} {Q : State → Prop}
variable {cc : ByteArray} {pc : Nat} {ls : Array Slot} {rest : List Value} {G : GG}
theorem pm_iret {r v : Int32} (hx : p.tables.exec = Jvm.exec) (hb : c.code = cc) (hr : meth.sig.returnType = some .int) (hlk : meth.locks = false) (hH : s.heap = H) (hdg : decode cc pc = .ok (.ireturn, 1)) (hv : v = r) : W p l e R s m args below meth c H [] 0 0 (MQ below (PQ (some (.int r))) args s 0 0 (fun _ => False)) (F0 m pc ls [.int v]) := by
  subst hv
  exact W.iret hx hb hr (fun t ht _ => ⟨rfl, by rw [ht, hH]⟩) (fun q h => by cases h) hdg hlk
theorem pm_zret {b : Bool} {v : Int32} (hx : p.tables.exec = Jvm.exec) (hb : c.code = cc) (hr : meth.sig.returnType = some .boolean) (hlk : meth.locks = false) (hH : s.heap = H) (hdg : decode cc pc = .ok (.ireturn, 1)) (hv : v = bI b) : W p l e R s m args below meth c H [] 0 0 (MQ below (PQ (some (.int (bI b)))) args s 0 0 (fun _ => False)) (F0 m pc ls [.int v]) := by
  subst hv
  exact W.zret hx hb hr (bI_nar b) (fun t ht _ => ⟨rfl, by rw [ht, hH]⟩) (fun q h => by cases h) hdg hlk
theorem pm_lret {r v : Int64} (hx : p.tables.exec = Jvm.exec) (hb : c.code = cc) (hr : meth.sig.returnType = some .long) (hlk : meth.locks = false) (hH : s.heap = H) (hdg : decode cc pc = .ok (.lreturn, 1)) (hv : v = r) : W p l e R s m args below meth c H [] 0 0 (MQ below (PQ (some (.long r))) args s 0 0 (fun _ => False)) (F0 m pc ls [.long v]) := by
  subst hv
  exact W.lret hx hb hr (fun t ht _ => ⟨rfl, by rw [ht, hH]⟩) (fun q h => by cases h) hdg hlk
theorem pm_fret {r v : UInt32} (hx : p.tables.exec = Jvm.exec) (hb : c.code = cc) (hr : meth.sig.returnType = some .float) (hlk : meth.locks = false) (hH : s.heap = H) (hdg : decode cc pc = .ok (.freturn, 1)) (hv : v = r) : W p l e R s m args below meth c H [] 0 0 (MQ below (PQ (some (.float r))) args s 0 0 (fun _ => False)) (F0 m pc ls [.float v]) := by
  subst hv
  exact W.fret hx hb hr (fun t ht _ => ⟨rfl, by rw [ht, hH]⟩) (fun q h => by cases h) hdg hlk
theorem pm_aret {r v : Nat} {C : String} (hx : p.tables.exec = Jvm.exec) (hb : c.code = cc) (hr : meth.sig.returnType = some (.object C)) (hlk : meth.locks = false) (hH : s.heap = H) (hdg : decode cc pc = .ok (.areturn, 1)) (hv : v = r) : W p l e R s m args below meth c H [] 0 0 (MQ below (PQ (some (.ref r))) args s 0 0 (fun _ => False)) (F0 m pc ls [.ref v]) := by
  subst hv
  exact W.aret hx hb hr (Or.inl ⟨_, rfl⟩) (Or.inr ⟨_, rfl⟩) (fun t ht _ => ⟨rfl, by rw [ht, hH]⟩) (fun q h => by cases h) hdg hlk
/-- a test of a truth value -/
theorem b_ifeq {b : Bool} {off : Int} {tgt : Nat} (hx : p.tables.exec = Jvm.exec) (hb : c.code = cc) (hdg : decode cc pc = .ok (.ifCond .eq off, 3)) (ht : (pc : Int) + off = (tgt : Int))
    (kt : b = false → W p l e R s m args below meth c H locs cells slots Q (F0 m tgt ls rest)) (kf : b = true → W p l e R s m args below meth c H locs cells slots Q (F0 m (pc + 3) ls rest)) : W p l e R s m args below meth c H locs cells slots Q (F0 m pc ls (.int (bI b) :: rest)) :=
  lv_if_eq hx hb hdg ht (fun h => kt (bI_eq h)) (fun h => kf (bI_ne h))
theorem b_ifne {b : Bool} {off : Int} {tgt : Nat} (hx : p.tables.exec = Jvm.exec) (hb : c.code = cc) (hdg : decode cc pc = .ok (.ifCond .ne off, 3)) (ht : (pc : Int) + off = (tgt : Int))
    (kt : b = true → W p l e R s m args below meth c H locs cells slots Q (F0 m tgt ls rest)) (kf : b = false → W p l e R s m args below meth c H locs cells slots Q (F0 m (pc + 3) ls rest)) : W p l e R s m args below meth c H locs cells slots Q (F0 m pc ls (.int (bI b) :: rest)) :=
  lv_if_ne hx hb hdg ht (fun h => kt (bI_ne h)) (fun h => kf (bI_eq h))
/-- a value by another name -/
theorem topi_eq {x y : Int32} (h : x = y) (k : W p l e R s m args below meth c H locs cells slots Q (F0 m pc ls (.int y :: rest))) : W p l e R s m args below meth c H locs cells slots Q (F0 m pc ls (.int x :: rest)) := h ▸ k
theorem topv_eq {x y : Value} (h : x = y) (k : W p l e R s m args below meth c H locs cells slots Q (F0 m pc ls (y :: rest))) : W p l e R s m args below meth c H locs cells slots Q (F0 m pc ls (x :: rest)) := h ▸ k
theorem at_P {D : va_G} {cl : List vw_C} {q : Nat × va_E} (h : va_at D cl q H) : va_P D cl [q] H := fun k x hk => by
  have hz : k < 1 := (List.getElem?_eq_some_iff.mp hk).1
  rw [show k = 0 by omega] at hk
  cases hk
  exact h
theorem at_recv {D : va_G} {cl : List vw_C} {tys : List (ClassId × FieldType)} {a ci : Nat} {q : vw_C} {fs : List Value} (hK : va_K D cl tys s) (h : va_at D cl (a, .inr (ci, fs)) H) (hc : cl[ci]? = some q) : ∃ cell : Cell, H[a]? = some cell ∧ cell.vm.isStatics = false ∧ s.vm.findClass q.1 = some cell.cls :=
  va_recv hK (at_P h) hc (q0 := 0) rfl
/-- reads of arrays by place -/
theorem r_iald {a n k : Nat} {f : Nat → Int32} {i v : Int32} (hx : p.tables.exec = Jvm.exec) (hb : c.code = cc) (hK : KT G s) (h : va_at G.1 clA (a, .inl (G.2.2.2.1, n, .inl f)) H) (hdg : decode cc pc = .ok (.iaload, 1)) (hk : k < n) (hn : n < 2 ^ 31) (hi : i = nI k) (hv : f k = v)
    (kk : W p l e R s m args below meth c H locs cells slots Q (F0 m (pc + 1) ls (.int v :: rest))) : W p l e R s m args below meth c H locs cells slots Q (F0 m pc ls (.int i :: .ref a :: rest)) := by
  subst hi
  refine va_iald hx hb hK.1 (at_P h) 0 2 rfl rfl (vp_in_nI hk hn) hdg ?_
  rw [nI_clamp (by omega), hv]
  exact kk
theorem r_lald {a n k : Nat} {f : Nat → Int64} {i : Int32} {v : Int64} (hx : p.tables.exec = Jvm.exec) (hb : c.code = cc) (hK : KT G s) (h : va_at G.1 clA (a, .inl (G.2.2.2.2, n, .inr (.inl f))) H) (hdg : decode cc pc = .ok (.laload, 1)) (hk : k < n) (hn : n < 2 ^ 31) (hi : i = nI k) (hv : f k = v)
    (kk : W p l e R s m args below meth c H locs cells slots Q (F0 m (pc + 1) ls (.long v :: rest))) : W p l e R s m args below meth c H locs cells slots Q (F0 m pc ls (.int i :: .ref a :: rest)) := by
  subst hi
  refine va_lald hx hb hK.1 (at_P h) 0 3 rfl rfl (vp_in_nI hk hn) hdg ?_
  rw [nI_clamp (by omega), hv]
  exact kk
theorem r_paldq {a n k : Nat} {f : Nat → Option Nat} {i : Int32} (hx : p.tables.exec = Jvm.exec) (hb : c.code = cc) (hK : KT G s) (h : va_at G.1 clA (a, .inl (G.2.1, n, .inr (.inr (.inr (.inr f))))) H) (hdg : decode cc pc = .ok (.aaload, 1)) (hk : k < n) (hn : n < 2 ^ 31) (hi : i = nI k) {w : Value} (hv : va_rf (f k) = w)
    (kk : W p l e R s m args below meth c H locs cells slots Q (F0 m (pc + 1) ls (w :: rest))) : W p l e R s m args below meth c H locs cells slots Q (F0 m pc ls (.int i :: .ref a :: rest)) := by
  subst hi
  refine va_aldq (C := "OrderJudge$Point") hx hb hK.1 (at_P h) 0 0 rfl rfl (vp_in_nI hk hn) hdg ?_
  rw [nI_clamp (by omega), hv]
  exact kk
theorem r_pald {a n k b : Nat} {f : Nat → Option Nat} {i : Int32} (hx : p.tables.exec = Jvm.exec) (hb : c.code = cc) (hK : KT G s) (h : va_at G.1 clA (a, .inl (G.2.1, n, .inr (.inr (.inr (.inr f))))) H) (hdg : decode cc pc = .ok (.aaload, 1)) (hk : k < n) (hn : n < 2 ^ 31) (hi : i = nI k) (hv : f k = some b)
    (kk : W p l e R s m args below meth c H locs cells slots Q (F0 m (pc + 1) ls (.ref b :: rest))) : W p l e R s m args below meth c H locs cells slots Q (F0 m pc ls (.int i :: .ref a :: rest)) :=
  r_paldq hx hb hK h hdg hk hn hi (w := .ref b) (by rw [hv]; rfl) kk
theorem r_qald {a n k b : Nat} {f : Nat → Option Nat} {i : Int32} (hx : p.tables.exec = Jvm.exec) (hb : c.code = cc) (hK : KT G s) (h : va_at G.1 clA (a, .inl (G.2.2.1, n, .inr (.inr (.inr (.inr f))))) H) (hdg : decode cc pc = .ok (.aaload, 1)) (hk : k < n) (hn : n < 2 ^ 31) (hi : i = nI k) (hv : f k = some b)
    (kk : W p l e R s m args below meth c H locs cells slots Q (F0 m (pc + 1) ls (.ref b :: rest))) : W p l e R s m args below meth c H locs cells slots Q (F0 m pc ls (.int i :: .ref a :: rest)) := by
  subst hi
  refine va_aldq (C := "OrderJudge$Line") hx hb hK.1 (at_P h) 0 1 rfl rfl (vp_in_nI hk hn) hdg ?_
  rw [nI_clamp (by omega), hv]
  exact kk
theorem r_palen {a n : Nat} {f : Nat → Option Nat} (hx : p.tables.exec = Jvm.exec) (hb : c.code = cc) (hK : KT G s) (h : va_at G.1 clA (a, .inl (G.2.1, n, .inr (.inr (.inr (.inr f))))) H) (hdg : decode cc pc = .ok (.arraylength, 1))
    (kk : W p l e R s m args below meth c H locs cells slots Q (F0 m (pc + 1) ls (.int (nI n) :: rest))) : W p l e R s m args below meth c H locs cells slots Q (F0 m pc ls (.ref a :: rest)) :=
  va_alen (v := Int32.ofNat n) hx hb hK.1 (at_P h) 0 0 rfl rfl rfl hdg kk
/-- calls of methods that only read -/
theorem p_callS {y : MethodName} {cb : ByteArray} {L nL fr lo n idx : Nat} {ret : Option FieldType} {own : String} {As st : List Value} {v : Value} (hx : p.tables.exec = Jvm.exec) (hb : c.code = cc) (hml : c.maxLocals = nL) (hown : s.vm.findClass own = some m.cls) (hts : ∀ w ∈ lw_all, w.before args s = true) (hK : KT G s) (hZ : KS s H)
    (hM : PM l y cb L ret fr lo G H As (some v)) (q1 : Cond.methodLink own idx y ∈ lw_all) (q2 : Cond.static y ∈ lw_all) (q3 : Cond.initialized y.cls ∈ lw_all) (q4 : Cond.code y cb L ret ∈ lw_all) (hd : y.cls ≠ "java/lang/invoke/MethodHandle" ∧ y.cls ≠ "java/lang/invoke/VarHandle" ∧ (parseMethodDescriptor y.desc).map (fun d => d.parameters.length) = some n) (hn : As.length = n)
    (hR : fr + 1 ≤ R.frames ∧ 8 + (L + 11) + lo ≤ R.locals) (hsz : ls.size = nL) (hst : st = As.reverse ++ rest) (hW : (rest.map fun v => v.category).sum ≤ 8) (hdg : decode cc pc = .ok (.invokestatic idx, 3)) (hf : cells ≤ R.cells ∧ slots ≤ R.slots)
    (kk : W p l e R s m args below meth c H locs cells slots Q (F0 m (pc + 3) ls (v :: rest))) : W p l e R s m args below meth c H locs cells slots Q (F0 m pc ls st) := by
  subst hst
  have hr := va_runS (p := p) (e := e) (below := below) (meth := meth) (locs := locs) (H := H) (cells := cells) (slots := slots) (R := R) (rest := rest) (g := F0 m pc ls (As.reverse ++ rest)) (As := As) (nL := nL) (cc := cc) (own := own) (Ts := lw_all) ⟨hx, hb, hml, hown, hts⟩ hM (va_cwS n hts (lw_S q1 q2 q3 q4) rfl rfl rfl hd hR) ⟨PPre.blind, fun U hU hW => ⟨rfl, hU, hK.moved hW, hZ.moved hW.alike⟩⟩ rfl hn hsz rfl (lv_room hW) hdg hf
  intro T hT X
  obtain ⟨v', st₀, t, T', L', h0, X', hL, e1, e2, ⟨hv, hh⟩, go⟩ := hr T hT X
  cases hv
  have hL0 : L' = [] := List.eq_nil_iff_forall_not_mem.mpr fun q hq => hL q hq
  subst hL0
  rw [List.append_nil] at X'
  obtain ⟨t2, a1, b1⟩ := kk T' (by rw [e1, hh, h0]) X'
  exact ⟨t2, go t2 a1, b1⟩
theorem p_callV {y : MethodName} {cb : ByteArray} {L nL fr lo n idx b ci : Nat} {ret : Option FieldType} {own C : String} {As st : List Value} {v : Value} {fs : List Value} {T : u_T} {N : Nat} (hx : p.tables.exec = Jvm.exec) (hb : c.code = cc) (hml : c.maxLocals = nL) (hown : s.vm.findClass own = some m.cls) (hts : ∀ w ∈ lw_all, w.before args s = true) (hK : KT G s) (hZ : KS s H)
    (hM : PM l y cb L ret fr lo G H (.ref b :: As) (some v)) (q1 : Cond.methodLink own idx y ∈ lw_all) (q2 : Cond.instanceMethod y ∈ lw_all) (q3 : Cond.selects C y y ∈ lw_all) (q4 : Cond.initialized C ∈ lw_all) (q5 : Cond.code y cb L ret ∈ lw_all) (hd : y.cls = C ∧ y.cls ≠ "java/lang/invoke/MethodHandle" ∧ y.cls ≠ "java/lang/invoke/VarHandle" ∧ (parseMethodDescriptor y.desc).map (fun d => d.parameters.length) = some n) (hn : As.length = n)
    (ho : va_at G.1 clA (b, .inr (ci, fs)) H) (hc : clA[ci]? = some (C, T, N))
    (hR : fr + 1 ≤ R.frames ∧ 8 + (L + 11) + lo ≤ R.locals) (hsz : ls.size = nL) (hst : st = As.reverse ++ .ref b :: rest) (hW : (rest.map fun v => v.category).sum ≤ 8) (hdg : decode cc pc = .ok (.invokevirtual idx, 3)) (hf : cells ≤ R.cells ∧ slots ≤ R.slots)
    (kk : W p l e R s m args below meth c H locs cells slots Q (F0 m (pc + 3) ls (v :: rest))) : W p l e R s m args below meth c H locs cells slots Q (F0 m pc ls st) := by
  subst hst
  have hr := va_runV (p := p) (e := e) (below := below) (meth := meth) (locs := locs) (H := H) (cells := cells) (slots := slots) (R := R) (rest := rest) (g := F0 m pc ls (As.reverse ++ .ref b :: rest)) (As := As) (nL := nL) (cc := cc) (own := own) (Ts := lw_all) (b := b) ⟨hx, hb, hml, hown, hts⟩ hM (cwV n hts (lw_V q1 q2 q3 q4 q5) rfl rfl rfl hd hR) ⟨PPre.blind, at_recv hK.1 ho hc, fun U hU hW => ⟨rfl, hU, hK.moved hW, hZ.moved hW.alike⟩⟩ rfl hn hsz rfl (lv_room hW) hdg hf
  intro T hT X
  obtain ⟨v', st₀, t, T', L', h0, X', hL, e1, e2, ⟨hv, hh⟩, go⟩ := hr T hT X
  cases hv
  have hL0 : L' = [] := List.eq_nil_iff_forall_not_mem.mpr fun q hq => hL q hq
  subst hL0
  rw [List.append_nil] at X'
  obtain ⟨t2, a1, b1⟩ := kk T' (by rw [e1, hh, h0]) X'
  exact ⟨t2, go t2 a1, b1⟩
/-- a private static method of the nest's host -/
theorem p_callSN {y : MethodName} {cb : ByteArray} {L nL fr lo n idx : Nat} {ret : Option FieldType} {own : String} {As st : List Value} {v : Value} (hx : p.tables.exec = Jvm.exec) (hb : c.code = cc) (hml : c.maxLocals = nL) (hown : s.vm.findClass own = some m.cls) (hts : ∀ w ∈ lw_all, w.before args s = true) (hK : KT G s) (hZ : KS s H)
    (hM : PM l y cb L ret fr lo G H As (some v)) (q1 : (own, idx, y) ∈ nestM) (q2 : Cond.static y ∈ lw_all) (q3 : Cond.initialized y.cls ∈ lw_all) (q4 : Cond.code y cb L ret ∈ lw_all) (hd : y.cls ≠ "java/lang/invoke/MethodHandle" ∧ y.cls ≠ "java/lang/invoke/VarHandle" ∧ (parseMethodDescriptor y.desc).map (fun d => d.parameters.length) = some n) (hn : As.length = n)
    (hR : fr + 1 ≤ R.frames ∧ 8 + (L + 11) + lo ≤ R.locals) (hsz : ls.size = nL) (hst : st = As.reverse ++ rest) (hW : (rest.map fun v => v.category).sum ≤ 8) (hdg : decode cc pc = .ok (.invokestatic idx, 3)) (hf : cells ≤ R.cells ∧ slots ≤ R.slots)
    (kk : W p l e R s m args below meth c H locs cells slots Q (F0 m (pc + 3) ls (v :: rest))) : W p l e R s m args below meth c H locs cells slots Q (F0 m pc ls st) := by
  subst hst
  have hr := va_runSN (p := p) (e := e) (below := below) (meth := meth) (locs := locs) (H := H) (cells := cells) (slots := slots) (R := R) (rest := rest) (g := F0 m pc ls (As.reverse ++ rest)) (As := As) (nL := nL) (cc := cc) (own := own) (Ts := lw_all) ⟨hx, hb, hml, hown, hts⟩ hM ⟨va_cnB n hts (lw_meth q4) rfl rfl rfl (hK.2.2.1 _ q1) (hts _ q3) hd hR, hts _ q2, trivial⟩ ⟨PPre.blind, fun U hU hW => ⟨rfl, hU, hK.moved hW, hZ.moved hW.alike⟩⟩ rfl hn hsz rfl (lv_room hW) hdg hf
  intro T hT X
  obtain ⟨v', st₀, t, T', L', h0, X', hL, e1, e2, ⟨hv, hh⟩, go⟩ := hr T hT X
  cases hv
  have hL0 : L' = [] := List.eq_nil_iff_forall_not_mem.mpr fun q hq => hL q hq
  subst hL0
  rw [List.append_nil] at X'
  obtain ⟨t2, a1, b1⟩ := kk T' (by rw [e1, hh, h0]) X'
  exact ⟨t2, go t2 a1, b1⟩
theorem p_callVN {y : MethodName} {cb : ByteArray} {L nL fr lo n idx b ci : Nat} {ret : Option FieldType} {own C : String} {As st : List Value} {v : Value} {fs : List Value} {T : u_T} {N : Nat} (hx : p.tables.exec = Jvm.exec) (hb : c.code = cc) (hml : c.maxLocals = nL) (hown : s.vm.findClass own = some m.cls) (hts : ∀ w ∈ lw_all, w.before args s = true) (hK : KT G s) (hZ : KS s H)
    (hM : PM l y cb L ret fr lo G H (.ref b :: As) (some v)) (q1 : (own, idx, y) ∈ nestM) (q2 : Cond.instanceMethod y ∈ lw_all) (q3 : Cond.selects C y y ∈ lw_all) (q4 : Cond.initialized y.cls ∈ lw_all) (q5 : Cond.code y cb L ret ∈ lw_all) (hd : y.cls ≠ "java/lang/invoke/MethodHandle" ∧ y.cls ≠ "java/lang/invoke/VarHandle" ∧ (parseMethodDescriptor y.desc).map (fun d => d.parameters.length) = some n) (hn : As.length = n)
    (ho : va_at G.1 clA (b, .inr (ci, fs)) H) (hc : clA[ci]? = some (C, T, N))
    (hR : fr + 1 ≤ R.frames ∧ 8 + (L + 11) + lo ≤ R.locals) (hsz : ls.size = nL) (hst : st = As.reverse ++ .ref b :: rest) (hW : (rest.map fun v => v.category).sum ≤ 8) (hdg : decode cc pc = .ok (.invokevirtual idx, 3)) (hf : cells ≤ R.cells ∧ slots ≤ R.slots)
    (kk : W p l e R s m args below meth c H locs cells slots Q (F0 m (pc + 3) ls (v :: rest))) : W p l e R s m args below meth c H locs cells slots Q (F0 m pc ls st) := by
  subst hst
  have hr := va_runVN (p := p) (e := e) (below := below) (meth := meth) (locs := locs) (H := H) (cells := cells) (slots := slots) (R := R) (rest := rest) (g := F0 m pc ls (As.reverse ++ .ref b :: rest)) (As := As) (nL := nL) (cc := cc) (own := own) (Ts := lw_all) (b := b) ⟨hx, hb, hml, hown, hts⟩ hM ⟨va_cnB n hts (lw_meth q5) rfl rfl rfl (hK.2.2.1 _ q1) (hts _ q4) hd hR, hts _ q2, hts _ q3⟩ ⟨PPre.blind, at_recv hK.1 ho hc, fun U hU hW => ⟨rfl, hU, hK.moved hW, hZ.moved hW.alike⟩⟩ rfl hn hsz rfl (lv_room hW) hdg hf
  intro T hT X
  obtain ⟨v', st₀, t, T', L', h0, X', hL, e1, e2, ⟨hv, hh⟩, go⟩ := hr T hT X
  cases hv
  have hL0 : L' = [] := List.eq_nil_iff_forall_not_mem.mpr fun q hq => hL q hq
  subst hL0
  rw [List.append_nil] at X'
  obtain ⟨t2, a1, b1⟩ := kk T' (by rw [e1, hh, h0]) X'
  exact ⟨t2, go t2 a1, b1⟩
/-- lcmp and the test behind it -/
theorem lcmp_spec (x y : Int64) : (lg_cmp x y < 0 ↔ x < y) ∧ (lg_cmp x y = 0 ↔ x = y) ∧ (0 < lg_cmp x y ↔ y < x) ∧ (lg_cmp x y ≤ 0 ↔ x ≤ y) ∧ (0 ≤ lg_cmp x y ↔ y ≤ x) :=
  ⟨lg_cmp_lt x y, lg_cmp_eq x y, lg_cmp_gt x y, lg_cmp_le x y, lg_cmp_ge x y⟩
theorem lc_lt {x y : Int64} {off : Int} {tgt : Nat} (hx : p.tables.exec = Jvm.exec) (hb : c.code = cc) (hd1 : decode cc pc = .ok (.lcmp, 1)) (hdg : decode cc (pc + 1) = .ok (.ifCond .lt off, 3)) (ht : ((pc + 1 : Nat) : Int) + off = (tgt : Int))
    (kt : x < y → W p l e R s m args below meth c H locs cells slots Q (F0 m tgt ls rest)) (kf : ¬ x < y → W p l e R s m args below meth c H locs cells slots Q (F0 m (pc + 4) ls rest)) : W p l e R s m args below meth c H locs cells slots Q (F0 m pc ls (.long y :: .long x :: rest)) :=
  W.lcmp hx hb hd1 (lv_if_lt hx hb hdg ht (fun h => kt ((lcmp_spec x y).1.mp h)) (fun h => kf (fun q => h ((lcmp_spec x y).1.mpr q))))
theorem lc_ge {x y : Int64} {off : Int} {tgt : Nat} (hx : p.tables.exec = Jvm.exec) (hb : c.code = cc) (hd1 : decode cc pc = .ok (.lcmp, 1)) (hdg : decode cc (pc + 1) = .ok (.ifCond .ge off, 3)) (ht : ((pc + 1 : Nat) : Int) + off = (tgt : Int))
    (kt : y ≤ x → W p l e R s m args below meth c H locs cells slots Q (F0 m tgt ls rest)) (kf : ¬ y ≤ x → W p l e R s m args below meth c H locs cells slots Q (F0 m (pc + 4) ls rest)) : W p l e R s m args below meth c H locs cells slots Q (F0 m pc ls (.long y :: .long x :: rest)) :=
  W.lcmp hx hb hd1 (lv_if_ge hx hb hdg ht (fun h => kt ((lcmp_spec x y).2.2.2.2.mp h)) (fun h => kf (fun q => h ((lcmp_spec x y).2.2.2.2.mpr q))))
theorem lc_gt {x y : Int64} {off : Int} {tgt : Nat} (hx : p.tables.exec = Jvm.exec) (hb : c.code = cc) (hd1 : decode cc pc = .ok (.lcmp, 1)) (hdg : decode cc (pc + 1) = .ok (.ifCond .gt off, 3)) (ht : ((pc + 1 : Nat) : Int) + off = (tgt : Int))
    (kt : y < x → W p l e R s m args below meth c H locs cells slots Q (F0 m tgt ls rest)) (kf : ¬ y < x → W p l e R s m args below meth c H locs cells slots Q (F0 m (pc + 4) ls rest)) : W p l e R s m args below meth c H locs cells slots Q (F0 m pc ls (.long y :: .long x :: rest)) :=
  W.lcmp hx hb hd1 (lv_if_gt hx hb hdg ht (fun h => kt ((lcmp_spec x y).2.2.1.mp h)) (fun h => kf (fun q => h ((lcmp_spec x y).2.2.1.mpr q))))
theorem lc_le {x y : Int64} {off : Int} {tgt : Nat} (hx : p.tables.exec = Jvm.exec) (hb : c.code = cc) (hd1 : decode cc pc = .ok (.lcmp, 1)) (hdg : decode cc (pc + 1) = .ok (.ifCond .le off, 3)) (ht : ((pc + 1 : Nat) : Int) + off = (tgt : Int))
    (kt : x ≤ y → W p l e R s m args below meth c H locs cells slots Q (F0 m tgt ls rest)) (kf : ¬ x ≤ y → W p l e R s m args below meth c H locs cells slots Q (F0 m (pc + 4) ls rest)) : W p l e R s m args below meth c H locs cells slots Q (F0 m pc ls (.long y :: .long x :: rest)) :=
  W.lcmp hx hb hd1 (lv_if_le hx hb hdg ht (fun h => kt ((lcmp_spec x y).2.2.2.1.mp h)) (fun h => kf (fun q => h ((lcmp_spec x y).2.2.2.1.mpr q))))
theorem lc_eq {x y : Int64} {off : Int} {tgt : Nat} (hx : p.tables.exec = Jvm.exec) (hb : c.code = cc) (hd1 : decode cc pc = .ok (.lcmp, 1)) (hdg : decode cc (pc + 1) = .ok (.ifCond .eq off, 3)) (ht : ((pc + 1 : Nat) : Int) + off = (tgt : Int))
    (kt : x = y → W p l e R s m args below meth c H locs cells slots Q (F0 m tgt ls rest)) (kf : ¬ x = y → W p l e R s m args below meth c H locs cells slots Q (F0 m (pc + 4) ls rest)) : W p l e R s m args below meth c H locs cells slots Q (F0 m pc ls (.long y :: .long x :: rest)) :=
  W.lcmp hx hb hd1 (lv_if_eq hx hb hdg ht (fun h => kt ((lcmp_spec x y).2.1.mp h)) (fun h => kf (fun q => h ((lcmp_spec x y).2.1.mpr q))))
theorem lc_ne {x y : Int64} {off : Int} {tgt : Nat} (hx : p.tables.exec = Jvm.exec) (hb : c.code = cc) (hd1 : decode cc pc = .ok (.lcmp, 1)) (hdg : decode cc (pc + 1) = .ok (.ifCond .ne off, 3)) (ht : ((pc + 1 : Nat) : Int) + off = (tgt : Int))
    (kt : ¬ x = y → W p l e R s m args below meth c H locs cells slots Q (F0 m tgt ls rest)) (kf : x = y → W p l e R s m args below meth c H locs cells slots Q (F0 m (pc + 4) ls rest)) : W p l e R s m args below meth c H locs cells slots Q (F0 m pc ls (.long y :: .long x :: rest)) :=
  W.lcmp hx hb hd1 (lv_if_ne hx hb hdg ht (fun h => kt (fun q => h ((lcmp_spec x y).2.1.mpr q))) (fun h => kf ((lcmp_spec x y).2.1.mp h)))
theorem gf_X1_26 {a : Nat} {fs : List Value} {v : Value} (hx : p.tables.exec = Jvm.exec) (hb : c.code = cc) (hts : ∀ w ∈ lw_all, w.before args s = true) (hown : s.vm.findClass RX1 = some m.cls) (hK : KT G s) (h : va_at G.1 clA (a, .inr (0, fs)) H) (hv : fs[1]? = some v) (hdg : decode cc pc = .ok (.getfield 26, 3)) (kk : W p l e R s m args below meth c H locs cells slots Q (F0 m (pc + 3) ls (v :: rest))) : W p l e R s m args below meth c H locs cells slots Q (F0 m pc ls (.ref a :: rest)) :=
  va_get (D := G.1) (ci := 0) (C := RX1) (T := TX1) (N := 9) hx hb hts in_X1 hown hK.1 (at_P h) 0 rfl rfl 1 (by decide) (hts _ q75) (fun _ h9 => h9) hv hdg kk
theorem gf_X1_30 {a : Nat} {fs : List Value} {v : Value} (hx : p.tables.exec = Jvm.exec) (hb : c.code = cc) (hts : ∀ w ∈ lw_all, w.before args s = true) (hown : s.vm.findClass RX1 = some m.cls) (hK : KT G s) (h : va_at G.1 clA (a, .inr (0, fs)) H) (hv : fs[2]? = some v) (hdg : decode cc pc = .ok (.getfield 30, 3)) (kk : W p l e R s m args below meth c H locs cells slots Q (F0 m (pc + 3) ls (v :: rest))) : W p l e R s m args below meth c H locs cells slots Q (F0 m pc ls (.ref a :: rest)) :=
  va_get (D := G.1) (ci := 0) (C := RX1) (T := TX1) (N := 9) hx hb hts in_X1 hown hK.1 (at_P h) 0 rfl rfl 2 (by decide) (hts _ q77) (fun _ h9 => h9) hv hdg kk
theorem gf_X1_33 {a : Nat} {fs : List Value} {v : Value} (hx : p.tables.exec = Jvm.exec) (hb : c.code = cc) (hts : ∀ w ∈ lw_all, w.before args s = true) (hown : s.vm.findClass RX1 = some m.cls) (hK : KT G s) (h : va_at G.1 clA (a, .inr (0, fs)) H) (hv : fs[3]? = some v) (hdg : decode cc pc = .ok (.getfield 33, 3)) (kk : W p l e R s m args below meth c H locs cells slots Q (F0 m (pc + 3) ls (v :: rest))) : W p l e R s m args below meth c H locs cells slots Q (F0 m pc ls (.ref a :: rest)) :=
  va_get (D := G.1) (ci := 0) (C := RX1) (T := TX1) (N := 9) hx hb hts in_X1 hown hK.1 (at_P h) 0 rfl rfl 3 (by decide) (hts _ q78) (fun _ h9 => h9) hv hdg kk
theorem gf_X1_39 {a : Nat} {fs : List Value} {v : Value} (hx : p.tables.exec = Jvm.exec) (hb : c.code = cc) (hts : ∀ w ∈ lw_all, w.before args s = true) (hown : s.vm.findClass RX1 = some m.cls) (hK : KT G s) (h : va_at G.1 clA (a, .inr (0, fs)) H) (hv : fs[8]? = some v) (hdg : decode cc pc = .ok (.getfield 39, 3)) (kk : W p l e R s m args below meth c H locs cells slots Q (F0 m (pc + 3) ls (v :: rest))) : W p l e R s m args below meth c H locs cells slots Q (F0 m pc ls (.ref a :: rest)) :=
  va_get (D := G.1) (ci := 0) (C := RX1) (T := TX1) (N := 9) hx hb hts in_X1 hown hK.1 (at_P h) 0 rfl rfl 8 (by decide) (hts _ q84) (fun _ h9 => h9) hv hdg kk
theorem gf_X1_43 {a : Nat} {fs : List Value} {v : Value} (hx : p.tables.exec = Jvm.exec) (hb : c.code = cc) (hts : ∀ w ∈ lw_all, w.before args s = true) (hown : s.vm.findClass RX1 = some m.cls) (hK : KT G s) (h : va_at G.1 clA (a, .inr (0, fs)) H) (hv : fs[0]? = some v) (hdg : decode cc pc = .ok (.getfield 43, 3)) (kk : W p l e R s m args below meth c H locs cells slots Q (F0 m (pc + 3) ls (v :: rest))) : W p l e R s m args below meth c H locs cells slots Q (F0 m pc ls (.ref a :: rest)) :=
  va_get (D := G.1) (ci := 0) (C := RX1) (T := TX1) (N := 9) hx hb hts in_X1 hown hK.1 (at_P h) 0 rfl rfl 0 (by decide) (hts _ q74) (fun _ h9 => h9) hv hdg kk
theorem gf_X1_66 {a : Nat} {fs : List Value} {v : Value} (hx : p.tables.exec = Jvm.exec) (hb : c.code = cc) (hts : ∀ w ∈ lw_all, w.before args s = true) (hown : s.vm.findClass RX1 = some m.cls) (hK : KT G s) (h : va_at G.1 clA (a, .inr (0, fs)) H) (hv : fs[4]? = some v) (hdg : decode cc pc = .ok (.getfield 66, 3)) (kk : W p l e R s m args below meth c H locs cells slots Q (F0 m (pc + 3) ls (v :: rest))) : W p l e R s m args below meth c H locs cells slots Q (F0 m pc ls (.ref a :: rest)) :=
  va_get (D := G.1) (ci := 0) (C := RX1) (T := TX1) (N := 9) hx hb hts in_X1 hown hK.1 (at_P h) 0 rfl rfl 4 (by decide) (hts _ q79) (fun _ h9 => h9) hv hdg kk
theorem gf_X1_69 {a : Nat} {fs : List Value} {v : Value} (hx : p.tables.exec = Jvm.exec) (hb : c.code = cc) (hts : ∀ w ∈ lw_all, w.before args s = true) (hown : s.vm.findClass RX1 = some m.cls) (hK : KT G s) (h : va_at G.1 clA (a, .inr (0, fs)) H) (hv : fs[5]? = some v) (hdg : decode cc pc = .ok (.getfield 69, 3)) (kk : W p l e R s m args below meth c H locs cells slots Q (F0 m (pc + 3) ls (v :: rest))) : W p l e R s m args below meth c H locs cells slots Q (F0 m pc ls (.ref a :: rest)) :=
  va_get (D := G.1) (ci := 0) (C := RX1) (T := TX1) (N := 9) hx hb hts in_X1 hown hK.1 (at_P h) 0 rfl rfl 5 (by decide) (hts _ q80) (fun _ h9 => h9) hv hdg kk
theorem gf_X1_72 {a : Nat} {fs : List Value} {v : Value} (hx : p.tables.exec = Jvm.exec) (hb : c.code = cc) (hts : ∀ w ∈ lw_all, w.before args s = true) (hown : s.vm.findClass RX1 = some m.cls) (hK : KT G s) (h : va_at G.1 clA (a, .inr (0, fs)) H) (hv : fs[6]? = some v) (hdg : decode cc pc = .ok (.getfield 72, 3)) (kk : W p l e R s m args below meth c H locs cells slots Q (F0 m (pc + 3) ls (v :: rest))) : W p l e R s m args below meth c H locs cells slots Q (F0 m pc ls (.ref a :: rest)) :=
  va_get (D := G.1) (ci := 0) (C := RX1) (T := TX1) (N := 9) hx hb hts in_X1 hown hK.1 (at_P h) 0 rfl rfl 6 (by decide) (hts _ q81) (fun _ h9 => h9) hv hdg kk
theorem gf_X1_181 {a : Nat} {fs : List Value} {v : Value} (hx : p.tables.exec = Jvm.exec) (hb : c.code = cc) (hts : ∀ w ∈ lw_all, w.before args s = true) (hown : s.vm.findClass RX1 = some m.cls) (hK : KT G s) (h : va_at G.1 clA (a, .inr (0, fs)) H) (hv : fs[7]? = some v) (hdg : decode cc pc = .ok (.getfield 181, 3)) (kk : W p l e R s m args below meth c H locs cells slots Q (F0 m (pc + 3) ls (v :: rest))) : W p l e R s m args below meth c H locs cells slots Q (F0 m pc ls (.ref a :: rest)) :=
  va_get (D := G.1) (ci := 0) (C := RX1) (T := TX1) (N := 9) hx hb hts in_X1 hown hK.1 (at_P h) 0 rfl rfl 7 (by decide) (hts _ q82) (fun _ h9 => h9) hv hdg kk
theorem gf_X9_3 {a : Nat} {fs : List Value} {v : Value} (hx : p.tables.exec = Jvm.exec) (hb : c.code = cc) (hts : ∀ w ∈ lw_all, w.before args s = true) (hown : s.vm.findClass RX9 = some m.cls) (hK : KT G s) (h : va_at G.1 clA (a, .inr (6, fs)) H) (hv : fs[5]? = some v) (hdg : decode cc pc = .ok (.getfield 3, 3)) (kk : W p l e R s m args below meth c H locs cells slots Q (F0 m (pc + 3) ls (v :: rest))) : W p l e R s m args below meth c H locs cells slots Q (F0 m pc ls (.ref a :: rest)) :=
  va_get (D := G.1) (ci := 6) (C := RX9) (T := TX9) (N := 6) hx hb hts in_X9 hown hK.1 (at_P h) 0 rfl rfl 5 (by decide) (hts _ q453) (fun _ h9 => h9) hv hdg kk
theorem gf_X9_17 {a : Nat} {fs : List Value} {v : Value} (hx : p.tables.exec = Jvm.exec) (hb : c.code = cc) (hts : ∀ w ∈ lw_all, w.before args s = true) (hown : s.vm.findClass RX9 = some m.cls) (hK : KT G s) (h : va_at G.1 clA (a, .inr (6, fs)) H) (hv : fs[0]? = some v) (hdg : decode cc pc = .ok (.getfield 17, 3)) (kk : W p l e R s m args below meth c H locs cells slots Q (F0 m (pc + 3) ls (v :: rest))) : W p l e R s m args below meth c H locs cells slots Q (F0 m pc ls (.ref a :: rest)) :=
  va_get (D := G.1) (ci := 6) (C := RX9) (T := TX9) (N := 6) hx hb hts in_X9 hown hK.1 (at_P h) 0 rfl rfl 0 (by decide) (hts _ q444) (fun _ h9 => h9) hv hdg kk
theorem gf_X9_21 {a : Nat} {fs : List Value} {v : Value} (hx : p.tables.exec = Jvm.exec) (hb : c.code = cc) (hts : ∀ w ∈ lw_all, w.before args s = true) (hown : s.vm.findClass RX9 = some m.cls) (hK : KT G s) (h : va_at G.1 clA (a, .inr (6, fs)) H) (hv : fs[3]? = some v) (hdg : decode cc pc = .ok (.getfield 21, 3)) (kk : W p l e R s m args below meth c H locs cells slots Q (F0 m (pc + 3) ls (v :: rest))) : W p l e R s m args below meth c H locs cells slots Q (F0 m pc ls (.ref a :: rest)) :=
  va_get (D := G.1) (ci := 6) (C := RX9) (T := TX9) (N := 6) hx hb hts in_X9 hown hK.1 (at_P h) 0 rfl rfl 3 (by decide) (hts _ q449) (fun _ h9 => h9) hv hdg kk
theorem gf_X9_25 {a : Nat} {fs : List Value} {v : Value} (hx : p.tables.exec = Jvm.exec) (hb : c.code = cc) (hts : ∀ w ∈ lw_all, w.before args s = true) (hown : s.vm.findClass RX9 = some m.cls) (hK : KT G s) (h : va_at G.1 clA (a, .inr (6, fs)) H) (hv : fs[1]? = some v) (hdg : decode cc pc = .ok (.getfield 25, 3)) (kk : W p l e R s m args below meth c H locs cells slots Q (F0 m (pc + 3) ls (v :: rest))) : W p l e R s m args below meth c H locs cells slots Q (F0 m pc ls (.ref a :: rest)) :=
  va_get (D := G.1) (ci := 6) (C := RX9) (T := TX9) (N := 6) hx hb hts in_X9 hown hK.1 (at_P h) 0 rfl rfl 1 (by decide) (hts _ q445) (fun _ h9 => h9) hv hdg kk
theorem gf_X9_50 {a : Nat} {fs : List Value} {v : Value} (hx : p.tables.exec = Jvm.exec) (hb : c.code = cc) (hts : ∀ w ∈ lw_all, w.before args s = true) (hown : s.vm.findClass RX9 = some m.cls) (hK : KT G s) (h : va_at G.1 clA (a, .inr (6, fs)) H) (hv : fs[2]? = some v) (hdg : decode cc pc = .ok (.getfield 50, 3)) (kk : W p l e R s m args below meth c H locs cells slots Q (F0 m (pc + 3) ls (v :: rest))) : W p l e R s m args below meth c H locs cells slots Q (F0 m pc ls (.ref a :: rest)) :=
  va_get (D := G.1) (ci := 6) (C := RX9) (T := TX9) (N := 6) hx hb hts in_X9 hown hK.1 (at_P h) 0 rfl rfl 2 (by decide) (hts _ q447) (fun _ h9 => h9) hv hdg kk
theorem gf_X9_53 {a : Nat} {fs : List Value} {v : Value} (hx : p.tables.exec = Jvm.exec) (hb : c.code = cc) (hts : ∀ w ∈ lw_all, w.before args s = true) (hown : s.vm.findClass RX9 = some m.cls) (hK : KT G s) (h : va_at G.1 clA (a, .inr (6, fs)) H) (hv : fs[4]? = some v) (hdg : decode cc pc = .ok (.getfield 53, 3)) (kk : W p l e R s m args below meth c H locs cells slots Q (F0 m (pc + 3) ls (v :: rest))) : W p l e R s m args below meth c H locs cells slots Q (F0 m pc ls (.ref a :: rest)) :=
  va_get (D := G.1) (ci := 6) (C := RX9) (T := TX9) (N := 6) hx hb hts in_X9 hown hK.1 (at_P h) 0 rfl rfl 4 (by decide) (hts _ q451) (fun _ h9 => h9) hv hdg kk
theorem gf_X5_1 {a : Nat} {fs : List Value} {v : Value} (hx : p.tables.exec = Jvm.exec) (hb : c.code = cc) (hts : ∀ w ∈ lw_all, w.before args s = true) (hown : s.vm.findClass RX5 = some m.cls) (hK : KT G s) (h : va_at G.1 clA (a, .inr (3, fs)) H) (hv : fs[3]? = some v) (hdg : decode cc pc = .ok (.getfield 1, 3)) (kk : W p l e R s m args below meth c H locs cells slots Q (F0 m (pc + 3) ls (v :: rest))) : W p l e R s m args below meth c H locs cells slots Q (F0 m pc ls (.ref a :: rest)) :=
  va_get (D := G.1) (ci := 3) (C := RX5) (T := TX5) (N := 4) hx hb hts in_X5 hown hK.1 (at_P h) 0 rfl rfl 3 (by decide) (hts _ q296) (fun _ h9 => h9) hv hdg kk
theorem gf_X5_23 {a : Nat} {fs : List Value} {v : Value} (hx : p.tables.exec = Jvm.exec) (hb : c.code = cc) (hts : ∀ w ∈ lw_all, w.before args s = true) (hown : s.vm.findClass RX5 = some m.cls) (hK : KT G s) (h : va_at G.1 clA (a, .inr (3, fs)) H) (hv : fs[2]? = some v) (hdg : decode cc pc = .ok (.getfield 23, 3)) (kk : W p l e R s m args below meth c H locs cells slots Q (F0 m (pc + 3) ls (v :: rest))) : W p l e R s m args below meth c H locs cells slots Q (F0 m pc ls (.ref a :: rest)) :=
  va_get (D := G.1) (ci := 3) (C := RX5) (T := TX5) (N := 4) hx hb hts in_X5 hown hK.1 (at_P h) 0 rfl rfl 2 (by decide) (hts _ q294) (fun _ h9 => h9) hv hdg kk
theorem gf_X5_35 {a : Nat} {fs : List Value} {v : Value} (hx : p.tables.exec = Jvm.exec) (hb : c.code = cc) (hts : ∀ w ∈ lw_all, w.before args s = true) (hown : s.vm.findClass RX5 = some m.cls) (hK : KT G s) (h : va_at G.1 clA (a, .inr (3, fs)) H) (hv : fs[0]? = some v) (hdg : decode cc pc = .ok (.getfield 35, 3)) (kk : W p l e R s m args below meth c H locs cells slots Q (F0 m (pc + 3) ls (v :: rest))) : W p l e R s m args below meth c H locs cells slots Q (F0 m pc ls (.ref a :: rest)) :=
  va_get (D := G.1) (ci := 3) (C := RX5) (T := TX5) (N := 4) hx hb hts in_X5 hown hK.1 (at_P h) 0 rfl rfl 0 (by decide) (hts _ q290) (fun _ h9 => h9) hv hdg kk
theorem gf_X5_44 {a : Nat} {fs : List Value} {v : Value} (hx : p.tables.exec = Jvm.exec) (hb : c.code = cc) (hts : ∀ w ∈ lw_all, w.before args s = true) (hown : s.vm.findClass RX5 = some m.cls) (hK : KT G s) (h : va_at G.1 clA (a, .inr (3, fs)) H) (hv : fs[1]? = some v) (hdg : decode cc pc = .ok (.getfield 44, 3)) (kk : W p l e R s m args below meth c H locs cells slots Q (F0 m (pc + 3) ls (v :: rest))) : W p l e R s m args below meth c H locs cells slots Q (F0 m pc ls (.ref a :: rest)) :=
  va_get (D := G.1) (ci := 3) (C := RX5) (T := TX5) (N := 4) hx hb hts in_X5 hown hK.1 (at_P h) 0 rfl rfl 1 (by decide) (hts _ q292) (fun _ h9 => h9) hv hdg kk
theorem gf_X8_13 {a : Nat} {fs : List Value} {v : Value} (hx : p.tables.exec = Jvm.exec) (hb : c.code = cc) (hts : ∀ w ∈ lw_all, w.before args s = true) (hown : s.vm.findClass RX8 = some m.cls) (hK : KT G s) (h : va_at G.1 clA (a, .inr (2, fs)) H) (hv : fs[0]? = some v) (hdg : decode cc pc = .ok (.getfield 13, 3)) (kk : W p l e R s m args below meth c H locs cells slots Q (F0 m (pc + 3) ls (v :: rest))) : W p l e R s m args below meth c H locs cells slots Q (F0 m pc ls (.ref a :: rest)) :=
  va_get (D := G.1) (ci := 2) (C := RX8) (T := TX8) (N := 3) hx hb hts in_X8 hown hK.1 (at_P h) 0 rfl rfl 0 (by decide) (hts _ q398) (fun _ h9 => h9) hv hdg kk
theorem gf_X8_22 {a : Nat} {fs : List Value} {v : Value} (hx : p.tables.exec = Jvm.exec) (hb : c.code = cc) (hts : ∀ w ∈ lw_all, w.before args s = true) (hown : s.vm.findClass RX8 = some m.cls) (hK : KT G s) (h : va_at G.1 clA (a, .inr (2, fs)) H) (hv : fs[1]? = some v) (hdg : decode cc pc = .ok (.getfield 22, 3)) (kk : W p l e R s m args below meth c H locs cells slots Q (F0 m (pc + 3) ls (v :: rest))) : W p l e R s m args below meth c H locs cells slots Q (F0 m pc ls (.ref a :: rest)) :=
  va_get (D := G.1) (ci := 2) (C := RX8) (T := TX8) (N := 3) hx hb hts in_X8 hown hK.1 (at_P h) 0 rfl rfl 1 (by decide) (hts _ q399) (fun _ h9 => h9) hv hdg kk
theorem gf_X8_25 {a : Nat} {fs : List Value} {v : Value} (hx : p.tables.exec = Jvm.exec) (hb : c.code = cc) (hts : ∀ w ∈ lw_all, w.before args s = true) (hown : s.vm.findClass RX8 = some m.cls) (hK : KT G s) (h : va_at G.1 clA (a, .inr (2, fs)) H) (hv : fs[2]? = some v) (hdg : decode cc pc = .ok (.getfield 25, 3)) (kk : W p l e R s m args below meth c H locs cells slots Q (F0 m (pc + 3) ls (v :: rest))) : W p l e R s m args below meth c H locs cells slots Q (F0 m pc ls (.ref a :: rest)) :=
  va_get (D := G.1) (ci := 2) (C := RX8) (T := TX8) (N := 3) hx hb hts in_X8 hown hK.1 (at_P h) 0 rfl rfl 2 (by decide) (hts _ q400) (fun _ h9 => h9) hv hdg kk
theorem gf_X3_7 {a : Nat} {fs : List Value} {v : Value} (hx : p.tables.exec = Jvm.exec) (hb : c.code = cc) (hts : ∀ w ∈ lw_all, w.before args s = true) (hown : s.vm.findClass RX3 = some m.cls) (hK : KT G s) (h : va_at G.1 clA (a, .inr (1, fs)) H) (hv : fs[0]? = some v) (hdg : decode cc pc = .ok (.getfield 7, 3)) (kk : W p l e R s m args below meth c H locs cells slots Q (F0 m (pc + 3) ls (v :: rest))) : W p l e R s m args below meth c H locs cells slots Q (F0 m pc ls (.ref a :: rest)) :=
  va_get (D := G.1) (ci := 1) (C := RX3) (T := TX3) (N := 5) hx hb hts in_X3 hown hK.1 (at_P h) 0 rfl rfl 0 (by decide) (hts _ q120) (fun _ h9 => h9) hv hdg kk
theorem gf_X3_13 {a : Nat} {fs : List Value} {v : Value} (hx : p.tables.exec = Jvm.exec) (hb : c.code = cc) (hts : ∀ w ∈ lw_all, w.before args s = true) (hown : s.vm.findClass RX3 = some m.cls) (hK : KT G s) (h : va_at G.1 clA (a, .inr (1, fs)) H) (hv : fs[1]? = some v) (hdg : decode cc pc = .ok (.getfield 13, 3)) (kk : W p l e R s m args below meth c H locs cells slots Q (F0 m (pc + 3) ls (v :: rest))) : W p l e R s m args below meth c H locs cells slots Q (F0 m pc ls (.ref a :: rest)) :=
  va_get (D := G.1) (ci := 1) (C := RX3) (T := TX3) (N := 5) hx hb hts in_X3 hown hK.1 (at_P h) 0 rfl rfl 1 (by decide) (hts _ q122) (fun _ h9 => h9) hv hdg kk
theorem gf_X3_16 {a : Nat} {fs : List Value} {v : Value} (hx : p.tables.exec = Jvm.exec) (hb : c.code = cc) (hts : ∀ w ∈ lw_all, w.before args s = true) (hown : s.vm.findClass RX3 = some m.cls) (hK : KT G s) (h : va_at G.1 clA (a, .inr (1, fs)) H) (hv : fs[2]? = some v) (hdg : decode cc pc = .ok (.getfield 16, 3)) (kk : W p l e R s m args below meth c H locs cells slots Q (F0 m (pc + 3) ls (v :: rest))) : W p l e R s m args below meth c H locs cells slots Q (F0 m pc ls (.ref a :: rest)) :=
  va_get (D := G.1) (ci := 1) (C := RX3) (T := TX3) (N := 5) hx hb hts in_X3 hown hK.1 (at_P h) 0 rfl rfl 2 (by decide) (hts _ q128) (fun _ h9 => h9) hv hdg kk
theorem gf_X3_20 {a : Nat} {fs : List Value} {v : Value} (hx : p.tables.exec = Jvm.exec) (hb : c.code = cc) (hts : ∀ w ∈ lw_all, w.before args s = true) (hown : s.vm.findClass RX3 = some m.cls) (hK : KT G s) (h : va_at G.1 clA (a, .inr (1, fs)) H) (hv : fs[3]? = some v) (hdg : decode cc pc = .ok (.getfield 20, 3)) (kk : W p l e R s m args below meth c H locs cells slots Q (F0 m (pc + 3) ls (v :: rest))) : W p l e R s m args below meth c H locs cells slots Q (F0 m pc ls (.ref a :: rest)) :=
  va_get (D := G.1) (ci := 1) (C := RX3) (T := TX3) (N := 5) hx hb hts in_X3 hown hK.1 (at_P h) 0 rfl rfl 3 (by decide) (hts _ q133) (fun _ h9 => h9) hv hdg kk
theorem gf_X3_24 {a : Nat} {fs : List Value} {v : Value} (hx : p.tables.exec = Jvm.exec) (hb : c.code = cc) (hts : ∀ w ∈ lw_all, w.before args s = true) (hown : s.vm.findClass RX3 = some m.cls) (hK : KT G s) (h : va_at G.1 clA (a, .inr (1, fs)) H) (hv : fs[4]? = some v) (hdg : decode cc pc = .ok (.getfield 24, 3)) (kk : W p l e R s m args below meth c H locs cells slots Q (F0 m (pc + 3) ls (v :: rest))) : W p l e R s m args below meth c H locs cells slots Q (F0 m pc ls (.ref a :: rest)) :=
  va_get (D := G.1) (ci := 1) (C := RX3) (T := TX3) (N := 5) hx hb hts in_X3 hown hK.1 (at_P h) 0 rfl rfl 4 (by decide) (hts _ q135) (fun _ h9 => h9) hv hdg kk
theorem gf_X6_7 {a : Nat} {fs : List Value} {v : Value} (hx : p.tables.exec = Jvm.exec) (hb : c.code = cc) (hts : ∀ w ∈ lw_all, w.before args s = true) (hown : s.vm.findClass RX6 = some m.cls) (hK : KT G s) (h : va_at G.1 clA (a, .inr (4, fs)) H) (hv : fs[0]? = some v) (hdg : decode cc pc = .ok (.getfield 7, 3)) (kk : W p l e R s m args below meth c H locs cells slots Q (F0 m (pc + 3) ls (v :: rest))) : W p l e R s m args below meth c H locs cells slots Q (F0 m pc ls (.ref a :: rest)) :=
  va_get (D := G.1) (ci := 4) (C := RX6) (T := TX6) (N := 1) hx hb hts in_X6 hown hK.1 (at_P h) 0 rfl rfl 0 (by decide) (hts _ q338) (fun _ h9 => h9) hv hdg kk
theorem gf_X2_1 {a : Nat} {fs : List Value} {v : Value} (hx : p.tables.exec = Jvm.exec) (hb : c.code = cc) (hts : ∀ w ∈ lw_all, w.before args s = true) (hown : s.vm.findClass RX2 = some m.cls) (hK : KT G s) (h : va_at G.1 clA (a, .inr (7, fs)) H) (hv : fs[0]? = some v) (hdg : decode cc pc = .ok (.getfield 1, 3)) (kk : W p l e R s m args below meth c H locs cells slots Q (F0 m (pc + 3) ls (v :: rest))) : W p l e R s m args below meth c H locs cells slots Q (F0 m pc ls (.ref a :: rest)) :=
  va_get (D := G.1) (ci := 7) (C := RX2) (T := TX2) (N := 14) hx hb hts in_X2 hown hK.1 (at_P h) 0 rfl rfl 0 (by decide) (hts _ q660) (fun _ h9 => h9) hv hdg kk
theorem gf_X2_13 {a : Nat} {fs : List Value} {v : Value} (hx : p.tables.exec = Jvm.exec) (hb : c.code = cc) (hts : ∀ w ∈ lw_all, w.before args s = true) (hown : s.vm.findClass RX2 = some m.cls) (hK : KT G s) (h : va_at G.1 clA (a, .inr (7, fs)) H) (hv : fs[2]? = some v) (hdg : decode cc pc = .ok (.getfield 13, 3)) (kk : W p l e R s m args below meth c H locs cells slots Q (F0 m (pc + 3) ls (v :: rest))) : W p l e R s m args below meth c H locs cells slots Q (F0 m pc ls (.ref a :: rest)) :=
  va_get (D := G.1) (ci := 7) (C := RX2) (T := TX2) (N := 14) hx hb hts in_X2 hown hK.1 (at_P h) 0 rfl rfl 2 (by decide) (hts _ q662) (fun _ h9 => h9) hv hdg kk
theorem gf_X2_17 {a : Nat} {fs : List Value} {v : Value} (hx : p.tables.exec = Jvm.exec) (hb : c.code = cc) (hts : ∀ w ∈ lw_all, w.before args s = true) (hown : s.vm.findClass RX2 = some m.cls) (hK : KT G s) (h : va_at G.1 clA (a, .inr (7, fs)) H) (hv : fs[3]? = some v) (hdg : decode cc pc = .ok (.getfield 17, 3)) (kk : W p l e R s m args below meth c H locs cells slots Q (F0 m (pc + 3) ls (v :: rest))) : W p l e R s m args below meth c H locs cells slots Q (F0 m pc ls (.ref a :: rest)) :=
  va_get (D := G.1) (ci := 7) (C := RX2) (T := TX2) (N := 14) hx hb hts in_X2 hown hK.1 (at_P h) 0 rfl rfl 3 (by decide) (hts _ q663) (fun _ h9 => h9) hv hdg kk
theorem gf_X2_20 {a : Nat} {fs : List Value} {v : Value} (hx : p.tables.exec = Jvm.exec) (hb : c.code = cc) (hts : ∀ w ∈ lw_all, w.before args s = true) (hown : s.vm.findClass RX2 = some m.cls) (hK : KT G s) (h : va_at G.1 clA (a, .inr (7, fs)) H) (hv : fs[5]? = some v) (hdg : decode cc pc = .ok (.getfield 20, 3)) (kk : W p l e R s m args below meth c H locs cells slots Q (F0 m (pc + 3) ls (v :: rest))) : W p l e R s m args below meth c H locs cells slots Q (F0 m pc ls (.ref a :: rest)) :=
  va_get (D := G.1) (ci := 7) (C := RX2) (T := TX2) (N := 14) hx hb hts in_X2 hown hK.1 (at_P h) 0 rfl rfl 5 (by decide) (hts _ q665) (fun _ h9 => h9) hv hdg kk
theorem gf_X2_23 {a : Nat} {fs : List Value} {v : Value} (hx : p.tables.exec = Jvm.exec) (hb : c.code = cc) (hts : ∀ w ∈ lw_all, w.before args s = true) (hown : s.vm.findClass RX2 = some m.cls) (hK : KT G s) (h : va_at G.1 clA (a, .inr (7, fs)) H) (hv : fs[6]? = some v) (hdg : decode cc pc = .ok (.getfield 23, 3)) (kk : W p l e R s m args below meth c H locs cells slots Q (F0 m (pc + 3) ls (v :: rest))) : W p l e R s m args below meth c H locs cells slots Q (F0 m pc ls (.ref a :: rest)) :=
  va_get (D := G.1) (ci := 7) (C := RX2) (T := TX2) (N := 14) hx hb hts in_X2 hown hK.1 (at_P h) 0 rfl rfl 6 (by decide) (hts _ q666) (fun _ h9 => h9) hv hdg kk
theorem gf_X2_27 {a : Nat} {fs : List Value} {v : Value} (hx : p.tables.exec = Jvm.exec) (hb : c.code = cc) (hts : ∀ w ∈ lw_all, w.before args s = true) (hown : s.vm.findClass RX2 = some m.cls) (hK : KT G s) (h : va_at G.1 clA (a, .inr (7, fs)) H) (hv : fs[11]? = some v) (hdg : decode cc pc = .ok (.getfield 27, 3)) (kk : W p l e R s m args below meth c H locs cells slots Q (F0 m (pc + 3) ls (v :: rest))) : W p l e R s m args below meth c H locs cells slots Q (F0 m pc ls (.ref a :: rest)) :=
  va_get (D := G.1) (ci := 7) (C := RX2) (T := TX2) (N := 14) hx hb hts in_X2 hown hK.1 (at_P h) 0 rfl rfl 11 (by decide) (hts _ q671) (fun _ h9 => h9) hv hdg kk
theorem gf_X2_31 {a : Nat} {fs : List Value} {v : Value} (hx : p.tables.exec = Jvm.exec) (hb : c.code = cc) (hts : ∀ w ∈ lw_all, w.before args s = true) (hown : s.vm.findClass RX2 = some m.cls) (hK : KT G s) (h : va_at G.1 clA (a, .inr (7, fs)) H) (hv : fs[12]? = some v) (hdg : decode cc pc = .ok (.getfield 31, 3)) (kk : W p l e R s m args below meth c H locs cells slots Q (F0 m (pc + 3) ls (v :: rest))) : W p l e R s m args below meth c H locs cells slots Q (F0 m pc ls (.ref a :: rest)) :=
  va_get (D := G.1) (ci := 7) (C := RX2) (T := TX2) (N := 14) hx hb hts in_X2 hown hK.1 (at_P h) 0 rfl rfl 12 (by decide) (hts _ q672) (fun _ h9 => h9) hv hdg kk
theorem gf_X2_34 {a : Nat} {fs : List Value} {v : Value} (hx : p.tables.exec = Jvm.exec) (hb : c.code = cc) (hts : ∀ w ∈ lw_all, w.before args s = true) (hown : s.vm.findClass RX2 = some m.cls) (hK : KT G s) (h : va_at G.1 clA (a, .inr (7, fs)) H) (hv : fs[13]? = some v) (hdg : decode cc pc = .ok (.getfield 34, 3)) (kk : W p l e R s m args below meth c H locs cells slots Q (F0 m (pc + 3) ls (v :: rest))) : W p l e R s m args below meth c H locs cells slots Q (F0 m pc ls (.ref a :: rest)) :=
  va_get (D := G.1) (ci := 7) (C := RX2) (T := TX2) (N := 14) hx hb hts in_X2 hown hK.1 (at_P h) 0 rfl rfl 13 (by decide) (hts _ q673) (fun _ h9 => h9) hv hdg kk
theorem gf_X2_51 {a : Nat} {fs : List Value} {v : Value} (hx : p.tables.exec = Jvm.exec) (hb : c.code = cc) (hts : ∀ w ∈ lw_all, w.before args s = true) (hown : s.vm.findClass RX2 = some m.cls) (hK : KT G s) (h : va_at G.1 clA (a, .inr (7, fs)) H) (hv : fs[1]? = some v) (hdg : decode cc pc = .ok (.getfield 51, 3)) (kk : W p l e R s m args below meth c H locs cells slots Q (F0 m (pc + 3) ls (v :: rest))) : W p l e R s m args below meth c H locs cells slots Q (F0 m pc ls (.ref a :: rest)) :=
  va_get (D := G.1) (ci := 7) (C := RX2) (T := TX2) (N := 14) hx hb hts in_X2 hown hK.1 (at_P h) 0 rfl rfl 1 (by decide) (hts _ q661) (fun _ h9 => h9) hv hdg kk
theorem gf_X2_66 {a : Nat} {fs : List Value} {v : Value} (hx : p.tables.exec = Jvm.exec) (hb : c.code = cc) (hts : ∀ w ∈ lw_all, w.before args s = true) (hown : s.vm.findClass RX2 = some m.cls) (hK : KT G s) (h : va_at G.1 clA (a, .inr (7, fs)) H) (hv : fs[4]? = some v) (hdg : decode cc pc = .ok (.getfield 66, 3)) (kk : W p l e R s m args below meth c H locs cells slots Q (F0 m (pc + 3) ls (v :: rest))) : W p l e R s m args below meth c H locs cells slots Q (F0 m pc ls (.ref a :: rest)) :=
  va_get (D := G.1) (ci := 7) (C := RX2) (T := TX2) (N := 14) hx hb hts in_X2 hown hK.1 (at_P h) 0 rfl rfl 4 (by decide) (hts _ q664) (fun _ h9 => h9) hv hdg kk
theorem gf_X2_98 {a : Nat} {fs : List Value} {v : Value} (hx : p.tables.exec = Jvm.exec) (hb : c.code = cc) (hts : ∀ w ∈ lw_all, w.before args s = true) (hown : s.vm.findClass RX2 = some m.cls) (hK : KT G s) (h : va_at G.1 clA (a, .inr (7, fs)) H) (hv : fs[7]? = some v) (hdg : decode cc pc = .ok (.getfield 98, 3)) (kk : W p l e R s m args below meth c H locs cells slots Q (F0 m (pc + 3) ls (v :: rest))) : W p l e R s m args below meth c H locs cells slots Q (F0 m pc ls (.ref a :: rest)) :=
  va_get (D := G.1) (ci := 7) (C := RX2) (T := TX2) (N := 14) hx hb hts in_X2 hown hK.1 (at_P h) 0 rfl rfl 7 (by decide) (hts _ q667) (fun _ h9 => h9) hv hdg kk
theorem gf_X2_101 {a : Nat} {fs : List Value} {v : Value} (hx : p.tables.exec = Jvm.exec) (hb : c.code = cc) (hts : ∀ w ∈ lw_all, w.before args s = true) (hown : s.vm.findClass RX2 = some m.cls) (hK : KT G s) (h : va_at G.1 clA (a, .inr (7, fs)) H) (hv : fs[8]? = some v) (hdg : decode cc pc = .ok (.getfield 101, 3)) (kk : W p l e R s m args below meth c H locs cells slots Q (F0 m (pc + 3) ls (v :: rest))) : W p l e R s m args below meth c H locs cells slots Q (F0 m pc ls (.ref a :: rest)) :=
  va_get (D := G.1) (ci := 7) (C := RX2) (T := TX2) (N := 14) hx hb hts in_X2 hown hK.1 (at_P h) 0 rfl rfl 8 (by decide) (hts _ q668) (fun _ h9 => h9) hv hdg kk
theorem gf_X2_104 {a : Nat} {fs : List Value} {v : Value} (hx : p.tables.exec = Jvm.exec) (hb : c.code = cc) (hts : ∀ w ∈ lw_all, w.before args s = true) (hown : s.vm.findClass RX2 = some m.cls) (hK : KT G s) (h : va_at G.1 clA (a, .inr (7, fs)) H) (hv : fs[9]? = some v) (hdg : decode cc pc = .ok (.getfield 104, 3)) (kk : W p l e R s m args below meth c H locs cells slots Q (F0 m (pc + 3) ls (v :: rest))) : W p l e R s m args below meth c H locs cells slots Q (F0 m pc ls (.ref a :: rest)) :=
  va_get (D := G.1) (ci := 7) (C := RX2) (T := TX2) (N := 14) hx hb hts in_X2 hown hK.1 (at_P h) 0 rfl rfl 9 (by decide) (hts _ q669) (fun _ h9 => h9) hv hdg kk
theorem gf_X2_168 {a : Nat} {fs : List Value} {v : Value} (hx : p.tables.exec = Jvm.exec) (hb : c.code = cc) (hts : ∀ w ∈ lw_all, w.before args s = true) (hown : s.vm.findClass RX2 = some m.cls) (hK : KT G s) (h : va_at G.1 clA (a, .inr (7, fs)) H) (hv : fs[10]? = some v) (hdg : decode cc pc = .ok (.getfield 168, 3)) (kk : W p l e R s m args below meth c H locs cells slots Q (F0 m (pc + 3) ls (v :: rest))) : W p l e R s m args below meth c H locs cells slots Q (F0 m pc ls (.ref a :: rest)) :=
  va_get (D := G.1) (ci := 7) (C := RX2) (T := TX2) (N := 14) hx hb hts in_X2 hown hK.1 (at_P h) 0 rfl rfl 10 (by decide) (hts _ q670) (fun _ h9 => h9) hv hdg kk
theorem gf_X1_1 {a : Nat} {fs : List Value} {v : Value} (hx : p.tables.exec = Jvm.exec) (hb : c.code = cc) (hts : ∀ w ∈ lw_all, w.before args s = true) (hown : s.vm.findClass RX1 = some m.cls) (hK : KT G s) (h : va_at G.1 clA (a, .inr (1, fs)) H) (hv : fs[1]? = some v) (hdg : decode cc pc = .ok (.getfield 1, 3)) (kk : W p l e R s m args below meth c H locs cells slots Q (F0 m (pc + 3) ls (v :: rest))) : W p l e R s m args below meth c H locs cells slots Q (F0 m pc ls (.ref a :: rest)) :=
  va_getN (D := G.1) (ci := 1) (C := RX3) (T := TX3) (N := 5) (host := "OrderJudge") hx hb hts in_X3 hown hK.1 (at_P h) 0 rfl rfl 1 (by decide) (va_Nw.use rfl (hK.2.1 _ (List.mem_of_getElem? (i := 0) rfl))) (fun _ h9 => h9) hv hdg kk
theorem gf_X1_7 {a : Nat} {fs : List Value} {v : Value} (hx : p.tables.exec = Jvm.exec) (hb : c.code = cc) (hts : ∀ w ∈ lw_all, w.before args s = true) (hown : s.vm.findClass RX1 = some m.cls) (hK : KT G s) (h : va_at G.1 clA (a, .inr (1, fs)) H) (hv : fs[2]? = some v) (hdg : decode cc pc = .ok (.getfield 7, 3)) (kk : W p l e R s m args below meth c H locs cells slots Q (F0 m (pc + 3) ls (v :: rest))) : W p l e R s m args below meth c H locs cells slots Q (F0 m pc ls (.ref a :: rest)) :=
  va_getN (D := G.1) (ci := 1) (C := RX3) (T := TX3) (N := 5) (host := "OrderJudge") hx hb hts in_X3 hown hK.1 (at_P h) 0 rfl rfl 2 (by decide) (va_Nw.use rfl (hK.2.1 _ (List.mem_of_getElem? (i := 1) rfl))) (fun _ h9 => h9) hv hdg kk
theorem gf_X1_63 {a : Nat} {fs : List Value} {v : Value} (hx : p.tables.exec = Jvm.exec) (hb : c.code = cc) (hts : ∀ w ∈ lw_all, w.before args s = true) (hown : s.vm.findClass RX1 = some m.cls) (hK : KT G s) (h : va_at G.1 clA (a, .inr (1, fs)) H) (hv : fs[0]? = some v) (hdg : decode cc pc = .ok (.getfield 63, 3)) (kk : W p l e R s m args below meth c H locs cells slots Q (F0 m (pc + 3) ls (v :: rest))) : W p l e R s m args below meth c H locs cells slots Q (F0 m pc ls (.ref a :: rest)) :=
  va_getN (D := G.1) (ci := 1) (C := RX3) (T := TX3) (N := 5) (host := "OrderJudge") hx hb hts in_X3 hown hK.1 (at_P h) 0 rfl rfl 0 (by decide) (va_Nw.use rfl (hK.2.1 _ (List.mem_of_getElem? (i := 2) rfl))) (fun _ h9 => h9) hv hdg kk
theorem gf_X1_146 {a : Nat} {fs : List Value} {v : Value} (hx : p.tables.exec = Jvm.exec) (hb : c.code = cc) (hts : ∀ w ∈ lw_all, w.before args s = true) (hown : s.vm.findClass RX1 = some m.cls) (hK : KT G s) (h : va_at G.1 clA (a, .inr (3, fs)) H) (hv : fs[2]? = some v) (hdg : decode cc pc = .ok (.getfield 146, 3)) (kk : W p l e R s m args below meth c H locs cells slots Q (F0 m (pc + 3) ls (v :: rest))) : W p l e R s m args below meth c H locs cells slots Q (F0 m pc ls (.ref a :: rest)) :=
  va_getN (D := G.1) (ci := 3) (C := RX5) (T := TX5) (N := 4) (host := "OrderJudge") hx hb hts in_X5 hown hK.1 (at_P h) 0 rfl rfl 2 (by decide) (va_Nw.use rfl (hK.2.1 _ (List.mem_of_getElem? (i := 3) rfl))) (fun _ h9 => h9) hv hdg kk
theorem gf_X1_147 {a : Nat} {fs : List Value} {v : Value} (hx : p.tables.exec = Jvm.exec) (hb : c.code = cc) (hts : ∀ w ∈ lw_all, w.before args s = true) (hown : s.vm.findClass RX1 = some m.cls) (hK : KT G s) (h : va_at G.1 clA (a, .inr (3, fs)) H) (hv : fs[0]? = some v) (hdg : decode cc pc = .ok (.getfield 147, 3)) (kk : W p l e R s m args below meth c H locs cells slots Q (F0 m (pc + 3) ls (v :: rest))) : W p l e R s m args below meth c H locs cells slots Q (F0 m pc ls (.ref a :: rest)) :=
  va_getN (D := G.1) (ci := 3) (C := RX5) (T := TX5) (N := 4) (host := "OrderJudge") hx hb hts in_X5 hown hK.1 (at_P h) 0 rfl rfl 0 (by decide) (va_Nw.use rfl (hK.2.1 _ (List.mem_of_getElem? (i := 4) rfl))) (fun _ h9 => h9) hv hdg kk
theorem gf_X1_150 {a : Nat} {fs : List Value} {v : Value} (hx : p.tables.exec = Jvm.exec) (hb : c.code = cc) (hts : ∀ w ∈ lw_all, w.before args s = true) (hown : s.vm.findClass RX1 = some m.cls) (hK : KT G s) (h : va_at G.1 clA (a, .inr (3, fs)) H) (hv : fs[1]? = some v) (hdg : decode cc pc = .ok (.getfield 150, 3)) (kk : W p l e R s m args below meth c H locs cells slots Q (F0 m (pc + 3) ls (v :: rest))) : W p l e R s m args below meth c H locs cells slots Q (F0 m pc ls (.ref a :: rest)) :=
  va_getN (D := G.1) (ci := 3) (C := RX5) (T := TX5) (N := 4) (host := "OrderJudge") hx hb hts in_X5 hown hK.1 (at_P h) 0 rfl rfl 1 (by decide) (va_Nw.use rfl (hK.2.1 _ (List.mem_of_getElem? (i := 5) rfl))) (fun _ h9 => h9) hv hdg kk
theorem gf_X1_194 {a : Nat} {fs : List Value} {v : Value} (hx : p.tables.exec = Jvm.exec) (hb : c.code = cc) (hts : ∀ w ∈ lw_all, w.before args s = true) (hown : s.vm.findClass RX1 = some m.cls) (hK : KT G s) (h : va_at G.1 clA (a, .inr (6, fs)) H) (hv : fs[1]? = some v) (hdg : decode cc pc = .ok (.getfield 194, 3)) (kk : W p l e R s m args below meth c H locs cells slots Q (F0 m (pc + 3) ls (v :: rest))) : W p l e R s m args below meth c H locs cells slots Q (F0 m pc ls (.ref a :: rest)) :=
  va_getN (D := G.1) (ci := 6) (C := RX9) (T := TX9) (N := 6) (host := "OrderJudge") hx hb hts in_X9 hown hK.1 (at_P h) 0 rfl rfl 1 (by decide) (va_Nw.use rfl (hK.2.1 _ (List.mem_of_getElem? (i := 6) rfl))) (fun _ h9 => h9) hv hdg kk
theorem gf_X1_197 {a : Nat} {fs : List Value} {v : Value} (hx : p.tables.exec = Jvm.exec) (hb : c.code = cc) (hts : ∀ w ∈ lw_all, w.before args s = true) (hown : s.vm.findClass RX1 = some m.cls) (hK : KT G s) (h : va_at G.1 clA (a, .inr (6, fs)) H) (hv : fs[2]? = some v) (hdg : decode cc pc = .ok (.getfield 197, 3)) (kk : W p l e R s m args below meth c H locs cells slots Q (F0 m (pc + 3) ls (v :: rest))) : W p l e R s m args below meth c H locs cells slots Q (F0 m pc ls (.ref a :: rest)) :=
  va_getN (D := G.1) (ci := 6) (C := RX9) (T := TX9) (N := 6) (host := "OrderJudge") hx hb hts in_X9 hown hK.1 (at_P h) 0 rfl rfl 2 (by decide) (va_Nw.use rfl (hK.2.1 _ (List.mem_of_getElem? (i := 7) rfl))) (fun _ h9 => h9) hv hdg kk
theorem gf_X1_200 {a : Nat} {fs : List Value} {v : Value} (hx : p.tables.exec = Jvm.exec) (hb : c.code = cc) (hts : ∀ w ∈ lw_all, w.before args s = true) (hown : s.vm.findClass RX1 = some m.cls) (hK : KT G s) (h : va_at G.1 clA (a, .inr (6, fs)) H) (hv : fs[3]? = some v) (hdg : decode cc pc = .ok (.getfield 200, 3)) (kk : W p l e R s m args below meth c H locs cells slots Q (F0 m (pc + 3) ls (v :: rest))) : W p l e R s m args below meth c H locs cells slots Q (F0 m pc ls (.ref a :: rest)) :=
  va_getN (D := G.1) (ci := 6) (C := RX9) (T := TX9) (N := 6) (host := "OrderJudge") hx hb hts in_X9 hown hK.1 (at_P h) 0 rfl rfl 3 (by decide) (va_Nw.use rfl (hK.2.1 _ (List.mem_of_getElem? (i := 8) rfl))) (fun _ h9 => h9) hv hdg kk
theorem gf_X1_207 {a : Nat} {fs : List Value} {v : Value} (hx : p.tables.exec = Jvm.exec) (hb : c.code = cc) (hts : ∀ w ∈ lw_all, w.before args s = true) (hown : s.vm.findClass RX1 = some m.cls) (hK : KT G s) (h : va_at G.1 clA (a, .inr (6, fs)) H) (hv : fs[4]? = some v) (hdg : decode cc pc = .ok (.getfield 207, 3)) (kk : W p l e R s m args below meth c H locs cells slots Q (F0 m (pc + 3) ls (v :: rest))) : W p l e R s m args below meth c H locs cells slots Q (F0 m pc ls (.ref a :: rest)) :=
  va_getN (D := G.1) (ci := 6) (C := RX9) (T := TX9) (N := 6) (host := "OrderJudge") hx hb hts in_X9 hown hK.1 (at_P h) 0 rfl rfl 4 (by decide) (va_Nw.use rfl (hK.2.1 _ (List.mem_of_getElem? (i := 9) rfl))) (fun _ h9 => h9) hv hdg kk
theorem gf_X7_7 {a : Nat} {fs : List Value} {v : Value} (hx : p.tables.exec = Jvm.exec) (hb : c.code = cc) (hts : ∀ w ∈ lw_all, w.before args s = true) (hown : s.vm.findClass RX7 = some m.cls) (hK : KT G s) (h : va_at G.1 clA (a, .inr (1, fs)) H) (hv : fs[1]? = some v) (hdg : decode cc pc = .ok (.getfield 7, 3)) (kk : W p l e R s m args below meth c H locs cells slots Q (F0 m (pc + 3) ls (v :: rest))) : W p l e R s m args below meth c H locs cells slots Q (F0 m pc ls (.ref a :: rest)) :=
  va_getN (D := G.1) (ci := 1) (C := RX3) (T := TX3) (N := 5) (host := "OrderJudge") hx hb hts in_X3 hown hK.1 (at_P h) 0 rfl rfl 1 (by decide) (va_Nw.use rfl (hK.2.1 _ (List.mem_of_getElem? (i := 10) rfl))) (fun _ h9 => h9) hv hdg kk
theorem gf_X7_13 {a : Nat} {fs : List Value} {v : Value} (hx : p.tables.exec = Jvm.exec) (hb : c.code = cc) (hts : ∀ w ∈ lw_all, w.before args s = true) (hown : s.vm.findClass RX7 = some m.cls) (hK : KT G s) (h : va_at G.1 clA (a, .inr (1, fs)) H) (hv : fs[2]? = some v) (hdg : decode cc pc = .ok (.getfield 13, 3)) (kk : W p l e R s m args below meth c H locs cells slots Q (F0 m (pc + 3) ls (v :: rest))) : W p l e R s m args below meth c H locs cells slots Q (F0 m pc ls (.ref a :: rest)) :=
  va_getN (D := G.1) (ci := 1) (C := RX3) (T := TX3) (N := 5) (host := "OrderJudge") hx hb hts in_X3 hown hK.1 (at_P h) 0 rfl rfl 2 (by decide) (va_Nw.use rfl (hK.2.1 _ (List.mem_of_getElem? (i := 11) rfl))) (fun _ h9 => h9) hv hdg kk
theorem gf_X9_28 {a : Nat} {fs : List Value} {v : Value} (hx : p.tables.exec = Jvm.exec) (hb : c.code = cc) (hts : ∀ w ∈ lw_all, w.before args s = true) (hown : s.vm.findClass RX9 = some m.cls) (hK : KT G s) (h : va_at G.1 clA (a, .inr (0, fs)) H) (hv : fs[8]? = some v) (hdg : decode cc pc = .ok (.getfield 28, 3)) (kk : W p l e R s m args below meth c H locs cells slots Q (F0 m (pc + 3) ls (v :: rest))) : W p l e R s m args below meth c H locs cells slots Q (F0 m pc ls (.ref a :: rest)) :=
  va_getN (D := G.1) (ci := 0) (C := RX1) (T := TX1) (N := 9) (host := "OrderJudge") hx hb hts in_X1 hown hK.1 (at_P h) 0 rfl rfl 8 (by decide) (va_Nw.use rfl (hK.2.1 _ (List.mem_of_getElem? (i := 12) rfl))) (fun _ h9 => h9) hv hdg kk
theorem gf_X5_13 {a : Nat} {fs : List Value} {v : Value} (hx : p.tables.exec = Jvm.exec) (hb : c.code = cc) (hts : ∀ w ∈ lw_all, w.before args s = true) (hown : s.vm.findClass RX5 = some m.cls) (hK : KT G s) (h : va_at G.1 clA (a, .inr (0, fs)) H) (hv : fs[2]? = some v) (hdg : decode cc pc = .ok (.getfield 13, 3)) (kk : W p l e R s m args below meth c H locs cells slots Q (F0 m (pc + 3) ls (v :: rest))) : W p l e R s m args below meth c H locs cells slots Q (F0 m pc ls (.ref a :: rest)) :=
  va_getN (D := G.1) (ci := 0) (C := RX1) (T := TX1) (N := 9) (host := "OrderJudge") hx hb hts in_X1 hown hK.1 (at_P h) 0 rfl rfl 2 (by decide) (va_Nw.use rfl (hK.2.1 _ (List.mem_of_getElem? (i := 13) rfl))) (fun _ h9 => h9) hv hdg kk
theorem gf_X5_39 {a : Nat} {fs : List Value} {v : Value} (hx : p.tables.exec = Jvm.exec) (hb : c.code = cc) (hts : ∀ w ∈ lw_all, w.before args s = true) (hown : s.vm.findClass RX5 = some m.cls) (hK : KT G s) (h : va_at G.1 clA (a, .inr (1, fs)) H) (hv : fs[2]? = some v) (hdg : decode cc pc = .ok (.getfield 39, 3)) (kk : W p l e R s m args below meth c H locs cells slots Q (F0 m (pc + 3) ls (v :: rest))) : W p l e R s m args below meth c H locs cells slots Q (F0 m pc ls (.ref a :: rest)) :=
  va_getN (D := G.1) (ci := 1) (C := RX3) (T := TX3) (N := 5) (host := "OrderJudge") hx hb hts in_X3 hown hK.1 (at_P h) 0 rfl rfl 2 (by decide) (va_Nw.use rfl (hK.2.1 _ (List.mem_of_getElem? (i := 14) rfl))) (fun _ h9 => h9) hv hdg kk
theorem gf_X4_23 {a : Nat} {fs : List Value} {v : Value} (hx : p.tables.exec = Jvm.exec) (hb : c.code = cc) (hts : ∀ w ∈ lw_all, w.before args s = true) (hown : s.vm.findClass RX4 = some m.cls) (hK : KT G s) (h : va_at G.1 clA (a, .inr (1, fs)) H) (hv : fs[3]? = some v) (hdg : decode cc pc = .ok (.getfield 23, 3)) (kk : W p l e R s m args below meth c H locs cells slots Q (F0 m (pc + 3) ls (v :: rest))) : W p l e R s m args below meth c H locs cells slots Q (F0 m pc ls (.ref a :: rest)) :=
  va_getN (D := G.1) (ci := 1) (C := RX3) (T := TX3) (N := 5) (host := "OrderJudge") hx hb hts in_X3 hown hK.1 (at_P h) 0 rfl rfl 3 (by decide) (va_Nw.use rfl (hK.2.1 _ (List.mem_of_getElem? (i := 15) rfl))) (fun _ h9 => h9) hv hdg kk
theorem gf_X4_27 {a : Nat} {fs : List Value} {v : Value} (hx : p.tables.exec = Jvm.exec) (hb : c.code = cc) (hts : ∀ w ∈ lw_all, w.before args s = true) (hown : s.vm.findClass RX4 = some m.cls) (hK : KT G s) (h : va_at G.1 clA (a, .inr (1, fs)) H) (hv : fs[4]? = some v) (hdg : decode cc pc = .ok (.getfield 27, 3)) (kk : W p l e R s m args below meth c H locs cells slots Q (F0 m (pc + 3) ls (v :: rest))) : W p l e R s m args below meth c H locs cells slots Q (F0 m pc ls (.ref a :: rest)) :=
  va_getN (D := G.1) (ci := 1) (C := RX3) (T := TX3) (N := 5) (host := "OrderJudge") hx hb hts in_X3 hown hK.1 (at_P h) 0 rfl rfl 4 (by decide) (va_Nw.use rfl (hK.2.1 _ (List.mem_of_getElem? (i := 16) rfl))) (fun _ h9 => h9) hv hdg kk
theorem gf_X8_7 {a : Nat} {fs : List Value} {v : Value} (hx : p.tables.exec = Jvm.exec) (hb : c.code = cc) (hts : ∀ w ∈ lw_all, w.before args s = true) (hown : s.vm.findClass RX8 = some m.cls) (hK : KT G s) (h : va_at G.1 clA (a, .inr (1, fs)) H) (hv : fs[2]? = some v) (hdg : decode cc pc = .ok (.getfield 7, 3)) (kk : W p l e R s m args below meth c H locs cells slots Q (F0 m (pc + 3) ls (v :: rest))) : W p l e R s m args below meth c H locs cells slots Q (F0 m pc ls (.ref a :: rest)) :=
  va_getN (D := G.1) (ci := 1) (C := RX3) (T := TX3) (N := 5) (host := "OrderJudge") hx hb hts in_X3 hown hK.1 (at_P h) 0 rfl rfl 2 (by decide) (va_Nw.use rfl (hK.2.1 _ (List.mem_of_getElem? (i := 17) rfl))) (fun _ h9 => h9) hv hdg kk
theorem gf_X8_19 {a : Nat} {fs : List Value} {v : Value} (hx : p.tables.exec = Jvm.exec) (hb : c.code = cc) (hts : ∀ w ∈ lw_all, w.before args s = true) (hown : s.vm.findClass RX8 = some m.cls) (hK : KT G s) (h : va_at G.1 clA (a, .inr (1, fs)) H) (hv : fs[1]? = some v) (hdg : decode cc pc = .ok (.getfield 19, 3)) (kk : W p l e R s m args below meth c H locs cells slots Q (F0 m (pc + 3) ls (v :: rest))) : W p l e R s m args below meth c H locs cells slots Q (F0 m pc ls (.ref a :: rest)) :=
  va_getN (D := G.1) (ci := 1) (C := RX3) (T := TX3) (N := 5) (host := "OrderJudge") hx hb hts in_X3 hown hK.1 (at_P h) 0 rfl rfl 1 (by decide) (va_Nw.use rfl (hK.2.1 _ (List.mem_of_getElem? (i := 18) rfl))) (fun _ h9 => h9) hv hdg kk
theorem gf_X6_19 {a : Nat} {fs : List Value} {v : Value} (hx : p.tables.exec = Jvm.exec) (hb : c.code = cc) (hts : ∀ w ∈ lw_all, w.before args s = true) (hown : s.vm.findClass RX6 = some m.cls) (hK : KT G s) (h : va_at G.1 clA (a, .inr (1, fs)) H) (hv : fs[2]? = some v) (hdg : decode cc pc = .ok (.getfield 19, 3)) (kk : W p l e R s m args below meth c H locs cells slots Q (F0 m (pc + 3) ls (v :: rest))) : W p l e R s m args below meth c H locs cells slots Q (F0 m pc ls (.ref a :: rest)) :=
  va_getN (D := G.1) (ci := 1) (C := RX3) (T := TX3) (N := 5) (host := "OrderJudge") hx hb hts in_X3 hown hK.1 (at_P h) 0 rfl rfl 2 (by decide) (va_Nw.use rfl (hK.2.1 _ (List.mem_of_getElem? (i := 19) rfl))) (fun _ h9 => h9) hv hdg kk
theorem gf_X6_23 {a : Nat} {fs : List Value} {v : Value} (hx : p.tables.exec = Jvm.exec) (hb : c.code = cc) (hts : ∀ w ∈ lw_all, w.before args s = true) (hown : s.vm.findClass RX6 = some m.cls) (hK : KT G s) (h : va_at G.1 clA (a, .inr (1, fs)) H) (hv : fs[1]? = some v) (hdg : decode cc pc = .ok (.getfield 23, 3)) (kk : W p l e R s m args below meth c H locs cells slots Q (F0 m (pc + 3) ls (v :: rest))) : W p l e R s m args below meth c H locs cells slots Q (F0 m pc ls (.ref a :: rest)) :=
  va_getN (D := G.1) (ci := 1) (C := RX3) (T := TX3) (N := 5) (host := "OrderJudge") hx hb hts in_X3 hown hK.1 (at_P h) 0 rfl rfl 1 (by decide) (va_Nw.use rfl (hK.2.1 _ (List.mem_of_getElem? (i := 20) rfl))) (fun _ h9 => h9) hv hdg kk
end BR
theorem nM_X1_139 : (RX1, 139, yX5_init) ∈ nestM := List.mem_of_getElem? (i := 0) rfl
theorem nM_X1_180 : (RX1, 180, yX7_init) ∈ nestM := List.mem_of_getElem? (i := 1) rfl
theorem nM_X5_19 : (RX5, 19, yX1_next) ∈ nestM := List.mem_of_getElem? (i := 2) rfl
theorem nM_X5_27 : (RX5, 27, yX1_isOnWay) ∈ nestM := List.mem_of_getElem? (i := 3) rfl
theorem nM_X5_31 : (RX5, 31, yX1_turn) ∈ nestM := List.mem_of_getElem? (i := 4) rfl
theorem nM_X6_30 : (RX6, 30, yX1_turn) ∈ nestM := List.mem_of_getElem? (i := 5) rfl
theorem hd_X1_init : yX1_init.cls ≠ "java/lang/invoke/MethodHandle" ∧ yX1_init.cls ≠ "java/lang/invoke/VarHandle" ∧ (parseMethodDescriptor yX1_init.desc).map (fun d => d.parameters.length) = some 0 := by decide +kernel
theorem hv_X1_init : yX1_init.cls = RX1 ∧ yX1_init.cls ≠ "java/lang/invoke/MethodHandle" ∧ yX1_init.cls ≠ "java/lang/invoke/VarHandle" ∧ (parseMethodDescriptor yX1_init.desc).map (fun d => d.parameters.length) = some 0 := ⟨rfl, hd_X1_init⟩
theorem pl_X1_init : plainName yX1_init.cls = true := by decide +kernel
theorem hd_X1_point : yX1_point.cls ≠ "java/lang/invoke/MethodHandle" ∧ yX1_point.cls ≠ "java/lang/invoke/VarHandle" ∧ (parseMethodDescriptor yX1_point.desc).map (fun d => d.parameters.length) = some 3 := by decide +kernel
theorem hv_X1_point : yX1_point.cls = RX1 ∧ yX1_point.cls ≠ "java/lang/invoke/MethodHandle" ∧ yX1_point.cls ≠ "java/lang/invoke/VarHandle" ∧ (parseMethodDescriptor yX1_point.desc).map (fun d => d.parameters.length) = some 3 := ⟨rfl, hd_X1_point⟩
theorem pl_X1_point : plainName yX1_point.cls = true := by decide +kernel
theorem hd_X1_isIn : yX1_isIn.cls ≠ "java/lang/invoke/MethodHandle" ∧ yX1_isIn.cls ≠ "java/lang/invoke/VarHandle" ∧ (parseMethodDescriptor yX1_isIn.desc).map (fun d => d.parameters.length) = some 3 := by decide +kernel
theorem hv_X1_isIn : yX1_isIn.cls = RX1 ∧ yX1_isIn.cls ≠ "java/lang/invoke/MethodHandle" ∧ yX1_isIn.cls ≠ "java/lang/invoke/VarHandle" ∧ (parseMethodDescriptor yX1_isIn.desc).map (fun d => d.parameters.length) = some 3 := ⟨rfl, hd_X1_isIn⟩
theorem pl_X1_isIn : plainName yX1_isIn.cls = true := by decide +kernel
theorem hd_X1_side : yX1_side.cls ≠ "java/lang/invoke/MethodHandle" ∧ yX1_side.cls ≠ "java/lang/invoke/VarHandle" ∧ (parseMethodDescriptor yX1_side.desc).map (fun d => d.parameters.length) = some 3 := by decide +kernel
theorem hv_X1_side : yX1_side.cls = RX1 ∧ yX1_side.cls ≠ "java/lang/invoke/MethodHandle" ∧ yX1_side.cls ≠ "java/lang/invoke/VarHandle" ∧ (parseMethodDescriptor yX1_side.desc).map (fun d => d.parameters.length) = some 3 := ⟨rfl, hd_X1_side⟩
theorem pl_X1_side : plainName yX1_side.cls = true := by decide +kernel
theorem hd_X1_arePoints : yX1_arePoints.cls ≠ "java/lang/invoke/MethodHandle" ∧ yX1_arePoints.cls ≠ "java/lang/invoke/VarHandle" ∧ (parseMethodDescriptor yX1_arePoints.desc).map (fun d => d.parameters.length) = some 3 := by decide +kernel
theorem hv_X1_arePoints : yX1_arePoints.cls = RX1 ∧ yX1_arePoints.cls ≠ "java/lang/invoke/MethodHandle" ∧ yX1_arePoints.cls ≠ "java/lang/invoke/VarHandle" ∧ (parseMethodDescriptor yX1_arePoints.desc).map (fun d => d.parameters.length) = some 3 := ⟨rfl, hd_X1_arePoints⟩
theorem pl_X1_arePoints : plainName yX1_arePoints.cls = true := by decide +kernel
theorem hd_X1_isPoint : yX1_isPoint.cls ≠ "java/lang/invoke/MethodHandle" ∧ yX1_isPoint.cls ≠ "java/lang/invoke/VarHandle" ∧ (parseMethodDescriptor yX1_isPoint.desc).map (fun d => d.parameters.length) = some 1 := by decide +kernel
theorem hv_X1_isPoint : yX1_isPoint.cls = RX1 ∧ yX1_isPoint.cls ≠ "java/lang/invoke/MethodHandle" ∧ yX1_isPoint.cls ≠ "java/lang/invoke/VarHandle" ∧ (parseMethodDescriptor yX1_isPoint.desc).map (fun d => d.parameters.length) = some 1 := ⟨rfl, hd_X1_isPoint⟩
theorem pl_X1_isPoint : plainName yX1_isPoint.cls = true := by decide +kernel
theorem hd_X1_turn : yX1_turn.cls ≠ "java/lang/invoke/MethodHandle" ∧ yX1_turn.cls ≠ "java/lang/invoke/VarHandle" ∧ (parseMethodDescriptor yX1_turn.desc).map (fun d => d.parameters.length) = some 3 := by decide +kernel
theorem hv_X1_turn : yX1_turn.cls = RX1 ∧ yX1_turn.cls ≠ "java/lang/invoke/MethodHandle" ∧ yX1_turn.cls ≠ "java/lang/invoke/VarHandle" ∧ (parseMethodDescriptor yX1_turn.desc).map (fun d => d.parameters.length) = some 3 := ⟨rfl, hd_X1_turn⟩
theorem pl_X1_turn : plainName yX1_turn.cls = true := by decide +kernel
theorem hd_X1_bracket : yX1_bracket.cls ≠ "java/lang/invoke/MethodHandle" ∧ yX1_bracket.cls ≠ "java/lang/invoke/VarHandle" ∧ (parseMethodDescriptor yX1_bracket.desc).map (fun d => d.parameters.length) = some 4 := by decide +kernel
theorem hv_X1_bracket : yX1_bracket.cls = RX1 ∧ yX1_bracket.cls ≠ "java/lang/invoke/MethodHandle" ∧ yX1_bracket.cls ≠ "java/lang/invoke/VarHandle" ∧ (parseMethodDescriptor yX1_bracket.desc).map (fun d => d.parameters.length) = some 4 := ⟨rfl, hd_X1_bracket⟩
theorem pl_X1_bracket : plainName yX1_bracket.cls = true := by decide +kernel
theorem hd_X1_signOf : yX1_signOf.cls ≠ "java/lang/invoke/MethodHandle" ∧ yX1_signOf.cls ≠ "java/lang/invoke/VarHandle" ∧ (parseMethodDescriptor yX1_signOf.desc).map (fun d => d.parameters.length) = some 1 := by decide +kernel
theorem hv_X1_signOf : yX1_signOf.cls = RX1 ∧ yX1_signOf.cls ≠ "java/lang/invoke/MethodHandle" ∧ yX1_signOf.cls ≠ "java/lang/invoke/VarHandle" ∧ (parseMethodDescriptor yX1_signOf.desc).map (fun d => d.parameters.length) = some 1 := ⟨rfl, hd_X1_signOf⟩
theorem pl_X1_signOf : plainName yX1_signOf.cls = true := by decide +kernel
theorem hd_X1_told : yX1_told.cls ≠ "java/lang/invoke/MethodHandle" ∧ yX1_told.cls ≠ "java/lang/invoke/VarHandle" ∧ (parseMethodDescriptor yX1_told.desc).map (fun d => d.parameters.length) = some 2 := by decide +kernel
theorem hv_X1_told : yX1_told.cls = RX1 ∧ yX1_told.cls ≠ "java/lang/invoke/MethodHandle" ∧ yX1_told.cls ≠ "java/lang/invoke/VarHandle" ∧ (parseMethodDescriptor yX1_told.desc).map (fun d => d.parameters.length) = some 2 := ⟨rfl, hd_X1_told⟩
theorem pl_X1_told : plainName yX1_told.cls = true := by decide +kernel
theorem hd_X1_circle : yX1_circle.cls ≠ "java/lang/invoke/MethodHandle" ∧ yX1_circle.cls ≠ "java/lang/invoke/VarHandle" ∧ (parseMethodDescriptor yX1_circle.desc).map (fun d => d.parameters.length) = some 4 := by decide +kernel
theorem hv_X1_circle : yX1_circle.cls = RX1 ∧ yX1_circle.cls ≠ "java/lang/invoke/MethodHandle" ∧ yX1_circle.cls ≠ "java/lang/invoke/VarHandle" ∧ (parseMethodDescriptor yX1_circle.desc).map (fun d => d.parameters.length) = some 4 := ⟨rfl, hd_X1_circle⟩
theorem pl_X1_circle : plainName yX1_circle.cls = true := by decide +kernel
theorem hd_X1_ring : yX1_ring.cls ≠ "java/lang/invoke/MethodHandle" ∧ yX1_ring.cls ≠ "java/lang/invoke/VarHandle" ∧ (parseMethodDescriptor yX1_ring.desc).map (fun d => d.parameters.length) = some 4 := by decide +kernel
theorem hv_X1_ring : yX1_ring.cls = RX1 ∧ yX1_ring.cls ≠ "java/lang/invoke/MethodHandle" ∧ yX1_ring.cls ≠ "java/lang/invoke/VarHandle" ∧ (parseMethodDescriptor yX1_ring.desc).map (fun d => d.parameters.length) = some 4 := ⟨rfl, hd_X1_ring⟩
theorem pl_X1_ring : plainName yX1_ring.cls = true := by decide +kernel
theorem hd_X1_filter : yX1_filter.cls ≠ "java/lang/invoke/MethodHandle" ∧ yX1_filter.cls ≠ "java/lang/invoke/VarHandle" ∧ (parseMethodDescriptor yX1_filter.desc).map (fun d => d.parameters.length) = some 1 := by decide +kernel
theorem hv_X1_filter : yX1_filter.cls = RX1 ∧ yX1_filter.cls ≠ "java/lang/invoke/MethodHandle" ∧ yX1_filter.cls ≠ "java/lang/invoke/VarHandle" ∧ (parseMethodDescriptor yX1_filter.desc).map (fun d => d.parameters.length) = some 1 := ⟨rfl, hd_X1_filter⟩
theorem pl_X1_filter : plainName yX1_filter.cls = true := by decide +kernel
theorem hd_X1_decided : yX1_decided.cls ≠ "java/lang/invoke/MethodHandle" ∧ yX1_decided.cls ≠ "java/lang/invoke/VarHandle" ∧ (parseMethodDescriptor yX1_decided.desc).map (fun d => d.parameters.length) = some 1 := by decide +kernel
theorem hv_X1_decided : yX1_decided.cls = RX1 ∧ yX1_decided.cls ≠ "java/lang/invoke/MethodHandle" ∧ yX1_decided.cls ≠ "java/lang/invoke/VarHandle" ∧ (parseMethodDescriptor yX1_decided.desc).map (fun d => d.parameters.length) = some 1 := ⟨rfl, hd_X1_decided⟩
theorem pl_X1_decided : plainName yX1_decided.cls = true := by decide +kernel
theorem hd_X1_between : yX1_between.cls ≠ "java/lang/invoke/MethodHandle" ∧ yX1_between.cls ≠ "java/lang/invoke/VarHandle" ∧ (parseMethodDescriptor yX1_between.desc).map (fun d => d.parameters.length) = some 3 := by decide +kernel
theorem hv_X1_between : yX1_between.cls = RX1 ∧ yX1_between.cls ≠ "java/lang/invoke/MethodHandle" ∧ yX1_between.cls ≠ "java/lang/invoke/VarHandle" ∧ (parseMethodDescriptor yX1_between.desc).map (fun d => d.parameters.length) = some 3 := ⟨rfl, hd_X1_between⟩
theorem pl_X1_between : plainName yX1_between.cls = true := by decide +kernel
theorem hd_X1_between_2 : yX1_between_2.cls ≠ "java/lang/invoke/MethodHandle" ∧ yX1_between_2.cls ≠ "java/lang/invoke/VarHandle" ∧ (parseMethodDescriptor yX1_between_2.desc).map (fun d => d.parameters.length) = some 3 := by decide +kernel
theorem hv_X1_between_2 : yX1_between_2.cls = RX1 ∧ yX1_between_2.cls ≠ "java/lang/invoke/MethodHandle" ∧ yX1_between_2.cls ≠ "java/lang/invoke/VarHandle" ∧ (parseMethodDescriptor yX1_between_2.desc).map (fun d => d.parameters.length) = some 3 := ⟨rfl, hd_X1_between_2⟩
theorem pl_X1_between_2 : plainName yX1_between_2.cls = true := by decide +kernel
theorem hd_X1_inside : yX1_inside.cls ≠ "java/lang/invoke/MethodHandle" ∧ yX1_inside.cls ≠ "java/lang/invoke/VarHandle" ∧ (parseMethodDescriptor yX1_inside.desc).map (fun d => d.parameters.length) = some 4 := by decide +kernel
theorem hv_X1_inside : yX1_inside.cls = RX1 ∧ yX1_inside.cls ≠ "java/lang/invoke/MethodHandle" ∧ yX1_inside.cls ≠ "java/lang/invoke/VarHandle" ∧ (parseMethodDescriptor yX1_inside.desc).map (fun d => d.parameters.length) = some 4 := ⟨rfl, hd_X1_inside⟩
theorem pl_X1_inside : plainName yX1_inside.cls = true := by decide +kernel
theorem hd_X1_inside_2 : yX1_inside_2.cls ≠ "java/lang/invoke/MethodHandle" ∧ yX1_inside_2.cls ≠ "java/lang/invoke/VarHandle" ∧ (parseMethodDescriptor yX1_inside_2.desc).map (fun d => d.parameters.length) = some 4 := by decide +kernel
theorem hv_X1_inside_2 : yX1_inside_2.cls = RX1 ∧ yX1_inside_2.cls ≠ "java/lang/invoke/MethodHandle" ∧ yX1_inside_2.cls ≠ "java/lang/invoke/VarHandle" ∧ (parseMethodDescriptor yX1_inside_2.desc).map (fun d => d.parameters.length) = some 4 := ⟨rfl, hd_X1_inside_2⟩
theorem pl_X1_inside_2 : plainName yX1_inside_2.cls = true := by decide +kernel
theorem hd_X1_isOneWay : yX1_isOneWay.cls ≠ "java/lang/invoke/MethodHandle" ∧ yX1_isOneWay.cls ≠ "java/lang/invoke/VarHandle" ∧ (parseMethodDescriptor yX1_isOneWay.desc).map (fun d => d.parameters.length) = some 3 := by decide +kernel
theorem hv_X1_isOneWay : yX1_isOneWay.cls = RX1 ∧ yX1_isOneWay.cls ≠ "java/lang/invoke/MethodHandle" ∧ yX1_isOneWay.cls ≠ "java/lang/invoke/VarHandle" ∧ (parseMethodDescriptor yX1_isOneWay.desc).map (fun d => d.parameters.length) = some 3 := ⟨rfl, hd_X1_isOneWay⟩
theorem pl_X1_isOneWay : plainName yX1_isOneWay.cls = true := by decide +kernel
theorem hd_X1_isWithin : yX1_isWithin.cls ≠ "java/lang/invoke/MethodHandle" ∧ yX1_isWithin.cls ≠ "java/lang/invoke/VarHandle" ∧ (parseMethodDescriptor yX1_isWithin.desc).map (fun d => d.parameters.length) = some 4 := by decide +kernel
theorem hv_X1_isWithin : yX1_isWithin.cls = RX1 ∧ yX1_isWithin.cls ≠ "java/lang/invoke/MethodHandle" ∧ yX1_isWithin.cls ≠ "java/lang/invoke/VarHandle" ∧ (parseMethodDescriptor yX1_isWithin.desc).map (fun d => d.parameters.length) = some 4 := ⟨rfl, hd_X1_isWithin⟩
theorem pl_X1_isWithin : plainName yX1_isWithin.cls = true := by decide +kernel
theorem hd_X1_cross : yX1_cross.cls ≠ "java/lang/invoke/MethodHandle" ∧ yX1_cross.cls ≠ "java/lang/invoke/VarHandle" ∧ (parseMethodDescriptor yX1_cross.desc).map (fun d => d.parameters.length) = some 4 := by decide +kernel
theorem hv_X1_cross : yX1_cross.cls = RX1 ∧ yX1_cross.cls ≠ "java/lang/invoke/MethodHandle" ∧ yX1_cross.cls ≠ "java/lang/invoke/VarHandle" ∧ (parseMethodDescriptor yX1_cross.desc).map (fun d => d.parameters.length) = some 4 := ⟨rfl, hd_X1_cross⟩
theorem pl_X1_cross : plainName yX1_cross.cls = true := by decide +kernel
theorem hd_X1_cross_2 : yX1_cross_2.cls ≠ "java/lang/invoke/MethodHandle" ∧ yX1_cross_2.cls ≠ "java/lang/invoke/VarHandle" ∧ (parseMethodDescriptor yX1_cross_2.desc).map (fun d => d.parameters.length) = some 4 := by decide +kernel
theorem hv_X1_cross_2 : yX1_cross_2.cls = RX1 ∧ yX1_cross_2.cls ≠ "java/lang/invoke/MethodHandle" ∧ yX1_cross_2.cls ≠ "java/lang/invoke/VarHandle" ∧ (parseMethodDescriptor yX1_cross_2.desc).map (fun d => d.parameters.length) = some 4 := ⟨rfl, hd_X1_cross_2⟩
theorem pl_X1_cross_2 : plainName yX1_cross_2.cls = true := by decide +kernel
theorem hd_X1_overlap : yX1_overlap.cls ≠ "java/lang/invoke/MethodHandle" ∧ yX1_overlap.cls ≠ "java/lang/invoke/VarHandle" ∧ (parseMethodDescriptor yX1_overlap.desc).map (fun d => d.parameters.length) = some 4 := by decide +kernel
theorem hv_X1_overlap : yX1_overlap.cls = RX1 ∧ yX1_overlap.cls ≠ "java/lang/invoke/MethodHandle" ∧ yX1_overlap.cls ≠ "java/lang/invoke/VarHandle" ∧ (parseMethodDescriptor yX1_overlap.desc).map (fun d => d.parameters.length) = some 4 := ⟨rfl, hd_X1_overlap⟩
theorem pl_X1_overlap : plainName yX1_overlap.cls = true := by decide +kernel
theorem hd_X1_isBehind : yX1_isBehind.cls ≠ "java/lang/invoke/MethodHandle" ∧ yX1_isBehind.cls ≠ "java/lang/invoke/VarHandle" ∧ (parseMethodDescriptor yX1_isBehind.desc).map (fun d => d.parameters.length) = some 2 := by decide +kernel
theorem hv_X1_isBehind : yX1_isBehind.cls = RX1 ∧ yX1_isBehind.cls ≠ "java/lang/invoke/MethodHandle" ∧ yX1_isBehind.cls ≠ "java/lang/invoke/VarHandle" ∧ (parseMethodDescriptor yX1_isBehind.desc).map (fun d => d.parameters.length) = some 2 := ⟨rfl, hd_X1_isBehind⟩
theorem pl_X1_isBehind : plainName yX1_isBehind.cls = true := by decide +kernel
theorem hd_X1_isOnWay : yX1_isOnWay.cls ≠ "java/lang/invoke/MethodHandle" ∧ yX1_isOnWay.cls ≠ "java/lang/invoke/VarHandle" ∧ (parseMethodDescriptor yX1_isOnWay.desc).map (fun d => d.parameters.length) = some 3 := by decide +kernel
theorem hv_X1_isOnWay : yX1_isOnWay.cls = RX1 ∧ yX1_isOnWay.cls ≠ "java/lang/invoke/MethodHandle" ∧ yX1_isOnWay.cls ≠ "java/lang/invoke/VarHandle" ∧ (parseMethodDescriptor yX1_isOnWay.desc).map (fun d => d.parameters.length) = some 3 := ⟨rfl, hd_X1_isOnWay⟩
theorem pl_X1_isOnWay : plainName yX1_isOnWay.cls = true := by decide +kernel
theorem hd_X1_separated : yX1_separated.cls ≠ "java/lang/invoke/MethodHandle" ∧ yX1_separated.cls ≠ "java/lang/invoke/VarHandle" ∧ (parseMethodDescriptor yX1_separated.desc).map (fun d => d.parameters.length) = some 4 := by decide +kernel
theorem hv_X1_separated : yX1_separated.cls = RX1 ∧ yX1_separated.cls ≠ "java/lang/invoke/MethodHandle" ∧ yX1_separated.cls ≠ "java/lang/invoke/VarHandle" ∧ (parseMethodDescriptor yX1_separated.desc).map (fun d => d.parameters.length) = some 4 := ⟨rfl, hd_X1_separated⟩
theorem pl_X1_separated : plainName yX1_separated.cls = true := by decide +kernel
theorem hd_X1_convex : yX1_convex.cls ≠ "java/lang/invoke/MethodHandle" ∧ yX1_convex.cls ≠ "java/lang/invoke/VarHandle" ∧ (parseMethodDescriptor yX1_convex.desc).map (fun d => d.parameters.length) = some 1 := by decide +kernel
theorem hv_X1_convex : yX1_convex.cls = RX1 ∧ yX1_convex.cls ≠ "java/lang/invoke/MethodHandle" ∧ yX1_convex.cls ≠ "java/lang/invoke/VarHandle" ∧ (parseMethodDescriptor yX1_convex.desc).map (fun d => d.parameters.length) = some 1 := ⟨rfl, hd_X1_convex⟩
theorem pl_X1_convex : plainName yX1_convex.cls = true := by decide +kernel
theorem hd_X1_refused : yX1_refused.cls ≠ "java/lang/invoke/MethodHandle" ∧ yX1_refused.cls ≠ "java/lang/invoke/VarHandle" ∧ (parseMethodDescriptor yX1_refused.desc).map (fun d => d.parameters.length) = some 2 := by decide +kernel
theorem hv_X1_refused : yX1_refused.cls = RX1 ∧ yX1_refused.cls ≠ "java/lang/invoke/MethodHandle" ∧ yX1_refused.cls ≠ "java/lang/invoke/VarHandle" ∧ (parseMethodDescriptor yX1_refused.desc).map (fun d => d.parameters.length) = some 2 := ⟨rfl, hd_X1_refused⟩
theorem pl_X1_refused : plainName yX1_refused.cls = true := by decide +kernel
theorem hd_X1_next : yX1_next.cls ≠ "java/lang/invoke/MethodHandle" ∧ yX1_next.cls ≠ "java/lang/invoke/VarHandle" ∧ (parseMethodDescriptor yX1_next.desc).map (fun d => d.parameters.length) = some 2 := by decide +kernel
theorem hv_X1_next : yX1_next.cls = RX1 ∧ yX1_next.cls ≠ "java/lang/invoke/MethodHandle" ∧ yX1_next.cls ≠ "java/lang/invoke/VarHandle" ∧ (parseMethodDescriptor yX1_next.desc).map (fun d => d.parameters.length) = some 2 := ⟨rfl, hd_X1_next⟩
theorem pl_X1_next : plainName yX1_next.cls = true := by decide +kernel
theorem hd_X1_polygon : yX1_polygon.cls ≠ "java/lang/invoke/MethodHandle" ∧ yX1_polygon.cls ≠ "java/lang/invoke/VarHandle" ∧ (parseMethodDescriptor yX1_polygon.desc).map (fun d => d.parameters.length) = some 2 := by decide +kernel
theorem hv_X1_polygon : yX1_polygon.cls = RX1 ∧ yX1_polygon.cls ≠ "java/lang/invoke/MethodHandle" ∧ yX1_polygon.cls ≠ "java/lang/invoke/VarHandle" ∧ (parseMethodDescriptor yX1_polygon.desc).map (fun d => d.parameters.length) = some 2 := ⟨rfl, hd_X1_polygon⟩
theorem pl_X1_polygon : plainName yX1_polygon.cls = true := by decide +kernel
theorem hd_X1_winding : yX1_winding.cls ≠ "java/lang/invoke/MethodHandle" ∧ yX1_winding.cls ≠ "java/lang/invoke/VarHandle" ∧ (parseMethodDescriptor yX1_winding.desc).map (fun d => d.parameters.length) = some 2 := by decide +kernel
theorem hv_X1_winding : yX1_winding.cls = RX1 ∧ yX1_winding.cls ≠ "java/lang/invoke/MethodHandle" ∧ yX1_winding.cls ≠ "java/lang/invoke/VarHandle" ∧ (parseMethodDescriptor yX1_winding.desc).map (fun d => d.parameters.length) = some 2 := ⟨rfl, hd_X1_winding⟩
theorem pl_X1_winding : plainName yX1_winding.cls = true := by decide +kernel
theorem hd_X1_nearest : yX1_nearest.cls ≠ "java/lang/invoke/MethodHandle" ∧ yX1_nearest.cls ≠ "java/lang/invoke/VarHandle" ∧ (parseMethodDescriptor yX1_nearest.desc).map (fun d => d.parameters.length) = some 2 := by decide +kernel
theorem hv_X1_nearest : yX1_nearest.cls = RX1 ∧ yX1_nearest.cls ≠ "java/lang/invoke/MethodHandle" ∧ yX1_nearest.cls ≠ "java/lang/invoke/VarHandle" ∧ (parseMethodDescriptor yX1_nearest.desc).map (fun d => d.parameters.length) = some 2 := ⟨rfl, hd_X1_nearest⟩
theorem pl_X1_nearest : plainName yX1_nearest.cls = true := by decide +kernel
theorem hd_X1_around : yX1_around.cls ≠ "java/lang/invoke/MethodHandle" ∧ yX1_around.cls ≠ "java/lang/invoke/VarHandle" ∧ (parseMethodDescriptor yX1_around.desc).map (fun d => d.parameters.length) = some 3 := by decide +kernel
theorem hv_X1_around : yX1_around.cls = RX1 ∧ yX1_around.cls ≠ "java/lang/invoke/MethodHandle" ∧ yX1_around.cls ≠ "java/lang/invoke/VarHandle" ∧ (parseMethodDescriptor yX1_around.desc).map (fun d => d.parameters.length) = some 3 := ⟨rfl, hd_X1_around⟩
theorem pl_X1_around : plainName yX1_around.cls = true := by decide +kernel
theorem hd_X1_placeBy : yX1_placeBy.cls ≠ "java/lang/invoke/MethodHandle" ∧ yX1_placeBy.cls ≠ "java/lang/invoke/VarHandle" ∧ (parseMethodDescriptor yX1_placeBy.desc).map (fun d => d.parameters.length) = some 3 := by decide +kernel
theorem hv_X1_placeBy : yX1_placeBy.cls = RX1 ∧ yX1_placeBy.cls ≠ "java/lang/invoke/MethodHandle" ∧ yX1_placeBy.cls ≠ "java/lang/invoke/VarHandle" ∧ (parseMethodDescriptor yX1_placeBy.desc).map (fun d => d.parameters.length) = some 3 := ⟨rfl, hd_X1_placeBy⟩
theorem pl_X1_placeBy : plainName yX1_placeBy.cls = true := by decide +kernel
theorem hd_X1_order : yX1_order.cls ≠ "java/lang/invoke/MethodHandle" ∧ yX1_order.cls ≠ "java/lang/invoke/VarHandle" ∧ (parseMethodDescriptor yX1_order.desc).map (fun d => d.parameters.length) = some 2 := by decide +kernel
theorem hv_X1_order : yX1_order.cls = RX1 ∧ yX1_order.cls ≠ "java/lang/invoke/MethodHandle" ∧ yX1_order.cls ≠ "java/lang/invoke/VarHandle" ∧ (parseMethodDescriptor yX1_order.desc).map (fun d => d.parameters.length) = some 2 := ⟨rfl, hd_X1_order⟩
theorem pl_X1_order : plainName yX1_order.cls = true := by decide +kernel
theorem hd_X1_line : yX1_line.cls ≠ "java/lang/invoke/MethodHandle" ∧ yX1_line.cls ≠ "java/lang/invoke/VarHandle" ∧ (parseMethodDescriptor yX1_line.desc).map (fun d => d.parameters.length) = some 2 := by decide +kernel
theorem hv_X1_line : yX1_line.cls = RX1 ∧ yX1_line.cls ≠ "java/lang/invoke/MethodHandle" ∧ yX1_line.cls ≠ "java/lang/invoke/VarHandle" ∧ (parseMethodDescriptor yX1_line.desc).map (fun d => d.parameters.length) = some 2 := ⟨rfl, hd_X1_line⟩
theorem pl_X1_line : plainName yX1_line.cls = true := by decide +kernel
theorem hd_X1_lines : yX1_lines.cls ≠ "java/lang/invoke/MethodHandle" ∧ yX1_lines.cls ≠ "java/lang/invoke/VarHandle" ∧ (parseMethodDescriptor yX1_lines.desc).map (fun d => d.parameters.length) = some 2 := by decide +kernel
theorem hv_X1_lines : yX1_lines.cls = RX1 ∧ yX1_lines.cls ≠ "java/lang/invoke/MethodHandle" ∧ yX1_lines.cls ≠ "java/lang/invoke/VarHandle" ∧ (parseMethodDescriptor yX1_lines.desc).map (fun d => d.parameters.length) = some 2 := ⟨rfl, hd_X1_lines⟩
theorem pl_X1_lines : plainName yX1_lines.cls = true := by decide +kernel
theorem hd_X1_count : yX1_count.cls ≠ "java/lang/invoke/MethodHandle" ∧ yX1_count.cls ≠ "java/lang/invoke/VarHandle" ∧ (parseMethodDescriptor yX1_count.desc).map (fun d => d.parameters.length) = some 1 := by decide +kernel
theorem hv_X1_count : yX1_count.cls = RX1 ∧ yX1_count.cls ≠ "java/lang/invoke/MethodHandle" ∧ yX1_count.cls ≠ "java/lang/invoke/VarHandle" ∧ (parseMethodDescriptor yX1_count.desc).map (fun d => d.parameters.length) = some 1 := ⟨rfl, hd_X1_count⟩
theorem pl_X1_count : plainName yX1_count.cls = true := by decide +kernel
theorem hd_X1_size : yX1_size.cls ≠ "java/lang/invoke/MethodHandle" ∧ yX1_size.cls ≠ "java/lang/invoke/VarHandle" ∧ (parseMethodDescriptor yX1_size.desc).map (fun d => d.parameters.length) = some 1 := by decide +kernel
theorem hv_X1_size : yX1_size.cls = RX1 ∧ yX1_size.cls ≠ "java/lang/invoke/MethodHandle" ∧ yX1_size.cls ≠ "java/lang/invoke/VarHandle" ∧ (parseMethodDescriptor yX1_size.desc).map (fun d => d.parameters.length) = some 1 := ⟨rfl, hd_X1_size⟩
theorem pl_X1_size : plainName yX1_size.cls = true := by decide +kernel
theorem hd_X1_of : yX1_of.cls ≠ "java/lang/invoke/MethodHandle" ∧ yX1_of.cls ≠ "java/lang/invoke/VarHandle" ∧ (parseMethodDescriptor yX1_of.desc).map (fun d => d.parameters.length) = some 2 := by decide +kernel
theorem hv_X1_of : yX1_of.cls = RX1 ∧ yX1_of.cls ≠ "java/lang/invoke/MethodHandle" ∧ yX1_of.cls ≠ "java/lang/invoke/VarHandle" ∧ (parseMethodDescriptor yX1_of.desc).map (fun d => d.parameters.length) = some 2 := ⟨rfl, hd_X1_of⟩
theorem pl_X1_of : plainName yX1_of.cls = true := by decide +kernel
theorem hd_X1_at : yX1_at.cls ≠ "java/lang/invoke/MethodHandle" ∧ yX1_at.cls ≠ "java/lang/invoke/VarHandle" ∧ (parseMethodDescriptor yX1_at.desc).map (fun d => d.parameters.length) = some 2 := by decide +kernel
theorem hv_X1_at : yX1_at.cls = RX1 ∧ yX1_at.cls ≠ "java/lang/invoke/MethodHandle" ∧ yX1_at.cls ≠ "java/lang/invoke/VarHandle" ∧ (parseMethodDescriptor yX1_at.desc).map (fun d => d.parameters.length) = some 2 := ⟨rfl, hd_X1_at⟩
theorem pl_X1_at : plainName yX1_at.cls = true := by decide +kernel
theorem hd_X1_area : yX1_area.cls ≠ "java/lang/invoke/MethodHandle" ∧ yX1_area.cls ≠ "java/lang/invoke/VarHandle" ∧ (parseMethodDescriptor yX1_area.desc).map (fun d => d.parameters.length) = some 2 := by decide +kernel
theorem hv_X1_area : yX1_area.cls = RX1 ∧ yX1_area.cls ≠ "java/lang/invoke/MethodHandle" ∧ yX1_area.cls ≠ "java/lang/invoke/VarHandle" ∧ (parseMethodDescriptor yX1_area.desc).map (fun d => d.parameters.length) = some 2 := ⟨rfl, hd_X1_area⟩
theorem pl_X1_area : plainName yX1_area.cls = true := by decide +kernel
theorem hd_X3_init : yX3_init.cls ≠ "java/lang/invoke/MethodHandle" ∧ yX3_init.cls ≠ "java/lang/invoke/VarHandle" ∧ (parseMethodDescriptor yX3_init.desc).map (fun d => d.parameters.length) = some 3 := by decide +kernel
theorem hv_X3_init : yX3_init.cls = RX3 ∧ yX3_init.cls ≠ "java/lang/invoke/MethodHandle" ∧ yX3_init.cls ≠ "java/lang/invoke/VarHandle" ∧ (parseMethodDescriptor yX3_init.desc).map (fun d => d.parameters.length) = some 3 := ⟨rfl, hd_X3_init⟩
theorem pl_X3_init : plainName yX3_init.cls = true := by decide +kernel
theorem hd_X3_isEqual : yX3_isEqual.cls ≠ "java/lang/invoke/MethodHandle" ∧ yX3_isEqual.cls ≠ "java/lang/invoke/VarHandle" ∧ (parseMethodDescriptor yX3_isEqual.desc).map (fun d => d.parameters.length) = some 1 := by decide +kernel
theorem hv_X3_isEqual : yX3_isEqual.cls = RX3 ∧ yX3_isEqual.cls ≠ "java/lang/invoke/MethodHandle" ∧ yX3_isEqual.cls ≠ "java/lang/invoke/VarHandle" ∧ (parseMethodDescriptor yX3_isEqual.desc).map (fun d => d.parameters.length) = some 1 := ⟨rfl, hd_X3_isEqual⟩
theorem pl_X3_isEqual : plainName yX3_isEqual.cls = true := by decide +kernel
theorem hd_X3_size : yX3_size.cls ≠ "java/lang/invoke/MethodHandle" ∧ yX3_size.cls ≠ "java/lang/invoke/VarHandle" ∧ (parseMethodDescriptor yX3_size.desc).map (fun d => d.parameters.length) = some 0 := by decide +kernel
theorem hv_X3_size : yX3_size.cls = RX3 ∧ yX3_size.cls ≠ "java/lang/invoke/MethodHandle" ∧ yX3_size.cls ≠ "java/lang/invoke/VarHandle" ∧ (parseMethodDescriptor yX3_size.desc).map (fun d => d.parameters.length) = some 0 := ⟨rfl, hd_X3_size⟩
theorem pl_X3_size : plainName yX3_size.cls = true := by decide +kernel
theorem hd_X3_along : yX3_along.cls ≠ "java/lang/invoke/MethodHandle" ∧ yX3_along.cls ≠ "java/lang/invoke/VarHandle" ∧ (parseMethodDescriptor yX3_along.desc).map (fun d => d.parameters.length) = some 2 := by decide +kernel
theorem hv_X3_along : yX3_along.cls = RX3 ∧ yX3_along.cls ≠ "java/lang/invoke/MethodHandle" ∧ yX3_along.cls ≠ "java/lang/invoke/VarHandle" ∧ (parseMethodDescriptor yX3_along.desc).map (fun d => d.parameters.length) = some 2 := ⟨rfl, hd_X3_along⟩
theorem pl_X3_along : plainName yX3_along.cls = true := by decide +kernel
theorem hd_X3_far : yX3_far.cls ≠ "java/lang/invoke/MethodHandle" ∧ yX3_far.cls ≠ "java/lang/invoke/VarHandle" ∧ (parseMethodDescriptor yX3_far.desc).map (fun d => d.parameters.length) = some 1 := by decide +kernel
theorem hv_X3_far : yX3_far.cls = RX3 ∧ yX3_far.cls ≠ "java/lang/invoke/MethodHandle" ∧ yX3_far.cls ≠ "java/lang/invoke/VarHandle" ∧ (parseMethodDescriptor yX3_far.desc).map (fun d => d.parameters.length) = some 1 := ⟨rfl, hd_X3_far⟩
theorem pl_X3_far : plainName yX3_far.cls = true := by decide +kernel
theorem hd_X8_init : yX8_init.cls ≠ "java/lang/invoke/MethodHandle" ∧ yX8_init.cls ≠ "java/lang/invoke/VarHandle" ∧ (parseMethodDescriptor yX8_init.desc).map (fun d => d.parameters.length) = some 2 := by decide +kernel
theorem hv_X8_init : yX8_init.cls = RX8 ∧ yX8_init.cls ≠ "java/lang/invoke/MethodHandle" ∧ yX8_init.cls ≠ "java/lang/invoke/VarHandle" ∧ (parseMethodDescriptor yX8_init.desc).map (fun d => d.parameters.length) = some 2 := ⟨rfl, hd_X8_init⟩
theorem pl_X8_init : plainName yX8_init.cls = true := by decide +kernel
theorem hd_X8_isSame : yX8_isSame.cls ≠ "java/lang/invoke/MethodHandle" ∧ yX8_isSame.cls ≠ "java/lang/invoke/VarHandle" ∧ (parseMethodDescriptor yX8_isSame.desc).map (fun d => d.parameters.length) = some 1 := by decide +kernel
theorem hv_X8_isSame : yX8_isSame.cls = RX8 ∧ yX8_isSame.cls ≠ "java/lang/invoke/MethodHandle" ∧ yX8_isSame.cls ≠ "java/lang/invoke/VarHandle" ∧ (parseMethodDescriptor yX8_isSame.desc).map (fun d => d.parameters.length) = some 1 := ⟨rfl, hd_X8_isSame⟩
theorem pl_X8_isSame : plainName yX8_isSame.cls = true := by decide +kernel
theorem hd_X8_isParallel : yX8_isParallel.cls ≠ "java/lang/invoke/MethodHandle" ∧ yX8_isParallel.cls ≠ "java/lang/invoke/VarHandle" ∧ (parseMethodDescriptor yX8_isParallel.desc).map (fun d => d.parameters.length) = some 1 := by decide +kernel
theorem hv_X8_isParallel : yX8_isParallel.cls = RX8 ∧ yX8_isParallel.cls ≠ "java/lang/invoke/MethodHandle" ∧ yX8_isParallel.cls ≠ "java/lang/invoke/VarHandle" ∧ (parseMethodDescriptor yX8_isParallel.desc).map (fun d => d.parameters.length) = some 1 := ⟨rfl, hd_X8_isParallel⟩
theorem pl_X8_isParallel : plainName yX8_isParallel.cls = true := by decide +kernel
theorem hd_X8_goesBy : yX8_goesBy.cls ≠ "java/lang/invoke/MethodHandle" ∧ yX8_goesBy.cls ≠ "java/lang/invoke/VarHandle" ∧ (parseMethodDescriptor yX8_goesBy.desc).map (fun d => d.parameters.length) = some 2 := by decide +kernel
theorem hv_X8_goesBy : yX8_goesBy.cls = RX8 ∧ yX8_goesBy.cls ≠ "java/lang/invoke/MethodHandle" ∧ yX8_goesBy.cls ≠ "java/lang/invoke/VarHandle" ∧ (parseMethodDescriptor yX8_goesBy.desc).map (fun d => d.parameters.length) = some 2 := ⟨rfl, hd_X8_goesBy⟩
theorem pl_X8_goesBy : plainName yX8_goesBy.cls = true := by decide +kernel
theorem hd_X5_init : yX5_init.cls ≠ "java/lang/invoke/MethodHandle" ∧ yX5_init.cls ≠ "java/lang/invoke/VarHandle" ∧ (parseMethodDescriptor yX5_init.desc).map (fun d => d.parameters.length) = some 1 := by decide +kernel
theorem hv_X5_init : yX5_init.cls = RX5 ∧ yX5_init.cls ≠ "java/lang/invoke/MethodHandle" ∧ yX5_init.cls ≠ "java/lang/invoke/VarHandle" ∧ (parseMethodDescriptor yX5_init.desc).map (fun d => d.parameters.length) = some 1 := ⟨rfl, hd_X5_init⟩
theorem pl_X5_init : plainName yX5_init.cls = true := by decide +kernel
theorem hd_X5_of : yX5_of.cls ≠ "java/lang/invoke/MethodHandle" ∧ yX5_of.cls ≠ "java/lang/invoke/VarHandle" ∧ (parseMethodDescriptor yX5_of.desc).map (fun d => d.parameters.length) = some 2 := by decide +kernel
theorem hv_X5_of : yX5_of.cls = RX5 ∧ yX5_of.cls ≠ "java/lang/invoke/MethodHandle" ∧ yX5_of.cls ≠ "java/lang/invoke/VarHandle" ∧ (parseMethodDescriptor yX5_of.desc).map (fun d => d.parameters.length) = some 2 := ⟨rfl, hd_X5_of⟩
theorem pl_X5_of : plainName yX5_of.cls = true := by decide +kernel
theorem hd_X6_init : yX6_init.cls ≠ "java/lang/invoke/MethodHandle" ∧ yX6_init.cls ≠ "java/lang/invoke/VarHandle" ∧ (parseMethodDescriptor yX6_init.desc).map (fun d => d.parameters.length) = some 1 := by decide +kernel
theorem hv_X6_init : yX6_init.cls = RX6 ∧ yX6_init.cls ≠ "java/lang/invoke/MethodHandle" ∧ yX6_init.cls ≠ "java/lang/invoke/VarHandle" ∧ (parseMethodDescriptor yX6_init.desc).map (fun d => d.parameters.length) = some 1 := ⟨rfl, hd_X6_init⟩
theorem pl_X6_init : plainName yX6_init.cls = true := by decide +kernel
theorem hd_X6_compare : yX6_compare.cls ≠ "java/lang/invoke/MethodHandle" ∧ yX6_compare.cls ≠ "java/lang/invoke/VarHandle" ∧ (parseMethodDescriptor yX6_compare.desc).map (fun d => d.parameters.length) = some 2 := by decide +kernel
theorem hv_X6_compare : yX6_compare.cls = RX6 ∧ yX6_compare.cls ≠ "java/lang/invoke/MethodHandle" ∧ yX6_compare.cls ≠ "java/lang/invoke/VarHandle" ∧ (parseMethodDescriptor yX6_compare.desc).map (fun d => d.parameters.length) = some 2 := ⟨rfl, hd_X6_compare⟩
theorem pl_X6_compare : plainName yX6_compare.cls = true := by decide +kernel
theorem hd_X6_half : yX6_half.cls ≠ "java/lang/invoke/MethodHandle" ∧ yX6_half.cls ≠ "java/lang/invoke/VarHandle" ∧ (parseMethodDescriptor yX6_half.desc).map (fun d => d.parameters.length) = some 1 := by decide +kernel
theorem hv_X6_half : yX6_half.cls = RX6 ∧ yX6_half.cls ≠ "java/lang/invoke/MethodHandle" ∧ yX6_half.cls ≠ "java/lang/invoke/VarHandle" ∧ (parseMethodDescriptor yX6_half.desc).map (fun d => d.parameters.length) = some 1 := ⟨rfl, hd_X6_half⟩
theorem pl_X6_half : plainName yX6_half.cls = true := by decide +kernel
theorem hd_X7_compare : yX7_compare.cls ≠ "java/lang/invoke/MethodHandle" ∧ yX7_compare.cls ≠ "java/lang/invoke/VarHandle" ∧ (parseMethodDescriptor yX7_compare.desc).map (fun d => d.parameters.length) = some 2 := by decide +kernel
theorem hv_X7_compare : yX7_compare.cls = RX7 ∧ yX7_compare.cls ≠ "java/lang/invoke/MethodHandle" ∧ yX7_compare.cls ≠ "java/lang/invoke/VarHandle" ∧ (parseMethodDescriptor yX7_compare.desc).map (fun d => d.parameters.length) = some 2 := ⟨rfl, hd_X7_compare⟩
theorem pl_X7_compare : plainName yX7_compare.cls = true := by decide +kernel
theorem hd_X7_init : yX7_init.cls ≠ "java/lang/invoke/MethodHandle" ∧ yX7_init.cls ≠ "java/lang/invoke/VarHandle" ∧ (parseMethodDescriptor yX7_init.desc).map (fun d => d.parameters.length) = some 0 := by decide +kernel
theorem hv_X7_init : yX7_init.cls = RX7 ∧ yX7_init.cls ≠ "java/lang/invoke/MethodHandle" ∧ yX7_init.cls ≠ "java/lang/invoke/VarHandle" ∧ (parseMethodDescriptor yX7_init.desc).map (fun d => d.parameters.length) = some 0 := ⟨rfl, hd_X7_init⟩
theorem pl_X7_init : plainName yX7_init.cls = true := by decide +kernel
theorem hd_X9_init : yX9_init.cls ≠ "java/lang/invoke/MethodHandle" ∧ yX9_init.cls ≠ "java/lang/invoke/VarHandle" ∧ (parseMethodDescriptor yX9_init.desc).map (fun d => d.parameters.length) = some 2 := by decide +kernel
theorem hv_X9_init : yX9_init.cls = RX9 ∧ yX9_init.cls ≠ "java/lang/invoke/MethodHandle" ∧ yX9_init.cls ≠ "java/lang/invoke/VarHandle" ∧ (parseMethodDescriptor yX9_init.desc).map (fun d => d.parameters.length) = some 2 := ⟨rfl, hd_X9_init⟩
theorem pl_X9_init : plainName yX9_init.cls = true := by decide +kernel
theorem hd_X9_add : yX9_add.cls ≠ "java/lang/invoke/MethodHandle" ∧ yX9_add.cls ≠ "java/lang/invoke/VarHandle" ∧ (parseMethodDescriptor yX9_add.desc).map (fun d => d.parameters.length) = some 1 := by decide +kernel
theorem hv_X9_add : yX9_add.cls = RX9 ∧ yX9_add.cls ≠ "java/lang/invoke/MethodHandle" ∧ yX9_add.cls ≠ "java/lang/invoke/VarHandle" ∧ (parseMethodDescriptor yX9_add.desc).map (fun d => d.parameters.length) = some 1 := ⟨rfl, hd_X9_add⟩
theorem pl_X9_add : plainName yX9_add.cls = true := by decide +kernel
theorem hd_X9_through : yX9_through.cls ≠ "java/lang/invoke/MethodHandle" ∧ yX9_through.cls ≠ "java/lang/invoke/VarHandle" ∧ (parseMethodDescriptor yX9_through.desc).map (fun d => d.parameters.length) = some 3 := by decide +kernel
theorem hv_X9_through : yX9_through.cls = RX9 ∧ yX9_through.cls ≠ "java/lang/invoke/MethodHandle" ∧ yX9_through.cls ≠ "java/lang/invoke/VarHandle" ∧ (parseMethodDescriptor yX9_through.desc).map (fun d => d.parameters.length) = some 3 := ⟨rfl, hd_X9_through⟩
theorem pl_X9_through : plainName yX9_through.cls = true := by decide +kernel
theorem hd_X9_pieces : yX9_pieces.cls ≠ "java/lang/invoke/MethodHandle" ∧ yX9_pieces.cls ≠ "java/lang/invoke/VarHandle" ∧ (parseMethodDescriptor yX9_pieces.desc).map (fun d => d.parameters.length) = some 0 := by decide +kernel
theorem hv_X9_pieces : yX9_pieces.cls = RX9 ∧ yX9_pieces.cls ≠ "java/lang/invoke/MethodHandle" ∧ yX9_pieces.cls ≠ "java/lang/invoke/VarHandle" ∧ (parseMethodDescriptor yX9_pieces.desc).map (fun d => d.parameters.length) = some 0 := ⟨rfl, hd_X9_pieces⟩
theorem pl_X9_pieces : plainName yX9_pieces.cls = true := by decide +kernel
theorem hd_X9_isFirstOn : yX9_isFirstOn.cls ≠ "java/lang/invoke/MethodHandle" ∧ yX9_isFirstOn.cls ≠ "java/lang/invoke/VarHandle" ∧ (parseMethodDescriptor yX9_isFirstOn.desc).map (fun d => d.parameters.length) = some 2 := by decide +kernel
theorem hv_X9_isFirstOn : yX9_isFirstOn.cls = RX9 ∧ yX9_isFirstOn.cls ≠ "java/lang/invoke/MethodHandle" ∧ yX9_isFirstOn.cls ≠ "java/lang/invoke/VarHandle" ∧ (parseMethodDescriptor yX9_isFirstOn.desc).map (fun d => d.parameters.length) = some 2 := ⟨rfl, hd_X9_isFirstOn⟩
theorem pl_X9_isFirstOn : plainName yX9_isFirstOn.cls = true := by decide +kernel
theorem hd_X2_thrown : yX2_thrown.cls ≠ "java/lang/invoke/MethodHandle" ∧ yX2_thrown.cls ≠ "java/lang/invoke/VarHandle" ∧ (parseMethodDescriptor yX2_thrown.desc).map (fun d => d.parameters.length) = some 0 := by decide +kernel
theorem hv_X2_thrown : yX2_thrown.cls = RX2 ∧ yX2_thrown.cls ≠ "java/lang/invoke/MethodHandle" ∧ yX2_thrown.cls ≠ "java/lang/invoke/VarHandle" ∧ (parseMethodDescriptor yX2_thrown.desc).map (fun d => d.parameters.length) = some 0 := ⟨rfl, hd_X2_thrown⟩
theorem pl_X2_thrown : plainName yX2_thrown.cls = true := by decide +kernel
theorem hd_X2_init : yX2_init.cls ≠ "java/lang/invoke/MethodHandle" ∧ yX2_init.cls ≠ "java/lang/invoke/VarHandle" ∧ (parseMethodDescriptor yX2_init.desc).map (fun d => d.parameters.length) = some 0 := by decide +kernel
theorem hv_X2_init : yX2_init.cls = RX2 ∧ yX2_init.cls ≠ "java/lang/invoke/MethodHandle" ∧ yX2_init.cls ≠ "java/lang/invoke/VarHandle" ∧ (parseMethodDescriptor yX2_init.desc).map (fun d => d.parameters.length) = some 0 := ⟨rfl, hd_X2_init⟩
theorem pl_X2_init : plainName yX2_init.cls = true := by decide +kernel
theorem hd_X2_point : yX2_point.cls ≠ "java/lang/invoke/MethodHandle" ∧ yX2_point.cls ≠ "java/lang/invoke/VarHandle" ∧ (parseMethodDescriptor yX2_point.desc).map (fun d => d.parameters.length) = some 3 := by decide +kernel
theorem hv_X2_point : yX2_point.cls = RX2 ∧ yX2_point.cls ≠ "java/lang/invoke/MethodHandle" ∧ yX2_point.cls ≠ "java/lang/invoke/VarHandle" ∧ (parseMethodDescriptor yX2_point.desc).map (fun d => d.parameters.length) = some 3 := ⟨rfl, hd_X2_point⟩
theorem pl_X2_point : plainName yX2_point.cls = true := by decide +kernel
theorem hd_X2_size : yX2_size.cls ≠ "java/lang/invoke/MethodHandle" ∧ yX2_size.cls ≠ "java/lang/invoke/VarHandle" ∧ (parseMethodDescriptor yX2_size.desc).map (fun d => d.parameters.length) = some 1 := by decide +kernel
theorem hv_X2_size : yX2_size.cls = RX2 ∧ yX2_size.cls ≠ "java/lang/invoke/MethodHandle" ∧ yX2_size.cls ≠ "java/lang/invoke/VarHandle" ∧ (parseMethodDescriptor yX2_size.desc).map (fun d => d.parameters.length) = some 1 := ⟨rfl, hd_X2_size⟩
theorem pl_X2_size : plainName yX2_size.cls = true := by decide +kernel
theorem hd_X2_fail : yX2_fail.cls ≠ "java/lang/invoke/MethodHandle" ∧ yX2_fail.cls ≠ "java/lang/invoke/VarHandle" ∧ (parseMethodDescriptor yX2_fail.desc).map (fun d => d.parameters.length) = some 1 := by decide +kernel
theorem hv_X2_fail : yX2_fail.cls = RX2 ∧ yX2_fail.cls ≠ "java/lang/invoke/MethodHandle" ∧ yX2_fail.cls ≠ "java/lang/invoke/VarHandle" ∧ (parseMethodDescriptor yX2_fail.desc).map (fun d => d.parameters.length) = some 1 := ⟨rfl, hd_X2_fail⟩
theorem pl_X2_fail : plainName yX2_fail.cls = true := by decide +kernel
theorem hd_X2_of : yX2_of.cls ≠ "java/lang/invoke/MethodHandle" ∧ yX2_of.cls ≠ "java/lang/invoke/VarHandle" ∧ (parseMethodDescriptor yX2_of.desc).map (fun d => d.parameters.length) = some 2 := by decide +kernel
theorem hv_X2_of : yX2_of.cls = RX2 ∧ yX2_of.cls ≠ "java/lang/invoke/MethodHandle" ∧ yX2_of.cls ≠ "java/lang/invoke/VarHandle" ∧ (parseMethodDescriptor yX2_of.desc).map (fun d => d.parameters.length) = some 2 := ⟨rfl, hd_X2_of⟩
theorem pl_X2_of : plainName yX2_of.cls = true := by decide +kernel
theorem hd_X2_isPoint : yX2_isPoint.cls ≠ "java/lang/invoke/MethodHandle" ∧ yX2_isPoint.cls ≠ "java/lang/invoke/VarHandle" ∧ (parseMethodDescriptor yX2_isPoint.desc).map (fun d => d.parameters.length) = some 1 := by decide +kernel
theorem hv_X2_isPoint : yX2_isPoint.cls = RX2 ∧ yX2_isPoint.cls ≠ "java/lang/invoke/MethodHandle" ∧ yX2_isPoint.cls ≠ "java/lang/invoke/VarHandle" ∧ (parseMethodDescriptor yX2_isPoint.desc).map (fun d => d.parameters.length) = some 1 := ⟨rfl, hd_X2_isPoint⟩
theorem pl_X2_isPoint : plainName yX2_isPoint.cls = true := by decide +kernel
theorem hd_X2_isPlace : yX2_isPlace.cls ≠ "java/lang/invoke/MethodHandle" ∧ yX2_isPlace.cls ≠ "java/lang/invoke/VarHandle" ∧ (parseMethodDescriptor yX2_isPlace.desc).map (fun d => d.parameters.length) = some 1 := by decide +kernel
theorem hv_X2_isPlace : yX2_isPlace.cls = RX2 ∧ yX2_isPlace.cls ≠ "java/lang/invoke/MethodHandle" ∧ yX2_isPlace.cls ≠ "java/lang/invoke/VarHandle" ∧ (parseMethodDescriptor yX2_isPlace.desc).map (fun d => d.parameters.length) = some 1 := ⟨rfl, hd_X2_isPlace⟩
theorem pl_X2_isPlace : plainName yX2_isPlace.cls = true := by decide +kernel
theorem hd_X2_at : yX2_at.cls ≠ "java/lang/invoke/MethodHandle" ∧ yX2_at.cls ≠ "java/lang/invoke/VarHandle" ∧ (parseMethodDescriptor yX2_at.desc).map (fun d => d.parameters.length) = some 2 := by decide +kernel
theorem hv_X2_at : yX2_at.cls = RX2 ∧ yX2_at.cls ≠ "java/lang/invoke/MethodHandle" ∧ yX2_at.cls ≠ "java/lang/invoke/VarHandle" ∧ (parseMethodDescriptor yX2_at.desc).map (fun d => d.parameters.length) = some 2 := ⟨rfl, hd_X2_at⟩
theorem pl_X2_at : plainName yX2_at.cls = true := by decide +kernel
theorem hd_X2_side : yX2_side.cls ≠ "java/lang/invoke/MethodHandle" ∧ yX2_side.cls ≠ "java/lang/invoke/VarHandle" ∧ (parseMethodDescriptor yX2_side.desc).map (fun d => d.parameters.length) = some 3 := by decide +kernel
theorem hv_X2_side : yX2_side.cls = RX2 ∧ yX2_side.cls ≠ "java/lang/invoke/MethodHandle" ∧ yX2_side.cls ≠ "java/lang/invoke/VarHandle" ∧ (parseMethodDescriptor yX2_side.desc).map (fun d => d.parameters.length) = some 3 := ⟨rfl, hd_X2_side⟩
theorem pl_X2_side : plainName yX2_side.cls = true := by decide +kernel
theorem hd_X2_areEqual : yX2_areEqual.cls ≠ "java/lang/invoke/MethodHandle" ∧ yX2_areEqual.cls ≠ "java/lang/invoke/VarHandle" ∧ (parseMethodDescriptor yX2_areEqual.desc).map (fun d => d.parameters.length) = some 2 := by decide +kernel
theorem hv_X2_areEqual : yX2_areEqual.cls = RX2 ∧ yX2_areEqual.cls ≠ "java/lang/invoke/MethodHandle" ∧ yX2_areEqual.cls ≠ "java/lang/invoke/VarHandle" ∧ (parseMethodDescriptor yX2_areEqual.desc).map (fun d => d.parameters.length) = some 2 := ⟨rfl, hd_X2_areEqual⟩
theorem pl_X2_areEqual : plainName yX2_areEqual.cls = true := by decide +kernel
theorem hd_X2_decidesTurn : yX2_decidesTurn.cls ≠ "java/lang/invoke/MethodHandle" ∧ yX2_decidesTurn.cls ≠ "java/lang/invoke/VarHandle" ∧ (parseMethodDescriptor yX2_decidesTurn.desc).map (fun d => d.parameters.length) = some 3 := by decide +kernel
theorem hv_X2_decidesTurn : yX2_decidesTurn.cls = RX2 ∧ yX2_decidesTurn.cls ≠ "java/lang/invoke/MethodHandle" ∧ yX2_decidesTurn.cls ≠ "java/lang/invoke/VarHandle" ∧ (parseMethodDescriptor yX2_decidesTurn.desc).map (fun d => d.parameters.length) = some 3 := ⟨rfl, hd_X2_decidesTurn⟩
theorem pl_X2_decidesTurn : plainName yX2_decidesTurn.cls = true := by decide +kernel
theorem hd_X2_fx : yX2_fx.cls ≠ "java/lang/invoke/MethodHandle" ∧ yX2_fx.cls ≠ "java/lang/invoke/VarHandle" ∧ (parseMethodDescriptor yX2_fx.desc).map (fun d => d.parameters.length) = some 1 := by decide +kernel
theorem hv_X2_fx : yX2_fx.cls = RX2 ∧ yX2_fx.cls ≠ "java/lang/invoke/MethodHandle" ∧ yX2_fx.cls ≠ "java/lang/invoke/VarHandle" ∧ (parseMethodDescriptor yX2_fx.desc).map (fun d => d.parameters.length) = some 1 := ⟨rfl, hd_X2_fx⟩
theorem pl_X2_fx : plainName yX2_fx.cls = true := by decide +kernel
theorem hd_X2_fy : yX2_fy.cls ≠ "java/lang/invoke/MethodHandle" ∧ yX2_fy.cls ≠ "java/lang/invoke/VarHandle" ∧ (parseMethodDescriptor yX2_fy.desc).map (fun d => d.parameters.length) = some 1 := by decide +kernel
theorem hv_X2_fy : yX2_fy.cls = RX2 ∧ yX2_fy.cls ≠ "java/lang/invoke/MethodHandle" ∧ yX2_fy.cls ≠ "java/lang/invoke/VarHandle" ∧ (parseMethodDescriptor yX2_fy.desc).map (fun d => d.parameters.length) = some 1 := ⟨rfl, hd_X2_fy⟩
theorem pl_X2_fy : plainName yX2_fy.cls = true := by decide +kernel
theorem hd_X2_most : yX2_most.cls ≠ "java/lang/invoke/MethodHandle" ∧ yX2_most.cls ≠ "java/lang/invoke/VarHandle" ∧ (parseMethodDescriptor yX2_most.desc).map (fun d => d.parameters.length) = some 3 := by decide +kernel
theorem hv_X2_most : yX2_most.cls = RX2 ∧ yX2_most.cls ≠ "java/lang/invoke/MethodHandle" ∧ yX2_most.cls ≠ "java/lang/invoke/VarHandle" ∧ (parseMethodDescriptor yX2_most.desc).map (fun d => d.parameters.length) = some 3 := ⟨rfl, hd_X2_most⟩
theorem pl_X2_most : plainName yX2_most.cls = true := by decide +kernel
theorem hd_X2_size_2 : yX2_size_2.cls ≠ "java/lang/invoke/MethodHandle" ∧ yX2_size_2.cls ≠ "java/lang/invoke/VarHandle" ∧ (parseMethodDescriptor yX2_size_2.desc).map (fun d => d.parameters.length) = some 1 := by decide +kernel
theorem hv_X2_size_2 : yX2_size_2.cls = RX2 ∧ yX2_size_2.cls ≠ "java/lang/invoke/MethodHandle" ∧ yX2_size_2.cls ≠ "java/lang/invoke/VarHandle" ∧ (parseMethodDescriptor yX2_size_2.desc).map (fun d => d.parameters.length) = some 1 := ⟨rfl, hd_X2_size_2⟩
theorem pl_X2_size_2 : plainName yX2_size_2.cls = true := by decide +kernel
theorem hd_X2_greater : yX2_greater.cls ≠ "java/lang/invoke/MethodHandle" ∧ yX2_greater.cls ≠ "java/lang/invoke/VarHandle" ∧ (parseMethodDescriptor yX2_greater.desc).map (fun d => d.parameters.length) = some 2 := by decide +kernel
theorem hv_X2_greater : yX2_greater.cls = RX2 ∧ yX2_greater.cls ≠ "java/lang/invoke/MethodHandle" ∧ yX2_greater.cls ≠ "java/lang/invoke/VarHandle" ∧ (parseMethodDescriptor yX2_greater.desc).map (fun d => d.parameters.length) = some 2 := ⟨rfl, hd_X2_greater⟩
theorem pl_X2_greater : plainName yX2_greater.cls = true := by decide +kernel
theorem hd_X2_turn : yX2_turn.cls ≠ "java/lang/invoke/MethodHandle" ∧ yX2_turn.cls ≠ "java/lang/invoke/VarHandle" ∧ (parseMethodDescriptor yX2_turn.desc).map (fun d => d.parameters.length) = some 3 := by decide +kernel
theorem hv_X2_turn : yX2_turn.cls = RX2 ∧ yX2_turn.cls ≠ "java/lang/invoke/MethodHandle" ∧ yX2_turn.cls ≠ "java/lang/invoke/VarHandle" ∧ (parseMethodDescriptor yX2_turn.desc).map (fun d => d.parameters.length) = some 3 := ⟨rfl, hd_X2_turn⟩
theorem pl_X2_turn : plainName yX2_turn.cls = true := by decide +kernel
theorem hd_X2_signOf : yX2_signOf.cls ≠ "java/lang/invoke/MethodHandle" ∧ yX2_signOf.cls ≠ "java/lang/invoke/VarHandle" ∧ (parseMethodDescriptor yX2_signOf.desc).map (fun d => d.parameters.length) = some 1 := by decide +kernel
theorem hv_X2_signOf : yX2_signOf.cls = RX2 ∧ yX2_signOf.cls ≠ "java/lang/invoke/MethodHandle" ∧ yX2_signOf.cls ≠ "java/lang/invoke/VarHandle" ∧ (parseMethodDescriptor yX2_signOf.desc).map (fun d => d.parameters.length) = some 1 := ⟨rfl, hd_X2_signOf⟩
theorem pl_X2_signOf : plainName yX2_signOf.cls = true := by decide +kernel
theorem hd_X2_counted : yX2_counted.cls ≠ "java/lang/invoke/MethodHandle" ∧ yX2_counted.cls ≠ "java/lang/invoke/VarHandle" ∧ (parseMethodDescriptor yX2_counted.desc).map (fun d => d.parameters.length) = some 2 := by decide +kernel
theorem hv_X2_counted : yX2_counted.cls = RX2 ∧ yX2_counted.cls ≠ "java/lang/invoke/MethodHandle" ∧ yX2_counted.cls ≠ "java/lang/invoke/VarHandle" ∧ (parseMethodDescriptor yX2_counted.desc).map (fun d => d.parameters.length) = some 2 := ⟨rfl, hd_X2_counted⟩
theorem pl_X2_counted : plainName yX2_counted.cls = true := by decide +kernel
theorem hd_X2_circle : yX2_circle.cls ≠ "java/lang/invoke/MethodHandle" ∧ yX2_circle.cls ≠ "java/lang/invoke/VarHandle" ∧ (parseMethodDescriptor yX2_circle.desc).map (fun d => d.parameters.length) = some 4 := by decide +kernel
theorem hv_X2_circle : yX2_circle.cls = RX2 ∧ yX2_circle.cls ≠ "java/lang/invoke/MethodHandle" ∧ yX2_circle.cls ≠ "java/lang/invoke/VarHandle" ∧ (parseMethodDescriptor yX2_circle.desc).map (fun d => d.parameters.length) = some 4 := ⟨rfl, hd_X2_circle⟩
theorem pl_X2_circle : plainName yX2_circle.cls = true := by decide +kernel
theorem hd_X2_decidesRing : yX2_decidesRing.cls ≠ "java/lang/invoke/MethodHandle" ∧ yX2_decidesRing.cls ≠ "java/lang/invoke/VarHandle" ∧ (parseMethodDescriptor yX2_decidesRing.desc).map (fun d => d.parameters.length) = some 4 := by decide +kernel
theorem hv_X2_decidesRing : yX2_decidesRing.cls = RX2 ∧ yX2_decidesRing.cls ≠ "java/lang/invoke/MethodHandle" ∧ yX2_decidesRing.cls ≠ "java/lang/invoke/VarHandle" ∧ (parseMethodDescriptor yX2_decidesRing.desc).map (fun d => d.parameters.length) = some 4 := ⟨rfl, hd_X2_decidesRing⟩
theorem pl_X2_decidesRing : plainName yX2_decidesRing.cls = true := by decide +kernel
theorem hd_X2_ring : yX2_ring.cls ≠ "java/lang/invoke/MethodHandle" ∧ yX2_ring.cls ≠ "java/lang/invoke/VarHandle" ∧ (parseMethodDescriptor yX2_ring.desc).map (fun d => d.parameters.length) = some 4 := by decide +kernel
theorem hv_X2_ring : yX2_ring.cls = RX2 ∧ yX2_ring.cls ≠ "java/lang/invoke/MethodHandle" ∧ yX2_ring.cls ≠ "java/lang/invoke/VarHandle" ∧ (parseMethodDescriptor yX2_ring.desc).map (fun d => d.parameters.length) = some 4 := ⟨rfl, hd_X2_ring⟩
theorem pl_X2_ring : plainName yX2_ring.cls = true := by decide +kernel
theorem hd_X2_filter : yX2_filter.cls ≠ "java/lang/invoke/MethodHandle" ∧ yX2_filter.cls ≠ "java/lang/invoke/VarHandle" ∧ (parseMethodDescriptor yX2_filter.desc).map (fun d => d.parameters.length) = some 1 := by decide +kernel
theorem hv_X2_filter : yX2_filter.cls = RX2 ∧ yX2_filter.cls ≠ "java/lang/invoke/MethodHandle" ∧ yX2_filter.cls ≠ "java/lang/invoke/VarHandle" ∧ (parseMethodDescriptor yX2_filter.desc).map (fun d => d.parameters.length) = some 1 := ⟨rfl, hd_X2_filter⟩
theorem pl_X2_filter : plainName yX2_filter.cls = true := by decide +kernel
theorem hd_X2_decided : yX2_decided.cls ≠ "java/lang/invoke/MethodHandle" ∧ yX2_decided.cls ≠ "java/lang/invoke/VarHandle" ∧ (parseMethodDescriptor yX2_decided.desc).map (fun d => d.parameters.length) = some 1 := by decide +kernel
theorem hv_X2_decided : yX2_decided.cls = RX2 ∧ yX2_decided.cls ≠ "java/lang/invoke/MethodHandle" ∧ yX2_decided.cls ≠ "java/lang/invoke/VarHandle" ∧ (parseMethodDescriptor yX2_decided.desc).map (fun d => d.parameters.length) = some 1 := ⟨rfl, hd_X2_decided⟩
theorem pl_X2_decided : plainName yX2_decided.cls = true := by decide +kernel
theorem hd_X2_between : yX2_between.cls ≠ "java/lang/invoke/MethodHandle" ∧ yX2_between.cls ≠ "java/lang/invoke/VarHandle" ∧ (parseMethodDescriptor yX2_between.desc).map (fun d => d.parameters.length) = some 3 := by decide +kernel
theorem hv_X2_between : yX2_between.cls = RX2 ∧ yX2_between.cls ≠ "java/lang/invoke/MethodHandle" ∧ yX2_between.cls ≠ "java/lang/invoke/VarHandle" ∧ (parseMethodDescriptor yX2_between.desc).map (fun d => d.parameters.length) = some 3 := ⟨rfl, hd_X2_between⟩
theorem pl_X2_between : plainName yX2_between.cls = true := by decide +kernel
theorem hd_X2_isOn : yX2_isOn.cls ≠ "java/lang/invoke/MethodHandle" ∧ yX2_isOn.cls ≠ "java/lang/invoke/VarHandle" ∧ (parseMethodDescriptor yX2_isOn.desc).map (fun d => d.parameters.length) = some 3 := by decide +kernel
theorem hv_X2_isOn : yX2_isOn.cls = RX2 ∧ yX2_isOn.cls ≠ "java/lang/invoke/MethodHandle" ∧ yX2_isOn.cls ≠ "java/lang/invoke/VarHandle" ∧ (parseMethodDescriptor yX2_isOn.desc).map (fun d => d.parameters.length) = some 3 := ⟨rfl, hd_X2_isOn⟩
theorem pl_X2_isOn : plainName yX2_isOn.cls = true := by decide +kernel
theorem hd_X2_along : yX2_along.cls ≠ "java/lang/invoke/MethodHandle" ∧ yX2_along.cls ≠ "java/lang/invoke/VarHandle" ∧ (parseMethodDescriptor yX2_along.desc).map (fun d => d.parameters.length) = some 3 := by decide +kernel
theorem hv_X2_along : yX2_along.cls = RX2 ∧ yX2_along.cls ≠ "java/lang/invoke/MethodHandle" ∧ yX2_along.cls ≠ "java/lang/invoke/VarHandle" ∧ (parseMethodDescriptor yX2_along.desc).map (fun d => d.parameters.length) = some 3 := ⟨rfl, hd_X2_along⟩
theorem pl_X2_along : plainName yX2_along.cls = true := by decide +kernel
theorem hd_X2_inside : yX2_inside.cls ≠ "java/lang/invoke/MethodHandle" ∧ yX2_inside.cls ≠ "java/lang/invoke/VarHandle" ∧ (parseMethodDescriptor yX2_inside.desc).map (fun d => d.parameters.length) = some 4 := by decide +kernel
theorem hv_X2_inside : yX2_inside.cls = RX2 ∧ yX2_inside.cls ≠ "java/lang/invoke/MethodHandle" ∧ yX2_inside.cls ≠ "java/lang/invoke/VarHandle" ∧ (parseMethodDescriptor yX2_inside.desc).map (fun d => d.parameters.length) = some 4 := ⟨rfl, hd_X2_inside⟩
theorem pl_X2_inside : plainName yX2_inside.cls = true := by decide +kernel
theorem hd_X2_isOneWay : yX2_isOneWay.cls ≠ "java/lang/invoke/MethodHandle" ∧ yX2_isOneWay.cls ≠ "java/lang/invoke/VarHandle" ∧ (parseMethodDescriptor yX2_isOneWay.desc).map (fun d => d.parameters.length) = some 3 := by decide +kernel
theorem hv_X2_isOneWay : yX2_isOneWay.cls = RX2 ∧ yX2_isOneWay.cls ≠ "java/lang/invoke/MethodHandle" ∧ yX2_isOneWay.cls ≠ "java/lang/invoke/VarHandle" ∧ (parseMethodDescriptor yX2_isOneWay.desc).map (fun d => d.parameters.length) = some 3 := ⟨rfl, hd_X2_isOneWay⟩
theorem pl_X2_isOneWay : plainName yX2_isOneWay.cls = true := by decide +kernel
theorem hd_X2_cross : yX2_cross.cls ≠ "java/lang/invoke/MethodHandle" ∧ yX2_cross.cls ≠ "java/lang/invoke/VarHandle" ∧ (parseMethodDescriptor yX2_cross.desc).map (fun d => d.parameters.length) = some 4 := by decide +kernel
theorem hv_X2_cross : yX2_cross.cls = RX2 ∧ yX2_cross.cls ≠ "java/lang/invoke/MethodHandle" ∧ yX2_cross.cls ≠ "java/lang/invoke/VarHandle" ∧ (parseMethodDescriptor yX2_cross.desc).map (fun d => d.parameters.length) = some 4 := ⟨rfl, hd_X2_cross⟩
theorem pl_X2_cross : plainName yX2_cross.cls = true := by decide +kernel
theorem hd_X2_common : yX2_common.cls ≠ "java/lang/invoke/MethodHandle" ∧ yX2_common.cls ≠ "java/lang/invoke/VarHandle" ∧ (parseMethodDescriptor yX2_common.desc).map (fun d => d.parameters.length) = some 4 := by decide +kernel
theorem hv_X2_common : yX2_common.cls = RX2 ∧ yX2_common.cls ≠ "java/lang/invoke/MethodHandle" ∧ yX2_common.cls ≠ "java/lang/invoke/VarHandle" ∧ (parseMethodDescriptor yX2_common.desc).map (fun d => d.parameters.length) = some 4 := ⟨rfl, hd_X2_common⟩
theorem pl_X2_common : plainName yX2_common.cls = true := by decide +kernel
theorem hd_X2_separated : yX2_separated.cls ≠ "java/lang/invoke/MethodHandle" ∧ yX2_separated.cls ≠ "java/lang/invoke/VarHandle" ∧ (parseMethodDescriptor yX2_separated.desc).map (fun d => d.parameters.length) = some 4 := by decide +kernel
theorem hv_X2_separated : yX2_separated.cls = RX2 ∧ yX2_separated.cls ≠ "java/lang/invoke/MethodHandle" ∧ yX2_separated.cls ≠ "java/lang/invoke/VarHandle" ∧ (parseMethodDescriptor yX2_separated.desc).map (fun d => d.parameters.length) = some 4 := ⟨rfl, hd_X2_separated⟩
theorem pl_X2_separated : plainName yX2_separated.cls = true := by decide +kernel
theorem hd_X2_convex : yX2_convex.cls ≠ "java/lang/invoke/MethodHandle" ∧ yX2_convex.cls ≠ "java/lang/invoke/VarHandle" ∧ (parseMethodDescriptor yX2_convex.desc).map (fun d => d.parameters.length) = some 1 := by decide +kernel
theorem hv_X2_convex : yX2_convex.cls = RX2 ∧ yX2_convex.cls ≠ "java/lang/invoke/MethodHandle" ∧ yX2_convex.cls ≠ "java/lang/invoke/VarHandle" ∧ (parseMethodDescriptor yX2_convex.desc).map (fun d => d.parameters.length) = some 1 := ⟨rfl, hd_X2_convex⟩
theorem pl_X2_convex : plainName yX2_convex.cls = true := by decide +kernel
theorem hd_X2_isMany : yX2_isMany.cls ≠ "java/lang/invoke/MethodHandle" ∧ yX2_isMany.cls ≠ "java/lang/invoke/VarHandle" ∧ (parseMethodDescriptor yX2_isMany.desc).map (fun d => d.parameters.length) = some 2 := by decide +kernel
theorem hv_X2_isMany : yX2_isMany.cls = RX2 ∧ yX2_isMany.cls ≠ "java/lang/invoke/MethodHandle" ∧ yX2_isMany.cls ≠ "java/lang/invoke/VarHandle" ∧ (parseMethodDescriptor yX2_isMany.desc).map (fun d => d.parameters.length) = some 2 := ⟨rfl, hd_X2_isMany⟩
theorem pl_X2_isMany : plainName yX2_isMany.cls = true := by decide +kernel
theorem hd_X2_isWhole : yX2_isWhole.cls ≠ "java/lang/invoke/MethodHandle" ∧ yX2_isWhole.cls ≠ "java/lang/invoke/VarHandle" ∧ (parseMethodDescriptor yX2_isWhole.desc).map (fun d => d.parameters.length) = some 1 := by decide +kernel
theorem hv_X2_isWhole : yX2_isWhole.cls = RX2 ∧ yX2_isWhole.cls ≠ "java/lang/invoke/MethodHandle" ∧ yX2_isWhole.cls ≠ "java/lang/invoke/VarHandle" ∧ (parseMethodDescriptor yX2_isWhole.desc).map (fun d => d.parameters.length) = some 1 := ⟨rfl, hd_X2_isWhole⟩
theorem pl_X2_isWhole : plainName yX2_isWhole.cls = true := by decide +kernel
theorem hd_X2_next : yX2_next.cls ≠ "java/lang/invoke/MethodHandle" ∧ yX2_next.cls ≠ "java/lang/invoke/VarHandle" ∧ (parseMethodDescriptor yX2_next.desc).map (fun d => d.parameters.length) = some 2 := by decide +kernel
theorem hv_X2_next : yX2_next.cls = RX2 ∧ yX2_next.cls ≠ "java/lang/invoke/MethodHandle" ∧ yX2_next.cls ≠ "java/lang/invoke/VarHandle" ∧ (parseMethodDescriptor yX2_next.desc).map (fun d => d.parameters.length) = some 2 := ⟨rfl, hd_X2_next⟩
theorem pl_X2_next : plainName yX2_next.cls = true := by decide +kernel
theorem hd_X2_polygon : yX2_polygon.cls ≠ "java/lang/invoke/MethodHandle" ∧ yX2_polygon.cls ≠ "java/lang/invoke/VarHandle" ∧ (parseMethodDescriptor yX2_polygon.desc).map (fun d => d.parameters.length) = some 2 := by decide +kernel
theorem hv_X2_polygon : yX2_polygon.cls = RX2 ∧ yX2_polygon.cls ≠ "java/lang/invoke/MethodHandle" ∧ yX2_polygon.cls ≠ "java/lang/invoke/VarHandle" ∧ (parseMethodDescriptor yX2_polygon.desc).map (fun d => d.parameters.length) = some 2 := ⟨rfl, hd_X2_polygon⟩
theorem pl_X2_polygon : plainName yX2_polygon.cls = true := by decide +kernel
theorem hd_X2_isOnEdge : yX2_isOnEdge.cls ≠ "java/lang/invoke/MethodHandle" ∧ yX2_isOnEdge.cls ≠ "java/lang/invoke/VarHandle" ∧ (parseMethodDescriptor yX2_isOnEdge.desc).map (fun d => d.parameters.length) = some 2 := by decide +kernel
theorem hv_X2_isOnEdge : yX2_isOnEdge.cls = RX2 ∧ yX2_isOnEdge.cls ≠ "java/lang/invoke/MethodHandle" ∧ yX2_isOnEdge.cls ≠ "java/lang/invoke/VarHandle" ∧ (parseMethodDescriptor yX2_isOnEdge.desc).map (fun d => d.parameters.length) = some 2 := ⟨rfl, hd_X2_isOnEdge⟩
theorem pl_X2_isOnEdge : plainName yX2_isOnEdge.cls = true := by decide +kernel
theorem hd_X2_rises : yX2_rises.cls ≠ "java/lang/invoke/MethodHandle" ∧ yX2_rises.cls ≠ "java/lang/invoke/VarHandle" ∧ (parseMethodDescriptor yX2_rises.desc).map (fun d => d.parameters.length) = some 3 := by decide +kernel
theorem hv_X2_rises : yX2_rises.cls = RX2 ∧ yX2_rises.cls ≠ "java/lang/invoke/MethodHandle" ∧ yX2_rises.cls ≠ "java/lang/invoke/VarHandle" ∧ (parseMethodDescriptor yX2_rises.desc).map (fun d => d.parameters.length) = some 3 := ⟨rfl, hd_X2_rises⟩
theorem pl_X2_rises : plainName yX2_rises.cls = true := by decide +kernel
theorem hd_X2_winding : yX2_winding.cls ≠ "java/lang/invoke/MethodHandle" ∧ yX2_winding.cls ≠ "java/lang/invoke/VarHandle" ∧ (parseMethodDescriptor yX2_winding.desc).map (fun d => d.parameters.length) = some 2 := by decide +kernel
theorem hv_X2_winding : yX2_winding.cls = RX2 ∧ yX2_winding.cls ≠ "java/lang/invoke/MethodHandle" ∧ yX2_winding.cls ≠ "java/lang/invoke/VarHandle" ∧ (parseMethodDescriptor yX2_winding.desc).map (fun d => d.parameters.length) = some 2 := ⟨rfl, hd_X2_winding⟩
theorem pl_X2_winding : plainName yX2_winding.cls = true := by decide +kernel
theorem hd_X2_nearest : yX2_nearest.cls ≠ "java/lang/invoke/MethodHandle" ∧ yX2_nearest.cls ≠ "java/lang/invoke/VarHandle" ∧ (parseMethodDescriptor yX2_nearest.desc).map (fun d => d.parameters.length) = some 2 := by decide +kernel
theorem hv_X2_nearest : yX2_nearest.cls = RX2 ∧ yX2_nearest.cls ≠ "java/lang/invoke/MethodHandle" ∧ yX2_nearest.cls ≠ "java/lang/invoke/VarHandle" ∧ (parseMethodDescriptor yX2_nearest.desc).map (fun d => d.parameters.length) = some 2 := ⟨rfl, hd_X2_nearest⟩
theorem pl_X2_nearest : plainName yX2_nearest.cls = true := by decide +kernel
theorem hd_X2_far : yX2_far.cls ≠ "java/lang/invoke/MethodHandle" ∧ yX2_far.cls ≠ "java/lang/invoke/VarHandle" ∧ (parseMethodDescriptor yX2_far.desc).map (fun d => d.parameters.length) = some 2 := by decide +kernel
theorem hv_X2_far : yX2_far.cls = RX2 ∧ yX2_far.cls ≠ "java/lang/invoke/MethodHandle" ∧ yX2_far.cls ≠ "java/lang/invoke/VarHandle" ∧ (parseMethodDescriptor yX2_far.desc).map (fun d => d.parameters.length) = some 2 := ⟨rfl, hd_X2_far⟩
theorem pl_X2_far : plainName yX2_far.cls = true := by decide +kernel
theorem hd_X2_around : yX2_around.cls ≠ "java/lang/invoke/MethodHandle" ∧ yX2_around.cls ≠ "java/lang/invoke/VarHandle" ∧ (parseMethodDescriptor yX2_around.desc).map (fun d => d.parameters.length) = some 3 := by decide +kernel
theorem hv_X2_around : yX2_around.cls = RX2 ∧ yX2_around.cls ≠ "java/lang/invoke/MethodHandle" ∧ yX2_around.cls ≠ "java/lang/invoke/VarHandle" ∧ (parseMethodDescriptor yX2_around.desc).map (fun d => d.parameters.length) = some 3 := ⟨rfl, hd_X2_around⟩
theorem pl_X2_around : plainName yX2_around.cls = true := by decide +kernel
theorem hd_X2_isAhead : yX2_isAhead.cls ≠ "java/lang/invoke/MethodHandle" ∧ yX2_isAhead.cls ≠ "java/lang/invoke/VarHandle" ∧ (parseMethodDescriptor yX2_isAhead.desc).map (fun d => d.parameters.length) = some 3 := by decide +kernel
theorem hv_X2_isAhead : yX2_isAhead.cls = RX2 ∧ yX2_isAhead.cls ≠ "java/lang/invoke/MethodHandle" ∧ yX2_isAhead.cls ≠ "java/lang/invoke/VarHandle" ∧ (parseMethodDescriptor yX2_isAhead.desc).map (fun d => d.parameters.length) = some 3 := ⟨rfl, hd_X2_isAhead⟩
theorem pl_X2_isAhead : plainName yX2_isAhead.cls = true := by decide +kernel
theorem hd_X2_half : yX2_half.cls ≠ "java/lang/invoke/MethodHandle" ∧ yX2_half.cls ≠ "java/lang/invoke/VarHandle" ∧ (parseMethodDescriptor yX2_half.desc).map (fun d => d.parameters.length) = some 2 := by decide +kernel
theorem hv_X2_half : yX2_half.cls = RX2 ∧ yX2_half.cls ≠ "java/lang/invoke/MethodHandle" ∧ yX2_half.cls ≠ "java/lang/invoke/VarHandle" ∧ (parseMethodDescriptor yX2_half.desc).map (fun d => d.parameters.length) = some 2 := ⟨rfl, hd_X2_half⟩
theorem pl_X2_half : plainName yX2_half.cls = true := by decide +kernel
theorem hd_X2_order : yX2_order.cls ≠ "java/lang/invoke/MethodHandle" ∧ yX2_order.cls ≠ "java/lang/invoke/VarHandle" ∧ (parseMethodDescriptor yX2_order.desc).map (fun d => d.parameters.length) = some 2 := by decide +kernel
theorem hv_X2_order : yX2_order.cls = RX2 ∧ yX2_order.cls ≠ "java/lang/invoke/MethodHandle" ∧ yX2_order.cls ≠ "java/lang/invoke/VarHandle" ∧ (parseMethodDescriptor yX2_order.desc).map (fun d => d.parameters.length) = some 2 := ⟨rfl, hd_X2_order⟩
theorem pl_X2_order : plainName yX2_order.cls = true := by decide +kernel
theorem hd_X2_isLess : yX2_isLess.cls ≠ "java/lang/invoke/MethodHandle" ∧ yX2_isLess.cls ≠ "java/lang/invoke/VarHandle" ∧ (parseMethodDescriptor yX2_isLess.desc).map (fun d => d.parameters.length) = some 2 := by decide +kernel
theorem hv_X2_isLess : yX2_isLess.cls = RX2 ∧ yX2_isLess.cls ≠ "java/lang/invoke/MethodHandle" ∧ yX2_isLess.cls ≠ "java/lang/invoke/VarHandle" ∧ (parseMethodDescriptor yX2_isLess.desc).map (fun d => d.parameters.length) = some 2 := ⟨rfl, hd_X2_isLess⟩
theorem pl_X2_isLess : plainName yX2_isLess.cls = true := by decide +kernel
theorem hd_X2_area : yX2_area.cls ≠ "java/lang/invoke/MethodHandle" ∧ yX2_area.cls ≠ "java/lang/invoke/VarHandle" ∧ (parseMethodDescriptor yX2_area.desc).map (fun d => d.parameters.length) = some 2 := by decide +kernel
theorem hv_X2_area : yX2_area.cls = RX2 ∧ yX2_area.cls ≠ "java/lang/invoke/MethodHandle" ∧ yX2_area.cls ≠ "java/lang/invoke/VarHandle" ∧ (parseMethodDescriptor yX2_area.desc).map (fun d => d.parameters.length) = some 2 := ⟨rfl, hd_X2_area⟩
theorem pl_X2_area : plainName yX2_area.cls = true := by decide +kernel
theorem hd_X2_line : yX2_line.cls ≠ "java/lang/invoke/MethodHandle" ∧ yX2_line.cls ≠ "java/lang/invoke/VarHandle" ∧ (parseMethodDescriptor yX2_line.desc).map (fun d => d.parameters.length) = some 2 := by decide +kernel
theorem hv_X2_line : yX2_line.cls = RX2 ∧ yX2_line.cls ≠ "java/lang/invoke/MethodHandle" ∧ yX2_line.cls ≠ "java/lang/invoke/VarHandle" ∧ (parseMethodDescriptor yX2_line.desc).map (fun d => d.parameters.length) = some 2 := ⟨rfl, hd_X2_line⟩
theorem pl_X2_line : plainName yX2_line.cls = true := by decide +kernel
theorem hd_X2_lines : yX2_lines.cls ≠ "java/lang/invoke/MethodHandle" ∧ yX2_lines.cls ≠ "java/lang/invoke/VarHandle" ∧ (parseMethodDescriptor yX2_lines.desc).map (fun d => d.parameters.length) = some 2 := by decide +kernel
theorem hv_X2_lines : yX2_lines.cls = RX2 ∧ yX2_lines.cls ≠ "java/lang/invoke/MethodHandle" ∧ yX2_lines.cls ≠ "java/lang/invoke/VarHandle" ∧ (parseMethodDescriptor yX2_lines.desc).map (fun d => d.parameters.length) = some 2 := ⟨rfl, hd_X2_lines⟩
theorem pl_X2_lines : plainName yX2_lines.cls = true := by decide +kernel
theorem hd_X2_isNew : yX2_isNew.cls ≠ "java/lang/invoke/MethodHandle" ∧ yX2_isNew.cls ≠ "java/lang/invoke/VarHandle" ∧ (parseMethodDescriptor yX2_isNew.desc).map (fun d => d.parameters.length) = some 1 := by decide +kernel
theorem hv_X2_isNew : yX2_isNew.cls = RX2 ∧ yX2_isNew.cls ≠ "java/lang/invoke/MethodHandle" ∧ yX2_isNew.cls ≠ "java/lang/invoke/VarHandle" ∧ (parseMethodDescriptor yX2_isNew.desc).map (fun d => d.parameters.length) = some 1 := ⟨rfl, hd_X2_isNew⟩
theorem pl_X2_isNew : plainName yX2_isNew.cls = true := by decide +kernel
theorem hd_X2_isOne : yX2_isOne.cls ≠ "java/lang/invoke/MethodHandle" ∧ yX2_isOne.cls ≠ "java/lang/invoke/VarHandle" ∧ (parseMethodDescriptor yX2_isOne.desc).map (fun d => d.parameters.length) = some 2 := by decide +kernel
theorem hv_X2_isOne : yX2_isOne.cls = RX2 ∧ yX2_isOne.cls ≠ "java/lang/invoke/MethodHandle" ∧ yX2_isOne.cls ≠ "java/lang/invoke/VarHandle" ∧ (parseMethodDescriptor yX2_isOne.desc).map (fun d => d.parameters.length) = some 2 := ⟨rfl, hd_X2_isOne⟩
theorem pl_X2_isOne : plainName yX2_isOne.cls = true := by decide +kernel
theorem hd_X2_both : yX2_both.cls ≠ "java/lang/invoke/MethodHandle" ∧ yX2_both.cls ≠ "java/lang/invoke/VarHandle" ∧ (parseMethodDescriptor yX2_both.desc).map (fun d => d.parameters.length) = some 2 := by decide +kernel
theorem hv_X2_both : yX2_both.cls = RX2 ∧ yX2_both.cls ≠ "java/lang/invoke/MethodHandle" ∧ yX2_both.cls ≠ "java/lang/invoke/VarHandle" ∧ (parseMethodDescriptor yX2_both.desc).map (fun d => d.parameters.length) = some 2 := ⟨rfl, hd_X2_both⟩
theorem pl_X2_both : plainName yX2_both.cls = true := by decide +kernel
theorem hd_X2_isThrough : yX2_isThrough.cls ≠ "java/lang/invoke/MethodHandle" ∧ yX2_isThrough.cls ≠ "java/lang/invoke/VarHandle" ∧ (parseMethodDescriptor yX2_isThrough.desc).map (fun d => d.parameters.length) = some 3 := by decide +kernel
theorem hv_X2_isThrough : yX2_isThrough.cls = RX2 ∧ yX2_isThrough.cls ≠ "java/lang/invoke/MethodHandle" ∧ yX2_isThrough.cls ≠ "java/lang/invoke/VarHandle" ∧ (parseMethodDescriptor yX2_isThrough.desc).map (fun d => d.parameters.length) = some 3 := ⟨rfl, hd_X2_isThrough⟩
theorem pl_X2_isThrough : plainName yX2_isThrough.cls = true := by decide +kernel
theorem hd_X2_count : yX2_count.cls ≠ "java/lang/invoke/MethodHandle" ∧ yX2_count.cls ≠ "java/lang/invoke/VarHandle" ∧ (parseMethodDescriptor yX2_count.desc).map (fun d => d.parameters.length) = some 1 := by decide +kernel
theorem hv_X2_count : yX2_count.cls = RX2 ∧ yX2_count.cls ≠ "java/lang/invoke/MethodHandle" ∧ yX2_count.cls ≠ "java/lang/invoke/VarHandle" ∧ (parseMethodDescriptor yX2_count.desc).map (fun d => d.parameters.length) = some 1 := ⟨rfl, hd_X2_count⟩
theorem pl_X2_count : plainName yX2_count.cls = true := by decide +kernel
theorem hd_X4_turn : yX4_turn.cls ≠ "java/lang/invoke/MethodHandle" ∧ yX4_turn.cls ≠ "java/lang/invoke/VarHandle" ∧ (parseMethodDescriptor yX4_turn.desc).map (fun d => d.parameters.length) = some 3 := by decide +kernel
theorem hv_X4_turn : yX4_turn.cls = RX4 ∧ yX4_turn.cls ≠ "java/lang/invoke/MethodHandle" ∧ yX4_turn.cls ≠ "java/lang/invoke/VarHandle" ∧ (parseMethodDescriptor yX4_turn.desc).map (fun d => d.parameters.length) = some 3 := ⟨rfl, hd_X4_turn⟩
theorem pl_X4_turn : plainName yX4_turn.cls = true := by decide +kernel
theorem hd_X4_decided : yX4_decided.cls ≠ "java/lang/invoke/MethodHandle" ∧ yX4_decided.cls ≠ "java/lang/invoke/VarHandle" ∧ (parseMethodDescriptor yX4_decided.desc).map (fun d => d.parameters.length) = some 2 := by decide +kernel
theorem hv_X4_decided : yX4_decided.cls = RX4 ∧ yX4_decided.cls ≠ "java/lang/invoke/MethodHandle" ∧ yX4_decided.cls ≠ "java/lang/invoke/VarHandle" ∧ (parseMethodDescriptor yX4_decided.desc).map (fun d => d.parameters.length) = some 2 := ⟨rfl, hd_X4_decided⟩
theorem pl_X4_decided : plainName yX4_decided.cls = true := by decide +kernel
theorem hd_X4_ring : yX4_ring.cls ≠ "java/lang/invoke/MethodHandle" ∧ yX4_ring.cls ≠ "java/lang/invoke/VarHandle" ∧ (parseMethodDescriptor yX4_ring.desc).map (fun d => d.parameters.length) = some 4 := by decide +kernel
theorem hv_X4_ring : yX4_ring.cls = RX4 ∧ yX4_ring.cls ≠ "java/lang/invoke/MethodHandle" ∧ yX4_ring.cls ≠ "java/lang/invoke/VarHandle" ∧ (parseMethodDescriptor yX4_ring.desc).map (fun d => d.parameters.length) = some 4 := ⟨rfl, hd_X4_ring⟩
theorem pl_X4_ring : plainName yX4_ring.cls = true := by decide +kernel
theorem hd_X10_isAhead : yX10_isAhead.cls ≠ "java/lang/invoke/MethodHandle" ∧ yX10_isAhead.cls ≠ "java/lang/invoke/VarHandle" ∧ (parseMethodDescriptor yX10_isAhead.desc).map (fun d => d.parameters.length) = some 4 := by decide +kernel
theorem hv_X10_isAhead : yX10_isAhead.cls = RX10 ∧ yX10_isAhead.cls ≠ "java/lang/invoke/MethodHandle" ∧ yX10_isAhead.cls ≠ "java/lang/invoke/VarHandle" ∧ (parseMethodDescriptor yX10_isAhead.desc).map (fun d => d.parameters.length) = some 4 := ⟨rfl, hd_X10_isAhead⟩
theorem pl_X10_isAhead : plainName yX10_isAhead.cls = true := by decide +kernel
theorem hd_X0_size : yX0_size.cls ≠ "java/lang/invoke/MethodHandle" ∧ yX0_size.cls ≠ "java/lang/invoke/VarHandle" ∧ (parseMethodDescriptor yX0_size.desc).map (fun d => d.parameters.length) = some 3 := by decide +kernel
theorem hv_X0_size : yX0_size.cls = RX0 ∧ yX0_size.cls ≠ "java/lang/invoke/MethodHandle" ∧ yX0_size.cls ≠ "java/lang/invoke/VarHandle" ∧ (parseMethodDescriptor yX0_size.desc).map (fun d => d.parameters.length) = some 3 := ⟨rfl, hd_X0_size⟩
theorem pl_X0_size : plainName yX0_size.cls = true := by decide +kernel
theorem hd_X0_of : yX0_of.cls ≠ "java/lang/invoke/MethodHandle" ∧ yX0_of.cls ≠ "java/lang/invoke/VarHandle" ∧ (parseMethodDescriptor yX0_of.desc).map (fun d => d.parameters.length) = some 4 := by decide +kernel
theorem hv_X0_of : yX0_of.cls = RX0 ∧ yX0_of.cls ≠ "java/lang/invoke/MethodHandle" ∧ yX0_of.cls ≠ "java/lang/invoke/VarHandle" ∧ (parseMethodDescriptor yX0_of.desc).map (fun d => d.parameters.length) = some 4 := ⟨rfl, hd_X0_of⟩
theorem pl_X0_of : plainName yX0_of.cls = true := by decide +kernel
theorem hd_X0_at : yX0_at.cls ≠ "java/lang/invoke/MethodHandle" ∧ yX0_at.cls ≠ "java/lang/invoke/VarHandle" ∧ (parseMethodDescriptor yX0_at.desc).map (fun d => d.parameters.length) = some 4 := by decide +kernel
theorem hv_X0_at : yX0_at.cls = RX0 ∧ yX0_at.cls ≠ "java/lang/invoke/MethodHandle" ∧ yX0_at.cls ≠ "java/lang/invoke/VarHandle" ∧ (parseMethodDescriptor yX0_at.desc).map (fun d => d.parameters.length) = some 4 := ⟨rfl, hd_X0_at⟩
theorem pl_X0_at : plainName yX0_at.cls = true := by decide +kernel
theorem hd_X0_area : yX0_area.cls ≠ "java/lang/invoke/MethodHandle" ∧ yX0_area.cls ≠ "java/lang/invoke/VarHandle" ∧ (parseMethodDescriptor yX0_area.desc).map (fun d => d.parameters.length) = some 4 := by decide +kernel
theorem hv_X0_area : yX0_area.cls = RX0 ∧ yX0_area.cls ≠ "java/lang/invoke/MethodHandle" ∧ yX0_area.cls ≠ "java/lang/invoke/VarHandle" ∧ (parseMethodDescriptor yX0_area.desc).map (fun d => d.parameters.length) = some 4 := ⟨rfl, hd_X0_area⟩
theorem pl_X0_area : plainName yX0_area.cls = true := by decide +kernel
theorem hd_J8_abs : yJ8_abs.cls ≠ "java/lang/invoke/MethodHandle" ∧ yJ8_abs.cls ≠ "java/lang/invoke/VarHandle" ∧ (parseMethodDescriptor yJ8_abs.desc).map (fun d => d.parameters.length) = some 1 := by decide +kernel
theorem hv_J8_abs : yJ8_abs.cls = RJ8 ∧ yJ8_abs.cls ≠ "java/lang/invoke/MethodHandle" ∧ yJ8_abs.cls ≠ "java/lang/invoke/VarHandle" ∧ (parseMethodDescriptor yJ8_abs.desc).map (fun d => d.parameters.length) = some 1 := ⟨rfl, hd_J8_abs⟩
theorem hd_J8_max : yJ8_max.cls ≠ "java/lang/invoke/MethodHandle" ∧ yJ8_max.cls ≠ "java/lang/invoke/VarHandle" ∧ (parseMethodDescriptor yJ8_max.desc).map (fun d => d.parameters.length) = some 2 := by decide +kernel
theorem hv_J8_max : yJ8_max.cls = RJ8 ∧ yJ8_max.cls ≠ "java/lang/invoke/MethodHandle" ∧ yJ8_max.cls ≠ "java/lang/invoke/VarHandle" ∧ (parseMethodDescriptor yJ8_max.desc).map (fun d => d.parameters.length) = some 2 := ⟨rfl, hd_J8_max⟩
theorem hd_J8_min : yJ8_min.cls ≠ "java/lang/invoke/MethodHandle" ∧ yJ8_min.cls ≠ "java/lang/invoke/VarHandle" ∧ (parseMethodDescriptor yJ8_min.desc).map (fun d => d.parameters.length) = some 2 := by decide +kernel
theorem hv_J8_min : yJ8_min.cls = RJ8 ∧ yJ8_min.cls ≠ "java/lang/invoke/MethodHandle" ∧ yJ8_min.cls ≠ "java/lang/invoke/VarHandle" ∧ (parseMethodDescriptor yJ8_min.desc).map (fun d => d.parameters.length) = some 2 := ⟨rfl, hd_J8_min⟩
theorem hd_J8_max_2 : yJ8_max_2.cls ≠ "java/lang/invoke/MethodHandle" ∧ yJ8_max_2.cls ≠ "java/lang/invoke/VarHandle" ∧ (parseMethodDescriptor yJ8_max_2.desc).map (fun d => d.parameters.length) = some 2 := by decide +kernel
theorem hv_J8_max_2 : yJ8_max_2.cls = RJ8 ∧ yJ8_max_2.cls ≠ "java/lang/invoke/MethodHandle" ∧ yJ8_max_2.cls ≠ "java/lang/invoke/VarHandle" ∧ (parseMethodDescriptor yJ8_max_2.desc).map (fun d => d.parameters.length) = some 2 := ⟨rfl, hd_J8_max_2⟩
theorem ic_m100 : Int32.ofInt (-100) = -100 := by decide +kernel
theorem ib_m100 : (Int8.ofInt (-100)).toInt32 = -100 := by decide +kernel
theorem ic_m4 : Int32.ofInt (-4) = -4 := by decide +kernel
theorem ib_m4 : (Int8.ofInt (-4)).toInt32 = -4 := by decide +kernel
theorem ic_m3 : Int32.ofInt (-3) = -3 := by decide +kernel
theorem ib_m3 : (Int8.ofInt (-3)).toInt32 = -3 := by decide +kernel
theorem ic_m2 : Int32.ofInt (-2) = -2 := by decide +kernel
theorem ib_m2 : (Int8.ofInt (-2)).toInt32 = -2 := by decide +kernel
theorem ic_m1 : Int32.ofInt (-1) = -1 := by decide +kernel
theorem ib_m1 : (Int8.ofInt (-1)).toInt32 = -1 := by decide +kernel
theorem ic_0 : Int32.ofInt (0) = 0 := by decide +kernel
theorem ib_0 : (Int8.ofInt (0)).toInt32 = 0 := by decide +kernel
theorem ic_1 : Int32.ofInt (1) = 1 := by decide +kernel
theorem ib_1 : (Int8.ofInt (1)).toInt32 = 1 := by decide +kernel
theorem ic_2 : Int32.ofInt (2) = 2 := by decide +kernel
theorem ib_2 : (Int8.ofInt (2)).toInt32 = 2 := by decide +kernel
theorem ic_3 : Int32.ofInt (3) = 3 := by decide +kernel
theorem ib_3 : (Int8.ofInt (3)).toInt32 = 3 := by decide +kernel
theorem ic_4 : Int32.ofInt (4) = 4 := by decide +kernel
theorem ib_4 : (Int8.ofInt (4)).toInt32 = 4 := by decide +kernel
theorem ic_5 : Int32.ofInt (5) = 5 := by decide +kernel
theorem ib_5 : (Int8.ofInt (5)).toInt32 = 5 := by decide +kernel
theorem ic_6 : Int32.ofInt (6) = 6 := by decide +kernel
theorem ib_6 : (Int8.ofInt (6)).toInt32 = 6 := by decide +kernel
theorem ic_7 : Int32.ofInt (7) = 7 := by decide +kernel
theorem ib_7 : (Int8.ofInt (7)).toInt32 = 7 := by decide +kernel
theorem ic_12 : Int32.ofInt (12) = 12 := by decide +kernel
theorem ib_12 : (Int8.ofInt (12)).toInt32 = 12 := by decide +kernel
theorem ic_24 : Int32.ofInt (24) = 24 := by decide +kernel
theorem ib_24 : (Int8.ofInt (24)).toInt32 = 24 := by decide +kernel
theorem ic_31 : Int32.ofInt (31) = 31 := by decide +kernel
theorem ib_31 : (Int8.ofInt (31)).toInt32 = 31 := by decide +kernel
theorem ic_32 : Int32.ofInt (32) = 32 := by decide +kernel
theorem ib_32 : (Int8.ofInt (32)).toInt32 = 32 := by decide +kernel
theorem ic_60 : Int32.ofInt (60) = 60 := by decide +kernel
theorem ib_60 : (Int8.ofInt (60)).toInt32 = 60 := by decide +kernel
theorem ic_100 : Int32.ofInt (100) = 100 := by decide +kernel
theorem ib_100 : (Int8.ofInt (100)).toInt32 = 100 := by decide +kernel
