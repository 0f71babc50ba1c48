-- ===== PART A: goes FIRST, ahead of the names: the tables' words, and 'selects' of the private methods out of them =====
/-- a private method of a class that the tables say can be made, by its rows of tables_1 -/
def lw_okq (q : MethodName × Nat) : Prop := (q.1.cls ≠ "java/lang/invoke/MethodHandle" ∧ q.1.cls ≠ "java/lang/invoke/VarHandle") ∧ Cond.instantiable q.1.cls q.2 ∈ tables_1 ∧ Cond.privateMethod q.1 ∈ tables_1 ∧ Cond.instanceMethod q.1 ∈ tables_1
set_option maxRecDepth 100000
theorem lw_t1 {w : Cond} (h : w ∈ tables_1_1) : w ∈ tables_1 := List.mem_append_left _ h
theorem lw_t2 {w : Cond} (h : w ∈ tables_1_2) : w ∈ tables_1 := List.mem_append_right _ (List.mem_append_left _ h)
theorem lw_t3 {w : Cond} (h : w ∈ tables_1_3) : w ∈ tables_1 := List.mem_append_right _ (List.mem_append_right _ (List.mem_append_left _ h))
theorem lw_t4 {w : Cond} (h : w ∈ tables_1_4) : w ∈ tables_1 := List.mem_append_right _ (List.mem_append_right _ (List.mem_append_right _ h))
theorem lw_p0 : lw_okq (⟨"OrderJudge", "arePoints", "(III)Z"⟩, 9) := ⟨⟨by decide +kernel, by decide +kernel⟩, lw_t1 (List.mem_of_getElem? (i := 22) rfl), lw_t1 (List.mem_of_getElem? (i := 112) rfl), lw_t1 (List.mem_of_getElem? (i := 113) rfl)⟩
theorem lw_p1 : lw_okq (⟨"OrderJudge", "isPoint", "(I)Z"⟩, 9) := ⟨⟨by decide +kernel, by decide +kernel⟩, lw_t1 (List.mem_of_getElem? (i := 22) rfl), lw_t1 (List.mem_of_getElem? (i := 116) rfl), lw_t1 (List.mem_of_getElem? (i := 117) rfl)⟩
theorem lw_p2 : lw_okq (⟨"OrderJudge", "told", "(II)I"⟩, 9) := ⟨⟨by decide +kernel, by decide +kernel⟩, lw_t1 (List.mem_of_getElem? (i := 22) rfl), lw_t1 (List.mem_of_getElem? (i := 161) rfl), lw_t1 (List.mem_of_getElem? (i := 162) rfl)⟩
theorem lw_p3 : lw_okq (⟨"OrderJudge", "refused", "(II)I"⟩, 9) := ⟨⟨by decide +kernel, by decide +kernel⟩, lw_t1 (List.mem_of_getElem? (i := 22) rfl), lw_t1 (List.mem_of_getElem? (i := 232) rfl), lw_t1 (List.mem_of_getElem? (i := 233) rfl)⟩
theorem lw_p4 : lw_okq (⟨"OrderJudge", "next", "(II)LOrderJudge$Point;"⟩, 9) := ⟨⟨by decide +kernel, by decide +kernel⟩, lw_t1 (List.mem_of_getElem? (i := 22) rfl), lw_t1 (List.mem_of_getElem? (i := 236) rfl), lw_t1 (List.mem_of_getElem? (i := 237) rfl)⟩
theorem lw_p5 : lw_okq (⟨"OrderJudge", "placeBy", "(LOrderJudge$Order;II)I"⟩, 9) := ⟨⟨by decide +kernel, by decide +kernel⟩, lw_t1 (List.mem_of_getElem? (i := 22) rfl), lw_t2 (List.mem_of_getElem? (i := 62) rfl), lw_t2 (List.mem_of_getElem? (i := 63) rfl)⟩
theorem lw_p6 : lw_okq (⟨"OrderJudge$Round", "half", "(LOrderJudge$Point;)I"⟩, 1) := ⟨⟨by decide +kernel, by decide +kernel⟩, lw_t2 (List.mem_of_getElem? (i := 52) rfl), lw_t2 (List.mem_of_getElem? (i := 90) rfl), lw_t2 (List.mem_of_getElem? (i := 91) rfl)⟩
theorem lw_p7 : lw_okq (⟨"OrderJudge$Arrangement", "add", "(LOrderJudge$Line;)V"⟩, 6) := ⟨⟨by decide +kernel, by decide +kernel⟩, lw_t2 (List.mem_of_getElem? (i := 133) rfl), lw_t2 (List.mem_of_getElem? (i := 148) rfl), lw_t2 (List.mem_of_getElem? (i := 149) rfl)⟩
theorem lw_p8 : lw_okq (⟨"OrderJudge$Arrangement", "through", "(LOrderJudge$Line;LOrderJudge$Line;I)I"⟩, 6) := ⟨⟨by decide +kernel, by decide +kernel⟩, lw_t2 (List.mem_of_getElem? (i := 133) rfl), lw_t2 (List.mem_of_getElem? (i := 153) rfl), lw_t2 (List.mem_of_getElem? (i := 154) rfl)⟩
theorem lw_p9 : lw_okq (⟨"OrderJudge$Arrangement", "isFirstOn", "(II)Z"⟩, 6) := ⟨⟨by decide +kernel, by decide +kernel⟩, lw_t2 (List.mem_of_getElem? (i := 133) rfl), lw_t2 (List.mem_of_getElem? (i := 191) rfl), lw_t2 (List.mem_of_getElem? (i := 192) rfl)⟩
theorem lw_p10 : lw_okq (⟨"java/lang/NullPointerException", "getExtendedNPEMessage", "()Ljava/lang/String;"⟩, 8) := ⟨⟨by decide +kernel, by decide +kernel⟩, lw_t2 (List.mem_of_getElem? (i := 231) rfl), lw_t2 (List.mem_of_getElem? (i := 229) rfl), lw_t2 (List.mem_of_getElem? (i := 230) rfl)⟩
theorem lw_p11 : lw_okq (⟨"java/lang/Throwable", "fillInStackTrace", "(I)Ljava/lang/Throwable;"⟩, 6) := ⟨⟨by decide +kernel, by decide +kernel⟩, lw_t3 (List.mem_of_getElem? (i := 3) rfl), lw_t3 (List.mem_of_getElem? (i := 1) rfl), lw_t3 (List.mem_of_getElem? (i := 2) rfl)⟩
theorem lw_p12 : lw_okq (⟨"OrderJudgeModel", "fail", "(I)I"⟩, 14) := ⟨⟨by decide +kernel, by decide +kernel⟩, lw_t3 (List.mem_of_getElem? (i := 134) rfl), lw_t3 (List.mem_of_getElem? (i := 200) rfl), lw_t3 (List.mem_of_getElem? (i := 201) rfl)⟩
theorem lw_p13 : lw_okq (⟨"OrderJudgeModel", "isPoint", "(I)Z"⟩, 14) := ⟨⟨by decide +kernel, by decide +kernel⟩, lw_t3 (List.mem_of_getElem? (i := 134) rfl), lw_t3 (List.mem_of_getElem? (i := 208) rfl), lw_t3 (List.mem_of_getElem? (i := 209) rfl)⟩
theorem lw_p14 : lw_okq (⟨"OrderJudgeModel", "isPlace", "(I)Z"⟩, 14) := ⟨⟨by decide +kernel, by decide +kernel⟩, lw_t3 (List.mem_of_getElem? (i := 134) rfl), lw_t3 (List.mem_of_getElem? (i := 212) rfl), lw_t3 (List.mem_of_getElem? (i := 213) rfl)⟩
theorem lw_p15 : lw_okq (⟨"OrderJudgeModel", "areEqual", "(II)Z"⟩, 14) := ⟨⟨by decide +kernel, by decide +kernel⟩, lw_t3 (List.mem_of_getElem? (i := 134) rfl), lw_t3 (List.mem_of_getElem? (i := 224) rfl), lw_t3 (List.mem_of_getElem? (i := 225) rfl)⟩
def lw_privs_1 : List (MethodName × Nat) := [(⟨"OrderJudge", "arePoints", "(III)Z"⟩, 9), (⟨"OrderJudge", "isPoint", "(I)Z"⟩, 9), (⟨"OrderJudge", "told", "(II)I"⟩, 9), (⟨"OrderJudge", "refused", "(II)I"⟩, 9), (⟨"OrderJudge", "next", "(II)LOrderJudge$Point;"⟩, 9), (⟨"OrderJudge", "placeBy", "(LOrderJudge$Order;II)I"⟩, 9), (⟨"OrderJudge$Round", "half", "(LOrderJudge$Point;)I"⟩, 1), (⟨"OrderJudge$Arrangement", "add", "(LOrderJudge$Line;)V"⟩, 6), (⟨"OrderJudge$Arrangement", "through", "(LOrderJudge$Line;LOrderJudge$Line;I)I"⟩, 6), (⟨"OrderJudge$Arrangement", "isFirstOn", "(II)Z"⟩, 6), (⟨"java/lang/NullPointerException", "getExtendedNPEMessage", "()Ljava/lang/String;"⟩, 8), (⟨"java/lang/Throwable", "fillInStackTrace", "(I)Ljava/lang/Throwable;"⟩, 6), (⟨"OrderJudgeModel", "fail", "(I)I"⟩, 14), (⟨"OrderJudgeModel", "isPoint", "(I)Z"⟩, 14), (⟨"OrderJudgeModel", "isPlace", "(I)Z"⟩, 14), (⟨"OrderJudgeModel", "areEqual", "(II)Z"⟩, 14)]
theorem lw_r1 : ∀ q ∈ lw_privs_1, lw_okq q := List.forall_mem_cons.mpr ⟨lw_p0, List.forall_mem_cons.mpr ⟨lw_p1, List.forall_mem_cons.mpr ⟨lw_p2, List.forall_mem_cons.mpr ⟨lw_p3, List.forall_mem_cons.mpr ⟨lw_p4, List.forall_mem_cons.mpr ⟨lw_p5, List.forall_mem_cons.mpr ⟨lw_p6, List.forall_mem_cons.mpr ⟨lw_p7, List.forall_mem_cons.mpr ⟨lw_p8, List.forall_mem_cons.mpr ⟨lw_p9, List.forall_mem_cons.mpr ⟨lw_p10, List.forall_mem_cons.mpr ⟨lw_p11, List.forall_mem_cons.mpr ⟨lw_p12, List.forall_mem_cons.mpr ⟨lw_p13, List.forall_mem_cons.mpr ⟨lw_p14, List.forall_mem_cons.mpr ⟨lw_p15, fun _ h => absurd h List.not_mem_nil⟩⟩⟩⟩⟩⟩⟩⟩⟩⟩⟩⟩⟩⟩⟩⟩
theorem lw_p16 : lw_okq (⟨"OrderJudgeModel", "decidesTurn", "(III)Z"⟩, 14) := ⟨⟨by decide +kernel, by decide +kernel⟩, lw_t3 (List.mem_of_getElem? (i := 134) rfl), lw_t3 (List.mem_of_getElem? (i := 228) rfl), lw_t3 (List.mem_of_getElem? (i := 229) rfl)⟩
theorem lw_p17 : lw_okq (⟨"OrderJudgeModel", "fx", "(I)F"⟩, 14) := ⟨⟨by decide +kernel, by decide +kernel⟩, lw_t3 (List.mem_of_getElem? (i := 134) rfl), lw_t3 (List.mem_of_getElem? (i := 232) rfl), lw_t3 (List.mem_of_getElem? (i := 233) rfl)⟩
theorem lw_p18 : lw_okq (⟨"OrderJudgeModel", "fy", "(I)F"⟩, 14) := ⟨⟨by decide +kernel, by decide +kernel⟩, lw_t3 (List.mem_of_getElem? (i := 134) rfl), lw_t3 (List.mem_of_getElem? (i := 237) rfl), lw_t3 (List.mem_of_getElem? (i := 238) rfl)⟩
theorem lw_p19 : lw_okq (⟨"OrderJudgeModel", "most", "(III)F"⟩, 14) := ⟨⟨by decide +kernel, by decide +kernel⟩, lw_t3 (List.mem_of_getElem? (i := 134) rfl), lw_t4 (List.mem_of_getElem? (i := 1) rfl), lw_t4 (List.mem_of_getElem? (i := 2) rfl)⟩
theorem lw_p20 : lw_okq (⟨"OrderJudgeModel", "turn", "(III)I"⟩, 14) := ⟨⟨by decide +kernel, by decide +kernel⟩, lw_t3 (List.mem_of_getElem? (i := 134) rfl), lw_t4 (List.mem_of_getElem? (i := 12) rfl), lw_t4 (List.mem_of_getElem? (i := 13) rfl)⟩
theorem lw_p21 : lw_okq (⟨"OrderJudgeModel", "counted", "(ZI)I"⟩, 14) := ⟨⟨by decide +kernel, by decide +kernel⟩, lw_t3 (List.mem_of_getElem? (i := 134) rfl), lw_t4 (List.mem_of_getElem? (i := 19) rfl), lw_t4 (List.mem_of_getElem? (i := 20) rfl)⟩
theorem lw_p22 : lw_okq (⟨"OrderJudgeModel", "decidesRing", "(IIII)Z"⟩, 14) := ⟨⟨by decide +kernel, by decide +kernel⟩, lw_t3 (List.mem_of_getElem? (i := 134) rfl), lw_t4 (List.mem_of_getElem? (i := 27) rfl), lw_t4 (List.mem_of_getElem? (i := 28) rfl)⟩
theorem lw_p23 : lw_okq (⟨"OrderJudgeModel", "ring", "(IIII)I"⟩, 14) := ⟨⟨by decide +kernel, by decide +kernel⟩, lw_t3 (List.mem_of_getElem? (i := 134) rfl), lw_t4 (List.mem_of_getElem? (i := 32) rfl), lw_t4 (List.mem_of_getElem? (i := 33) rfl)⟩
theorem lw_p24 : lw_okq (⟨"OrderJudgeModel", "isOn", "(III)Z"⟩, 14) := ⟨⟨by decide +kernel, by decide +kernel⟩, lw_t3 (List.mem_of_getElem? (i := 134) rfl), lw_t4 (List.mem_of_getElem? (i := 48) rfl), lw_t4 (List.mem_of_getElem? (i := 49) rfl)⟩
theorem lw_p25 : lw_okq (⟨"OrderJudgeModel", "along", "(III)J"⟩, 14) := ⟨⟨by decide +kernel, by decide +kernel⟩, lw_t3 (List.mem_of_getElem? (i := 134) rfl), lw_t4 (List.mem_of_getElem? (i := 52) rfl), lw_t4 (List.mem_of_getElem? (i := 53) rfl)⟩
theorem lw_p26 : lw_okq (⟨"OrderJudgeModel", "isOneWay", "(III)Z"⟩, 14) := ⟨⟨by decide +kernel, by decide +kernel⟩, lw_t3 (List.mem_of_getElem? (i := 134) rfl), lw_t4 (List.mem_of_getElem? (i := 60) rfl), lw_t4 (List.mem_of_getElem? (i := 61) rfl)⟩
theorem lw_p27 : lw_okq (⟨"OrderJudgeModel", "common", "(IIII)I"⟩, 14) := ⟨⟨by decide +kernel, by decide +kernel⟩, lw_t3 (List.mem_of_getElem? (i := 134) rfl), lw_t4 (List.mem_of_getElem? (i := 68) rfl), lw_t4 (List.mem_of_getElem? (i := 69) rfl)⟩
theorem lw_p28 : lw_okq (⟨"OrderJudgeModel", "isMany", "(II)Z"⟩, 14) := ⟨⟨by decide +kernel, by decide +kernel⟩, lw_t3 (List.mem_of_getElem? (i := 134) rfl), lw_t4 (List.mem_of_getElem? (i := 80) rfl), lw_t4 (List.mem_of_getElem? (i := 81) rfl)⟩
theorem lw_p29 : lw_okq (⟨"OrderJudgeModel", "isWhole", "(I)Z"⟩, 14) := ⟨⟨by decide +kernel, by decide +kernel⟩, lw_t3 (List.mem_of_getElem? (i := 134) rfl), lw_t4 (List.mem_of_getElem? (i := 84) rfl), lw_t4 (List.mem_of_getElem? (i := 85) rfl)⟩
theorem lw_p30 : lw_okq (⟨"OrderJudgeModel", "next", "(II)I"⟩, 14) := ⟨⟨by decide +kernel, by decide +kernel⟩, lw_t3 (List.mem_of_getElem? (i := 134) rfl), lw_t4 (List.mem_of_getElem? (i := 88) rfl), lw_t4 (List.mem_of_getElem? (i := 89) rfl)⟩
theorem lw_p31 : lw_okq (⟨"OrderJudgeModel", "isOnEdge", "(II)Z"⟩, 14) := ⟨⟨by decide +kernel, by decide +kernel⟩, lw_t3 (List.mem_of_getElem? (i := 134) rfl), lw_t4 (List.mem_of_getElem? (i := 96) rfl), lw_t4 (List.mem_of_getElem? (i := 97) rfl)⟩
def lw_privs_2 : List (MethodName × Nat) := [(⟨"OrderJudgeModel", "decidesTurn", "(III)Z"⟩, 14), (⟨"OrderJudgeModel", "fx", "(I)F"⟩, 14), (⟨"OrderJudgeModel", "fy", "(I)F"⟩, 14), (⟨"OrderJudgeModel", "most", "(III)F"⟩, 14), (⟨"OrderJudgeModel", "turn", "(III)I"⟩, 14), (⟨"OrderJudgeModel", "counted", "(ZI)I"⟩, 14), (⟨"OrderJudgeModel", "decidesRing", "(IIII)Z"⟩, 14), (⟨"OrderJudgeModel", "ring", "(IIII)I"⟩, 14), (⟨"OrderJudgeModel", "isOn", "(III)Z"⟩, 14), (⟨"OrderJudgeModel", "along", "(III)J"⟩, 14), (⟨"OrderJudgeModel", "isOneWay", "(III)Z"⟩, 14), (⟨"OrderJudgeModel", "common", "(IIII)I"⟩, 14), (⟨"OrderJudgeModel", "isMany", "(II)Z"⟩, 14), (⟨"OrderJudgeModel", "isWhole", "(I)Z"⟩, 14), (⟨"OrderJudgeModel", "next", "(II)I"⟩, 14), (⟨"OrderJudgeModel", "isOnEdge", "(II)Z"⟩, 14)]
theorem lw_r2 : ∀ q ∈ lw_privs_2, lw_okq q := List.forall_mem_cons.mpr ⟨lw_p16, List.forall_mem_cons.mpr ⟨lw_p17, List.forall_mem_cons.mpr ⟨lw_p18, List.forall_mem_cons.mpr ⟨lw_p19, List.forall_mem_cons.mpr ⟨lw_p20, List.forall_mem_cons.mpr ⟨lw_p21, List.forall_mem_cons.mpr ⟨lw_p22, List.forall_mem_cons.mpr ⟨lw_p23, List.forall_mem_cons.mpr ⟨lw_p24, List.forall_mem_cons.mpr ⟨lw_p25, List.forall_mem_cons.mpr ⟨lw_p26, List.forall_mem_cons.mpr ⟨lw_p27, List.forall_mem_cons.mpr ⟨lw_p28, List.forall_mem_cons.mpr ⟨lw_p29, List.forall_mem_cons.mpr ⟨lw_p30, List.forall_mem_cons.mpr ⟨lw_p31, fun _ h => absurd h List.not_mem_nil⟩⟩⟩⟩⟩⟩⟩⟩⟩⟩⟩⟩⟩⟩⟩⟩
theorem lw_p32 : lw_okq (⟨"OrderJudgeModel", "rises", "(III)I"⟩, 14) := ⟨⟨by decide +kernel, by decide +kernel⟩, lw_t3 (List.mem_of_getElem? (i := 134) rfl), lw_t4 (List.mem_of_getElem? (i := 100) rfl), lw_t4 (List.mem_of_getElem? (i := 101) rfl)⟩
theorem lw_p33 : lw_okq (⟨"OrderJudgeModel", "far", "(II)J"⟩, 14) := ⟨⟨by decide +kernel, by decide +kernel⟩, lw_t3 (List.mem_of_getElem? (i := 134) rfl), lw_t4 (List.mem_of_getElem? (i := 112) rfl), lw_t4 (List.mem_of_getElem? (i := 113) rfl)⟩
theorem lw_p34 : lw_okq (⟨"OrderJudgeModel", "isAhead", "(III)Z"⟩, 14) := ⟨⟨by decide +kernel, by decide +kernel⟩, lw_t3 (List.mem_of_getElem? (i := 134) rfl), lw_t4 (List.mem_of_getElem? (i := 120) rfl), lw_t4 (List.mem_of_getElem? (i := 121) rfl)⟩
theorem lw_p35 : lw_okq (⟨"OrderJudgeModel", "half", "(II)I"⟩, 14) := ⟨⟨by decide +kernel, by decide +kernel⟩, lw_t3 (List.mem_of_getElem? (i := 134) rfl), lw_t4 (List.mem_of_getElem? (i := 124) rfl), lw_t4 (List.mem_of_getElem? (i := 125) rfl)⟩
theorem lw_p36 : lw_okq (⟨"OrderJudgeModel", "isLess", "(II)Z"⟩, 14) := ⟨⟨by decide +kernel, by decide +kernel⟩, lw_t3 (List.mem_of_getElem? (i := 134) rfl), lw_t4 (List.mem_of_getElem? (i := 132) rfl), lw_t4 (List.mem_of_getElem? (i := 133) rfl)⟩
theorem lw_p37 : lw_okq (⟨"OrderJudgeModel", "isNew", "(I)Z"⟩, 14) := ⟨⟨by decide +kernel, by decide +kernel⟩, lw_t3 (List.mem_of_getElem? (i := 134) rfl), lw_t4 (List.mem_of_getElem? (i := 148) rfl), lw_t4 (List.mem_of_getElem? (i := 149) rfl)⟩
theorem lw_p38 : lw_okq (⟨"OrderJudgeModel", "isOne", "(II)Z"⟩, 14) := ⟨⟨by decide +kernel, by decide +kernel⟩, lw_t3 (List.mem_of_getElem? (i := 134) rfl), lw_t4 (List.mem_of_getElem? (i := 152) rfl), lw_t4 (List.mem_of_getElem? (i := 153) rfl)⟩
theorem lw_p39 : lw_okq (⟨"OrderJudgeModel", "both", "(II)J"⟩, 14) := ⟨⟨by decide +kernel, by decide +kernel⟩, lw_t3 (List.mem_of_getElem? (i := 134) rfl), lw_t4 (List.mem_of_getElem? (i := 156) rfl), lw_t4 (List.mem_of_getElem? (i := 157) rfl)⟩
theorem lw_p40 : lw_okq (⟨"OrderJudgeModel", "isThrough", "(III)Z"⟩, 14) := ⟨⟨by decide +kernel, by decide +kernel⟩, lw_t3 (List.mem_of_getElem? (i := 134) rfl), lw_t4 (List.mem_of_getElem? (i := 160) rfl), lw_t4 (List.mem_of_getElem? (i := 161) rfl)⟩
def lw_privs_3 : List (MethodName × Nat) := [(⟨"OrderJudgeModel", "rises", "(III)I"⟩, 14), (⟨"OrderJudgeModel", "far", "(II)J"⟩, 14), (⟨"OrderJudgeModel", "isAhead", "(III)Z"⟩, 14), (⟨"OrderJudgeModel", "half", "(II)I"⟩, 14), (⟨"OrderJudgeModel", "isLess", "(II)Z"⟩, 14), (⟨"OrderJudgeModel", "isNew", "(I)Z"⟩, 14), (⟨"OrderJudgeModel", "isOne", "(II)Z"⟩, 14), (⟨"OrderJudgeModel", "both", "(II)J"⟩, 14), (⟨"OrderJudgeModel", "isThrough", "(III)Z"⟩, 14)]
theorem lw_r3 : ∀ q ∈ lw_privs_3, lw_okq q := List.forall_mem_cons.mpr ⟨lw_p32, List.forall_mem_cons.mpr ⟨lw_p33, List.forall_mem_cons.mpr ⟨lw_p34, List.forall_mem_cons.mpr ⟨lw_p35, List.forall_mem_cons.mpr ⟨lw_p36, List.forall_mem_cons.mpr ⟨lw_p37, List.forall_mem_cons.mpr ⟨lw_p38, List.forall_mem_cons.mpr ⟨lw_p39, List.forall_mem_cons.mpr ⟨lw_p40, fun _ h => absurd h List.not_mem_nil⟩⟩⟩⟩⟩⟩⟩⟩⟩
def lw_privs : List (MethodName × Nat) := lw_privs_1 ++ (lw_privs_2 ++ (lw_privs_3))
def lw_tbl : List Cond := k2_sels lw_privs ++ tables_1
theorem lw_privs_ok : ∀ q ∈ lw_privs, lw_okq q := by
  show ∀ q ∈ lw_privs_1 ++ (lw_privs_2 ++ (lw_privs_3)), lw_okq q
  exact List.forall_mem_append.mpr ⟨lw_r1, List.forall_mem_append.mpr ⟨lw_r2, lw_r3⟩⟩
-- ===== ONE list of words for every method: the tables' words that hold all through a run =====
def lw_all : List Cond := lw_tbl.filter goodWord
/-- a word of the tables by its place: claim/WORDS.tsv -/
theorem lw_w {w : Cond} (i : Nat) (h : lw_tbl[i]? = some w) (g : goodWord w = true) : w ∈ lw_all := List.mem_filter.mpr ⟨List.mem_of_getElem? h, g⟩
theorem lw_all_tbl {w : Cond} (h : w ∈ lw_all) : w ∈ lw_tbl := (List.mem_filter.mp h).1
theorem lw_self : GoodIn lw_all lw_all := fun w h => ⟨h, good_of_word (List.mem_filter.mp h).2⟩
/-- a class's field words, by their places -/
theorem lw_in (ws : List Cond) (ps : List Nat) (hp : ws = ps.filterMap (fun i => lw_tbl[i]?)) (hg : ws.all goodWord = true) : ∀ w ∈ ws, w ∈ lw_all := by
  intro w h
  have h1 := List.all_eq_true.mp hg w h
  rw [hp] at h
  obtain ⟨i, -, hi⟩ := List.mem_filterMap.mp h
  exact lw_w i hi h1
/-- the words of a contract for the method y with code b, L locals, answer r -/
abbrev ws_ (y : MethodName) (b : ByteArray) (L : Nat) (r : Option FieldType) : List Cond := Cond.code y b L r :: lw_all
theorem lw_meth {y : MethodName} {b : ByteArray} {L : Nat} {r : Option FieldType} (h : Cond.code y b L r ∈ lw_all) : GoodIn lw_all (ws_ y b L r) := by
  intro w hw
  rcases List.mem_cons.mp hw with e | e
  · rw [e]
    exact lw_self _ h
  · exact lw_self _ e
theorem lw_app {a c : List Cond} (ha : ∀ w ∈ a, w ∈ lw_all) (hc : GoodIn lw_all c) : GoodIn lw_all (a ++ c) := by
  intro w hw
  rcases List.mem_append.mp hw with e | e
  · exact lw_self w (ha w e)
  · exact hc w e
/-- what a call through an object asks: cwV n hts (lw_V ..) -/
theorem lw_V {own : String} {idx : Nat} {C : String} {y : MethodName} {b : ByteArray} {L : Nat} {r : Option FieldType} (h1 : Cond.methodLink own idx y ∈ lw_all) (h2 : Cond.instanceMethod y ∈ lw_all) (h3 : Cond.selects C y y ∈ lw_all) (h4 : Cond.initialized C ∈ lw_all) (h5 : Cond.code y b L r ∈ lw_all) : GoodIn lw_all (wsV own idx C y (ws_ y b L r)) := by
  refine lw_app ?_ (lw_meth h5)
  intro w hw
  simp only [List.mem_cons, List.not_mem_nil, or_false] at hw
  rcases hw with e | e | e | e
  · rw [e]; exact h1
  · rw [e]; exact h2
  · rw [e]; exact h3
  · rw [e]; exact h4
/-- what a static call asks: va_cwS n hts (lw_S ..) -/
theorem lw_S {own : String} {idx : Nat} {y : MethodName} {b : ByteArray} {L : Nat} {r : Option FieldType} (h1 : Cond.methodLink own idx y ∈ lw_all) (h2 : Cond.static y ∈ lw_all) (h3 : Cond.initialized y.cls ∈ lw_all) (h4 : Cond.code y b L r ∈ lw_all) : GoodIn lw_all (va_wsS own idx y (ws_ y b L r)) := by
  refine lw_app ?_ (lw_meth h4)
  intro w hw
  simp only [List.mem_cons, List.not_mem_nil, or_false] at hw
  rcases hw with e | e | e
  · rw [e]; exact h1
  · rw [e]; exact h2
  · rw [e]; exact h3
/-- the words of a contract for a method WITH HANDLERS (hh: its table) -/
abbrev wsW_ (y : MethodName) (b : ByteArray) (L : Nat) (r : Option FieldType) (hh : List (Nat × Nat × Nat × Nat)) : List Cond := Cond.codeWith y b L r hh :: lw_all
theorem lw_methW {y : MethodName} {b : ByteArray} {L : Nat} {r : Option FieldType} {hh : List (Nat × Nat × Nat × Nat)} (h : Cond.codeWith y b L r hh ∈ lw_all) : GoodIn lw_all (wsW_ y b L r hh) := by
  intro w hw
  rcases List.mem_cons.mp hw with e | e
  · rw [e]
    exact lw_self _ h
  · exact lw_self _ e
/-- any list of words by their places (lw_in), good -/
theorem lw_good {ws : List Cond} (h : ∀ w ∈ ws, w ∈ lw_all) : GoodIn lw_all ws := fun w hw => lw_self w (h w hw)
/-- what a call of a method with handlers asks: vx_cwVW n hts (lw_VW ..), vx_cwSW n hts (lw_SW ..) -/
theorem lw_VW {own : String} {idx : Nat} {C : String} {y : MethodName} {b : ByteArray} {L : Nat} {r : Option FieldType} {hh : List (Nat × Nat × Nat × Nat)} (h1 : Cond.methodLink own idx y ∈ lw_all) (h2 : Cond.instanceMethod y ∈ lw_all) (h3 : Cond.selects C y y ∈ lw_all) (h4 : Cond.initialized C ∈ lw_all) (h5 : Cond.codeWith y b L r hh ∈ lw_all) : GoodIn lw_all (wsV own idx C y (wsW_ y b L r hh)) := by
  refine lw_app ?_ (lw_methW h5)
  intro w hw
  simp only [List.mem_cons, List.not_mem_nil, or_false] at hw
  rcases hw with e | e | e | e
  · rw [e]; exact h1
  · rw [e]; exact h2
  · rw [e]; exact h3
  · rw [e]; exact h4
theorem lw_SW {own : String} {idx : Nat} {y : MethodName} {b : ByteArray} {L : Nat} {r : Option FieldType} {hh : List (Nat × Nat × Nat × Nat)} (h1 : Cond.methodLink own idx y ∈ lw_all) (h2 : Cond.static y ∈ lw_all) (h3 : Cond.initialized y.cls ∈ lw_all) (h4 : Cond.codeWith y b L r hh ∈ lw_all) : GoodIn lw_all (va_wsS own idx y (wsW_ y b L r hh)) := by
  refine lw_app ?_ (lw_methW h4)
  intro w hw
  simp only [List.mem_cons, List.not_mem_nil, or_false] at hw
  rcases hw with e | e | e
  · rw [e]; exact h1
  · rw [e]; exact h2
  · rw [e]; exact h3
/-- a word by its place in its run of the tables -/
theorem lw_at {r : List Cond} (hr : ∀ w ∈ r, w ∈ lw_tbl) {w : Cond} (i : Nat) (h : r[i]? = some w) : w ∈ lw_tbl := hr w (List.mem_of_getElem? h)
theorem lw_g {w : Cond} (h : w ∈ lw_tbl) (g : goodWord w = true) : w ∈ lw_all := List.mem_filter.mpr ⟨h, g⟩
theorem lw_ms : ∀ w ∈ k2_sels lw_privs, w ∈ lw_tbl := fun w h => show w ∈ k2_sels lw_privs ++ tables_1 from List.mem_append_left _ h
theorem lw_m1 : ∀ w ∈ tables_1_1, w ∈ lw_tbl := fun w h => show w ∈ k2_sels lw_privs ++ tables_1 from List.mem_append_right (k2_sels lw_privs) (show w ∈ tables_1 from List.mem_append_left _ h)
theorem lw_m2 : ∀ w ∈ tables_1_2, w ∈ lw_tbl := fun w h => show w ∈ k2_sels lw_privs ++ tables_1 from List.mem_append_right (k2_sels lw_privs) (show w ∈ tables_1 from List.mem_append_right _ (List.mem_append_left _ h))
theorem lw_m3 : ∀ w ∈ tables_1_3, w ∈ lw_tbl := fun w h => show w ∈ k2_sels lw_privs ++ tables_1 from List.mem_append_right (k2_sels lw_privs) (show w ∈ tables_1 from List.mem_append_right _ (List.mem_append_right _ (List.mem_append_left _ h)))
theorem lw_m4 : ∀ w ∈ tables_1_4, w ∈ lw_tbl := fun w h => show w ∈ k2_sels lw_privs ++ tables_1 from List.mem_append_right (k2_sels lw_privs) (show w ∈ tables_1 from List.mem_append_right _ (List.mem_append_right _ (List.mem_append_right _ h)))
theorem qs0 : (Cond.selects "OrderJudge" ⟨"OrderJudge", "arePoints", "(III)Z"⟩ ⟨"OrderJudge", "arePoints", "(III)Z"⟩) ∈ lw_all := lw_g (lw_at lw_ms 0 rfl) rfl
theorem qs1 : (Cond.selects "OrderJudge" ⟨"OrderJudge", "isPoint", "(I)Z"⟩ ⟨"OrderJudge", "isPoint", "(I)Z"⟩) ∈ lw_all := lw_g (lw_at lw_ms 1 rfl) rfl
theorem qs2 : (Cond.selects "OrderJudge" ⟨"OrderJudge", "told", "(II)I"⟩ ⟨"OrderJudge", "told", "(II)I"⟩) ∈ lw_all := lw_g (lw_at lw_ms 2 rfl) rfl
theorem qs3 : (Cond.selects "OrderJudge" ⟨"OrderJudge", "refused", "(II)I"⟩ ⟨"OrderJudge", "refused", "(II)I"⟩) ∈ lw_all := lw_g (lw_at lw_ms 3 rfl) rfl
theorem qs4 : (Cond.selects "OrderJudge" ⟨"OrderJudge", "next", "(II)LOrderJudge$Point;"⟩ ⟨"OrderJudge", "next", "(II)LOrderJudge$Point;"⟩) ∈ lw_all := lw_g (lw_at lw_ms 4 rfl) rfl
theorem qs5 : (Cond.selects "OrderJudge" ⟨"OrderJudge", "placeBy", "(LOrderJudge$Order;II)I"⟩ ⟨"OrderJudge", "placeBy", "(LOrderJudge$Order;II)I"⟩) ∈ lw_all := lw_g (lw_at lw_ms 5 rfl) rfl
theorem qs6 : (Cond.selects "OrderJudge$Round" ⟨"OrderJudge$Round", "half", "(LOrderJudge$Point;)I"⟩ ⟨"OrderJudge$Round", "half", "(LOrderJudge$Point;)I"⟩) ∈ lw_all := lw_g (lw_at lw_ms 6 rfl) rfl
theorem qs7 : (Cond.selects "OrderJudge$Arrangement" ⟨"OrderJudge$Arrangement", "add", "(LOrderJudge$Line;)V"⟩ ⟨"OrderJudge$Arrangement", "add", "(LOrderJudge$Line;)V"⟩) ∈ lw_all := lw_g (lw_at lw_ms 7 rfl) rfl
theorem qs8 : (Cond.selects "OrderJudge$Arrangement" ⟨"OrderJudge$Arrangement", "through", "(LOrderJudge$Line;LOrderJudge$Line;I)I"⟩ ⟨"OrderJudge$Arrangement", "through", "(LOrderJudge$Line;LOrderJudge$Line;I)I"⟩) ∈ lw_all := lw_g (lw_at lw_ms 8 rfl) rfl
theorem qs9 : (Cond.selects "OrderJudge$Arrangement" ⟨"OrderJudge$Arrangement", "isFirstOn", "(II)Z"⟩ ⟨"OrderJudge$Arrangement", "isFirstOn", "(II)Z"⟩) ∈ lw_all := lw_g (lw_at lw_ms 9 rfl) rfl
theorem qs10 : (Cond.selects "java/lang/NullPointerException" ⟨"java/lang/NullPointerException", "getExtendedNPEMessage", "()Ljava/lang/String;"⟩ ⟨"java/lang/NullPointerException", "getExtendedNPEMessage", "()Ljava/lang/String;"⟩) ∈ lw_all := lw_g (lw_at lw_ms 10 rfl) rfl
theorem qs11 : (Cond.selects "java/lang/Throwable" ⟨"java/lang/Throwable", "fillInStackTrace", "(I)Ljava/lang/Throwable;"⟩ ⟨"java/lang/Throwable", "fillInStackTrace", "(I)Ljava/lang/Throwable;"⟩) ∈ lw_all := lw_g (lw_at lw_ms 11 rfl) rfl
theorem qs12 : (Cond.selects "OrderJudgeModel" ⟨"OrderJudgeModel", "fail", "(I)I"⟩ ⟨"OrderJudgeModel", "fail", "(I)I"⟩) ∈ lw_all := lw_g (lw_at lw_ms 12 rfl) rfl
theorem qs13 : (Cond.selects "OrderJudgeModel" ⟨"OrderJudgeModel", "isPoint", "(I)Z"⟩ ⟨"OrderJudgeModel", "isPoint", "(I)Z"⟩) ∈ lw_all := lw_g (lw_at lw_ms 13 rfl) rfl
theorem qs14 : (Cond.selects "OrderJudgeModel" ⟨"OrderJudgeModel", "isPlace", "(I)Z"⟩ ⟨"OrderJudgeModel", "isPlace", "(I)Z"⟩) ∈ lw_all := lw_g (lw_at lw_ms 14 rfl) rfl
theorem qs15 : (Cond.selects "OrderJudgeModel" ⟨"OrderJudgeModel", "areEqual", "(II)Z"⟩ ⟨"OrderJudgeModel", "areEqual", "(II)Z"⟩) ∈ lw_all := lw_g (lw_at lw_ms 15 rfl) rfl
theorem qs16 : (Cond.selects "OrderJudgeModel" ⟨"OrderJudgeModel", "decidesTurn", "(III)Z"⟩ ⟨"OrderJudgeModel", "decidesTurn", "(III)Z"⟩) ∈ lw_all := lw_g (lw_at lw_ms 16 rfl) rfl
theorem qs17 : (Cond.selects "OrderJudgeModel" ⟨"OrderJudgeModel", "fx", "(I)F"⟩ ⟨"OrderJudgeModel", "fx", "(I)F"⟩) ∈ lw_all := lw_g (lw_at lw_ms 17 rfl) rfl
theorem qs18 : (Cond.selects "OrderJudgeModel" ⟨"OrderJudgeModel", "fy", "(I)F"⟩ ⟨"OrderJudgeModel", "fy", "(I)F"⟩) ∈ lw_all := lw_g (lw_at lw_ms 18 rfl) rfl
theorem qs19 : (Cond.selects "OrderJudgeModel" ⟨"OrderJudgeModel", "most", "(III)F"⟩ ⟨"OrderJudgeModel", "most", "(III)F"⟩) ∈ lw_all := lw_g (lw_at lw_ms 19 rfl) rfl
theorem qs20 : (Cond.selects "OrderJudgeModel" ⟨"OrderJudgeModel", "turn", "(III)I"⟩ ⟨"OrderJudgeModel", "turn", "(III)I"⟩) ∈ lw_all := lw_g (lw_at lw_ms 20 rfl) rfl
theorem qs21 : (Cond.selects "OrderJudgeModel" ⟨"OrderJudgeModel", "counted", "(ZI)I"⟩ ⟨"OrderJudgeModel", "counted", "(ZI)I"⟩) ∈ lw_all := lw_g (lw_at lw_ms 21 rfl) rfl
theorem qs22 : (Cond.selects "OrderJudgeModel" ⟨"OrderJudgeModel", "decidesRing", "(IIII)Z"⟩ ⟨"OrderJudgeModel", "decidesRing", "(IIII)Z"⟩) ∈ lw_all := lw_g (lw_at lw_ms 22 rfl) rfl
theorem qs23 : (Cond.selects "OrderJudgeModel" ⟨"OrderJudgeModel", "ring", "(IIII)I"⟩ ⟨"OrderJudgeModel", "ring", "(IIII)I"⟩) ∈ lw_all := lw_g (lw_at lw_ms 23 rfl) rfl
theorem qs24 : (Cond.selects "OrderJudgeModel" ⟨"OrderJudgeModel", "isOn", "(III)Z"⟩ ⟨"OrderJudgeModel", "isOn", "(III)Z"⟩) ∈ lw_all := lw_g (lw_at lw_ms 24 rfl) rfl
theorem qs25 : (Cond.selects "OrderJudgeModel" ⟨"OrderJudgeModel", "along", "(III)J"⟩ ⟨"OrderJudgeModel", "along", "(III)J"⟩) ∈ lw_all := lw_g (lw_at lw_ms 25 rfl) rfl
theorem qs26 : (Cond.selects "OrderJudgeModel" ⟨"OrderJudgeModel", "isOneWay", "(III)Z"⟩ ⟨"OrderJudgeModel", "isOneWay", "(III)Z"⟩) ∈ lw_all := lw_g (lw_at lw_ms 26 rfl) rfl
theorem qs27 : (Cond.selects "OrderJudgeModel" ⟨"OrderJudgeModel", "common", "(IIII)I"⟩ ⟨"OrderJudgeModel", "common", "(IIII)I"⟩) ∈ lw_all := lw_g (lw_at lw_ms 27 rfl) rfl
theorem qs28 : (Cond.selects "OrderJudgeModel" ⟨"OrderJudgeModel", "isMany", "(II)Z"⟩ ⟨"OrderJudgeModel", "isMany", "(II)Z"⟩) ∈ lw_all := lw_g (lw_at lw_ms 28 rfl) rfl
theorem qs29 : (Cond.selects "OrderJudgeModel" ⟨"OrderJudgeModel", "isWhole", "(I)Z"⟩ ⟨"OrderJudgeModel", "isWhole", "(I)Z"⟩) ∈ lw_all := lw_g (lw_at lw_ms 29 rfl) rfl
theorem qs30 : (Cond.selects "OrderJudgeModel" ⟨"OrderJudgeModel", "next", "(II)I"⟩ ⟨"OrderJudgeModel", "next", "(II)I"⟩) ∈ lw_all := lw_g (lw_at lw_ms 30 rfl) rfl
theorem qs31 : (Cond.selects "OrderJudgeModel" ⟨"OrderJudgeModel", "isOnEdge", "(II)Z"⟩ ⟨"OrderJudgeModel", "isOnEdge", "(II)Z"⟩) ∈ lw_all := lw_g (lw_at lw_ms 31 rfl) rfl
theorem qs32 : (Cond.selects "OrderJudgeModel" ⟨"OrderJudgeModel", "rises", "(III)I"⟩ ⟨"OrderJudgeModel", "rises", "(III)I"⟩) ∈ lw_all := lw_g (lw_at lw_ms 32 rfl) rfl
theorem qs33 : (Cond.selects "OrderJudgeModel" ⟨"OrderJudgeModel", "far", "(II)J"⟩ ⟨"OrderJudgeModel", "far", "(II)J"⟩) ∈ lw_all := lw_g (lw_at lw_ms 33 rfl) rfl
theorem qs34 : (Cond.selects "OrderJudgeModel" ⟨"OrderJudgeModel", "isAhead", "(III)Z"⟩ ⟨"OrderJudgeModel", "isAhead", "(III)Z"⟩) ∈ lw_all := lw_g (lw_at lw_ms 34 rfl) rfl
theorem qs35 : (Cond.selects "OrderJudgeModel" ⟨"OrderJudgeModel", "half", "(II)I"⟩ ⟨"OrderJudgeModel", "half", "(II)I"⟩) ∈ lw_all := lw_g (lw_at lw_ms 35 rfl) rfl
theorem qs36 : (Cond.selects "OrderJudgeModel" ⟨"OrderJudgeModel", "isLess", "(II)Z"⟩ ⟨"OrderJudgeModel", "isLess", "(II)Z"⟩) ∈ lw_all := lw_g (lw_at lw_ms 36 rfl) rfl
theorem qs37 : (Cond.selects "OrderJudgeModel" ⟨"OrderJudgeModel", "isNew", "(I)Z"⟩ ⟨"OrderJudgeModel", "isNew", "(I)Z"⟩) ∈ lw_all := lw_g (lw_at lw_ms 37 rfl) rfl
theorem qs38 : (Cond.selects "OrderJudgeModel" ⟨"OrderJudgeModel", "isOne", "(II)Z"⟩ ⟨"OrderJudgeModel", "isOne", "(II)Z"⟩) ∈ lw_all := lw_g (lw_at lw_ms 38 rfl) rfl
theorem qs39 : (Cond.selects "OrderJudgeModel" ⟨"OrderJudgeModel", "both", "(II)J"⟩ ⟨"OrderJudgeModel", "both", "(II)J"⟩) ∈ lw_all := lw_g (lw_at lw_ms 39 rfl) rfl
theorem qs40 : (Cond.selects "OrderJudgeModel" ⟨"OrderJudgeModel", "isThrough", "(III)Z"⟩ ⟨"OrderJudgeModel", "isThrough", "(III)Z"⟩) ∈ lw_all := lw_g (lw_at lw_ms 40 rfl) rfl
