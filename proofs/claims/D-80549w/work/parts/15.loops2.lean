set_option maxRecDepth 100000
section CUTL
variable {p : Program} {l : Launch} {e : Env} {R : Room} {s : State} {m : MethodId} {args : Array Value} {below : List Frame} {meth : Method} {c : Code} {H : Heap} {locs : List Loc} {cells slots : Nat} {Q : State → Prop} {pc : Nat} {ls : Array Slot} {rest : List Value}
theorem cutL {J : Nat} {v : Int64} (k : W p l e R s m args below meth c H locs cells slots Q (F0 m J ls (.long v :: rest))) (h : (∀ x, x = v → W p l e R s m args below meth c H locs cells slots Q (F0 m J ls (.long x :: rest))) → W p l e R s m args below meth c H locs cells slots Q (F0 m pc ls rest)) : W p l e R s m args below meth c H locs cells slots Q (F0 m pc ls rest) := h (fun _ e => e ▸ k)
end CUTL
theorem rem_nI {i N : Nat} (h0 : 0 < N) (hN : N < 2 ^ 31) (hi : i < N) : nI i + 1 - (nI i + 1) / nI N * nI N = nI ((i + 1) % N) := by
  rw [nI_1]; exact pk_rem (by omega) h0 hN
def pubR (σ : Sg) (n k : Int32) (f : Nat → Int32) : Int32 := if m_isMany σ.rn n k then (if wh σ.rw (ix n) then f (ix n) else -4) else -2
def pubRP (σ : Sg) (n p : Int32) (f : Nat → Nat → Int32) : Int32 := if m_isMany σ.rn n 1 && isPt σ.np p then (if wh σ.rw (ix n) then f (ix n) (ix p) else -4) else -2
def isEnd (i j N : Nat) : Bool := decide (j = i) || decide (j = (i + 1) % N)
def m_cvG (σ : Sg) (N i j : Nat) (a : Bool × Bool) : Bool × Bool :=
  (a.1 && (isEnd i j N || decide ((if isEnd i j N then 0 else s_turn (σ.rp i) (σ.rp (nx i N)) (σ.rp j)) = 1)), a.2 && (isEnd i j N || decide ((if isEnd i j N then 0 else s_turn (σ.rp i) (σ.rp (nx i N)) (σ.rp j)) = -1)))
def m_cvO (σ : Sg) (N i : Nat) : Bool × Bool := itr (fun i a => itr (m_cvG σ N i) N a) i (true, true)
def m_convex (σ : Sg) (N : Nat) : Int32 := if (m_cvO σ N N).1 then 1 else if (m_cvO σ N N).2 then -1 else 0
def m_onE (σ : Sg) (N : Nat) (p : P2) (k : Nat) : Bool := itr (fun i a => a || m_isOn (σ.rp i) (σ.rp (nx i N)) p) k false
def m_rises (a b p : P2) : Int32 :=
  if (!decide (p.2 < a.2) && !decide (b.2 ≤ p.2)) && decide (s_turn a b p = 1) then 1
  else if (!decide (p.2 < b.2) && !decide (a.2 ≤ p.2)) && decide (s_turn a b p = -1) then -1 else 0
def m_some (σ : Sg) (N : Nat) (p : P2) (k : Nat) : Int32 := itr (fun i a => a + (if m_rises (σ.rp i) (σ.rp (nx i N)) p = 0 then 0 else 1)) k 0
def m_sum (σ : Sg) (N : Nat) (p : P2) (k : Nat) : Int32 := itr (fun i a => a + m_rises (σ.rp i) (σ.rp (nx i N)) p) k 0
def m_poly (σ : Sg) (N A : Nat) : Int32 := if m_onE σ N (σ.pt A) N then 2 else m_some σ N (σ.pt A) N - m_some σ N (σ.pt A) N / 2 * 2
def m_wind (σ : Sg) (n p : Int32) : Int32 := if (m_isMany σ.rn n 1 && isPt σ.np p) && wh σ.rw (ix n) then (if m_onE σ (ix n) (σ.pt (ix p)) (ix n) then 100 else m_sum σ (ix n) (σ.pt (ix p)) (ix n)) else -100
def m_nrG (σ : Sg) (A k : Nat) (a : Int32 × Int64) : Int32 × Int64 :=
  (if a.2 ≤ s_far (σ.pt A) (σ.rp k) then (if s_far (σ.pt A) (σ.rp k) = a.2 then a.1 ||| (1 <<< (nI k &&& 31)) else a.1) else 1 <<< (nI k &&& 31), if a.2 ≤ s_far (σ.pt A) (σ.rp k) then a.2 else s_far (σ.pt A) (σ.rp k))
def m_nrO (σ : Sg) (A k : Nat) : Int32 × Int64 := itr (m_nrG σ A) k (0, s_far (σ.pt A) (σ.rp 0))
def m_near (σ : Sg) (N A : Nat) : Int32 := (m_nrO σ A N).1
def m_ah (z p q : P2) (i k : Nat) : Bool :=
  if s_eq z p || s_eq z q then s_eq z p && (!s_eq z q || decide (i < k))
  else if m_half z p = m_half z q then (if s_turn z p q = 0 then (if s_far z p = s_far z q then decide (i < k) else decide (s_far z p < s_far z q)) else !decide (s_turn z p q ≤ 0))
  else decide (m_half z p < m_half z q)
def m_less (p q : P2) (i k : Nat) : Bool := if p.1 = q.1 then (if p.2 = q.2 then decide (i < k) else decide (p.2 < q.2)) else decide (p.1 < q.1)
/-- how many are ahead of k, of the first n places -/
def plA (ah : Nat → Nat → Bool) (k n : Nat) : Int32 := itr (fun j a => a + (if !decide (j = k) && ah j k then 1 else 0)) n 0
def plF (ah : Nat → Nat → Bool) (N : Nat) (i : Int32) (n : Nat) : Int32 := itr (fun k f => if plA ah k N = i then nI k else f) n (-1)
def inR (i n : Int32) : Bool := !decide (i < 0) && decide (i < n)
def pubO (σ : Sg) (n i : Int32) (ah : Nat → Nat → Bool) : Int32 := if m_isMany σ.rn n 1 && inR i n then (if wh σ.rw (ix n) then plF ah (ix n) i (ix n) else -4) else -2
def pubA (σ : Sg) (c n i : Int32) (ah : P2 → Nat → Nat → Bool) : Int32 := if isPt σ.np c && (m_isMany σ.rn n 1 && inR i n) then (if wh σ.rw (ix n) then plF (ah (σ.pt (ix c))) (ix n) i (ix n) else -4) else -2
def m_both (p q : L3) : Int64 := p.1 * q.2.1 - q.1 * p.2.1
def m_isOne (p q : L3) : Bool := decide (m_both p q = 0) && (decide (p.1 * q.2.2 = q.1 * p.2.2) && decide (p.2.1 * q.2.2 = q.2.1 * p.2.2))
def m_new (f : Nat → L3) (i k : Nat) : Bool := itr (fun j a => a && !m_isOne (f i) (f j)) k true
def m_isNew (f : Nat → L3) (i : Nat) : Bool := m_new f i i
def m_thr (p q r : L3) : Bool := decide (r.1 * (p.2.2 * q.2.1 - q.2.2 * p.2.1) + r.2.1 * (p.1 * q.2.2 - q.1 * p.2.2) = r.2.2 * m_both p q)
theorem dX2_convex_0 : decode cX2_convex 0 = .ok (.aload_n 0, 1) := by decide +kernel
theorem dX2_convex_1 : decode cX2_convex 1 = .ok (.iload_n 1, 1) := by decide +kernel
theorem dX2_convex_2 : decode cX2_convex 2 = .ok (.iconst 3, 1) := by decide +kernel
theorem dX2_convex_3 : decode cX2_convex 3 = .ok (.invokevirtual 139, 3) := by decide +kernel
theorem dX2_convex_6 : decode cX2_convex 6 = .ok (.ifCond .ne 6, 3) := by decide +kernel
theorem dX2_convex_9 : decode cX2_convex 9 = .ok (.bipush (-2), 2) := by decide +kernel
theorem dX2_convex_11 : decode cX2_convex 11 = .ok (.ireturn, 1) := by decide +kernel
theorem dX2_convex_12 : decode cX2_convex 12 = .ok (.aload_n 0, 1) := by decide +kernel
theorem dX2_convex_13 : decode cX2_convex 13 = .ok (.iload_n 1, 1) := by decide +kernel
theorem dX2_convex_14 : decode cX2_convex 14 = .ok (.invokevirtual 142, 3) := by decide +kernel
theorem dX2_convex_17 : decode cX2_convex 17 = .ok (.ifCond .ne 6, 3) := by decide +kernel
theorem dX2_convex_20 : decode cX2_convex 20 = .ok (.bipush (-4), 2) := by decide +kernel
theorem dX2_convex_22 : decode cX2_convex 22 = .ok (.ireturn, 1) := by decide +kernel
theorem dX2_convex_23 : decode cX2_convex 23 = .ok (.iconst 1, 1) := by decide +kernel
theorem dX2_convex_24 : decode cX2_convex 24 = .ok (.istore_n 2, 1) := by decide +kernel
theorem dX2_convex_25 : decode cX2_convex 25 = .ok (.iconst 1, 1) := by decide +kernel
theorem dX2_convex_26 : decode cX2_convex 26 = .ok (.istore_n 3, 1) := by decide +kernel
theorem dX2_convex_27 : decode cX2_convex 27 = .ok (.iconst 0, 1) := by decide +kernel
theorem dX2_convex_28 : decode cX2_convex 28 = .ok (.istore 4, 2) := by decide +kernel
theorem dX2_convex_30 : decode cX2_convex 30 = .ok (.iload 4, 2) := by decide +kernel
theorem dX2_convex_32 : decode cX2_convex 32 = .ok (.iload_n 1, 1) := by decide +kernel
theorem dX2_convex_33 : decode cX2_convex 33 = .ok (.if_icmp .ge 127, 3) := by decide +kernel
theorem dX2_convex_36 : decode cX2_convex 36 = .ok (.iconst 0, 1) := by decide +kernel
theorem dX2_convex_37 : decode cX2_convex 37 = .ok (.istore 5, 2) := by decide +kernel
theorem dX2_convex_39 : decode cX2_convex 39 = .ok (.iload 5, 2) := by decide +kernel
theorem dX2_convex_41 : decode cX2_convex 41 = .ok (.iload_n 1, 1) := by decide +kernel
theorem dX2_convex_42 : decode cX2_convex 42 = .ok (.if_icmp .ge 112, 3) := by decide +kernel
theorem dX2_convex_45 : decode cX2_convex 45 = .ok (.iload 5, 2) := by decide +kernel
theorem dX2_convex_47 : decode cX2_convex 47 = .ok (.iload 4, 2) := by decide +kernel
theorem dX2_convex_49 : decode cX2_convex 49 = .ok (.if_icmp .eq 14, 3) := by decide +kernel
theorem dX2_convex_52 : decode cX2_convex 52 = .ok (.iload 5, 2) := by decide +kernel
theorem dX2_convex_54 : decode cX2_convex 54 = .ok (.iload 4, 2) := by decide +kernel
theorem dX2_convex_56 : decode cX2_convex 56 = .ok (.iconst 1, 1) := by decide +kernel
theorem dX2_convex_57 : decode cX2_convex 57 = .ok (.iadd, 1) := by decide +kernel
theorem dX2_convex_58 : decode cX2_convex 58 = .ok (.iload_n 1, 1) := by decide +kernel
theorem dX2_convex_59 : decode cX2_convex 59 = .ok (.irem, 1) := by decide +kernel
theorem dX2_convex_60 : decode cX2_convex 60 = .ok (.if_icmp .ne 7, 3) := by decide +kernel
theorem dX2_convex_63 : decode cX2_convex 63 = .ok (.iconst 1, 1) := by decide +kernel
theorem dX2_convex_64 : decode cX2_convex 64 = .ok (.goto 4, 3) := by decide +kernel
theorem dX2_convex_67 : decode cX2_convex 67 = .ok (.iconst 0, 1) := by decide +kernel
theorem dX2_convex_68 : decode cX2_convex 68 = .ok (.istore 6, 2) := by decide +kernel
theorem dX2_convex_70 : decode cX2_convex 70 = .ok (.iload 6, 2) := by decide +kernel
theorem dX2_convex_72 : decode cX2_convex 72 = .ok (.ifCond .eq 7, 3) := by decide +kernel
theorem dX2_convex_75 : decode cX2_convex 75 = .ok (.iconst 0, 1) := by decide +kernel
theorem dX2_convex_76 : decode cX2_convex 76 = .ok (.goto 28, 3) := by decide +kernel
theorem dX2_convex_79 : decode cX2_convex 79 = .ok (.aload_n 0, 1) := by decide +kernel
theorem dX2_convex_80 : decode cX2_convex 80 = .ok (.aload_n 0, 1) := by decide +kernel
theorem dX2_convex_81 : decode cX2_convex 81 = .ok (.getfield 20, 3) := by decide +kernel
theorem dX2_convex_84 : decode cX2_convex 84 = .ok (.iload 4, 2) := by decide +kernel
theorem dX2_convex_86 : decode cX2_convex 86 = .ok (.iaload, 1) := by decide +kernel
theorem dX2_convex_87 : decode cX2_convex 87 = .ok (.aload_n 0, 1) := by decide +kernel
theorem dX2_convex_88 : decode cX2_convex 88 = .ok (.iload 4, 2) := by decide +kernel
theorem dX2_convex_90 : decode cX2_convex 90 = .ok (.iload_n 1, 1) := by decide +kernel
theorem dX2_convex_91 : decode cX2_convex 91 = .ok (.invokevirtual 145, 3) := by decide +kernel
theorem dX2_convex_94 : decode cX2_convex 94 = .ok (.aload_n 0, 1) := by decide +kernel
theorem dX2_convex_95 : decode cX2_convex 95 = .ok (.getfield 20, 3) := by decide +kernel
theorem dX2_convex_98 : decode cX2_convex 98 = .ok (.iload 5, 2) := by decide +kernel
theorem dX2_convex_100 : decode cX2_convex 100 = .ok (.iaload, 1) := by decide +kernel
theorem dX2_convex_101 : decode cX2_convex 101 = .ok (.invokevirtual 58, 3) := by decide +kernel
theorem dX2_convex_104 : decode cX2_convex 104 = .ok (.istore 7, 2) := by decide +kernel
theorem dX2_convex_106 : decode cX2_convex 106 = .ok (.iload_n 2, 1) := by decide +kernel
theorem dX2_convex_107 : decode cX2_convex 107 = .ok (.ifCond .eq 18, 3) := by decide +kernel
theorem dX2_convex_110 : decode cX2_convex 110 = .ok (.iload 6, 2) := by decide +kernel
theorem dX2_convex_112 : decode cX2_convex 112 = .ok (.ifCond .ne 9, 3) := by decide +kernel
theorem dX2_convex_115 : decode cX2_convex 115 = .ok (.iload 7, 2) := by decide +kernel
theorem dX2_convex_117 : decode cX2_convex 117 = .ok (.iconst 1, 1) := by decide +kernel
theorem dX2_convex_118 : decode cX2_convex 118 = .ok (.if_icmp .ne 7, 3) := by decide +kernel
theorem dX2_convex_121 : decode cX2_convex 121 = .ok (.iconst 1, 1) := by decide +kernel
theorem dX2_convex_122 : decode cX2_convex 122 = .ok (.goto 4, 3) := by decide +kernel
theorem dX2_convex_125 : decode cX2_convex 125 = .ok (.iconst 0, 1) := by decide +kernel
theorem dX2_convex_126 : decode cX2_convex 126 = .ok (.istore_n 2, 1) := by decide +kernel
theorem dX2_convex_127 : decode cX2_convex 127 = .ok (.iload_n 3, 1) := by decide +kernel
theorem dX2_convex_128 : decode cX2_convex 128 = .ok (.ifCond .eq 18, 3) := by decide +kernel
theorem dX2_convex_131 : decode cX2_convex 131 = .ok (.iload 6, 2) := by decide +kernel
theorem dX2_convex_133 : decode cX2_convex 133 = .ok (.ifCond .ne 9, 3) := by decide +kernel
theorem dX2_convex_136 : decode cX2_convex 136 = .ok (.iload 7, 2) := by decide +kernel
theorem dX2_convex_138 : decode cX2_convex 138 = .ok (.iconst (-1), 1) := by decide +kernel
theorem dX2_convex_139 : decode cX2_convex 139 = .ok (.if_icmp .ne 7, 3) := by decide +kernel
theorem dX2_convex_142 : decode cX2_convex 142 = .ok (.iconst 1, 1) := by decide +kernel
theorem dX2_convex_143 : decode cX2_convex 143 = .ok (.goto 4, 3) := by decide +kernel
theorem dX2_convex_146 : decode cX2_convex 146 = .ok (.iconst 0, 1) := by decide +kernel
theorem dX2_convex_147 : decode cX2_convex 147 = .ok (.istore_n 3, 1) := by decide +kernel
theorem dX2_convex_148 : decode cX2_convex 148 = .ok (.iinc 5 1, 3) := by decide +kernel
theorem dX2_convex_151 : decode cX2_convex 151 = .ok (.goto (-112), 3) := by decide +kernel
theorem dX2_convex_154 : decode cX2_convex 154 = .ok (.iinc 4 1, 3) := by decide +kernel
theorem dX2_convex_157 : decode cX2_convex 157 = .ok (.goto (-127), 3) := by decide +kernel
theorem dX2_convex_160 : decode cX2_convex 160 = .ok (.iload_n 2, 1) := by decide +kernel
theorem dX2_convex_161 : decode cX2_convex 161 = .ok (.ifCond .eq 7, 3) := by decide +kernel
theorem dX2_convex_164 : decode cX2_convex 164 = .ok (.iconst 1, 1) := by decide +kernel
theorem dX2_convex_165 : decode cX2_convex 165 = .ok (.goto 12, 3) := by decide +kernel
theorem dX2_convex_168 : decode cX2_convex 168 = .ok (.iload_n 3, 1) := by decide +kernel
theorem dX2_convex_169 : decode cX2_convex 169 = .ok (.ifCond .eq 7, 3) := by decide +kernel
theorem dX2_convex_172 : decode cX2_convex 172 = .ok (.iconst (-1), 1) := by decide +kernel
theorem dX2_convex_173 : decode cX2_convex 173 = .ok (.goto 4, 3) := by decide +kernel
theorem dX2_convex_176 : decode cX2_convex 176 = .ok (.iconst 0, 1) := by decide +kernel
theorem dX2_convex_177 : decode cX2_convex 177 = .ok (.ireturn, 1) := by decide +kernel
set_option maxHeartbeats 4000000 in
theorem met_X2_convex (l : Launch) (G : GG) {H : Heap} {o : Nat} {A : Nat → Nat} {σ : Sg} {th : Int32} {n : Int32} (hM : MW G H o A σ th) (hO : Ok σ) : PM l yX2_convex cX2_convex 8 (some .int) 2 44 G H [.ref o, .int n] (some (.int (pubR σ n 3 (m_convex σ)))) := by
  refine pm_intro pl_X2_convex (Nat.le_of_ble_eq_true rfl) ?_
  intro pX eX sX mX belX methX cX ls hE hnm hl
  obtain ⟨hx, hb, hr, hlk, hml, hown, hts, hK, hZ, hH⟩ := hE
  have hl : lv_has ls 8 [(0, .ref o), (1, .int n)] := hl
  refine lv_aload_n hx hb dX2_convex_0 rfl (lv_at hl 0 rfl) ?_
  refine lv_iload_n hx hb dX2_convex_1 rfl (lv_at hl 1 rfl) ?_
  refine lv_iconst (v := 3) hx hb dX2_convex_2 ic_3 ?_
  refine p_callV (As := [.int _, .int _]) hx hb hml hown hts hK hZ (met_X2_isMany l G hM) q840 q842 qs28 q43 q843 hv_X2_isMany rfl hM.1 rfl (by decide) hl.1 rfl (Nat.le_of_ble_eq_true rfl) dX2_convex_3 ⟨Nat.zero_le _, Nat.zero_le _⟩ ?_
  refine b_ifne (tgt := 12) hx hb dX2_convex_6 rfl (fun c_6 => ?_) (fun c_6 => ?_)
  · skip
    obtain ⟨N, hN, rfl, hge⟩ := many_elim (by decide) hO.rn31 c_6
    have hN31 : N < 2 ^ 31 := Nat.lt_of_le_of_lt hN hO.rn31
    have e1_ : (1 : Int32).toInt = 1 := rfl
    have e3_ : (3 : Int32).toInt = 3 := rfl
    have hpos : 0 < N := by omega
    refine lv_aload_n hx hb dX2_convex_12 rfl (lv_at hl 0 rfl) ?_
    refine lv_iload_n hx hb dX2_convex_13 rfl (lv_at hl 1 rfl) ?_
    refine p_callV (As := [.int _]) hx hb hml hown hts hK hZ (met_X2_isWhole l G hM hO hN) q844 q846 qs29 q43 q847 hv_X2_isWhole rfl hM.1 rfl (by decide) hl.1 rfl (Nat.le_of_ble_eq_true rfl) dX2_convex_14 ⟨Nat.zero_le _, Nat.zero_le _⟩ ?_
    refine b_ifne (tgt := 23) hx hb dX2_convex_17 rfl (fun c_17 => ?_) (fun c_17 => ?_)
    · skip
      have hr_ := HR.of hO c_17
      refine lv_iconst (v := 1) hx hb dX2_convex_23 ic_1 ?_
      refine lv_istore_n (lv' := [(2, .int _), (0, .ref _), (1, .int _)]) hx hb dX2_convex_24 rfl hl (Nat.le_of_ble_eq_true rfl) rfl (fun ls hl => ?_)
      refine lv_iconst (v := 1) hx hb dX2_convex_25 ic_1 ?_
      refine lv_istore_n (lv' := [(3, .int _), (2, .int _), (0, .ref _), (1, .int _)]) hx hb dX2_convex_26 rfl hl (Nat.le_of_ble_eq_true rfl) rfl (fun ls hl => ?_)
      refine lv_iconst (v := 0) hx hb dX2_convex_27 ic_0 ?_
      refine lv_istore (lv' := [(4, .int _), (3, .int _), (2, .int _), (0, .ref _), (1, .int _)]) hx hb dX2_convex_28 hl (Nat.le_of_ble_eq_true rfl) rfl (fun ls hl => ?_)
      refine loopW (N := N) (nL := 8) (lv := fun i => [(0, .ref o), (1, .int (nI N)), (2, .int (bI (m_cvO σ N i).1)), (3, .int (bI (m_cvO σ N i).2)), (4, .int (nI i))]) (fun i hk_i ih_i ls hl => ?_) 0 (Nat.zero_le _) ls (lv_sub hl [3, 4, 2, 1, 0] rfl)
      replace hl : lv_has ls 8 [(0, .ref o), (1, .int (nI N)), (2, .int (bI (m_cvO σ N i).1)), (3, .int (bI (m_cvO σ N i).2)), (4, .int (nI i))] := hl
      refine lv_iload hx hb dX2_convex_30 (lv_at hl 4 rfl) ?_
      refine lv_iload_n hx hb dX2_convex_32 rfl (lv_at hl 1 rfl) ?_
      refine lv_icmp_ge (tgt := 160) hx hb dX2_convex_33 rfl (fun c_33_2 => ?_) (fun c_33_2 => ?_)
      · skip
        have e_i := lp_out hk_i hN31 c_33_2
        subst e_i
        refine lv_iload_n hx hb dX2_convex_160 rfl (lv_at hl 2 rfl) ?_
        refine b_ifeq (tgt := 168) hx hb dX2_convex_161 rfl (fun c_161_3 => ?_) (fun c_161_3 => ?_)
        · skip
          refine lv_iload_n hx hb dX2_convex_168 rfl (lv_at hl 3 rfl) ?_
          refine b_ifeq (tgt := 176) hx hb dX2_convex_169 rfl (fun c_169_4 => ?_) (fun c_169_4 => ?_)
          · skip
            refine lv_iconst (v := 0) hx hb dX2_convex_176 ic_0 ?_
            exact pm_iret hx hb hr hlk hH dX2_convex_177 (by first | with_reducible rfl | (simp only [pubR, m_convex, c_6, ixn hN31, c_17, c_161_3, c_169_4, ↓reduceIte, Bool.true_and, Bool.and_true, Bool.false_and, Bool.and_false, Bool.true_or, Bool.or_true, Bool.false_or, Bool.or_false, Bool.not_true, Bool.not_false, decide_true, decide_false, bI_t, bI_f, Bool.false_eq_true, not_true_eq_false, not_false_eq_true, eq_self, reduceCtorEq, Bool.true_eq_false, and_true, true_and, and_false, false_and, or_true, true_or, or_false, false_or]; done) | (simp only [c_6, ixn hN31, c_17, c_161_3, ↓reduceIte, Bool.true_and, Bool.and_true, Bool.false_and, Bool.and_false, Bool.true_or, Bool.or_true, Bool.false_or, Bool.or_false, Bool.not_true, Bool.not_false, decide_true, decide_false, bI_t, bI_f, Bool.false_eq_true, not_true_eq_false, not_false_eq_true, eq_self, reduceCtorEq, Bool.true_eq_false, and_true, true_and, and_false, false_and, or_true, true_or, or_false, false_or] at c_169_4; done) | (simp only [c_6, ixn hN31, c_17, c_169_4, ↓reduceIte, Bool.true_and, Bool.and_true, Bool.false_and, Bool.and_false, Bool.true_or, Bool.or_true, Bool.false_or, Bool.or_false, Bool.not_true, Bool.not_false, decide_true, decide_false, bI_t, bI_f, Bool.false_eq_true, not_true_eq_false, not_false_eq_true, eq_self, reduceCtorEq, Bool.true_eq_false, and_true, true_and, and_false, false_and, or_true, true_or, or_false, false_or] at c_161_3; done) | (simp only [c_6, ixn hN31, c_161_3, c_169_4, ↓reduceIte, Bool.true_and, Bool.and_true, Bool.false_and, Bool.and_false, Bool.true_or, Bool.or_true, Bool.false_or, Bool.or_false, Bool.not_true, Bool.not_false, decide_true, decide_false, bI_t, bI_f, Bool.false_eq_true, not_true_eq_false, not_false_eq_true, eq_self, reduceCtorEq, Bool.true_eq_false, and_true, true_and, and_false, false_and, or_true, true_or, or_false, false_or] at c_17; done) | (simp only [ixn hN31, c_17, c_161_3, c_169_4, ↓reduceIte, Bool.true_and, Bool.and_true, Bool.false_and, Bool.and_false, Bool.true_or, Bool.or_true, Bool.false_or, Bool.or_false, Bool.not_true, Bool.not_false, decide_true, decide_false, bI_t, bI_f, Bool.false_eq_true, not_true_eq_false, not_false_eq_true, eq_self, reduceCtorEq, Bool.true_eq_false, and_true, true_and, and_false, false_and, or_true, true_or, or_false, false_or] at c_6; done))
          refine lv_iconst (v := -1) hx hb dX2_convex_172 ic_m1 ?_
          refine lv_goto (tgt := 177) hx hb dX2_convex_173 rfl ?_
          exact pm_iret hx hb hr hlk hH dX2_convex_177 (by first | with_reducible rfl | (simp only [pubR, m_convex, c_6, ixn hN31, c_17, c_161_3, c_169_4, ↓reduceIte, Bool.true_and, Bool.and_true, Bool.false_and, Bool.and_false, Bool.true_or, Bool.or_true, Bool.false_or, Bool.or_false, Bool.not_true, Bool.not_false, decide_true, decide_false, bI_t, bI_f, Bool.false_eq_true, not_true_eq_false, not_false_eq_true, eq_self, reduceCtorEq, Bool.true_eq_false, and_true, true_and, and_false, false_and, or_true, true_or, or_false, false_or]; done) | (simp only [c_6, ixn hN31, c_17, c_161_3, ↓reduceIte, Bool.true_and, Bool.and_true, Bool.false_and, Bool.and_false, Bool.true_or, Bool.or_true, Bool.false_or, Bool.or_false, Bool.not_true, Bool.not_false, decide_true, decide_false, bI_t, bI_f, Bool.false_eq_true, not_true_eq_false, not_false_eq_true, eq_self, reduceCtorEq, Bool.true_eq_false, and_true, true_and, and_false, false_and, or_true, true_or, or_false, false_or] at c_169_4; done) | (simp only [c_6, ixn hN31, c_17, c_169_4, ↓reduceIte, Bool.true_and, Bool.and_true, Bool.false_and, Bool.and_false, Bool.true_or, Bool.or_true, Bool.false_or, Bool.or_false, Bool.not_true, Bool.not_false, decide_true, decide_false, bI_t, bI_f, Bool.false_eq_true, not_true_eq_false, not_false_eq_true, eq_self, reduceCtorEq, Bool.true_eq_false, and_true, true_and, and_false, false_and, or_true, true_or, or_false, false_or] at c_161_3; done) | (simp only [c_6, ixn hN31, c_161_3, c_169_4, ↓reduceIte, Bool.true_and, Bool.and_true, Bool.false_and, Bool.and_false, Bool.true_or, Bool.or_true, Bool.false_or, Bool.or_false, Bool.not_true, Bool.not_false, decide_true, decide_false, bI_t, bI_f, Bool.false_eq_true, not_true_eq_false, not_false_eq_true, eq_self, reduceCtorEq, Bool.true_eq_false, and_true, true_and, and_false, false_and, or_true, true_or, or_false, false_or] at c_17; done) | (simp only [ixn hN31, c_17, c_161_3, c_169_4, ↓reduceIte, Bool.true_and, Bool.and_true, Bool.false_and, Bool.and_false, Bool.true_or, Bool.or_true, Bool.false_or, Bool.or_false, Bool.not_true, Bool.not_false, decide_true, decide_false, bI_t, bI_f, Bool.false_eq_true, not_true_eq_false, not_false_eq_true, eq_self, reduceCtorEq, Bool.true_eq_false, and_true, true_and, and_false, false_and, or_true, true_or, or_false, false_or] at c_6; done))
        refine lv_iconst (v := 1) hx hb dX2_convex_164 ic_1 ?_
        refine lv_goto (tgt := 177) hx hb dX2_convex_165 rfl ?_
        exact pm_iret hx hb hr hlk hH dX2_convex_177 (by first | with_reducible rfl | (simp only [pubR, m_convex, c_6, ixn hN31, c_17, c_161_3, ↓reduceIte, Bool.true_and, Bool.and_true, Bool.false_and, Bool.and_false, Bool.true_or, Bool.or_true, Bool.false_or, Bool.or_false, Bool.not_true, Bool.not_false, decide_true, decide_false, bI_t, bI_f, Bool.false_eq_true, not_true_eq_false, not_false_eq_true, eq_self, reduceCtorEq, Bool.true_eq_false, and_true, true_and, and_false, false_and, or_true, true_or, or_false, false_or]; done) | (simp only [c_6, ixn hN31, c_17, ↓reduceIte, Bool.true_and, Bool.and_true, Bool.false_and, Bool.and_false, Bool.true_or, Bool.or_true, Bool.false_or, Bool.or_false, Bool.not_true, Bool.not_false, decide_true, decide_false, bI_t, bI_f, Bool.false_eq_true, not_true_eq_false, not_false_eq_true, eq_self, reduceCtorEq, Bool.true_eq_false, and_true, true_and, and_false, false_and, or_true, true_or, or_false, false_or] at c_161_3; done) | (simp only [c_6, ixn hN31, c_161_3, ↓reduceIte, Bool.true_and, Bool.and_true, Bool.false_and, Bool.and_false, Bool.true_or, Bool.or_true, Bool.false_or, Bool.or_false, Bool.not_true, Bool.not_false, decide_true, decide_false, bI_t, bI_f, Bool.false_eq_true, not_true_eq_false, not_false_eq_true, eq_self, reduceCtorEq, Bool.true_eq_false, and_true, true_and, and_false, false_and, or_true, true_or, or_false, false_or] at c_17; done) | (simp only [ixn hN31, c_17, c_161_3, ↓reduceIte, Bool.true_and, Bool.and_true, Bool.false_and, Bool.and_false, Bool.true_or, Bool.or_true, Bool.false_or, Bool.or_false, Bool.not_true, Bool.not_false, decide_true, decide_false, bI_t, bI_f, Bool.false_eq_true, not_true_eq_false, not_false_eq_true, eq_self, reduceCtorEq, Bool.true_eq_false, and_true, true_and, and_false, false_and, or_true, true_or, or_false, false_or] at c_6; done))
      have h_i := lp_in hk_i hN31 c_33_2
      refine lv_iconst (v := 0) hx hb dX2_convex_36 ic_0 ?_
      refine lv_istore (lv' := [(5, .int _), (0, .ref _), (1, .int _), (2, .int _), (3, .int _), (4, .int _)]) hx hb dX2_convex_37 hl (Nat.le_of_ble_eq_true rfl) rfl (fun ls hl => ?_)
      refine loopW (N := N) (nL := 8) (lv := fun j => [(0, .ref o), (1, .int (nI N)), (2, .int (bI (itr (m_cvG σ N i) j (m_cvO σ N i)).1)), (3, .int (bI (itr (m_cvG σ N i) j (m_cvO σ N i)).2)), (4, .int (nI i)), (5, .int (nI j))]) (fun j hk_j ih_j ls hl => ?_) 0 (Nat.zero_le _) ls (lv_sub hl [1, 2, 3, 4, 5, 0] rfl)
      replace hl : lv_has ls 8 [(0, .ref o), (1, .int (nI N)), (2, .int (bI (itr (m_cvG σ N i) j (m_cvO σ N i)).1)), (3, .int (bI (itr (m_cvG σ N i) j (m_cvO σ N i)).2)), (4, .int (nI i)), (5, .int (nI j))] := hl
      refine lv_iload hx hb dX2_convex_39 (lv_at hl 5 rfl) ?_
      refine lv_iload_n hx hb dX2_convex_41 rfl (lv_at hl 1 rfl) ?_
      refine lv_icmp_ge (tgt := 154) hx hb dX2_convex_42 rfl (fun c_42_3 => ?_) (fun c_42_3 => ?_)
      · skip
        have e_j := lp_out hk_j hN31 c_42_3
        subst e_j
        refine lv_iinc (v := nI (i + 1)) (k := 4) (lv' := [(4, .int _), (0, .ref _), (1, .int _), (2, .int _), (3, .int _), (5, .int _)]) hx hb dX2_convex_154 hl rfl (nI_1 _) (Nat.le_of_ble_eq_true rfl) rfl (fun ls hl => ?_)
        refine lv_goto (tgt := 30) hx hb dX2_convex_157 rfl ?_
        exact ih_i ls (lv_sub hl [1, 2, 3, 4, 0] rfl) h_i
      have h_j := lp_in hk_j hN31 c_42_3
      refine cutI (J := 68) (v := bI (isEnd i j N)) ?_ (fun K8 => ?_)
      rotate_left
      · skip
        refine lv_iload hx hb dX2_convex_45 (lv_at hl 5 rfl) ?_
        refine lv_iload hx hb dX2_convex_47 (lv_at hl 4 rfl) ?_
        refine lv_icmp_eq (tgt := 63) hx hb dX2_convex_49 rfl (fun c_49_4 => ?_) (fun c_49_4 => ?_)
        · skip
          refine lv_iconst (v := 1) hx hb dX2_convex_63 ic_1 ?_
          refine lv_goto (tgt := 68) hx hb dX2_convex_64 rfl ?_
          exact K8 _ (by first | with_reducible rfl | (simp only [pubR, m_convex, isEnd, c_6, ixn hN31, c_17, eq_true ((nI_eq (by omega) (by omega)).mp c_49_4), ↓reduceIte, Bool.true_and, Bool.and_true, Bool.false_and, Bool.and_false, Bool.true_or, Bool.or_true, Bool.false_or, Bool.or_false, Bool.not_true, Bool.not_false, decide_true, decide_false, bI_t, bI_f, Bool.false_eq_true, not_true_eq_false, not_false_eq_true, eq_self, reduceCtorEq, Bool.true_eq_false, and_true, true_and, and_false, false_and, or_true, true_or, or_false, false_or]; done) | (simp only [c_6, ixn hN31, c_17, ↓reduceIte, Bool.true_and, Bool.and_true, Bool.false_and, Bool.and_false, Bool.true_or, Bool.or_true, Bool.false_or, Bool.or_false, Bool.not_true, Bool.not_false, decide_true, decide_false, bI_t, bI_f, Bool.false_eq_true, not_true_eq_false, not_false_eq_true, eq_self, reduceCtorEq, Bool.true_eq_false, and_true, true_and, and_false, false_and, or_true, true_or, or_false, false_or] at c_49_4; done) | (simp only [c_6, ixn hN31, eq_true ((nI_eq (by omega) (by omega)).mp c_49_4), ↓reduceIte, Bool.true_and, Bool.and_true, Bool.false_and, Bool.and_false, Bool.true_or, Bool.or_true, Bool.false_or, Bool.or_false, Bool.not_true, Bool.not_false, decide_true, decide_false, bI_t, bI_f, Bool.false_eq_true, not_true_eq_false, not_false_eq_true, eq_self, reduceCtorEq, Bool.true_eq_false, and_true, true_and, and_false, false_and, or_true, true_or, or_false, false_or] at c_17; done) | (simp only [ixn hN31, c_17, eq_true ((nI_eq (by omega) (by omega)).mp c_49_4), ↓reduceIte, Bool.true_and, Bool.and_true, Bool.false_and, Bool.and_false, Bool.true_or, Bool.or_true, Bool.false_or, Bool.or_false, Bool.not_true, Bool.not_false, decide_true, decide_false, bI_t, bI_f, Bool.false_eq_true, not_true_eq_false, not_false_eq_true, eq_self, reduceCtorEq, Bool.true_eq_false, and_true, true_and, and_false, false_and, or_true, true_or, or_false, false_or] at c_6; done))
        refine lv_iload hx hb dX2_convex_52 (lv_at hl 5 rfl) ?_
        refine lv_iload hx hb dX2_convex_54 (lv_at hl 4 rfl) ?_
        refine lv_iconst (v := 1) hx hb dX2_convex_56 ic_1 ?_
        refine lv_iadd hx hb dX2_convex_57 ?_
        refine lv_iload_n hx hb dX2_convex_58 rfl (lv_at hl 1 rfl) ?_
        refine lv_irem hx hb dX2_convex_59 (nI_ne0 hpos hN31) ?_
        have hm_ := Nat.mod_lt (i + 1) hpos
        refine topi_eq (rem_nI hpos hN31 h_i) ?_
        refine lv_icmp_ne (tgt := 67) hx hb dX2_convex_60 rfl (fun c_60_5 => ?_) (fun c_60_5 => ?_)
        · skip
          refine lv_iconst (v := 0) hx hb dX2_convex_67 ic_0 ?_
          exact K8 _ (by first | with_reducible rfl | (simp only [pubR, m_convex, isEnd, c_6, ixn hN31, c_17, (eq_false (fun h => c_49_4 (congrArg nI h)) : (j = i) = False), (eq_false (fun h => c_60_5 (congrArg nI h)) : (j = ((i + 1) % N)) = False), ↓reduceIte, Bool.true_and, Bool.and_true, Bool.false_and, Bool.and_false, Bool.true_or, Bool.or_true, Bool.false_or, Bool.or_false, Bool.not_true, Bool.not_false, decide_true, decide_false, bI_t, bI_f, Bool.false_eq_true, not_true_eq_false, not_false_eq_true, eq_self, reduceCtorEq, Bool.true_eq_false, and_true, true_and, and_false, false_and, or_true, true_or, or_false, false_or]; done) | (simp only [c_6, ixn hN31, c_17, (eq_false (fun h => c_49_4 (congrArg nI h)) : (j = i) = False), ↓reduceIte, Bool.true_and, Bool.and_true, Bool.false_and, Bool.and_false, Bool.true_or, Bool.or_true, Bool.false_or, Bool.or_false, Bool.not_true, Bool.not_false, decide_true, decide_false, bI_t, bI_f, Bool.false_eq_true, not_true_eq_false, not_false_eq_true, eq_self, reduceCtorEq, Bool.true_eq_false, and_true, true_and, and_false, false_and, or_true, true_or, or_false, false_or] at c_60_5; done) | (simp only [c_6, ixn hN31, c_17, (eq_false (fun h => c_60_5 (congrArg nI h)) : (j = ((i + 1) % N)) = False), ↓reduceIte, Bool.true_and, Bool.and_true, Bool.false_and, Bool.and_false, Bool.true_or, Bool.or_true, Bool.false_or, Bool.or_false, Bool.not_true, Bool.not_false, decide_true, decide_false, bI_t, bI_f, Bool.false_eq_true, not_true_eq_false, not_false_eq_true, eq_self, reduceCtorEq, Bool.true_eq_false, and_true, true_and, and_false, false_and, or_true, true_or, or_false, false_or] at c_49_4; done) | (simp only [c_6, ixn hN31, (eq_false (fun h => c_49_4 (congrArg nI h)) : (j = i) = False), (eq_false (fun h => c_60_5 (congrArg nI h)) : (j = ((i + 1) % N)) = False), ↓reduceIte, Bool.true_and, Bool.and_true, Bool.false_and, Bool.and_false, Bool.true_or, Bool.or_true, Bool.false_or, Bool.or_false, Bool.not_true, Bool.not_false, decide_true, decide_false, bI_t, bI_f, Bool.false_eq_true, not_true_eq_false, not_false_eq_true, eq_self, reduceCtorEq, Bool.true_eq_false, and_true, true_and, and_false, false_and, or_true, true_or, or_false, false_or] at c_17; done) | (simp only [ixn hN31, c_17, (eq_false (fun h => c_49_4 (congrArg nI h)) : (j = i) = False), (eq_false (fun h => c_60_5 (congrArg nI h)) : (j = ((i + 1) % N)) = False), ↓reduceIte, Bool.true_and, Bool.and_true, Bool.false_and, Bool.and_false, Bool.true_or, Bool.or_true, Bool.false_or, Bool.or_false, Bool.not_true, Bool.not_false, decide_true, decide_false, bI_t, bI_f, Bool.false_eq_true, not_true_eq_false, not_false_eq_true, eq_self, reduceCtorEq, Bool.true_eq_false, and_true, true_and, and_false, false_and, or_true, true_or, or_false, false_or] at c_6; done))
        refine lv_iconst (v := 1) hx hb dX2_convex_63 ic_1 ?_
        refine lv_goto (tgt := 68) hx hb dX2_convex_64 rfl ?_
        exact K8 _ (by first | with_reducible rfl | (simp only [pubR, m_convex, isEnd, c_6, ixn hN31, c_17, (eq_false (fun h => c_49_4 (congrArg nI h)) : (j = i) = False), eq_true ((nI_eq (by omega) (by omega)).mp c_60_5), ↓reduceIte, Bool.true_and, Bool.and_true, Bool.false_and, Bool.and_false, Bool.true_or, Bool.or_true, Bool.false_or, Bool.or_false, Bool.not_true, Bool.not_false, decide_true, decide_false, bI_t, bI_f, Bool.false_eq_true, not_true_eq_false, not_false_eq_true, eq_self, reduceCtorEq, Bool.true_eq_false, and_true, true_and, and_false, false_and, or_true, true_or, or_false, false_or]; done) | (simp only [c_6, ixn hN31, c_17, (eq_false (fun h => c_49_4 (congrArg nI h)) : (j = i) = False), ↓reduceIte, Bool.true_and, Bool.and_true, Bool.false_and, Bool.and_false, Bool.true_or, Bool.or_true, Bool.false_or, Bool.or_false, Bool.not_true, Bool.not_false, decide_true, decide_false, bI_t, bI_f, Bool.false_eq_true, not_true_eq_false, not_false_eq_true, eq_self, reduceCtorEq, Bool.true_eq_false, and_true, true_and, and_false, false_and, or_true, true_or, or_false, false_or] at c_60_5; done) | (simp only [c_6, ixn hN31, c_17, eq_true ((nI_eq (by omega) (by omega)).mp c_60_5), ↓reduceIte, Bool.true_and, Bool.and_true, Bool.false_and, Bool.and_false, Bool.true_or, Bool.or_true, Bool.false_or, Bool.or_false, Bool.not_true, Bool.not_false, decide_true, decide_false, bI_t, bI_f, Bool.false_eq_true, not_true_eq_false, not_false_eq_true, eq_self, reduceCtorEq, Bool.true_eq_false, and_true, true_and, and_false, false_and, or_true, true_or, or_false, false_or] at c_49_4; done) | (simp only [c_6, ixn hN31, (eq_false (fun h => c_49_4 (congrArg nI h)) : (j = i) = False), eq_true ((nI_eq (by omega) (by omega)).mp c_60_5), ↓reduceIte, Bool.true_and, Bool.and_true, Bool.false_and, Bool.and_false, Bool.true_or, Bool.or_true, Bool.false_or, Bool.or_false, Bool.not_true, Bool.not_false, decide_true, decide_false, bI_t, bI_f, Bool.false_eq_true, not_true_eq_false, not_false_eq_true, eq_self, reduceCtorEq, Bool.true_eq_false, and_true, true_and, and_false, false_and, or_true, true_or, or_false, false_or] at c_17; done) | (simp only [ixn hN31, c_17, (eq_false (fun h => c_49_4 (congrArg nI h)) : (j = i) = False), eq_true ((nI_eq (by omega) (by omega)).mp c_60_5), ↓reduceIte, Bool.true_and, Bool.and_true, Bool.false_and, Bool.and_false, Bool.true_or, Bool.or_true, Bool.false_or, Bool.or_false, Bool.not_true, Bool.not_false, decide_true, decide_false, bI_t, bI_f, Bool.false_eq_true, not_true_eq_false, not_false_eq_true, eq_self, reduceCtorEq, Bool.true_eq_false, and_true, true_and, and_false, false_and, or_true, true_or, or_false, false_or] at c_6; done))
      refine lv_istore (lv' := [(6, .int _), (0, .ref _), (1, .int _), (2, .int _), (3, .int _), (4, .int _), (5, .int _)]) hx hb dX2_convex_68 hl (Nat.le_of_ble_eq_true rfl) rfl (fun ls hl => ?_)
      refine cutI (J := 104) (v := (if isEnd i j N then 0 else s_turn (σ.rp i) (σ.rp (nx i N)) (σ.rp j))) ?_ (fun K9 => ?_)
      rotate_left
      · skip
        refine lv_iload hx hb dX2_convex_70 (lv_at hl 0 rfl) ?_
        refine b_ifeq (tgt := 79) hx hb dX2_convex_72 rfl (fun c_72_4 => ?_) (fun c_72_4 => ?_)
        · skip
          refine lv_aload_n hx hb dX2_convex_79 rfl (lv_at hl 1 rfl) ?_
          refine lv_aload_n hx hb dX2_convex_80 rfl (lv_at hl 1 rfl) ?_
          refine gf_X2_20 hx hb hts hown hK hM.1 rfl dX2_convex_81 ?_
          refine lv_iload hx hb dX2_convex_84 (lv_at hl 5 rfl) ?_
          refine r_iald hx hb hK hM.2.2.2.1 dX2_convex_86 (k := i) (hO.lt24 (Nat.lt_of_lt_of_le h_i hN)) (by decide) rfl (rI_some (hr_ _ h_i).1) ?_
          refine lv_aload_n hx hb dX2_convex_87 rfl (lv_at hl 1 rfl) ?_
          refine lv_iload hx hb dX2_convex_88 (lv_at hl 5 rfl) ?_
          refine lv_iload_n hx hb dX2_convex_90 rfl (lv_at hl 2 rfl) ?_
          refine p_callV (As := [.int _, .int _]) hx hb hml hown hts hK hZ (met_X2_next l G hM hO hN hr_ h_i) q848 q850 qs30 q43 q851 hv_X2_next rfl hM.1 rfl (by decide) hl.1 rfl (Nat.le_of_ble_eq_true rfl) dX2_convex_91 ⟨Nat.zero_le _, Nat.zero_le _⟩ ?_
          refine lv_aload_n hx hb dX2_convex_94 rfl (lv_at hl 1 rfl) ?_
          refine gf_X2_20 hx hb hts hown hK hM.1 rfl dX2_convex_95 ?_
          refine lv_iload hx hb dX2_convex_98 (lv_at hl 6 rfl) ?_
          refine r_iald hx hb hK hM.2.2.2.1 dX2_convex_100 (k := j) (hO.lt24 (Nat.lt_of_lt_of_le h_j hN)) (by decide) rfl (rI_some (hr_ _ h_j).1) ?_
          refine p_callV (As := [.int _, .int _, .int _]) hx hb hml hown hts hK hZ (met_X2_turn l G hM hO (hr_ _ h_i).2 (hr_ _ (nx_lt h_i)).2 (hr_ _ h_j).2) q772 q774 qs20 q43 q775 hv_X2_turn rfl hM.1 rfl (by decide) hl.1 rfl (Nat.le_of_ble_eq_true rfl) dX2_convex_101 ⟨Nat.zero_le _, Nat.zero_le _⟩ ?_
          exact K9 _ (by first | with_reducible rfl | (simp only [pubR, m_convex, c_6, ixn hN31, c_17, c_72_4, ↓reduceIte, Bool.true_and, Bool.and_true, Bool.false_and, Bool.and_false, Bool.true_or, Bool.or_true, Bool.false_or, Bool.or_false, Bool.not_true, Bool.not_false, decide_true, decide_false, bI_t, bI_f, Bool.false_eq_true, not_true_eq_false, not_false_eq_true, eq_self, reduceCtorEq, Bool.true_eq_false, and_true, true_and, and_false, false_and, or_true, true_or, or_false, false_or]; done) | (simp only [c_6, ixn hN31, c_17, ↓reduceIte, Bool.true_and, Bool.and_true, Bool.false_and, Bool.and_false, Bool.true_or, Bool.or_true, Bool.false_or, Bool.or_false, Bool.not_true, Bool.not_false, decide_true, decide_false, bI_t, bI_f, Bool.false_eq_true, not_true_eq_false, not_false_eq_true, eq_self, reduceCtorEq, Bool.true_eq_false, and_true, true_and, and_false, false_and, or_true, true_or, or_false, false_or] at c_72_4; done) | (simp only [c_6, ixn hN31, c_72_4, ↓reduceIte, Bool.true_and, Bool.and_true, Bool.false_and, Bool.and_false, Bool.true_or, Bool.or_true, Bool.false_or, Bool.or_false, Bool.not_true, Bool.not_false, decide_true, decide_false, bI_t, bI_f, Bool.false_eq_true, not_true_eq_false, not_false_eq_true, eq_self, reduceCtorEq, Bool.true_eq_false, and_true, true_and, and_false, false_and, or_true, true_or, or_false, false_or] at c_17; done) | (simp only [ixn hN31, c_17, c_72_4, ↓reduceIte, Bool.true_and, Bool.and_true, Bool.false_and, Bool.and_false, Bool.true_or, Bool.or_true, Bool.false_or, Bool.or_false, Bool.not_true, Bool.not_false, decide_true, decide_false, bI_t, bI_f, Bool.false_eq_true, not_true_eq_false, not_false_eq_true, eq_self, reduceCtorEq, Bool.true_eq_false, and_true, true_and, and_false, false_and, or_true, true_or, or_false, false_or] at c_6; done))
        refine lv_iconst (v := 0) hx hb dX2_convex_75 ic_0 ?_
        refine lv_goto (tgt := 104) hx hb dX2_convex_76 rfl ?_
        exact K9 _ (by first | with_reducible rfl | (simp only [pubR, m_convex, c_6, ixn hN31, c_17, c_72_4, ↓reduceIte, Bool.true_and, Bool.and_true, Bool.false_and, Bool.and_false, Bool.true_or, Bool.or_true, Bool.false_or, Bool.or_false, Bool.not_true, Bool.not_false, decide_true, decide_false, bI_t, bI_f, Bool.false_eq_true, not_true_eq_false, not_false_eq_true, eq_self, reduceCtorEq, Bool.true_eq_false, and_true, true_and, and_false, false_and, or_true, true_or, or_false, false_or]; done) | (simp only [c_6, ixn hN31, c_17, ↓reduceIte, Bool.true_and, Bool.and_true, Bool.false_and, Bool.and_false, Bool.true_or, Bool.or_true, Bool.false_or, Bool.or_false, Bool.not_true, Bool.not_false, decide_true, decide_false, bI_t, bI_f, Bool.false_eq_true, not_true_eq_false, not_false_eq_true, eq_self, reduceCtorEq, Bool.true_eq_false, and_true, true_and, and_false, false_and, or_true, true_or, or_false, false_or] at c_72_4; done) | (simp only [c_6, ixn hN31, c_72_4, ↓reduceIte, Bool.true_and, Bool.and_true, Bool.false_and, Bool.and_false, Bool.true_or, Bool.or_true, Bool.false_or, Bool.or_false, Bool.not_true, Bool.not_false, decide_true, decide_false, bI_t, bI_f, Bool.false_eq_true, not_true_eq_false, not_false_eq_true, eq_self, reduceCtorEq, Bool.true_eq_false, and_true, true_and, and_false, false_and, or_true, true_or, or_false, false_or] at c_17; done) | (simp only [ixn hN31, c_17, c_72_4, ↓reduceIte, Bool.true_and, Bool.and_true, Bool.false_and, Bool.and_false, Bool.true_or, Bool.or_true, Bool.false_or, Bool.or_false, Bool.not_true, Bool.not_false, decide_true, decide_false, bI_t, bI_f, Bool.false_eq_true, not_true_eq_false, not_false_eq_true, eq_self, reduceCtorEq, Bool.true_eq_false, and_true, true_and, and_false, false_and, or_true, true_or, or_false, false_or] at c_6; done))
      refine lv_topi (fun t_ et_ => ?_)
      refine lv_istore (lv' := [(7, .int _), (6, .int _), (0, .ref _), (1, .int _), (2, .int _), (3, .int _), (4, .int _), (5, .int _)]) hx hb dX2_convex_104 hl (Nat.le_of_ble_eq_true rfl) rfl (fun ls hl => ?_)
      refine cutI (J := 126) (v := bI ((itr (m_cvG σ N i) j (m_cvO σ N i)).1 && (isEnd i j N || decide (t_ = 1)))) ?_ (fun K10 => ?_)
      rotate_left
      · skip
        refine lv_iload_n hx hb dX2_convex_106 rfl (lv_at hl 4 rfl) ?_
        refine b_ifeq (tgt := 125) hx hb dX2_convex_107 rfl (fun c_107_4 => ?_) (fun c_107_4 => ?_)
        · skip
          refine lv_iconst (v := 0) hx hb dX2_convex_125 ic_0 ?_
          exact K10 _ (by first | with_reducible rfl | (simp only [pubR, m_convex, c_6, ixn hN31, c_17, c_107_4, ↓reduceIte, Bool.true_and, Bool.and_true, Bool.false_and, Bool.and_false, Bool.true_or, Bool.or_true, Bool.false_or, Bool.or_false, Bool.not_true, Bool.not_false, decide_true, decide_false, bI_t, bI_f, Bool.false_eq_true, not_true_eq_false, not_false_eq_true, eq_self, reduceCtorEq, Bool.true_eq_false, and_true, true_and, and_false, false_and, or_true, true_or, or_false, false_or]; done) | (simp only [c_6, ixn hN31, c_17, ↓reduceIte, Bool.true_and, Bool.and_true, Bool.false_and, Bool.and_false, Bool.true_or, Bool.or_true, Bool.false_or, Bool.or_false, Bool.not_true, Bool.not_false, decide_true, decide_false, bI_t, bI_f, Bool.false_eq_true, not_true_eq_false, not_false_eq_true, eq_self, reduceCtorEq, Bool.true_eq_false, and_true, true_and, and_false, false_and, or_true, true_or, or_false, false_or] at c_107_4; done) | (simp only [c_6, ixn hN31, c_107_4, ↓reduceIte, Bool.true_and, Bool.and_true, Bool.false_and, Bool.and_false, Bool.true_or, Bool.or_true, Bool.false_or, Bool.or_false, Bool.not_true, Bool.not_false, decide_true, decide_false, bI_t, bI_f, Bool.false_eq_true, not_true_eq_false, not_false_eq_true, eq_self, reduceCtorEq, Bool.true_eq_false, and_true, true_and, and_false, false_and, or_true, true_or, or_false, false_or] at c_17; done) | (simp only [ixn hN31, c_17, c_107_4, ↓reduceIte, Bool.true_and, Bool.and_true, Bool.false_and, Bool.and_false, Bool.true_or, Bool.or_true, Bool.false_or, Bool.or_false, Bool.not_true, Bool.not_false, decide_true, decide_false, bI_t, bI_f, Bool.false_eq_true, not_true_eq_false, not_false_eq_true, eq_self, reduceCtorEq, Bool.true_eq_false, and_true, true_and, and_false, false_and, or_true, true_or, or_false, false_or] at c_6; done))
        refine lv_iload hx hb dX2_convex_110 (lv_at hl 1 rfl) ?_
        refine b_ifne (tgt := 121) hx hb dX2_convex_112 rfl (fun c_112_5 => ?_) (fun c_112_5 => ?_)
        · skip
          refine lv_iconst (v := 1) hx hb dX2_convex_121 ic_1 ?_
          refine lv_goto (tgt := 126) hx hb dX2_convex_122 rfl ?_
          exact K10 _ (by first | with_reducible rfl | (simp only [pubR, m_convex, c_6, ixn hN31, c_17, c_107_4, c_112_5, ↓reduceIte, Bool.true_and, Bool.and_true, Bool.false_and, Bool.and_false, Bool.true_or, Bool.or_true, Bool.false_or, Bool.or_false, Bool.not_true, Bool.not_false, decide_true, decide_false, bI_t, bI_f, Bool.false_eq_true, not_true_eq_false, not_false_eq_true, eq_self, reduceCtorEq, Bool.true_eq_false, and_true, true_and, and_false, false_and, or_true, true_or, or_false, false_or]; done) | (simp only [c_6, ixn hN31, c_17, c_107_4, ↓reduceIte, Bool.true_and, Bool.and_true, Bool.false_and, Bool.and_false, Bool.true_or, Bool.or_true, Bool.false_or, Bool.or_false, Bool.not_true, Bool.not_false, decide_true, decide_false, bI_t, bI_f, Bool.false_eq_true, not_true_eq_false, not_false_eq_true, eq_self, reduceCtorEq, Bool.true_eq_false, and_true, true_and, and_false, false_and, or_true, true_or, or_false, false_or] at c_112_5; done) | (simp only [c_6, ixn hN31, c_17, c_112_5, ↓reduceIte, Bool.true_and, Bool.and_true, Bool.false_and, Bool.and_false, Bool.true_or, Bool.or_true, Bool.false_or, Bool.or_false, Bool.not_true, Bool.not_false, decide_true, decide_false, bI_t, bI_f, Bool.false_eq_true, not_true_eq_false, not_false_eq_true, eq_self, reduceCtorEq, Bool.true_eq_false, and_true, true_and, and_false, false_and, or_true, true_or, or_false, false_or] at c_107_4; done) | (simp only [c_6, ixn hN31, c_107_4, c_112_5, ↓reduceIte, Bool.true_and, Bool.and_true, Bool.false_and, Bool.and_false, Bool.true_or, Bool.or_true, Bool.false_or, Bool.or_false, Bool.not_true, Bool.not_false, decide_true, decide_false, bI_t, bI_f, Bool.false_eq_true, not_true_eq_false, not_false_eq_true, eq_self, reduceCtorEq, Bool.true_eq_false, and_true, true_and, and_false, false_and, or_true, true_or, or_false, false_or] at c_17; done) | (simp only [ixn hN31, c_17, c_107_4, c_112_5, ↓reduceIte, Bool.true_and, Bool.and_true, Bool.false_and, Bool.and_false, Bool.true_or, Bool.or_true, Bool.false_or, Bool.or_false, Bool.not_true, Bool.not_false, decide_true, decide_false, bI_t, bI_f, Bool.false_eq_true, not_true_eq_false, not_false_eq_true, eq_self, reduceCtorEq, Bool.true_eq_false, and_true, true_and, and_false, false_and, or_true, true_or, or_false, false_or] at c_6; done))
        refine lv_iload hx hb dX2_convex_115 (lv_at hl 0 rfl) ?_
        refine lv_iconst (v := 1) hx hb dX2_convex_117 ic_1 ?_
        refine lv_icmp_ne (tgt := 125) hx hb dX2_convex_118 rfl (fun c_118_6 => ?_) (fun c_118_6 => ?_)
        · skip
          refine lv_iconst (v := 0) hx hb dX2_convex_125 ic_0 ?_
          exact K10 _ (by first | with_reducible rfl | (simp only [pubR, m_convex, c_6, ixn hN31, c_17, c_107_4, c_112_5, c_118_6, ↓reduceIte, Bool.true_and, Bool.and_true, Bool.false_and, Bool.and_false, Bool.true_or, Bool.or_true, Bool.false_or, Bool.or_false, Bool.not_true, Bool.not_false, decide_true, decide_false, bI_t, bI_f, Bool.false_eq_true, not_true_eq_false, not_false_eq_true, eq_self, reduceCtorEq, Bool.true_eq_false, and_true, true_and, and_false, false_and, or_true, true_or, or_false, false_or]; done) | (simp only [c_6, ixn hN31, c_17, c_107_4, c_112_5, ↓reduceIte, Bool.true_and, Bool.and_true, Bool.false_and, Bool.and_false, Bool.true_or, Bool.or_true, Bool.false_or, Bool.or_false, Bool.not_true, Bool.not_false, decide_true, decide_false, bI_t, bI_f, Bool.false_eq_true, not_true_eq_false, not_false_eq_true, eq_self, reduceCtorEq, Bool.true_eq_false, and_true, true_and, and_false, false_and, or_true, true_or, or_false, false_or] at c_118_6; done) | (simp only [c_6, ixn hN31, c_17, c_107_4, c_118_6, ↓reduceIte, Bool.true_and, Bool.and_true, Bool.false_and, Bool.and_false, Bool.true_or, Bool.or_true, Bool.false_or, Bool.or_false, Bool.not_true, Bool.not_false, decide_true, decide_false, bI_t, bI_f, Bool.false_eq_true, not_true_eq_false, not_false_eq_true, eq_self, reduceCtorEq, Bool.true_eq_false, and_true, true_and, and_false, false_and, or_true, true_or, or_false, false_or] at c_112_5; done) | (simp only [c_6, ixn hN31, c_17, c_112_5, c_118_6, ↓reduceIte, Bool.true_and, Bool.and_true, Bool.false_and, Bool.and_false, Bool.true_or, Bool.or_true, Bool.false_or, Bool.or_false, Bool.not_true, Bool.not_false, decide_true, decide_false, bI_t, bI_f, Bool.false_eq_true, not_true_eq_false, not_false_eq_true, eq_self, reduceCtorEq, Bool.true_eq_false, and_true, true_and, and_false, false_and, or_true, true_or, or_false, false_or] at c_107_4; done) | (simp only [c_6, ixn hN31, c_107_4, c_112_5, c_118_6, ↓reduceIte, Bool.true_and, Bool.and_true, Bool.false_and, Bool.and_false, Bool.true_or, Bool.or_true, Bool.false_or, Bool.or_false, Bool.not_true, Bool.not_false, decide_true, decide_false, bI_t, bI_f, Bool.false_eq_true, not_true_eq_false, not_false_eq_true, eq_self, reduceCtorEq, Bool.true_eq_false, and_true, true_and, and_false, false_and, or_true, true_or, or_false, false_or] at c_17; done) | (simp only [ixn hN31, c_17, c_107_4, c_112_5, c_118_6, ↓reduceIte, Bool.true_and, Bool.and_true, Bool.false_and, Bool.and_false, Bool.true_or, Bool.or_true, Bool.false_or, Bool.or_false, Bool.not_true, Bool.not_false, decide_true, decide_false, bI_t, bI_f, Bool.false_eq_true, not_true_eq_false, not_false_eq_true, eq_self, reduceCtorEq, Bool.true_eq_false, and_true, true_and, and_false, false_and, or_true, true_or, or_false, false_or] at c_6; done))
        refine lv_iconst (v := 1) hx hb dX2_convex_121 ic_1 ?_
        refine lv_goto (tgt := 126) hx hb dX2_convex_122 rfl ?_
        exact K10 _ (by first | with_reducible rfl | (simp only [pubR, m_convex, c_6, ixn hN31, c_17, c_107_4, c_112_5, eq_true c_118_6, ↓reduceIte, Bool.true_and, Bool.and_true, Bool.false_and, Bool.and_false, Bool.true_or, Bool.or_true, Bool.false_or, Bool.or_false, Bool.not_true, Bool.not_false, decide_true, decide_false, bI_t, bI_f, Bool.false_eq_true, not_true_eq_false, not_false_eq_true, eq_self, reduceCtorEq, Bool.true_eq_false, and_true, true_and, and_false, false_and, or_true, true_or, or_false, false_or]; done) | (simp only [c_6, ixn hN31, c_17, c_107_4, c_112_5, ↓reduceIte, Bool.true_and, Bool.and_true, Bool.false_and, Bool.and_false, Bool.true_or, Bool.or_true, Bool.false_or, Bool.or_false, Bool.not_true, Bool.not_false, decide_true, decide_false, bI_t, bI_f, Bool.false_eq_true, not_true_eq_false, not_false_eq_true, eq_self, reduceCtorEq, Bool.true_eq_false, and_true, true_and, and_false, false_and, or_true, true_or, or_false, false_or] at c_118_6; done) | (simp only [c_6, ixn hN31, c_17, c_107_4, eq_true c_118_6, ↓reduceIte, Bool.true_and, Bool.and_true, Bool.false_and, Bool.and_false, Bool.true_or, Bool.or_true, Bool.false_or, Bool.or_false, Bool.not_true, Bool.not_false, decide_true, decide_false, bI_t, bI_f, Bool.false_eq_true, not_true_eq_false, not_false_eq_true, eq_self, reduceCtorEq, Bool.true_eq_false, and_true, true_and, and_false, false_and, or_true, true_or, or_false, false_or] at c_112_5; done) | (simp only [c_6, ixn hN31, c_17, c_112_5, eq_true c_118_6, ↓reduceIte, Bool.true_and, Bool.and_true, Bool.false_and, Bool.and_false, Bool.true_or, Bool.or_true, Bool.false_or, Bool.or_false, Bool.not_true, Bool.not_false, decide_true, decide_false, bI_t, bI_f, Bool.false_eq_true, not_true_eq_false, not_false_eq_true, eq_self, reduceCtorEq, Bool.true_eq_false, and_true, true_and, and_false, false_and, or_true, true_or, or_false, false_or] at c_107_4; done) | (simp only [c_6, ixn hN31, c_107_4, c_112_5, eq_true c_118_6, ↓reduceIte, Bool.true_and, Bool.and_true, Bool.false_and, Bool.and_false, Bool.true_or, Bool.or_true, Bool.false_or, Bool.or_false, Bool.not_true, Bool.not_false, decide_true, decide_false, bI_t, bI_f, Bool.false_eq_true, not_true_eq_false, not_false_eq_true, eq_self, reduceCtorEq, Bool.true_eq_false, and_true, true_and, and_false, false_and, or_true, true_or, or_false, false_or] at c_17; done) | (simp only [ixn hN31, c_17, c_107_4, c_112_5, eq_true c_118_6, ↓reduceIte, Bool.true_and, Bool.and_true, Bool.false_and, Bool.and_false, Bool.true_or, Bool.or_true, Bool.false_or, Bool.or_false, Bool.not_true, Bool.not_false, decide_true, decide_false, bI_t, bI_f, Bool.false_eq_true, not_true_eq_false, not_false_eq_true, eq_self, reduceCtorEq, Bool.true_eq_false, and_true, true_and, and_false, false_and, or_true, true_or, or_false, false_or] at c_6; done))
      refine lv_istore_n (lv' := [(2, .int _), (7, .int _), (6, .int _), (0, .ref _), (1, .int _), (3, .int _), (4, .int _), (5, .int _)]) hx hb dX2_convex_126 rfl hl (Nat.le_of_ble_eq_true rfl) rfl (fun ls hl => ?_)
      refine cutI (J := 147) (v := bI ((itr (m_cvG σ N i) j (m_cvO σ N i)).2 && (isEnd i j N || decide (t_ = -1)))) ?_ (fun K11 => ?_)
      rotate_left
      · skip
        refine lv_iload_n hx hb dX2_convex_127 rfl (lv_at hl 5 rfl) ?_
        refine b_ifeq (tgt := 146) hx hb dX2_convex_128 rfl (fun c_128_4 => ?_) (fun c_128_4 => ?_)
        · skip
          refine lv_iconst (v := 0) hx hb dX2_convex_146 ic_0 ?_
          exact K11 _ (by first | with_reducible rfl | (simp only [pubR, m_convex, c_6, ixn hN31, c_17, c_128_4, ↓reduceIte, Bool.true_and, Bool.and_true, Bool.false_and, Bool.and_false, Bool.true_or, Bool.or_true, Bool.false_or, Bool.or_false, Bool.not_true, Bool.not_false, decide_true, decide_false, bI_t, bI_f, Bool.false_eq_true, not_true_eq_false, not_false_eq_true, eq_self, reduceCtorEq, Bool.true_eq_false, and_true, true_and, and_false, false_and, or_true, true_or, or_false, false_or]; done) | (simp only [c_6, ixn hN31, c_17, ↓reduceIte, Bool.true_and, Bool.and_true, Bool.false_and, Bool.and_false, Bool.true_or, Bool.or_true, Bool.false_or, Bool.or_false, Bool.not_true, Bool.not_false, decide_true, decide_false, bI_t, bI_f, Bool.false_eq_true, not_true_eq_false, not_false_eq_true, eq_self, reduceCtorEq, Bool.true_eq_false, and_true, true_and, and_false, false_and, or_true, true_or, or_false, false_or] at c_128_4; done) | (simp only [c_6, ixn hN31, c_128_4, ↓reduceIte, Bool.true_and, Bool.and_true, Bool.false_and, Bool.and_false, Bool.true_or, Bool.or_true, Bool.false_or, Bool.or_false, Bool.not_true, Bool.not_false, decide_true, decide_false, bI_t, bI_f, Bool.false_eq_true, not_true_eq_false, not_false_eq_true, eq_self, reduceCtorEq, Bool.true_eq_false, and_true, true_and, and_false, false_and, or_true, true_or, or_false, false_or] at c_17; done) | (simp only [ixn hN31, c_17, c_128_4, ↓reduceIte, Bool.true_and, Bool.and_true, Bool.false_and, Bool.and_false, Bool.true_or, Bool.or_true, Bool.false_or, Bool.or_false, Bool.not_true, Bool.not_false, decide_true, decide_false, bI_t, bI_f, Bool.false_eq_true, not_true_eq_false, not_false_eq_true, eq_self, reduceCtorEq, Bool.true_eq_false, and_true, true_and, and_false, false_and, or_true, true_or, or_false, false_or] at c_6; done))
        refine lv_iload hx hb dX2_convex_131 (lv_at hl 2 rfl) ?_
        refine b_ifne (tgt := 142) hx hb dX2_convex_133 rfl (fun c_133_5 => ?_) (fun c_133_5 => ?_)
        · skip
          refine lv_iconst (v := 1) hx hb dX2_convex_142 ic_1 ?_
          refine lv_goto (tgt := 147) hx hb dX2_convex_143 rfl ?_
          exact K11 _ (by first | with_reducible rfl | (simp only [pubR, m_convex, c_6, ixn hN31, c_17, c_128_4, c_133_5, ↓reduceIte, Bool.true_and, Bool.and_true, Bool.false_and, Bool.and_false, Bool.true_or, Bool.or_true, Bool.false_or, Bool.or_false, Bool.not_true, Bool.not_false, decide_true, decide_false, bI_t, bI_f, Bool.false_eq_true, not_true_eq_false, not_false_eq_true, eq_self, reduceCtorEq, Bool.true_eq_false, and_true, true_and, and_false, false_and, or_true, true_or, or_false, false_or]; done) | (simp only [c_6, ixn hN31, c_17, c_128_4, ↓reduceIte, Bool.true_and, Bool.and_true, Bool.false_and, Bool.and_false, Bool.true_or, Bool.or_true, Bool.false_or, Bool.or_false, Bool.not_true, Bool.not_false, decide_true, decide_false, bI_t, bI_f, Bool.false_eq_true, not_true_eq_false, not_false_eq_true, eq_self, reduceCtorEq, Bool.true_eq_false, and_true, true_and, and_false, false_and, or_true, true_or, or_false, false_or] at c_133_5; done) | (simp only [c_6, ixn hN31, c_17, c_133_5, ↓reduceIte, Bool.true_and, Bool.and_true, Bool.false_and, Bool.and_false, Bool.true_or, Bool.or_true, Bool.false_or, Bool.or_false, Bool.not_true, Bool.not_false, decide_true, decide_false, bI_t, bI_f, Bool.false_eq_true, not_true_eq_false, not_false_eq_true, eq_self, reduceCtorEq, Bool.true_eq_false, and_true, true_and, and_false, false_and, or_true, true_or, or_false, false_or] at c_128_4; done) | (simp only [c_6, ixn hN31, c_128_4, c_133_5, ↓reduceIte, Bool.true_and, Bool.and_true, Bool.false_and, Bool.and_false, Bool.true_or, Bool.or_true, Bool.false_or, Bool.or_false, Bool.not_true, Bool.not_false, decide_true, decide_false, bI_t, bI_f, Bool.false_eq_true, not_true_eq_false, not_false_eq_true, eq_self, reduceCtorEq, Bool.true_eq_false, and_true, true_and, and_false, false_and, or_true, true_or, or_false, false_or] at c_17; done) | (simp only [ixn hN31, c_17, c_128_4, c_133_5, ↓reduceIte, Bool.true_and, Bool.and_true, Bool.false_and, Bool.and_false, Bool.true_or, Bool.or_true, Bool.false_or, Bool.or_false, Bool.not_true, Bool.not_false, decide_true, decide_false, bI_t, bI_f, Bool.false_eq_true, not_true_eq_false, not_false_eq_true, eq_self, reduceCtorEq, Bool.true_eq_false, and_true, true_and, and_false, false_and, or_true, true_or, or_false, false_or] at c_6; done))
        refine lv_iload hx hb dX2_convex_136 (lv_at hl 1 rfl) ?_
        refine lv_iconst (v := -1) hx hb dX2_convex_138 ic_m1 ?_
        refine lv_icmp_ne (tgt := 146) hx hb dX2_convex_139 rfl (fun c_139_6 => ?_) (fun c_139_6 => ?_)
        · skip
          refine lv_iconst (v := 0) hx hb dX2_convex_146 ic_0 ?_
          exact K11 _ (by first | with_reducible rfl | (simp only [pubR, m_convex, c_6, ixn hN31, c_17, c_128_4, c_133_5, c_139_6, ↓reduceIte, Bool.true_and, Bool.and_true, Bool.false_and, Bool.and_false, Bool.true_or, Bool.or_true, Bool.false_or, Bool.or_false, Bool.not_true, Bool.not_false, decide_true, decide_false, bI_t, bI_f, Bool.false_eq_true, not_true_eq_false, not_false_eq_true, eq_self, reduceCtorEq, Bool.true_eq_false, and_true, true_and, and_false, false_and, or_true, true_or, or_false, false_or]; done) | (simp only [c_6, ixn hN31, c_17, c_128_4, c_133_5, ↓reduceIte, Bool.true_and, Bool.and_true, Bool.false_and, Bool.and_false, Bool.true_or, Bool.or_true, Bool.false_or, Bool.or_false, Bool.not_true, Bool.not_false, decide_true, decide_false, bI_t, bI_f, Bool.false_eq_true, not_true_eq_false, not_false_eq_true, eq_self, reduceCtorEq, Bool.true_eq_false, and_true, true_and, and_false, false_and, or_true, true_or, or_false, false_or] at c_139_6; done) | (simp only [c_6, ixn hN31, c_17, c_128_4, c_139_6, ↓reduceIte, Bool.true_and, Bool.and_true, Bool.false_and, Bool.and_false, Bool.true_or, Bool.or_true, Bool.false_or, Bool.or_false, Bool.not_true, Bool.not_false, decide_true, decide_false, bI_t, bI_f, Bool.false_eq_true, not_true_eq_false, not_false_eq_true, eq_self, reduceCtorEq, Bool.true_eq_false, and_true, true_and, and_false, false_and, or_true, true_or, or_false, false_or] at c_133_5; done) | (simp only [c_6, ixn hN31, c_17, c_133_5, c_139_6, ↓reduceIte, Bool.true_and, Bool.and_true, Bool.false_and, Bool.and_false, Bool.true_or, Bool.or_true, Bool.false_or, Bool.or_false, Bool.not_true, Bool.not_false, decide_true, decide_false, bI_t, bI_f, Bool.false_eq_true, not_true_eq_false, not_false_eq_true, eq_self, reduceCtorEq, Bool.true_eq_false, and_true, true_and, and_false, false_and, or_true, true_or, or_false, false_or] at c_128_4; done) | (simp only [c_6, ixn hN31, c_128_4, c_133_5, c_139_6, ↓reduceIte, Bool.true_and, Bool.and_true, Bool.false_and, Bool.and_false, Bool.true_or, Bool.or_true, Bool.false_or, Bool.or_false, Bool.not_true, Bool.not_false, decide_true, decide_false, bI_t, bI_f, Bool.false_eq_true, not_true_eq_false, not_false_eq_true, eq_self, reduceCtorEq, Bool.true_eq_false, and_true, true_and, and_false, false_and, or_true, true_or, or_false, false_or] at c_17; done) | (simp only [ixn hN31, c_17, c_128_4, c_133_5, c_139_6, ↓reduceIte, Bool.true_and, Bool.and_true, Bool.false_and, Bool.and_false, Bool.true_or, Bool.or_true, Bool.false_or, Bool.or_false, Bool.not_true, Bool.not_false, decide_true, decide_false, bI_t, bI_f, Bool.false_eq_true, not_true_eq_false, not_false_eq_true, eq_self, reduceCtorEq, Bool.true_eq_false, and_true, true_and, and_false, false_and, or_true, true_or, or_false, false_or] at c_6; done))
        refine lv_iconst (v := 1) hx hb dX2_convex_142 ic_1 ?_
        refine lv_goto (tgt := 147) hx hb dX2_convex_143 rfl ?_
        exact K11 _ (by first | with_reducible rfl | (simp only [pubR, m_convex, c_6, ixn hN31, c_17, c_128_4, c_133_5, eq_true c_139_6, ↓reduceIte, Bool.true_and, Bool.and_true, Bool.false_and, Bool.and_false, Bool.true_or, Bool.or_true, Bool.false_or, Bool.or_false, Bool.not_true, Bool.not_false, decide_true, decide_false, bI_t, bI_f, Bool.false_eq_true, not_true_eq_false, not_false_eq_true, eq_self, reduceCtorEq, Bool.true_eq_false, and_true, true_and, and_false, false_and, or_true, true_or, or_false, false_or]; done) | (simp only [c_6, ixn hN31, c_17, c_128_4, c_133_5, ↓reduceIte, Bool.true_and, Bool.and_true, Bool.false_and, Bool.and_false, Bool.true_or, Bool.or_true, Bool.false_or, Bool.or_false, Bool.not_true, Bool.not_false, decide_true, decide_false, bI_t, bI_f, Bool.false_eq_true, not_true_eq_false, not_false_eq_true, eq_self, reduceCtorEq, Bool.true_eq_false, and_true, true_and, and_false, false_and, or_true, true_or, or_false, false_or] at c_139_6; done) | (simp only [c_6, ixn hN31, c_17, c_128_4, eq_true c_139_6, ↓reduceIte, Bool.true_and, Bool.and_true, Bool.false_and, Bool.and_false, Bool.true_or, Bool.or_true, Bool.false_or, Bool.or_false, Bool.not_true, Bool.not_false, decide_true, decide_false, bI_t, bI_f, Bool.false_eq_true, not_true_eq_false, not_false_eq_true, eq_self, reduceCtorEq, Bool.true_eq_false, and_true, true_and, and_false, false_and, or_true, true_or, or_false, false_or] at c_133_5; done) | (simp only [c_6, ixn hN31, c_17, c_133_5, eq_true c_139_6, ↓reduceIte, Bool.true_and, Bool.and_true, Bool.false_and, Bool.and_false, Bool.true_or, Bool.or_true, Bool.false_or, Bool.or_false, Bool.not_true, Bool.not_false, decide_true, decide_false, bI_t, bI_f, Bool.false_eq_true, not_true_eq_false, not_false_eq_true, eq_self, reduceCtorEq, Bool.true_eq_false, and_true, true_and, and_false, false_and, or_true, true_or, or_false, false_or] at c_128_4; done) | (simp only [c_6, ixn hN31, c_128_4, c_133_5, eq_true c_139_6, ↓reduceIte, Bool.true_and, Bool.and_true, Bool.false_and, Bool.and_false, Bool.true_or, Bool.or_true, Bool.false_or, Bool.or_false, Bool.not_true, Bool.not_false, decide_true, decide_false, bI_t, bI_f, Bool.false_eq_true, not_true_eq_false, not_false_eq_true, eq_self, reduceCtorEq, Bool.true_eq_false, and_true, true_and, and_false, false_and, or_true, true_or, or_false, false_or] at c_17; done) | (simp only [ixn hN31, c_17, c_128_4, c_133_5, eq_true c_139_6, ↓reduceIte, Bool.true_and, Bool.and_true, Bool.false_and, Bool.and_false, Bool.true_or, Bool.or_true, Bool.false_or, Bool.or_false, Bool.not_true, Bool.not_false, decide_true, decide_false, bI_t, bI_f, Bool.false_eq_true, not_true_eq_false, not_false_eq_true, eq_self, reduceCtorEq, Bool.true_eq_false, and_true, true_and, and_false, false_and, or_true, true_or, or_false, false_or] at c_6; done))
      refine lv_istore_n (lv' := [(3, .int _), (2, .int _), (7, .int _), (6, .int _), (0, .ref _), (1, .int _), (4, .int _), (5, .int _)]) hx hb dX2_convex_147 rfl hl (Nat.le_of_ble_eq_true rfl) rfl (fun ls hl => ?_)
      subst et_
      refine lv_iinc (v := nI (j + 1)) (k := 7) (lv' := [(5, .int _), (3, .int _), (2, .int _), (7, .int _), (6, .int _), (0, .ref _), (1, .int _), (4, .int _)]) hx hb dX2_convex_148 hl rfl (nI_1 _) (Nat.le_of_ble_eq_true rfl) rfl (fun ls hl => ?_)
      refine lv_goto (tgt := 39) hx hb dX2_convex_151 rfl ?_
      exact ih_j ls (lv_sub hl [5, 6, 2, 1, 7, 0] rfl) h_j
    refine lv_bipush (v := -4) hx hb dX2_convex_20 ib_m4 ?_
    exact pm_iret hx hb hr hlk hH dX2_convex_22 (by first | with_reducible rfl | (simp only [pubR, m_convex, c_6, ixn hN31, c_17, ↓reduceIte, Bool.true_and, Bool.and_true, Bool.false_and, Bool.and_false, Bool.true_or, Bool.or_true, Bool.false_or, Bool.or_false, Bool.not_true, Bool.not_false, decide_true, decide_false, bI_t, bI_f, Bool.false_eq_true, not_true_eq_false, not_false_eq_true, eq_self, reduceCtorEq, Bool.true_eq_false, and_true, true_and, and_false, false_and, or_true, true_or, or_false, false_or]; done) | (simp only [c_6, ixn hN31, ↓reduceIte, Bool.true_and, Bool.and_true, Bool.false_and, Bool.and_false, Bool.true_or, Bool.or_true, Bool.false_or, Bool.or_false, Bool.not_true, Bool.not_false, decide_true, decide_false, bI_t, bI_f, Bool.false_eq_true, not_true_eq_false, not_false_eq_true, eq_self, reduceCtorEq, Bool.true_eq_false, and_true, true_and, and_false, false_and, or_true, true_or, or_false, false_or] at c_17; done) | (simp only [ixn hN31, c_17, ↓reduceIte, Bool.true_and, Bool.and_true, Bool.false_and, Bool.and_false, Bool.true_or, Bool.or_true, Bool.false_or, Bool.or_false, Bool.not_true, Bool.not_false, decide_true, decide_false, bI_t, bI_f, Bool.false_eq_true, not_true_eq_false, not_false_eq_true, eq_self, reduceCtorEq, Bool.true_eq_false, and_true, true_and, and_false, false_and, or_true, true_or, or_false, false_or] at c_6; done))
  refine lv_bipush (v := -2) hx hb dX2_convex_9 ib_m2 ?_
  exact pm_iret hx hb hr hlk hH dX2_convex_11 (by first | with_reducible rfl | (simp only [pubR, m_convex, c_6, ↓reduceIte, Bool.true_and, Bool.and_true, Bool.false_and, Bool.and_false, Bool.true_or, Bool.or_true, Bool.false_or, Bool.or_false, Bool.not_true, Bool.not_false, decide_true, decide_false, bI_t, bI_f, Bool.false_eq_true, not_true_eq_false, not_false_eq_true, eq_self, reduceCtorEq, Bool.true_eq_false, and_true, true_and, and_false, false_and, or_true, true_or, or_false, false_or]; done))
theorem dX2_isOnEdge_0 : decode cX2_isOnEdge 0 = .ok (.iconst 0, 1) := by decide +kernel
theorem dX2_isOnEdge_1 : decode cX2_isOnEdge 1 = .ok (.istore_n 3, 1) := by decide +kernel
theorem dX2_isOnEdge_2 : decode cX2_isOnEdge 2 = .ok (.iconst 0, 1) := by decide +kernel
theorem dX2_isOnEdge_3 : decode cX2_isOnEdge 3 = .ok (.istore 4, 2) := by decide +kernel
theorem dX2_isOnEdge_5 : decode cX2_isOnEdge 5 = .ok (.iload 4, 2) := by decide +kernel
theorem dX2_isOnEdge_7 : decode cX2_isOnEdge 7 = .ok (.iload_n 1, 1) := by decide +kernel
theorem dX2_isOnEdge_8 : decode cX2_isOnEdge 8 = .ok (.if_icmp .ge 41, 3) := by decide +kernel
theorem dX2_isOnEdge_11 : decode cX2_isOnEdge 11 = .ok (.iload_n 3, 1) := by decide +kernel
theorem dX2_isOnEdge_12 : decode cX2_isOnEdge 12 = .ok (.ifCond .ne 25, 3) := by decide +kernel
theorem dX2_isOnEdge_15 : decode cX2_isOnEdge 15 = .ok (.aload_n 0, 1) := by decide +kernel
theorem dX2_isOnEdge_16 : decode cX2_isOnEdge 16 = .ok (.aload_n 0, 1) := by decide +kernel
theorem dX2_isOnEdge_17 : decode cX2_isOnEdge 17 = .ok (.getfield 20, 3) := by decide +kernel
theorem dX2_isOnEdge_20 : decode cX2_isOnEdge 20 = .ok (.iload 4, 2) := by decide +kernel
theorem dX2_isOnEdge_22 : decode cX2_isOnEdge 22 = .ok (.iaload, 1) := by decide +kernel
theorem dX2_isOnEdge_23 : decode cX2_isOnEdge 23 = .ok (.aload_n 0, 1) := by decide +kernel
theorem dX2_isOnEdge_24 : decode cX2_isOnEdge 24 = .ok (.iload 4, 2) := by decide +kernel
theorem dX2_isOnEdge_26 : decode cX2_isOnEdge 26 = .ok (.iload_n 1, 1) := by decide +kernel
theorem dX2_isOnEdge_27 : decode cX2_isOnEdge 27 = .ok (.invokevirtual 145, 3) := by decide +kernel
theorem dX2_isOnEdge_30 : decode cX2_isOnEdge 30 = .ok (.iload_n 2, 1) := by decide +kernel
theorem dX2_isOnEdge_31 : decode cX2_isOnEdge 31 = .ok (.invokevirtual 131, 3) := by decide +kernel
theorem dX2_isOnEdge_34 : decode cX2_isOnEdge 34 = .ok (.ifCond .eq 7, 3) := by decide +kernel
theorem dX2_isOnEdge_37 : decode cX2_isOnEdge 37 = .ok (.iconst 1, 1) := by decide +kernel
theorem dX2_isOnEdge_38 : decode cX2_isOnEdge 38 = .ok (.goto 4, 3) := by decide +kernel
theorem dX2_isOnEdge_41 : decode cX2_isOnEdge 41 = .ok (.iconst 0, 1) := by decide +kernel
theorem dX2_isOnEdge_42 : decode cX2_isOnEdge 42 = .ok (.istore_n 3, 1) := by decide +kernel
theorem dX2_isOnEdge_43 : decode cX2_isOnEdge 43 = .ok (.iinc 4 1, 3) := by decide +kernel
theorem dX2_isOnEdge_46 : decode cX2_isOnEdge 46 = .ok (.goto (-41), 3) := by decide +kernel
theorem dX2_isOnEdge_49 : decode cX2_isOnEdge 49 = .ok (.iload_n 3, 1) := by decide +kernel
theorem dX2_isOnEdge_50 : decode cX2_isOnEdge 50 = .ok (.ireturn, 1) := by decide +kernel
set_option maxHeartbeats 4000000 in
theorem met_X2_isOnEdge (l : Launch) (G : GG) {H : Heap} {o : Nat} {A : Nat → Nat} {σ : Sg} {th : Int32} {N b : Nat} (hM : MW G H o A σ th) (hO : Ok σ) (hN : N ≤ σ.rn) (hr_ : HR σ N) (i_b : b < σ.np) : PM l yX2_isOnEdge cX2_isOnEdge 5 (some .boolean) 3 67 G H [.ref o, .int (nI N), .int (nI b)] (some (.int (bI (m_onE σ N (σ.pt b) N)))) := by
  refine pm_intro pl_X2_isOnEdge (Nat.le_of_ble_eq_true rfl) ?_
  intro pX eX sX mX belX methX cX ls hE hnm hl
  obtain ⟨hx, hb, hr, hlk, hml, hown, hts, hK, hZ, hH⟩ := hE
  have hl : lv_has ls 5 [(0, .ref o), (1, .int (nI N)), (2, .int (nI b))] := hl
  have hN31 : N < 2 ^ 31 := Nat.lt_of_le_of_lt hN hO.rn31
  refine lv_iconst (v := 0) hx hb dX2_isOnEdge_0 ic_0 ?_
  refine lv_istore_n (lv' := [(3, .int _), (0, .ref _), (1, .int _), (2, .int _)]) hx hb dX2_isOnEdge_1 rfl hl (Nat.le_of_ble_eq_true rfl) rfl (fun ls hl => ?_)
  refine lv_iconst (v := 0) hx hb dX2_isOnEdge_2 ic_0 ?_
  refine lv_istore (lv' := [(4, .int _), (3, .int _), (0, .ref _), (1, .int _), (2, .int _)]) hx hb dX2_isOnEdge_3 hl (Nat.le_of_ble_eq_true rfl) rfl (fun ls hl => ?_)
  refine loopW (N := N) (nL := 5) (lv := fun i => [(0, .ref o), (1, .int (nI N)), (2, .int (nI b)), (3, .int (bI (m_onE σ N (σ.pt b) i))), (4, .int (nI i))]) (fun i hk_i ih_i ls hl => ?_) 0 (Nat.zero_le _) ls (lv_sub hl [2, 3, 4, 1, 0] rfl)
  replace hl : lv_has ls 5 [(0, .ref o), (1, .int (nI N)), (2, .int (nI b)), (3, .int (bI (m_onE σ N (σ.pt b) i))), (4, .int (nI i))] := hl
  refine lv_iload hx hb dX2_isOnEdge_5 (lv_at hl 4 rfl) ?_
  refine lv_iload_n hx hb dX2_isOnEdge_7 rfl (lv_at hl 1 rfl) ?_
  refine lv_icmp_ge (tgt := 49) hx hb dX2_isOnEdge_8 rfl (fun c_8_0 => ?_) (fun c_8_0 => ?_)
  · skip
    have e_i := lp_out hk_i hN31 c_8_0
    subst e_i
    refine lv_iload_n hx hb dX2_isOnEdge_49 rfl (lv_at hl 3 rfl) ?_
    exact pm_zret hx hb hr hlk hH dX2_isOnEdge_50 (by first | with_reducible rfl | (simp only [↓reduceIte, Bool.true_and, Bool.and_true, Bool.false_and, Bool.and_false, Bool.true_or, Bool.or_true, Bool.false_or, Bool.or_false, Bool.not_true, Bool.not_false, decide_true, decide_false, bI_t, bI_f, Bool.false_eq_true, not_true_eq_false, not_false_eq_true, eq_self, reduceCtorEq, Bool.true_eq_false, and_true, true_and, and_false, false_and, or_true, true_or, or_false, false_or]; done))
  have h_i := lp_in hk_i hN31 c_8_0
  refine cutI (J := 42) (v := bI (m_onE σ N (σ.pt b) i || m_isOn (σ.rp i) (σ.rp (nx i N)) (σ.pt b))) ?_ (fun K12 => ?_)
  rotate_left
  · skip
    refine lv_iload_n hx hb dX2_isOnEdge_11 rfl (lv_at hl 3 rfl) ?_
    refine b_ifne (tgt := 37) hx hb dX2_isOnEdge_12 rfl (fun c_12_1 => ?_) (fun c_12_1 => ?_)
    · skip
      refine lv_iconst (v := 1) hx hb dX2_isOnEdge_37 ic_1 ?_
      refine lv_goto (tgt := 42) hx hb dX2_isOnEdge_38 rfl ?_
      exact K12 _ (by first | with_reducible rfl | (simp only [c_12_1, ↓reduceIte, Bool.true_and, Bool.and_true, Bool.false_and, Bool.and_false, Bool.true_or, Bool.or_true, Bool.false_or, Bool.or_false, Bool.not_true, Bool.not_false, decide_true, decide_false, bI_t, bI_f, Bool.false_eq_true, not_true_eq_false, not_false_eq_true, eq_self, reduceCtorEq, Bool.true_eq_false, and_true, true_and, and_false, false_and, or_true, true_or, or_false, false_or]; done))
    refine lv_aload_n hx hb dX2_isOnEdge_15 rfl (lv_at hl 0 rfl) ?_
    refine lv_aload_n hx hb dX2_isOnEdge_16 rfl (lv_at hl 0 rfl) ?_
    refine gf_X2_20 hx hb hts hown hK hM.1 rfl dX2_isOnEdge_17 ?_
    refine lv_iload hx hb dX2_isOnEdge_20 (lv_at hl 4 rfl) ?_
    refine r_iald hx hb hK hM.2.2.2.1 dX2_isOnEdge_22 (k := i) (hO.lt24 (Nat.lt_of_lt_of_le h_i hN)) (by decide) rfl (rI_some (hr_ _ h_i).1) ?_
    refine lv_aload_n hx hb dX2_isOnEdge_23 rfl (lv_at hl 0 rfl) ?_
    refine lv_iload hx hb dX2_isOnEdge_24 (lv_at hl 4 rfl) ?_
    refine lv_iload_n hx hb dX2_isOnEdge_26 rfl (lv_at hl 1 rfl) ?_
    refine p_callV (As := [.int _, .int _]) hx hb hml hown hts hK hZ (met_X2_next l G hM hO hN hr_ h_i) q848 q850 qs30 q43 q851 hv_X2_next rfl hM.1 rfl (by decide) hl.1 rfl (Nat.le_of_ble_eq_true rfl) dX2_isOnEdge_27 ⟨Nat.zero_le _, Nat.zero_le _⟩ ?_
    refine lv_iload_n hx hb dX2_isOnEdge_30 rfl (lv_at hl 2 rfl) ?_
    refine p_callV (As := [.int _, .int _, .int _]) hx hb hml hown hts hK hZ (met_X2_isOn l G hM hO (hr_ _ h_i).2 (hr_ _ (nx_lt h_i)).2 i_b) q808 q810 qs24 q43 q811 hv_X2_isOn rfl hM.1 rfl (by decide) hl.1 rfl (Nat.le_of_ble_eq_true rfl) dX2_isOnEdge_31 ⟨Nat.zero_le _, Nat.zero_le _⟩ ?_
    refine b_ifeq (tgt := 41) hx hb dX2_isOnEdge_34 rfl (fun c_34_2 => ?_) (fun c_34_2 => ?_)
    · skip
      refine lv_iconst (v := 0) hx hb dX2_isOnEdge_41 ic_0 ?_
      exact K12 _ (by first | with_reducible rfl | (simp only [c_12_1, c_34_2, ↓reduceIte, Bool.true_and, Bool.and_true, Bool.false_and, Bool.and_false, Bool.true_or, Bool.or_true, Bool.false_or, Bool.or_false, Bool.not_true, Bool.not_false, decide_true, decide_false, bI_t, bI_f, Bool.false_eq_true, not_true_eq_false, not_false_eq_true, eq_self, reduceCtorEq, Bool.true_eq_false, and_true, true_and, and_false, false_and, or_true, true_or, or_false, false_or]; done) | (simp only [c_12_1, ↓reduceIte, Bool.true_and, Bool.and_true, Bool.false_and, Bool.and_false, Bool.true_or, Bool.or_true, Bool.false_or, Bool.or_false, Bool.not_true, Bool.not_false, decide_true, decide_false, bI_t, bI_f, Bool.false_eq_true, not_true_eq_false, not_false_eq_true, eq_self, reduceCtorEq, Bool.true_eq_false, and_true, true_and, and_false, false_and, or_true, true_or, or_false, false_or] at c_34_2; done) | (simp only [c_34_2, ↓reduceIte, Bool.true_and, Bool.and_true, Bool.false_and, Bool.and_false, Bool.true_or, Bool.or_true, Bool.false_or, Bool.or_false, Bool.not_true, Bool.not_false, decide_true, decide_false, bI_t, bI_f, Bool.false_eq_true, not_true_eq_false, not_false_eq_true, eq_self, reduceCtorEq, Bool.true_eq_false, and_true, true_and, and_false, false_and, or_true, true_or, or_false, false_or] at c_12_1; done))
    refine lv_iconst (v := 1) hx hb dX2_isOnEdge_37 ic_1 ?_
    refine lv_goto (tgt := 42) hx hb dX2_isOnEdge_38 rfl ?_
    exact K12 _ (by first | with_reducible rfl | (simp only [c_12_1, c_34_2, ↓reduceIte, Bool.true_and, Bool.and_true, Bool.false_and, Bool.and_false, Bool.true_or, Bool.or_true, Bool.false_or, Bool.or_false, Bool.not_true, Bool.not_false, decide_true, decide_false, bI_t, bI_f, Bool.false_eq_true, not_true_eq_false, not_false_eq_true, eq_self, reduceCtorEq, Bool.true_eq_false, and_true, true_and, and_false, false_and, or_true, true_or, or_false, false_or]; done) | (simp only [c_12_1, ↓reduceIte, Bool.true_and, Bool.and_true, Bool.false_and, Bool.and_false, Bool.true_or, Bool.or_true, Bool.false_or, Bool.or_false, Bool.not_true, Bool.not_false, decide_true, decide_false, bI_t, bI_f, Bool.false_eq_true, not_true_eq_false, not_false_eq_true, eq_self, reduceCtorEq, Bool.true_eq_false, and_true, true_and, and_false, false_and, or_true, true_or, or_false, false_or] at c_34_2; done) | (simp only [c_34_2, ↓reduceIte, Bool.true_and, Bool.and_true, Bool.false_and, Bool.and_false, Bool.true_or, Bool.or_true, Bool.false_or, Bool.or_false, Bool.not_true, Bool.not_false, decide_true, decide_false, bI_t, bI_f, Bool.false_eq_true, not_true_eq_false, not_false_eq_true, eq_self, reduceCtorEq, Bool.true_eq_false, and_true, true_and, and_false, false_and, or_true, true_or, or_false, false_or] at c_12_1; done))
  refine lv_istore_n (lv' := [(3, .int _), (0, .ref _), (1, .int _), (2, .int _), (4, .int _)]) hx hb dX2_isOnEdge_42 rfl hl (Nat.le_of_ble_eq_true rfl) rfl (fun ls hl => ?_)
  refine lv_iinc (v := nI (i + 1)) (k := 4) (lv' := [(4, .int _), (3, .int _), (0, .ref _), (1, .int _), (2, .int _)]) hx hb dX2_isOnEdge_43 hl rfl (nI_1 _) (Nat.le_of_ble_eq_true rfl) rfl (fun ls hl => ?_)
  refine lv_goto (tgt := 5) hx hb dX2_isOnEdge_46 rfl ?_
  exact ih_i ls (lv_sub hl [2, 3, 4, 1, 0] rfl) h_i
theorem dX2_rises_0 : decode cX2_rises 0 = .ok (.aload_n 0, 1) := by decide +kernel
theorem dX2_rises_1 : decode cX2_rises 1 = .ok (.getfield 20, 3) := by decide +kernel
theorem dX2_rises_4 : decode cX2_rises 4 = .ok (.iload_n 1, 1) := by decide +kernel
theorem dX2_rises_5 : decode cX2_rises 5 = .ok (.iaload, 1) := by decide +kernel
theorem dX2_rises_6 : decode cX2_rises 6 = .ok (.istore 4, 2) := by decide +kernel
theorem dX2_rises_8 : decode cX2_rises 8 = .ok (.aload_n 0, 1) := by decide +kernel
theorem dX2_rises_9 : decode cX2_rises 9 = .ok (.iload_n 1, 1) := by decide +kernel
theorem dX2_rises_10 : decode cX2_rises 10 = .ok (.iload_n 2, 1) := by decide +kernel
theorem dX2_rises_11 : decode cX2_rises 11 = .ok (.invokevirtual 145, 3) := by decide +kernel
theorem dX2_rises_14 : decode cX2_rises 14 = .ok (.istore 5, 2) := by decide +kernel
theorem dX2_rises_16 : decode cX2_rises 16 = .ok (.aload_n 0, 1) := by decide +kernel
theorem dX2_rises_17 : decode cX2_rises 17 = .ok (.getfield 17, 3) := by decide +kernel
theorem dX2_rises_20 : decode cX2_rises 20 = .ok (.iload 4, 2) := by decide +kernel
theorem dX2_rises_22 : decode cX2_rises 22 = .ok (.iaload, 1) := by decide +kernel
theorem dX2_rises_23 : decode cX2_rises 23 = .ok (.aload_n 0, 1) := by decide +kernel
theorem dX2_rises_24 : decode cX2_rises 24 = .ok (.getfield 17, 3) := by decide +kernel
theorem dX2_rises_27 : decode cX2_rises 27 = .ok (.iload_n 3, 1) := by decide +kernel
theorem dX2_rises_28 : decode cX2_rises 28 = .ok (.iaload, 1) := by decide +kernel
theorem dX2_rises_29 : decode cX2_rises 29 = .ok (.if_icmp .gt 23, 3) := by decide +kernel
theorem dX2_rises_32 : decode cX2_rises 32 = .ok (.aload_n 0, 1) := by decide +kernel
theorem dX2_rises_33 : decode cX2_rises 33 = .ok (.getfield 17, 3) := by decide +kernel
theorem dX2_rises_36 : decode cX2_rises 36 = .ok (.iload 5, 2) := by decide +kernel
theorem dX2_rises_38 : decode cX2_rises 38 = .ok (.iaload, 1) := by decide +kernel
theorem dX2_rises_39 : decode cX2_rises 39 = .ok (.aload_n 0, 1) := by decide +kernel
theorem dX2_rises_40 : decode cX2_rises 40 = .ok (.getfield 17, 3) := by decide +kernel
theorem dX2_rises_43 : decode cX2_rises 43 = .ok (.iload_n 3, 1) := by decide +kernel
theorem dX2_rises_44 : decode cX2_rises 44 = .ok (.iaload, 1) := by decide +kernel
theorem dX2_rises_45 : decode cX2_rises 45 = .ok (.if_icmp .le 7, 3) := by decide +kernel
theorem dX2_rises_48 : decode cX2_rises 48 = .ok (.iconst 1, 1) := by decide +kernel
theorem dX2_rises_49 : decode cX2_rises 49 = .ok (.goto 4, 3) := by decide +kernel
theorem dX2_rises_52 : decode cX2_rises 52 = .ok (.iconst 0, 1) := by decide +kernel
theorem dX2_rises_53 : decode cX2_rises 53 = .ok (.istore 6, 2) := by decide +kernel
theorem dX2_rises_55 : decode cX2_rises 55 = .ok (.aload_n 0, 1) := by decide +kernel
theorem dX2_rises_56 : decode cX2_rises 56 = .ok (.getfield 17, 3) := by decide +kernel
theorem dX2_rises_59 : decode cX2_rises 59 = .ok (.iload 5, 2) := by decide +kernel
theorem dX2_rises_61 : decode cX2_rises 61 = .ok (.iaload, 1) := by decide +kernel
theorem dX2_rises_62 : decode cX2_rises 62 = .ok (.aload_n 0, 1) := by decide +kernel
theorem dX2_rises_63 : decode cX2_rises 63 = .ok (.getfield 17, 3) := by decide +kernel
theorem dX2_rises_66 : decode cX2_rises 66 = .ok (.iload_n 3, 1) := by decide +kernel
theorem dX2_rises_67 : decode cX2_rises 67 = .ok (.iaload, 1) := by decide +kernel
theorem dX2_rises_68 : decode cX2_rises 68 = .ok (.if_icmp .gt 23, 3) := by decide +kernel
theorem dX2_rises_71 : decode cX2_rises 71 = .ok (.aload_n 0, 1) := by decide +kernel
theorem dX2_rises_72 : decode cX2_rises 72 = .ok (.getfield 17, 3) := by decide +kernel
theorem dX2_rises_75 : decode cX2_rises 75 = .ok (.iload 4, 2) := by decide +kernel
theorem dX2_rises_77 : decode cX2_rises 77 = .ok (.iaload, 1) := by decide +kernel
theorem dX2_rises_78 : decode cX2_rises 78 = .ok (.aload_n 0, 1) := by decide +kernel
theorem dX2_rises_79 : decode cX2_rises 79 = .ok (.getfield 17, 3) := by decide +kernel
theorem dX2_rises_82 : decode cX2_rises 82 = .ok (.iload_n 3, 1) := by decide +kernel
theorem dX2_rises_83 : decode cX2_rises 83 = .ok (.iaload, 1) := by decide +kernel
theorem dX2_rises_84 : decode cX2_rises 84 = .ok (.if_icmp .le 7, 3) := by decide +kernel
theorem dX2_rises_87 : decode cX2_rises 87 = .ok (.iconst 1, 1) := by decide +kernel
theorem dX2_rises_88 : decode cX2_rises 88 = .ok (.goto 4, 3) := by decide +kernel
theorem dX2_rises_91 : decode cX2_rises 91 = .ok (.iconst 0, 1) := by decide +kernel
theorem dX2_rises_92 : decode cX2_rises 92 = .ok (.istore 7, 2) := by decide +kernel
theorem dX2_rises_94 : decode cX2_rises 94 = .ok (.iload 6, 2) := by decide +kernel
theorem dX2_rises_96 : decode cX2_rises 96 = .ok (.ifCond .eq 20, 3) := by decide +kernel
theorem dX2_rises_99 : decode cX2_rises 99 = .ok (.aload_n 0, 1) := by decide +kernel
theorem dX2_rises_100 : decode cX2_rises 100 = .ok (.iload 4, 2) := by decide +kernel
theorem dX2_rises_102 : decode cX2_rises 102 = .ok (.iload 5, 2) := by decide +kernel
theorem dX2_rises_104 : decode cX2_rises 104 = .ok (.iload_n 3, 1) := by decide +kernel
theorem dX2_rises_105 : decode cX2_rises 105 = .ok (.invokevirtual 58, 3) := by decide +kernel
theorem dX2_rises_108 : decode cX2_rises 108 = .ok (.iconst 1, 1) := by decide +kernel
theorem dX2_rises_109 : decode cX2_rises 109 = .ok (.if_icmp .ne 7, 3) := by decide +kernel
theorem dX2_rises_112 : decode cX2_rises 112 = .ok (.iconst 1, 1) := by decide +kernel
theorem dX2_rises_113 : decode cX2_rises 113 = .ok (.goto 26, 3) := by decide +kernel
theorem dX2_rises_116 : decode cX2_rises 116 = .ok (.iload 7, 2) := by decide +kernel
theorem dX2_rises_118 : decode cX2_rises 118 = .ok (.ifCond .eq 20, 3) := by decide +kernel
theorem dX2_rises_121 : decode cX2_rises 121 = .ok (.aload_n 0, 1) := by decide +kernel
theorem dX2_rises_122 : decode cX2_rises 122 = .ok (.iload 4, 2) := by decide +kernel
theorem dX2_rises_124 : decode cX2_rises 124 = .ok (.iload 5, 2) := by decide +kernel
theorem dX2_rises_126 : decode cX2_rises 126 = .ok (.iload_n 3, 1) := by decide +kernel
theorem dX2_rises_127 : decode cX2_rises 127 = .ok (.invokevirtual 58, 3) := by decide +kernel
theorem dX2_rises_130 : decode cX2_rises 130 = .ok (.iconst (-1), 1) := by decide +kernel
theorem dX2_rises_131 : decode cX2_rises 131 = .ok (.if_icmp .ne 7, 3) := by decide +kernel
theorem dX2_rises_134 : decode cX2_rises 134 = .ok (.iconst (-1), 1) := by decide +kernel
theorem dX2_rises_135 : decode cX2_rises 135 = .ok (.goto 4, 3) := by decide +kernel
theorem dX2_rises_138 : decode cX2_rises 138 = .ok (.iconst 0, 1) := by decide +kernel
theorem dX2_rises_139 : decode cX2_rises 139 = .ok (.ireturn, 1) := by decide +kernel
set_option maxHeartbeats 4000000 in
theorem met_X2_rises (l : Launch) (G : GG) {H : Heap} {o : Nat} {A : Nat → Nat} {σ : Sg} {th : Int32} {N i b : Nat} (hM : MW G H o A σ th) (hO : Ok σ) (hN : N ≤ σ.rn) (hr_ : HR σ N) (h_i : i < N) (i_b : b < σ.np) : PM l yX2_rises cX2_rises 8 (some .int) 2 44 G H [.ref o, .int (nI i), .int (nI N), .int (nI b)] (some (.int (m_rises (σ.rp i) (σ.rp (nx i N)) (σ.pt b)))) := by
  refine pm_intro pl_X2_rises (Nat.le_of_ble_eq_true rfl) ?_
  intro pX eX sX mX belX methX cX ls hE hnm hl
  obtain ⟨hx, hb, hr, hlk, hml, hown, hts, hK, hZ, hH⟩ := hE
  have hl : lv_has ls 8 [(0, .ref o), (1, .int (nI i)), (2, .int (nI N)), (3, .int (nI b))] := hl
  have hN31 : N < 2 ^ 31 := Nat.lt_of_le_of_lt hN hO.rn31
  refine lv_aload_n hx hb dX2_rises_0 rfl (lv_at hl 0 rfl) ?_
  refine gf_X2_20 hx hb hts hown hK hM.1 rfl dX2_rises_1 ?_
  refine lv_iload_n hx hb dX2_rises_4 rfl (lv_at hl 1 rfl) ?_
  refine r_iald hx hb hK hM.2.2.2.1 dX2_rises_5 (k := i) (hO.lt24 (Nat.lt_of_lt_of_le h_i hN)) (by decide) rfl (rI_some (hr_ _ h_i).1) ?_
  refine lv_istore (lv' := [(4, .int _), (0, .ref _), (1, .int _), (2, .int _), (3, .int _)]) hx hb dX2_rises_6 hl (Nat.le_of_ble_eq_true rfl) rfl (fun ls hl => ?_)
  refine lv_aload_n hx hb dX2_rises_8 rfl (lv_at hl 1 rfl) ?_
  refine lv_iload_n hx hb dX2_rises_9 rfl (lv_at hl 2 rfl) ?_
  refine lv_iload_n hx hb dX2_rises_10 rfl (lv_at hl 3 rfl) ?_
  refine p_callV (As := [.int _, .int _]) hx hb hml hown hts hK hZ (met_X2_next l G hM hO hN hr_ h_i) q848 q850 qs30 q43 q851 hv_X2_next rfl hM.1 rfl (by decide) hl.1 rfl (Nat.le_of_ble_eq_true rfl) dX2_rises_11 ⟨Nat.zero_le _, Nat.zero_le _⟩ ?_
  refine lv_istore (lv' := [(5, .int _), (4, .int _), (0, .ref _), (1, .int _), (2, .int _), (3, .int _)]) hx hb dX2_rises_14 hl (Nat.le_of_ble_eq_true rfl) rfl (fun ls hl => ?_)
  refine cutI (J := 53) (v := bI (!decide ((σ.pt b).2 < (σ.rp i).2) && !decide ((σ.rp (nx i N)).2 ≤ (σ.pt b).2))) ?_ (fun K13 => ?_)
  rotate_left
  · skip
    refine lv_aload_n hx hb dX2_rises_16 rfl (lv_at hl 2 rfl) ?_
    refine gf_X2_17 hx hb hts hown hK hM.1 rfl dX2_rises_17 ?_
    refine lv_iload hx hb dX2_rises_20 (lv_at hl 1 rfl) ?_
    refine r_iald hx hb hK hM.2.2.1 dX2_rises_22 (k := (σ.ri i)) (hO.lt60 (hr_ _ h_i).2) (by decide) rfl rfl ?_
    refine lv_aload_n hx hb dX2_rises_23 rfl (lv_at hl 2 rfl) ?_
    refine gf_X2_17 hx hb hts hown hK hM.1 rfl dX2_rises_24 ?_
    refine lv_iload_n hx hb dX2_rises_27 rfl (lv_at hl 5 rfl) ?_
    refine r_iald hx hb hK hM.2.2.1 dX2_rises_28 (k := b) (hO.lt60 i_b) (by decide) rfl rfl ?_
    refine lv_icmp_gt (tgt := 52) hx hb dX2_rises_29 rfl (fun c_29 => ?_) (fun c_29 => ?_)
    · skip
      refine lv_iconst (v := 0) hx hb dX2_rises_52 ic_0 ?_
      exact K13 _ (by first | with_reducible rfl | (simp only [m_rises, c_29, Int32.not_le.mpr c_29, ↓reduceIte, Bool.true_and, Bool.and_true, Bool.false_and, Bool.and_false, Bool.true_or, Bool.or_true, Bool.false_or, Bool.or_false, Bool.not_true, Bool.not_false, decide_true, decide_false, bI_t, bI_f, Bool.false_eq_true, not_true_eq_false, not_false_eq_true, eq_self, reduceCtorEq, Bool.true_eq_false, and_true, true_and, and_false, false_and, or_true, true_or, or_false, false_or]; done))
    refine lv_aload_n hx hb dX2_rises_32 rfl (lv_at hl 2 rfl) ?_
    refine gf_X2_17 hx hb hts hown hK hM.1 rfl dX2_rises_33 ?_
    refine lv_iload hx hb dX2_rises_36 (lv_at hl 0 rfl) ?_
    refine r_iald hx hb hK hM.2.2.1 dX2_rises_38 (k := (σ.ri (nx i N))) (hO.lt60 (hr_ _ (nx_lt h_i)).2) (by decide) rfl rfl ?_
    refine lv_aload_n hx hb dX2_rises_39 rfl (lv_at hl 2 rfl) ?_
    refine gf_X2_17 hx hb hts hown hK hM.1 rfl dX2_rises_40 ?_
    refine lv_iload_n hx hb dX2_rises_43 rfl (lv_at hl 5 rfl) ?_
    refine r_iald hx hb hK hM.2.2.1 dX2_rises_44 (k := b) (hO.lt60 i_b) (by decide) rfl rfl ?_
    refine lv_icmp_le (tgt := 52) hx hb dX2_rises_45 rfl (fun c_45 => ?_) (fun c_45 => ?_)
    · skip
      refine lv_iconst (v := 0) hx hb dX2_rises_52 ic_0 ?_
      exact K13 _ (by first | with_reducible rfl | (simp only [m_rises, c_29, Int32.not_lt.mp c_29, c_45, Int32.not_lt.mpr c_45, ↓reduceIte, Bool.true_and, Bool.and_true, Bool.false_and, Bool.and_false, Bool.true_or, Bool.or_true, Bool.false_or, Bool.or_false, Bool.not_true, Bool.not_false, decide_true, decide_false, bI_t, bI_f, Bool.false_eq_true, not_true_eq_false, not_false_eq_true, eq_self, reduceCtorEq, Bool.true_eq_false, and_true, true_and, and_false, false_and, or_true, true_or, or_false, false_or]; done) | (simp only [c_29, Int32.not_lt.mp c_29, ↓reduceIte, Bool.true_and, Bool.and_true, Bool.false_and, Bool.and_false, Bool.true_or, Bool.or_true, Bool.false_or, Bool.or_false, Bool.not_true, Bool.not_false, decide_true, decide_false, bI_t, bI_f, Bool.false_eq_true, not_true_eq_false, not_false_eq_true, eq_self, reduceCtorEq, Bool.true_eq_false, and_true, true_and, and_false, false_and, or_true, true_or, or_false, false_or] at c_45; done) | (simp only [c_45, Int32.not_lt.mpr c_45, ↓reduceIte, Bool.true_and, Bool.and_true, Bool.false_and, Bool.and_false, Bool.true_or, Bool.or_true, Bool.false_or, Bool.or_false, Bool.not_true, Bool.not_false, decide_true, decide_false, bI_t, bI_f, Bool.false_eq_true, not_true_eq_false, not_false_eq_true, eq_self, reduceCtorEq, Bool.true_eq_false, and_true, true_and, and_false, false_and, or_true, true_or, or_false, false_or] at c_29; done))
    refine lv_iconst (v := 1) hx hb dX2_rises_48 ic_1 ?_
    refine lv_goto (tgt := 53) hx hb dX2_rises_49 rfl ?_
    exact K13 _ (by first | with_reducible rfl | (simp only [m_rises, c_29, Int32.not_lt.mp c_29, c_45, Int32.not_le.mp c_45, ↓reduceIte, Bool.true_and, Bool.and_true, Bool.false_and, Bool.and_false, Bool.true_or, Bool.or_true, Bool.false_or, Bool.or_false, Bool.not_true, Bool.not_false, decide_true, decide_false, bI_t, bI_f, Bool.false_eq_true, not_true_eq_false, not_false_eq_true, eq_self, reduceCtorEq, Bool.true_eq_false, and_true, true_and, and_false, false_and, or_true, true_or, or_false, false_or]; done) | (simp only [c_29, Int32.not_lt.mp c_29, ↓reduceIte, Bool.true_and, Bool.and_true, Bool.false_and, Bool.and_false, Bool.true_or, Bool.or_true, Bool.false_or, Bool.or_false, Bool.not_true, Bool.not_false, decide_true, decide_false, bI_t, bI_f, Bool.false_eq_true, not_true_eq_false, not_false_eq_true, eq_self, reduceCtorEq, Bool.true_eq_false, and_true, true_and, and_false, false_and, or_true, true_or, or_false, false_or] at c_45; done) | (simp only [c_45, Int32.not_le.mp c_45, ↓reduceIte, Bool.true_and, Bool.and_true, Bool.false_and, Bool.and_false, Bool.true_or, Bool.or_true, Bool.false_or, Bool.or_false, Bool.not_true, Bool.not_false, decide_true, decide_false, bI_t, bI_f, Bool.false_eq_true, not_true_eq_false, not_false_eq_true, eq_self, reduceCtorEq, Bool.true_eq_false, and_true, true_and, and_false, false_and, or_true, true_or, or_false, false_or] at c_29; done))
  refine lv_istore (lv' := [(6, .int _), (5, .int _), (4, .int _), (0, .ref _), (1, .int _), (2, .int _), (3, .int _)]) hx hb dX2_rises_53 hl (Nat.le_of_ble_eq_true rfl) rfl (fun ls hl => ?_)
  refine cutI (J := 92) (v := bI (!decide ((σ.pt b).2 < (σ.rp (nx i N)).2) && !decide ((σ.rp i).2 ≤ (σ.pt b).2))) ?_ (fun K14 => ?_)
  rotate_left
  · skip
    refine lv_aload_n hx hb dX2_rises_55 rfl (lv_at hl 3 rfl) ?_
    refine gf_X2_17 hx hb hts hown hK hM.1 rfl dX2_rises_56 ?_
    refine lv_iload hx hb dX2_rises_59 (lv_at hl 1 rfl) ?_
    refine r_iald hx hb hK hM.2.2.1 dX2_rises_61 (k := (σ.ri (nx i N))) (hO.lt60 (hr_ _ (nx_lt h_i)).2) (by decide) rfl rfl ?_
    refine lv_aload_n hx hb dX2_rises_62 rfl (lv_at hl 3 rfl) ?_
    refine gf_X2_17 hx hb hts hown hK hM.1 rfl dX2_rises_63 ?_
    refine lv_iload_n hx hb dX2_rises_66 rfl (lv_at hl 6 rfl) ?_
    refine r_iald hx hb hK hM.2.2.1 dX2_rises_67 (k := b) (hO.lt60 i_b) (by decide) rfl rfl ?_
    refine lv_icmp_gt (tgt := 91) hx hb dX2_rises_68 rfl (fun c_68 => ?_) (fun c_68 => ?_)
    · skip
      refine lv_iconst (v := 0) hx hb dX2_rises_91 ic_0 ?_
      exact K14 _ (by first | with_reducible rfl | (simp only [m_rises, c_68, Int32.not_le.mpr c_68, ↓reduceIte, Bool.true_and, Bool.and_true, Bool.false_and, Bool.and_false, Bool.true_or, Bool.or_true, Bool.false_or, Bool.or_false, Bool.not_true, Bool.not_false, decide_true, decide_false, bI_t, bI_f, Bool.false_eq_true, not_true_eq_false, not_false_eq_true, eq_self, reduceCtorEq, Bool.true_eq_false, and_true, true_and, and_false, false_and, or_true, true_or, or_false, false_or]; done))
    refine lv_aload_n hx hb dX2_rises_71 rfl (lv_at hl 3 rfl) ?_
    refine gf_X2_17 hx hb hts hown hK hM.1 rfl dX2_rises_72 ?_
    refine lv_iload hx hb dX2_rises_75 (lv_at hl 2 rfl) ?_
    refine r_iald hx hb hK hM.2.2.1 dX2_rises_77 (k := (σ.ri i)) (hO.lt60 (hr_ _ h_i).2) (by decide) rfl rfl ?_
    refine lv_aload_n hx hb dX2_rises_78 rfl (lv_at hl 3 rfl) ?_
    refine gf_X2_17 hx hb hts hown hK hM.1 rfl dX2_rises_79 ?_
    refine lv_iload_n hx hb dX2_rises_82 rfl (lv_at hl 6 rfl) ?_
    refine r_iald hx hb hK hM.2.2.1 dX2_rises_83 (k := b) (hO.lt60 i_b) (by decide) rfl rfl ?_
    refine lv_icmp_le (tgt := 91) hx hb dX2_rises_84 rfl (fun c_84 => ?_) (fun c_84 => ?_)
    · skip
      refine lv_iconst (v := 0) hx hb dX2_rises_91 ic_0 ?_
      exact K14 _ (by first | with_reducible rfl | (simp only [m_rises, c_68, Int32.not_lt.mp c_68, c_84, Int32.not_lt.mpr c_84, ↓reduceIte, Bool.true_and, Bool.and_true, Bool.false_and, Bool.and_false, Bool.true_or, Bool.or_true, Bool.false_or, Bool.or_false, Bool.not_true, Bool.not_false, decide_true, decide_false, bI_t, bI_f, Bool.false_eq_true, not_true_eq_false, not_false_eq_true, eq_self, reduceCtorEq, Bool.true_eq_false, and_true, true_and, and_false, false_and, or_true, true_or, or_false, false_or]; done) | (simp only [c_68, Int32.not_lt.mp c_68, ↓reduceIte, Bool.true_and, Bool.and_true, Bool.false_and, Bool.and_false, Bool.true_or, Bool.or_true, Bool.false_or, Bool.or_false, Bool.not_true, Bool.not_false, decide_true, decide_false, bI_t, bI_f, Bool.false_eq_true, not_true_eq_false, not_false_eq_true, eq_self, reduceCtorEq, Bool.true_eq_false, and_true, true_and, and_false, false_and, or_true, true_or, or_false, false_or] at c_84; done) | (simp only [c_84, Int32.not_lt.mpr c_84, ↓reduceIte, Bool.true_and, Bool.and_true, Bool.false_and, Bool.and_false, Bool.true_or, Bool.or_true, Bool.false_or, Bool.or_false, Bool.not_true, Bool.not_false, decide_true, decide_false, bI_t, bI_f, Bool.false_eq_true, not_true_eq_false, not_false_eq_true, eq_self, reduceCtorEq, Bool.true_eq_false, and_true, true_and, and_false, false_and, or_true, true_or, or_false, false_or] at c_68; done))
    refine lv_iconst (v := 1) hx hb dX2_rises_87 ic_1 ?_
    refine lv_goto (tgt := 92) hx hb dX2_rises_88 rfl ?_
    exact K14 _ (by first | with_reducible rfl | (simp only [m_rises, c_68, Int32.not_lt.mp c_68, c_84, Int32.not_le.mp c_84, ↓reduceIte, Bool.true_and, Bool.and_true, Bool.false_and, Bool.and_false, Bool.true_or, Bool.or_true, Bool.false_or, Bool.or_false, Bool.not_true, Bool.not_false, decide_true, decide_false, bI_t, bI_f, Bool.false_eq_true, not_true_eq_false, not_false_eq_true, eq_self, reduceCtorEq, Bool.true_eq_false, and_true, true_and, and_false, false_and, or_true, true_or, or_false, false_or]; done) | (simp only [c_68, Int32.not_lt.mp c_68, ↓reduceIte, Bool.true_and, Bool.and_true, Bool.false_and, Bool.and_false, Bool.true_or, Bool.or_true, Bool.false_or, Bool.or_false, Bool.not_true, Bool.not_false, decide_true, decide_false, bI_t, bI_f, Bool.false_eq_true, not_true_eq_false, not_false_eq_true, eq_self, reduceCtorEq, Bool.true_eq_false, and_true, true_and, and_false, false_and, or_true, true_or, or_false, false_or] at c_84; done) | (simp only [c_84, Int32.not_le.mp c_84, ↓reduceIte, Bool.true_and, Bool.and_true, Bool.false_and, Bool.and_false, Bool.true_or, Bool.or_true, Bool.false_or, Bool.or_false, Bool.not_true, Bool.not_false, decide_true, decide_false, bI_t, bI_f, Bool.false_eq_true, not_true_eq_false, not_false_eq_true, eq_self, reduceCtorEq, Bool.true_eq_false, and_true, true_and, and_false, false_and, or_true, true_or, or_false, false_or] at c_68; done))
  refine lv_istore (lv' := [(7, .int _), (6, .int _), (5, .int _), (4, .int _), (0, .ref _), (1, .int _), (2, .int _), (3, .int _)]) hx hb dX2_rises_92 hl (Nat.le_of_ble_eq_true rfl) rfl (fun ls hl => ?_)
  refine lv_iload hx hb dX2_rises_94 (lv_at hl 1 rfl) ?_
  refine b_ifeq (tgt := 116) hx hb dX2_rises_96 rfl (fun c_96 => ?_) (fun c_96 => ?_)
  · skip
    refine lv_iload hx hb dX2_rises_116 (lv_at hl 0 rfl) ?_
    refine b_ifeq (tgt := 138) hx hb dX2_rises_118 rfl (fun c_118 => ?_) (fun c_118 => ?_)
    · skip
      refine lv_iconst (v := 0) hx hb dX2_rises_138 ic_0 ?_
      exact pm_iret hx hb hr hlk hH dX2_rises_139 (by first | with_reducible rfl | (simp only [m_rises, c_96, c_118, ↓reduceIte, Bool.true_and, Bool.and_true, Bool.false_and, Bool.and_false, Bool.true_or, Bool.or_true, Bool.false_or, Bool.or_false, Bool.not_true, Bool.not_false, decide_true, decide_false, bI_t, bI_f, Bool.false_eq_true, not_true_eq_false, not_false_eq_true, eq_self, reduceCtorEq, Bool.true_eq_false, and_true, true_and, and_false, false_and, or_true, true_or, or_false, false_or]; done) | (simp only [c_96, ↓reduceIte, Bool.true_and, Bool.and_true, Bool.false_and, Bool.and_false, Bool.true_or, Bool.or_true, Bool.false_or, Bool.or_false, Bool.not_true, Bool.not_false, decide_true, decide_false, bI_t, bI_f, Bool.false_eq_true, not_true_eq_false, not_false_eq_true, eq_self, reduceCtorEq, Bool.true_eq_false, and_true, true_and, and_false, false_and, or_true, true_or, or_false, false_or] at c_118; done) | (simp only [c_118, ↓reduceIte, Bool.true_and, Bool.and_true, Bool.false_and, Bool.and_false, Bool.true_or, Bool.or_true, Bool.false_or, Bool.or_false, Bool.not_true, Bool.not_false, decide_true, decide_false, bI_t, bI_f, Bool.false_eq_true, not_true_eq_false, not_false_eq_true, eq_self, reduceCtorEq, Bool.true_eq_false, and_true, true_and, and_false, false_and, or_true, true_or, or_false, false_or] at c_96; done))
    refine lv_aload_n hx hb dX2_rises_121 rfl (lv_at hl 4 rfl) ?_
    refine lv_iload hx hb dX2_rises_122 (lv_at hl 3 rfl) ?_
    refine lv_iload hx hb dX2_rises_124 (lv_at hl 2 rfl) ?_
    refine lv_iload_n hx hb dX2_rises_126 rfl (lv_at hl 7 rfl) ?_
    refine p_callV (As := [.int _, .int _, .int _]) hx hb hml hown hts hK hZ (met_X2_turn l G hM hO (hr_ _ h_i).2 (hr_ _ (nx_lt h_i)).2 i_b) q772 q774 qs20 q43 q775 hv_X2_turn rfl hM.1 rfl (by decide) hl.1 rfl (Nat.le_of_ble_eq_true rfl) dX2_rises_127 ⟨Nat.zero_le _, Nat.zero_le _⟩ ?_
    refine lv_iconst (v := -1) hx hb dX2_rises_130 ic_m1 ?_
    refine lv_icmp_ne (tgt := 138) hx hb dX2_rises_131 rfl (fun c_131 => ?_) (fun c_131 => ?_)
    · skip
      refine lv_iconst (v := 0) hx hb dX2_rises_138 ic_0 ?_
      exact pm_iret hx hb hr hlk hH dX2_rises_139 (by first | with_reducible rfl | (simp only [m_rises, c_96, c_118, c_131, ↓reduceIte, Bool.true_and, Bool.and_true, Bool.false_and, Bool.and_false, Bool.true_or, Bool.or_true, Bool.false_or, Bool.or_false, Bool.not_true, Bool.not_false, decide_true, decide_false, bI_t, bI_f, Bool.false_eq_true, not_true_eq_false, not_false_eq_true, eq_self, reduceCtorEq, Bool.true_eq_false, and_true, true_and, and_false, false_and, or_true, true_or, or_false, false_or]; done) | (simp only [c_96, c_118, ↓reduceIte, Bool.true_and, Bool.and_true, Bool.false_and, Bool.and_false, Bool.true_or, Bool.or_true, Bool.false_or, Bool.or_false, Bool.not_true, Bool.not_false, decide_true, decide_false, bI_t, bI_f, Bool.false_eq_true, not_true_eq_false, not_false_eq_true, eq_self, reduceCtorEq, Bool.true_eq_false, and_true, true_and, and_false, false_and, or_true, true_or, or_false, false_or] at c_131; done) | (simp only [c_96, c_131, ↓reduceIte, Bool.true_and, Bool.and_true, Bool.false_and, Bool.and_false, Bool.true_or, Bool.or_true, Bool.false_or, Bool.or_false, Bool.not_true, Bool.not_false, decide_true, decide_false, bI_t, bI_f, Bool.false_eq_true, not_true_eq_false, not_false_eq_true, eq_self, reduceCtorEq, Bool.true_eq_false, and_true, true_and, and_false, false_and, or_true, true_or, or_false, false_or] at c_118; done) | (simp only [c_118, c_131, ↓reduceIte, Bool.true_and, Bool.and_true, Bool.false_and, Bool.and_false, Bool.true_or, Bool.or_true, Bool.false_or, Bool.or_false, Bool.not_true, Bool.not_false, decide_true, decide_false, bI_t, bI_f, Bool.false_eq_true, not_true_eq_false, not_false_eq_true, eq_self, reduceCtorEq, Bool.true_eq_false, and_true, true_and, and_false, false_and, or_true, true_or, or_false, false_or] at c_96; done))
    refine lv_iconst (v := -1) hx hb dX2_rises_134 ic_m1 ?_
    refine lv_goto (tgt := 139) hx hb dX2_rises_135 rfl ?_
    exact pm_iret hx hb hr hlk hH dX2_rises_139 (by first | with_reducible rfl | (simp only [m_rises, c_96, c_118, eq_true c_131, ↓reduceIte, Bool.true_and, Bool.and_true, Bool.false_and, Bool.and_false, Bool.true_or, Bool.or_true, Bool.false_or, Bool.or_false, Bool.not_true, Bool.not_false, decide_true, decide_false, bI_t, bI_f, Bool.false_eq_true, not_true_eq_false, not_false_eq_true, eq_self, reduceCtorEq, Bool.true_eq_false, and_true, true_and, and_false, false_and, or_true, true_or, or_false, false_or]; done) | (simp only [c_96, c_118, ↓reduceIte, Bool.true_and, Bool.and_true, Bool.false_and, Bool.and_false, Bool.true_or, Bool.or_true, Bool.false_or, Bool.or_false, Bool.not_true, Bool.not_false, decide_true, decide_false, bI_t, bI_f, Bool.false_eq_true, not_true_eq_false, not_false_eq_true, eq_self, reduceCtorEq, Bool.true_eq_false, and_true, true_and, and_false, false_and, or_true, true_or, or_false, false_or] at c_131; done) | (simp only [c_96, eq_true c_131, ↓reduceIte, Bool.true_and, Bool.and_true, Bool.false_and, Bool.and_false, Bool.true_or, Bool.or_true, Bool.false_or, Bool.or_false, Bool.not_true, Bool.not_false, decide_true, decide_false, bI_t, bI_f, Bool.false_eq_true, not_true_eq_false, not_false_eq_true, eq_self, reduceCtorEq, Bool.true_eq_false, and_true, true_and, and_false, false_and, or_true, true_or, or_false, false_or] at c_118; done) | (simp only [c_118, eq_true c_131, ↓reduceIte, Bool.true_and, Bool.and_true, Bool.false_and, Bool.and_false, Bool.true_or, Bool.or_true, Bool.false_or, Bool.or_false, Bool.not_true, Bool.not_false, decide_true, decide_false, bI_t, bI_f, Bool.false_eq_true, not_true_eq_false, not_false_eq_true, eq_self, reduceCtorEq, Bool.true_eq_false, and_true, true_and, and_false, false_and, or_true, true_or, or_false, false_or] at c_96; done))
  refine lv_aload_n hx hb dX2_rises_99 rfl (lv_at hl 4 rfl) ?_
  refine lv_iload hx hb dX2_rises_100 (lv_at hl 3 rfl) ?_
  refine lv_iload hx hb dX2_rises_102 (lv_at hl 2 rfl) ?_
  refine lv_iload_n hx hb dX2_rises_104 rfl (lv_at hl 7 rfl) ?_
  refine p_callV (As := [.int _, .int _, .int _]) hx hb hml hown hts hK hZ (met_X2_turn l G hM hO (hr_ _ h_i).2 (hr_ _ (nx_lt h_i)).2 i_b) q772 q774 qs20 q43 q775 hv_X2_turn rfl hM.1 rfl (by decide) hl.1 rfl (Nat.le_of_ble_eq_true rfl) dX2_rises_105 ⟨Nat.zero_le _, Nat.zero_le _⟩ ?_
  refine lv_iconst (v := 1) hx hb dX2_rises_108 ic_1 ?_
  refine lv_icmp_ne (tgt := 116) hx hb dX2_rises_109 rfl (fun c_109 => ?_) (fun c_109 => ?_)
  · skip
    refine lv_iload hx hb dX2_rises_116 (lv_at hl 0 rfl) ?_
    refine b_ifeq (tgt := 138) hx hb dX2_rises_118 rfl (fun c_118 => ?_) (fun c_118 => ?_)
    · skip
      refine lv_iconst (v := 0) hx hb dX2_rises_138 ic_0 ?_
      exact pm_iret hx hb hr hlk hH dX2_rises_139 (by first | with_reducible rfl | (simp only [m_rises, c_96, c_109, c_118, ↓reduceIte, Bool.true_and, Bool.and_true, Bool.false_and, Bool.and_false, Bool.true_or, Bool.or_true, Bool.false_or, Bool.or_false, Bool.not_true, Bool.not_false, decide_true, decide_false, bI_t, bI_f, Bool.false_eq_true, not_true_eq_false, not_false_eq_true, eq_self, reduceCtorEq, Bool.true_eq_false, and_true, true_and, and_false, false_and, or_true, true_or, or_false, false_or]; done) | (simp only [c_96, c_109, ↓reduceIte, Bool.true_and, Bool.and_true, Bool.false_and, Bool.and_false, Bool.true_or, Bool.or_true, Bool.false_or, Bool.or_false, Bool.not_true, Bool.not_false, decide_true, decide_false, bI_t, bI_f, Bool.false_eq_true, not_true_eq_false, not_false_eq_true, eq_self, reduceCtorEq, Bool.true_eq_false, and_true, true_and, and_false, false_and, or_true, true_or, or_false, false_or] at c_118; done) | (simp only [c_96, c_118, ↓reduceIte, Bool.true_and, Bool.and_true, Bool.false_and, Bool.and_false, Bool.true_or, Bool.or_true, Bool.false_or, Bool.or_false, Bool.not_true, Bool.not_false, decide_true, decide_false, bI_t, bI_f, Bool.false_eq_true, not_true_eq_false, not_false_eq_true, eq_self, reduceCtorEq, Bool.true_eq_false, and_true, true_and, and_false, false_and, or_true, true_or, or_false, false_or] at c_109; done) | (simp only [c_109, c_118, ↓reduceIte, Bool.true_and, Bool.and_true, Bool.false_and, Bool.and_false, Bool.true_or, Bool.or_true, Bool.false_or, Bool.or_false, Bool.not_true, Bool.not_false, decide_true, decide_false, bI_t, bI_f, Bool.false_eq_true, not_true_eq_false, not_false_eq_true, eq_self, reduceCtorEq, Bool.true_eq_false, and_true, true_and, and_false, false_and, or_true, true_or, or_false, false_or] at c_96; done))
    refine lv_aload_n hx hb dX2_rises_121 rfl (lv_at hl 4 rfl) ?_
    refine lv_iload hx hb dX2_rises_122 (lv_at hl 3 rfl) ?_
    refine lv_iload hx hb dX2_rises_124 (lv_at hl 2 rfl) ?_
    refine lv_iload_n hx hb dX2_rises_126 rfl (lv_at hl 7 rfl) ?_
    refine p_callV (As := [.int _, .int _, .int _]) hx hb hml hown hts hK hZ (met_X2_turn l G hM hO (hr_ _ h_i).2 (hr_ _ (nx_lt h_i)).2 i_b) q772 q774 qs20 q43 q775 hv_X2_turn rfl hM.1 rfl (by decide) hl.1 rfl (Nat.le_of_ble_eq_true rfl) dX2_rises_127 ⟨Nat.zero_le _, Nat.zero_le _⟩ ?_
    refine lv_iconst (v := -1) hx hb dX2_rises_130 ic_m1 ?_
    refine lv_icmp_ne (tgt := 138) hx hb dX2_rises_131 rfl (fun c_131 => ?_) (fun c_131 => ?_)
    · skip
      refine lv_iconst (v := 0) hx hb dX2_rises_138 ic_0 ?_
      exact pm_iret hx hb hr hlk hH dX2_rises_139 (by first | with_reducible rfl | (simp only [m_rises, c_96, c_109, c_118, c_131, ↓reduceIte, Bool.true_and, Bool.and_true, Bool.false_and, Bool.and_false, Bool.true_or, Bool.or_true, Bool.false_or, Bool.or_false, Bool.not_true, Bool.not_false, decide_true, decide_false, bI_t, bI_f, Bool.false_eq_true, not_true_eq_false, not_false_eq_true, eq_self, reduceCtorEq, Bool.true_eq_false, and_true, true_and, and_false, false_and, or_true, true_or, or_false, false_or]; done) | (simp only [c_96, c_109, c_118, ↓reduceIte, Bool.true_and, Bool.and_true, Bool.false_and, Bool.and_false, Bool.true_or, Bool.or_true, Bool.false_or, Bool.or_false, Bool.not_true, Bool.not_false, decide_true, decide_false, bI_t, bI_f, Bool.false_eq_true, not_true_eq_false, not_false_eq_true, eq_self, reduceCtorEq, Bool.true_eq_false, and_true, true_and, and_false, false_and, or_true, true_or, or_false, false_or] at c_131; done) | (simp only [c_96, c_109, c_131, ↓reduceIte, Bool.true_and, Bool.and_true, Bool.false_and, Bool.and_false, Bool.true_or, Bool.or_true, Bool.false_or, Bool.or_false, Bool.not_true, Bool.not_false, decide_true, decide_false, bI_t, bI_f, Bool.false_eq_true, not_true_eq_false, not_false_eq_true, eq_self, reduceCtorEq, Bool.true_eq_false, and_true, true_and, and_false, false_and, or_true, true_or, or_false, false_or] at c_118; done) | (simp only [c_96, c_118, c_131, ↓reduceIte, Bool.true_and, Bool.and_true, Bool.false_and, Bool.and_false, Bool.true_or, Bool.or_true, Bool.false_or, Bool.or_false, Bool.not_true, Bool.not_false, decide_true, decide_false, bI_t, bI_f, Bool.false_eq_true, not_true_eq_false, not_false_eq_true, eq_self, reduceCtorEq, Bool.true_eq_false, and_true, true_and, and_false, false_and, or_true, true_or, or_false, false_or] at c_109; done) | (simp only [c_109, c_118, c_131, ↓reduceIte, Bool.true_and, Bool.and_true, Bool.false_and, Bool.and_false, Bool.true_or, Bool.or_true, Bool.false_or, Bool.or_false, Bool.not_true, Bool.not_false, decide_true, decide_false, bI_t, bI_f, Bool.false_eq_true, not_true_eq_false, not_false_eq_true, eq_self, reduceCtorEq, Bool.true_eq_false, and_true, true_and, and_false, false_and, or_true, true_or, or_false, false_or] at c_96; done))
    refine lv_iconst (v := -1) hx hb dX2_rises_134 ic_m1 ?_
    refine lv_goto (tgt := 139) hx hb dX2_rises_135 rfl ?_
    exact pm_iret hx hb hr hlk hH dX2_rises_139 (by first | with_reducible rfl | (simp only [m_rises, c_96, c_109, c_118, eq_true c_131, ↓reduceIte, Bool.true_and, Bool.and_true, Bool.false_and, Bool.and_false, Bool.true_or, Bool.or_true, Bool.false_or, Bool.or_false, Bool.not_true, Bool.not_false, decide_true, decide_false, bI_t, bI_f, Bool.false_eq_true, not_true_eq_false, not_false_eq_true, eq_self, reduceCtorEq, Bool.true_eq_false, and_true, true_and, and_false, false_and, or_true, true_or, or_false, false_or]; done) | (simp only [c_96, c_109, c_118, ↓reduceIte, Bool.true_and, Bool.and_true, Bool.false_and, Bool.and_false, Bool.true_or, Bool.or_true, Bool.false_or, Bool.or_false, Bool.not_true, Bool.not_false, decide_true, decide_false, bI_t, bI_f, Bool.false_eq_true, not_true_eq_false, not_false_eq_true, eq_self, reduceCtorEq, Bool.true_eq_false, and_true, true_and, and_false, false_and, or_true, true_or, or_false, false_or] at c_131; done) | (simp only [c_96, c_109, eq_true c_131, ↓reduceIte, Bool.true_and, Bool.and_true, Bool.false_and, Bool.and_false, Bool.true_or, Bool.or_true, Bool.false_or, Bool.or_false, Bool.not_true, Bool.not_false, decide_true, decide_false, bI_t, bI_f, Bool.false_eq_true, not_true_eq_false, not_false_eq_true, eq_self, reduceCtorEq, Bool.true_eq_false, and_true, true_and, and_false, false_and, or_true, true_or, or_false, false_or] at c_118; done) | (simp only [c_96, c_118, eq_true c_131, ↓reduceIte, Bool.true_and, Bool.and_true, Bool.false_and, Bool.and_false, Bool.true_or, Bool.or_true, Bool.false_or, Bool.or_false, Bool.not_true, Bool.not_false, decide_true, decide_false, bI_t, bI_f, Bool.false_eq_true, not_true_eq_false, not_false_eq_true, eq_self, reduceCtorEq, Bool.true_eq_false, and_true, true_and, and_false, false_and, or_true, true_or, or_false, false_or] at c_109; done) | (simp only [c_109, c_118, eq_true c_131, ↓reduceIte, Bool.true_and, Bool.and_true, Bool.false_and, Bool.and_false, Bool.true_or, Bool.or_true, Bool.false_or, Bool.or_false, Bool.not_true, Bool.not_false, decide_true, decide_false, bI_t, bI_f, Bool.false_eq_true, not_true_eq_false, not_false_eq_true, eq_self, reduceCtorEq, Bool.true_eq_false, and_true, true_and, and_false, false_and, or_true, true_or, or_false, false_or] at c_96; done))
  refine lv_iconst (v := 1) hx hb dX2_rises_112 ic_1 ?_
  refine lv_goto (tgt := 139) hx hb dX2_rises_113 rfl ?_
  exact pm_iret hx hb hr hlk hH dX2_rises_139 (by first | with_reducible rfl | (simp only [m_rises, c_96, eq_true c_109, ↓reduceIte, Bool.true_and, Bool.and_true, Bool.false_and, Bool.and_false, Bool.true_or, Bool.or_true, Bool.false_or, Bool.or_false, Bool.not_true, Bool.not_false, decide_true, decide_false, bI_t, bI_f, Bool.false_eq_true, not_true_eq_false, not_false_eq_true, eq_self, reduceCtorEq, Bool.true_eq_false, and_true, true_and, and_false, false_and, or_true, true_or, or_false, false_or]; done) | (simp only [c_96, ↓reduceIte, Bool.true_and, Bool.and_true, Bool.false_and, Bool.and_false, Bool.true_or, Bool.or_true, Bool.false_or, Bool.or_false, Bool.not_true, Bool.not_false, decide_true, decide_false, bI_t, bI_f, Bool.false_eq_true, not_true_eq_false, not_false_eq_true, eq_self, reduceCtorEq, Bool.true_eq_false, and_true, true_and, and_false, false_and, or_true, true_or, or_false, false_or] at c_109; done) | (simp only [eq_true c_109, ↓reduceIte, Bool.true_and, Bool.and_true, Bool.false_and, Bool.and_false, Bool.true_or, Bool.or_true, Bool.false_or, Bool.or_false, Bool.not_true, Bool.not_false, decide_true, decide_false, bI_t, bI_f, Bool.false_eq_true, not_true_eq_false, not_false_eq_true, eq_self, reduceCtorEq, Bool.true_eq_false, and_true, true_and, and_false, false_and, or_true, true_or, or_false, false_or] at c_96; done))
theorem dX2_polygon_0 : decode cX2_polygon 0 = .ok (.aload_n 0, 1) := by decide +kernel
theorem dX2_polygon_1 : decode cX2_polygon 1 = .ok (.iload_n 1, 1) := by decide +kernel
theorem dX2_polygon_2 : decode cX2_polygon 2 = .ok (.iconst 1, 1) := by decide +kernel
theorem dX2_polygon_3 : decode cX2_polygon 3 = .ok (.invokevirtual 139, 3) := by decide +kernel
theorem dX2_polygon_6 : decode cX2_polygon 6 = .ok (.ifCond .eq 11, 3) := by decide +kernel
theorem dX2_polygon_9 : decode cX2_polygon 9 = .ok (.aload_n 0, 1) := by decide +kernel
theorem dX2_polygon_10 : decode cX2_polygon 10 = .ok (.iload_n 2, 1) := by decide +kernel
theorem dX2_polygon_11 : decode cX2_polygon 11 = .ok (.invokevirtual 69, 3) := by decide +kernel
theorem dX2_polygon_14 : decode cX2_polygon 14 = .ok (.ifCond .ne 6, 3) := by decide +kernel
theorem dX2_polygon_17 : decode cX2_polygon 17 = .ok (.bipush (-2), 2) := by decide +kernel
theorem dX2_polygon_19 : decode cX2_polygon 19 = .ok (.ireturn, 1) := by decide +kernel
theorem dX2_polygon_20 : decode cX2_polygon 20 = .ok (.aload_n 0, 1) := by decide +kernel
theorem dX2_polygon_21 : decode cX2_polygon 21 = .ok (.iload_n 1, 1) := by decide +kernel
theorem dX2_polygon_22 : decode cX2_polygon 22 = .ok (.invokevirtual 142, 3) := by decide +kernel
theorem dX2_polygon_25 : decode cX2_polygon 25 = .ok (.ifCond .ne 6, 3) := by decide +kernel
theorem dX2_polygon_28 : decode cX2_polygon 28 = .ok (.bipush (-4), 2) := by decide +kernel
theorem dX2_polygon_30 : decode cX2_polygon 30 = .ok (.ireturn, 1) := by decide +kernel
theorem dX2_polygon_31 : decode cX2_polygon 31 = .ok (.aload_n 0, 1) := by decide +kernel
theorem dX2_polygon_32 : decode cX2_polygon 32 = .ok (.iload_n 1, 1) := by decide +kernel
theorem dX2_polygon_33 : decode cX2_polygon 33 = .ok (.iload_n 2, 1) := by decide +kernel
theorem dX2_polygon_34 : decode cX2_polygon 34 = .ok (.invokevirtual 149, 3) := by decide +kernel
theorem dX2_polygon_37 : decode cX2_polygon 37 = .ok (.ifCond .eq 5, 3) := by decide +kernel
theorem dX2_polygon_40 : decode cX2_polygon 40 = .ok (.iconst 2, 1) := by decide +kernel
theorem dX2_polygon_41 : decode cX2_polygon 41 = .ok (.ireturn, 1) := by decide +kernel
theorem dX2_polygon_42 : decode cX2_polygon 42 = .ok (.iconst 0, 1) := by decide +kernel
theorem dX2_polygon_43 : decode cX2_polygon 43 = .ok (.istore_n 3, 1) := by decide +kernel
theorem dX2_polygon_44 : decode cX2_polygon 44 = .ok (.iconst 0, 1) := by decide +kernel
theorem dX2_polygon_45 : decode cX2_polygon 45 = .ok (.istore 4, 2) := by decide +kernel
theorem dX2_polygon_47 : decode cX2_polygon 47 = .ok (.iload 4, 2) := by decide +kernel
theorem dX2_polygon_49 : decode cX2_polygon 49 = .ok (.iload_n 1, 1) := by decide +kernel
theorem dX2_polygon_50 : decode cX2_polygon 50 = .ok (.if_icmp .ge 28, 3) := by decide +kernel
theorem dX2_polygon_53 : decode cX2_polygon 53 = .ok (.iload_n 3, 1) := by decide +kernel
theorem dX2_polygon_54 : decode cX2_polygon 54 = .ok (.aload_n 0, 1) := by decide +kernel
theorem dX2_polygon_55 : decode cX2_polygon 55 = .ok (.iload 4, 2) := by decide +kernel
theorem dX2_polygon_57 : decode cX2_polygon 57 = .ok (.iload_n 1, 1) := by decide +kernel
theorem dX2_polygon_58 : decode cX2_polygon 58 = .ok (.iload_n 2, 1) := by decide +kernel
theorem dX2_polygon_59 : decode cX2_polygon 59 = .ok (.invokevirtual 152, 3) := by decide +kernel
theorem dX2_polygon_62 : decode cX2_polygon 62 = .ok (.ifCond .ne 7, 3) := by decide +kernel
theorem dX2_polygon_65 : decode cX2_polygon 65 = .ok (.iconst 0, 1) := by decide +kernel
theorem dX2_polygon_66 : decode cX2_polygon 66 = .ok (.goto 4, 3) := by decide +kernel
theorem dX2_polygon_69 : decode cX2_polygon 69 = .ok (.iconst 1, 1) := by decide +kernel
theorem dX2_polygon_70 : decode cX2_polygon 70 = .ok (.iadd, 1) := by decide +kernel
theorem dX2_polygon_71 : decode cX2_polygon 71 = .ok (.istore_n 3, 1) := by decide +kernel
theorem dX2_polygon_72 : decode cX2_polygon 72 = .ok (.iinc 4 1, 3) := by decide +kernel
theorem dX2_polygon_75 : decode cX2_polygon 75 = .ok (.goto (-28), 3) := by decide +kernel
theorem dX2_polygon_78 : decode cX2_polygon 78 = .ok (.iload_n 3, 1) := by decide +kernel
theorem dX2_polygon_79 : decode cX2_polygon 79 = .ok (.iconst 2, 1) := by decide +kernel
theorem dX2_polygon_80 : decode cX2_polygon 80 = .ok (.irem, 1) := by decide +kernel
theorem dX2_polygon_81 : decode cX2_polygon 81 = .ok (.ireturn, 1) := by decide +kernel
set_option maxHeartbeats 4000000 in
theorem met_X2_polygon (l : Launch) (G : GG) {H : Heap} {o : Nat} {A : Nat → Nat} {σ : Sg} {th : Int32} {n b : Int32} (hM : MW G H o A σ th) (hO : Ok σ) : PM l yX2_polygon cX2_polygon 5 (some .int) 4 91 G H [.ref o, .int n, .int b] (some (.int (pubRP σ n b (m_poly σ)))) := by
  refine pm_intro pl_X2_polygon (Nat.le_of_ble_eq_true rfl) ?_
  intro pX eX sX mX belX methX cX ls hE hnm hl
  obtain ⟨hx, hb, hr, hlk, hml, hown, hts, hK, hZ, hH⟩ := hE
  have hl : lv_has ls 5 [(0, .ref o), (1, .int n), (2, .int b)] := hl
  refine lv_aload_n hx hb dX2_polygon_0 rfl (lv_at hl 0 rfl) ?_
  refine lv_iload_n hx hb dX2_polygon_1 rfl (lv_at hl 1 rfl) ?_
  refine lv_iconst (v := 1) hx hb dX2_polygon_2 ic_1 ?_
  refine p_callV (As := [.int _, .int _]) hx hb hml hown hts hK hZ (met_X2_isMany l G hM) q840 q842 qs28 q43 q843 hv_X2_isMany rfl hM.1 rfl (by decide) hl.1 rfl (Nat.le_of_ble_eq_true rfl) dX2_polygon_3 ⟨Nat.zero_le _, Nat.zero_le _⟩ ?_
  refine b_ifeq (tgt := 17) hx hb dX2_polygon_6 rfl (fun c_6 => ?_) (fun c_6 => ?_)
  · skip
    refine lv_bipush (v := -2) hx hb dX2_polygon_17 ib_m2 ?_
    exact pm_iret hx hb hr hlk hH dX2_polygon_19 (by first | with_reducible rfl | (simp only [pubRP, m_poly, c_6, ↓reduceIte, Bool.true_and, Bool.and_true, Bool.false_and, Bool.and_false, Bool.true_or, Bool.or_true, Bool.false_or, Bool.or_false, Bool.not_true, Bool.not_false, decide_true, decide_false, bI_t, bI_f, Bool.false_eq_true, not_true_eq_false, not_false_eq_true, eq_self, reduceCtorEq, Bool.true_eq_false, and_true, true_and, and_false, false_and, or_true, true_or, or_false, false_or]; done))
  obtain ⟨N, hN, rfl, hge⟩ := many_elim (by decide) hO.rn31 c_6
  have hN31 : N < 2 ^ 31 := Nat.lt_of_le_of_lt hN hO.rn31
  have e1_ : (1 : Int32).toInt = 1 := rfl
  have e3_ : (3 : Int32).toInt = 3 := rfl
  have hpos : 0 < N := by omega
  refine lv_aload_n hx hb dX2_polygon_9 rfl (lv_at hl 0 rfl) ?_
  refine lv_iload_n hx hb dX2_polygon_10 rfl (lv_at hl 2 rfl) ?_
  refine p_callV (As := [.int _]) hx hb hml hown hts hK hZ (met_X2_isPoint l G hM) q728 q730 qs13 q43 q731 hv_X2_isPoint rfl hM.1 rfl (by decide) hl.1 rfl (Nat.le_of_ble_eq_true rfl) dX2_polygon_11 ⟨Nat.zero_le _, Nat.zero_le _⟩ ?_
  refine b_ifne (tgt := 20) hx hb dX2_polygon_14 rfl (fun c_14 => ?_) (fun c_14 => ?_)
  · skip
    obtain ⟨b_, i_b, rfl⟩ := isPt_elim hO.1.1 c_14
    refine lv_aload_n hx hb dX2_polygon_20 rfl (lv_at hl 0 rfl) ?_
    refine lv_iload_n hx hb dX2_polygon_21 rfl (lv_at hl 1 rfl) ?_
    refine p_callV (As := [.int _]) hx hb hml hown hts hK hZ (met_X2_isWhole l G hM hO hN) q844 q846 qs29 q43 q847 hv_X2_isWhole rfl hM.1 rfl (by decide) hl.1 rfl (Nat.le_of_ble_eq_true rfl) dX2_polygon_22 ⟨Nat.zero_le _, Nat.zero_le _⟩ ?_
    refine b_ifne (tgt := 31) hx hb dX2_polygon_25 rfl (fun c_25 => ?_) (fun c_25 => ?_)
    · skip
      have hr_ := HR.of hO c_25
      refine lv_aload_n hx hb dX2_polygon_31 rfl (lv_at hl 0 rfl) ?_
      refine lv_iload_n hx hb dX2_polygon_32 rfl (lv_at hl 1 rfl) ?_
      refine lv_iload_n hx hb dX2_polygon_33 rfl (lv_at hl 2 rfl) ?_
      refine p_callV (As := [.int _, .int _]) hx hb hml hown hts hK hZ (met_X2_isOnEdge l G hM hO hN hr_ i_b) q856 q858 qs31 q43 q859 hv_X2_isOnEdge rfl hM.1 rfl (by decide) hl.1 rfl (Nat.le_of_ble_eq_true rfl) dX2_polygon_34 ⟨Nat.zero_le _, Nat.zero_le _⟩ ?_
      refine b_ifeq (tgt := 42) hx hb dX2_polygon_37 rfl (fun c_37 => ?_) (fun c_37 => ?_)
      · skip
        refine lv_iconst (v := 0) hx hb dX2_polygon_42 ic_0 ?_
        refine lv_istore_n (lv' := [(3, .int _), (0, .ref _), (1, .int _), (2, .int _)]) hx hb dX2_polygon_43 rfl hl (Nat.le_of_ble_eq_true rfl) rfl (fun ls hl => ?_)
        refine lv_iconst (v := 0) hx hb dX2_polygon_44 ic_0 ?_
        refine lv_istore (lv' := [(4, .int _), (3, .int _), (0, .ref _), (1, .int _), (2, .int _)]) hx hb dX2_polygon_45 hl (Nat.le_of_ble_eq_true rfl) rfl (fun ls hl => ?_)
        refine loopW (N := N) (nL := 5) (lv := fun i => [(0, .ref o), (1, .int (nI N)), (2, .int (nI b_)), (3, .int (m_some σ N (σ.pt b_) i)), (4, .int (nI i))]) (fun i hk_i ih_i ls hl => ?_) 0 (Nat.zero_le _) ls (lv_sub hl [2, 3, 4, 1, 0] rfl)
        replace hl : lv_has ls 5 [(0, .ref o), (1, .int (nI N)), (2, .int (nI b_)), (3, .int (m_some σ N (σ.pt b_) i)), (4, .int (nI i))] := hl
        refine lv_iload hx hb dX2_polygon_47 (lv_at hl 4 rfl) ?_
        refine lv_iload_n hx hb dX2_polygon_49 rfl (lv_at hl 1 rfl) ?_
        refine lv_icmp_ge (tgt := 78) hx hb dX2_polygon_50 rfl (fun c_50_4 => ?_) (fun c_50_4 => ?_)
        · skip
          have e_i := lp_out hk_i hN31 c_50_4
          subst e_i
          refine lv_iload_n hx hb dX2_polygon_78 rfl (lv_at hl 3 rfl) ?_
          refine lv_iconst (v := 2) hx hb dX2_polygon_79 ic_2 ?_
          refine lv_irem hx hb dX2_polygon_80 (by decide) ?_
          exact pm_iret hx hb hr hlk hH dX2_polygon_81 (by first | with_reducible rfl | (simp only [pubRP, m_poly, c_6, ixn hN31, c_14, hO.ix i_b, c_25, c_37, ↓reduceIte, Bool.true_and, Bool.and_true, Bool.false_and, Bool.and_false, Bool.true_or, Bool.or_true, Bool.false_or, Bool.or_false, Bool.not_true, Bool.not_false, decide_true, decide_false, bI_t, bI_f, Bool.false_eq_true, not_true_eq_false, not_false_eq_true, eq_self, reduceCtorEq, Bool.true_eq_false, and_true, true_and, and_false, false_and, or_true, true_or, or_false, false_or]; done) | (simp only [c_6, ixn hN31, c_14, hO.ix i_b, c_25, ↓reduceIte, Bool.true_and, Bool.and_true, Bool.false_and, Bool.and_false, Bool.true_or, Bool.or_true, Bool.false_or, Bool.or_false, Bool.not_true, Bool.not_false, decide_true, decide_false, bI_t, bI_f, Bool.false_eq_true, not_true_eq_false, not_false_eq_true, eq_self, reduceCtorEq, Bool.true_eq_false, and_true, true_and, and_false, false_and, or_true, true_or, or_false, false_or] at c_37; done) | (simp only [c_6, ixn hN31, c_14, hO.ix i_b, c_37, ↓reduceIte, Bool.true_and, Bool.and_true, Bool.false_and, Bool.and_false, Bool.true_or, Bool.or_true, Bool.false_or, Bool.or_false, Bool.not_true, Bool.not_false, decide_true, decide_false, bI_t, bI_f, Bool.false_eq_true, not_true_eq_false, not_false_eq_true, eq_self, reduceCtorEq, Bool.true_eq_false, and_true, true_and, and_false, false_and, or_true, true_or, or_false, false_or] at c_25; done) | (simp only [c_6, ixn hN31, hO.ix i_b, c_25, c_37, ↓reduceIte, Bool.true_and, Bool.and_true, Bool.false_and, Bool.and_false, Bool.true_or, Bool.or_true, Bool.false_or, Bool.or_false, Bool.not_true, Bool.not_false, decide_true, decide_false, bI_t, bI_f, Bool.false_eq_true, not_true_eq_false, not_false_eq_true, eq_self, reduceCtorEq, Bool.true_eq_false, and_true, true_and, and_false, false_and, or_true, true_or, or_false, false_or] at c_14; done) | (simp only [ixn hN31, c_14, hO.ix i_b, c_25, c_37, ↓reduceIte, Bool.true_and, Bool.and_true, Bool.false_and, Bool.and_false, Bool.true_or, Bool.or_true, Bool.false_or, Bool.or_false, Bool.not_true, Bool.not_false, decide_true, decide_false, bI_t, bI_f, Bool.false_eq_true, not_true_eq_false, not_false_eq_true, eq_self, reduceCtorEq, Bool.true_eq_false, and_true, true_and, and_false, false_and, or_true, true_or, or_false, false_or] at c_6; done))
        have h_i := lp_in hk_i hN31 c_50_4
        refine lv_iload_n hx hb dX2_polygon_53 rfl (lv_at hl 3 rfl) ?_
        refine cutI (J := 70) (v := if m_rises (σ.rp i) (σ.rp (nx i N)) (σ.pt b_) = 0 then 0 else 1) ?_ (fun K15 => ?_)
        rotate_left
        · skip
          refine lv_aload_n hx hb dX2_polygon_54 rfl (lv_at hl 0 rfl) ?_
          refine lv_iload hx hb dX2_polygon_55 (lv_at hl 4 rfl) ?_
          refine lv_iload_n hx hb dX2_polygon_57 rfl (lv_at hl 1 rfl) ?_
          refine lv_iload_n hx hb dX2_polygon_58 rfl (lv_at hl 2 rfl) ?_
          refine p_callV (As := [.int _, .int _, .int _]) hx hb hml hown hts hK hZ (met_X2_rises l G hM hO hN hr_ h_i i_b) q860 q862 qs32 q43 q863 hv_X2_rises rfl hM.1 rfl (by decide) hl.1 rfl (Nat.le_of_ble_eq_true rfl) dX2_polygon_59 ⟨Nat.zero_le _, Nat.zero_le _⟩ ?_
          refine lv_if_ne (tgt := 69) hx hb dX2_polygon_62 rfl (fun c_62_5 => ?_) (fun c_62_5 => ?_)
          · skip
            refine lv_iconst (v := 1) hx hb dX2_polygon_69 ic_1 ?_
            exact K15 _ (by first | with_reducible rfl | (simp only [pubRP, m_poly, c_6, ixn hN31, c_14, hO.ix i_b, c_25, c_37, c_62_5, ↓reduceIte, Bool.true_and, Bool.and_true, Bool.false_and, Bool.and_false, Bool.true_or, Bool.or_true, Bool.false_or, Bool.or_false, Bool.not_true, Bool.not_false, decide_true, decide_false, bI_t, bI_f, Bool.false_eq_true, not_true_eq_false, not_false_eq_true, eq_self, reduceCtorEq, Bool.true_eq_false, and_true, true_and, and_false, false_and, or_true, true_or, or_false, false_or]; done) | (simp only [c_6, ixn hN31, c_14, hO.ix i_b, c_25, c_37, ↓reduceIte, Bool.true_and, Bool.and_true, Bool.false_and, Bool.and_false, Bool.true_or, Bool.or_true, Bool.false_or, Bool.or_false, Bool.not_true, Bool.not_false, decide_true, decide_false, bI_t, bI_f, Bool.false_eq_true, not_true_eq_false, not_false_eq_true, eq_self, reduceCtorEq, Bool.true_eq_false, and_true, true_and, and_false, false_and, or_true, true_or, or_false, false_or] at c_62_5; done) | (simp only [c_6, ixn hN31, c_14, hO.ix i_b, c_25, c_62_5, ↓reduceIte, Bool.true_and, Bool.and_true, Bool.false_and, Bool.and_false, Bool.true_or, Bool.or_true, Bool.false_or, Bool.or_false, Bool.not_true, Bool.not_false, decide_true, decide_false, bI_t, bI_f, Bool.false_eq_true, not_true_eq_false, not_false_eq_true, eq_self, reduceCtorEq, Bool.true_eq_false, and_true, true_and, and_false, false_and, or_true, true_or, or_false, false_or] at c_37; done) | (simp only [c_6, ixn hN31, c_14, hO.ix i_b, c_37, c_62_5, ↓reduceIte, Bool.true_and, Bool.and_true, Bool.false_and, Bool.and_false, Bool.true_or, Bool.or_true, Bool.false_or, Bool.or_false, Bool.not_true, Bool.not_false, decide_true, decide_false, bI_t, bI_f, Bool.false_eq_true, not_true_eq_false, not_false_eq_true, eq_self, reduceCtorEq, Bool.true_eq_false, and_true, true_and, and_false, false_and, or_true, true_or, or_false, false_or] at c_25; done) | (simp only [c_6, ixn hN31, hO.ix i_b, c_25, c_37, c_62_5, ↓reduceIte, Bool.true_and, Bool.and_true, Bool.false_and, Bool.and_false, Bool.true_or, Bool.or_true, Bool.false_or, Bool.or_false, Bool.not_true, Bool.not_false, decide_true, decide_false, bI_t, bI_f, Bool.false_eq_true, not_true_eq_false, not_false_eq_true, eq_self, reduceCtorEq, Bool.true_eq_false, and_true, true_and, and_false, false_and, or_true, true_or, or_false, false_or] at c_14; done) | (simp only [ixn hN31, c_14, hO.ix i_b, c_25, c_37, c_62_5, ↓reduceIte, Bool.true_and, Bool.and_true, Bool.false_and, Bool.and_false, Bool.true_or, Bool.or_true, Bool.false_or, Bool.or_false, Bool.not_true, Bool.not_false, decide_true, decide_false, bI_t, bI_f, Bool.false_eq_true, not_true_eq_false, not_false_eq_true, eq_self, reduceCtorEq, Bool.true_eq_false, and_true, true_and, and_false, false_and, or_true, true_or, or_false, false_or] at c_6; done))
          refine lv_iconst (v := 0) hx hb dX2_polygon_65 ic_0 ?_
          refine lv_goto (tgt := 70) hx hb dX2_polygon_66 rfl ?_
          exact K15 _ (by first | with_reducible rfl | (simp only [pubRP, m_poly, c_6, ixn hN31, c_14, hO.ix i_b, c_25, c_37, eq_true c_62_5, ↓reduceIte, Bool.true_and, Bool.and_true, Bool.false_and, Bool.and_false, Bool.true_or, Bool.or_true, Bool.false_or, Bool.or_false, Bool.not_true, Bool.not_false, decide_true, decide_false, bI_t, bI_f, Bool.false_eq_true, not_true_eq_false, not_false_eq_true, eq_self, reduceCtorEq, Bool.true_eq_false, and_true, true_and, and_false, false_and, or_true, true_or, or_false, false_or]; done) | (simp only [c_6, ixn hN31, c_14, hO.ix i_b, c_25, c_37, ↓reduceIte, Bool.true_and, Bool.and_true, Bool.false_and, Bool.and_false, Bool.true_or, Bool.or_true, Bool.false_or, Bool.or_false, Bool.not_true, Bool.not_false, decide_true, decide_false, bI_t, bI_f, Bool.false_eq_true, not_true_eq_false, not_false_eq_true, eq_self, reduceCtorEq, Bool.true_eq_false, and_true, true_and, and_false, false_and, or_true, true_or, or_false, false_or] at c_62_5; done) | (simp only [c_6, ixn hN31, c_14, hO.ix i_b, c_25, eq_true c_62_5, ↓reduceIte, Bool.true_and, Bool.and_true, Bool.false_and, Bool.and_false, Bool.true_or, Bool.or_true, Bool.false_or, Bool.or_false, Bool.not_true, Bool.not_false, decide_true, decide_false, bI_t, bI_f, Bool.false_eq_true, not_true_eq_false, not_false_eq_true, eq_self, reduceCtorEq, Bool.true_eq_false, and_true, true_and, and_false, false_and, or_true, true_or, or_false, false_or] at c_37; done) | (simp only [c_6, ixn hN31, c_14, hO.ix i_b, c_37, eq_true c_62_5, ↓reduceIte, Bool.true_and, Bool.and_true, Bool.false_and, Bool.and_false, Bool.true_or, Bool.or_true, Bool.false_or, Bool.or_false, Bool.not_true, Bool.not_false, decide_true, decide_false, bI_t, bI_f, Bool.false_eq_true, not_true_eq_false, not_false_eq_true, eq_self, reduceCtorEq, Bool.true_eq_false, and_true, true_and, and_false, false_and, or_true, true_or, or_false, false_or] at c_25; done) | (simp only [c_6, ixn hN31, hO.ix i_b, c_25, c_37, eq_true c_62_5, ↓reduceIte, Bool.true_and, Bool.and_true, Bool.false_and, Bool.and_false, Bool.true_or, Bool.or_true, Bool.false_or, Bool.or_false, Bool.not_true, Bool.not_false, decide_true, decide_false, bI_t, bI_f, Bool.false_eq_true, not_true_eq_false, not_false_eq_true, eq_self, reduceCtorEq, Bool.true_eq_false, and_true, true_and, and_false, false_and, or_true, true_or, or_false, false_or] at c_14; done) | (simp only [ixn hN31, c_14, hO.ix i_b, c_25, c_37, eq_true c_62_5, ↓reduceIte, Bool.true_and, Bool.and_true, Bool.false_and, Bool.and_false, Bool.true_or, Bool.or_true, Bool.false_or, Bool.or_false, Bool.not_true, Bool.not_false, decide_true, decide_false, bI_t, bI_f, Bool.false_eq_true, not_true_eq_false, not_false_eq_true, eq_self, reduceCtorEq, Bool.true_eq_false, and_true, true_and, and_false, false_and, or_true, true_or, or_false, false_or] at c_6; done))
        refine lv_iadd hx hb dX2_polygon_70 ?_
        refine lv_istore_n (lv' := [(3, .int _), (0, .ref _), (1, .int _), (2, .int _), (4, .int _)]) hx hb dX2_polygon_71 rfl hl (Nat.le_of_ble_eq_true rfl) rfl (fun ls hl => ?_)
        refine lv_iinc (v := nI (i + 1)) (k := 4) (lv' := [(4, .int _), (3, .int _), (0, .ref _), (1, .int _), (2, .int _)]) hx hb dX2_polygon_72 hl rfl (nI_1 _) (Nat.le_of_ble_eq_true rfl) rfl (fun ls hl => ?_)
        refine lv_goto (tgt := 47) hx hb dX2_polygon_75 rfl ?_
        exact ih_i ls (lv_sub hl [2, 3, 4, 1, 0] rfl) h_i
      refine lv_iconst (v := 2) hx hb dX2_polygon_40 ic_2 ?_
      exact pm_iret hx hb hr hlk hH dX2_polygon_41 (by first | with_reducible rfl | (simp only [pubRP, m_poly, c_6, ixn hN31, c_14, hO.ix i_b, c_25, c_37, ↓reduceIte, Bool.true_and, Bool.and_true, Bool.false_and, Bool.and_false, Bool.true_or, Bool.or_true, Bool.false_or, Bool.or_false, Bool.not_true, Bool.not_false, decide_true, decide_false, bI_t, bI_f, Bool.false_eq_true, not_true_eq_false, not_false_eq_true, eq_self, reduceCtorEq, Bool.true_eq_false, and_true, true_and, and_false, false_and, or_true, true_or, or_false, false_or]; done) | (simp only [c_6, ixn hN31, c_14, hO.ix i_b, c_25, ↓reduceIte, Bool.true_and, Bool.and_true, Bool.false_and, Bool.and_false, Bool.true_or, Bool.or_true, Bool.false_or, Bool.or_false, Bool.not_true, Bool.not_false, decide_true, decide_false, bI_t, bI_f, Bool.false_eq_true, not_true_eq_false, not_false_eq_true, eq_self, reduceCtorEq, Bool.true_eq_false, and_true, true_and, and_false, false_and, or_true, true_or, or_false, false_or] at c_37; done) | (simp only [c_6, ixn hN31, c_14, hO.ix i_b, c_37, ↓reduceIte, Bool.true_and, Bool.and_true, Bool.false_and, Bool.and_false, Bool.true_or, Bool.or_true, Bool.false_or, Bool.or_false, Bool.not_true, Bool.not_false, decide_true, decide_false, bI_t, bI_f, Bool.false_eq_true, not_true_eq_false, not_false_eq_true, eq_self, reduceCtorEq, Bool.true_eq_false, and_true, true_and, and_false, false_and, or_true, true_or, or_false, false_or] at c_25; done) | (simp only [c_6, ixn hN31, hO.ix i_b, c_25, c_37, ↓reduceIte, Bool.true_and, Bool.and_true, Bool.false_and, Bool.and_false, Bool.true_or, Bool.or_true, Bool.false_or, Bool.or_false, Bool.not_true, Bool.not_false, decide_true, decide_false, bI_t, bI_f, Bool.false_eq_true, not_true_eq_false, not_false_eq_true, eq_self, reduceCtorEq, Bool.true_eq_false, and_true, true_and, and_false, false_and, or_true, true_or, or_false, false_or] at c_14; done) | (simp only [ixn hN31, c_14, hO.ix i_b, c_25, c_37, ↓reduceIte, Bool.true_and, Bool.and_true, Bool.false_and, Bool.and_false, Bool.true_or, Bool.or_true, Bool.false_or, Bool.or_false, Bool.not_true, Bool.not_false, decide_true, decide_false, bI_t, bI_f, Bool.false_eq_true, not_true_eq_false, not_false_eq_true, eq_self, reduceCtorEq, Bool.true_eq_false, and_true, true_and, and_false, false_and, or_true, true_or, or_false, false_or] at c_6; done))
    refine lv_bipush (v := -4) hx hb dX2_polygon_28 ib_m4 ?_
    exact pm_iret hx hb hr hlk hH dX2_polygon_30 (by first | with_reducible rfl | (simp only [pubRP, m_poly, c_6, ixn hN31, c_14, hO.ix i_b, c_25, ↓reduceIte, Bool.true_and, Bool.and_true, Bool.false_and, Bool.and_false, Bool.true_or, Bool.or_true, Bool.false_or, Bool.or_false, Bool.not_true, Bool.not_false, decide_true, decide_false, bI_t, bI_f, Bool.false_eq_true, not_true_eq_false, not_false_eq_true, eq_self, reduceCtorEq, Bool.true_eq_false, and_true, true_and, and_false, false_and, or_true, true_or, or_false, false_or]; done) | (simp only [c_6, ixn hN31, c_14, hO.ix i_b, ↓reduceIte, Bool.true_and, Bool.and_true, Bool.false_and, Bool.and_false, Bool.true_or, Bool.or_true, Bool.false_or, Bool.or_false, Bool.not_true, Bool.not_false, decide_true, decide_false, bI_t, bI_f, Bool.false_eq_true, not_true_eq_false, not_false_eq_true, eq_self, reduceCtorEq, Bool.true_eq_false, and_true, true_and, and_false, false_and, or_true, true_or, or_false, false_or] at c_25; done) | (simp only [c_6, ixn hN31, hO.ix i_b, c_25, ↓reduceIte, Bool.true_and, Bool.and_true, Bool.false_and, Bool.and_false, Bool.true_or, Bool.or_true, Bool.false_or, Bool.or_false, Bool.not_true, Bool.not_false, decide_true, decide_false, bI_t, bI_f, Bool.false_eq_true, not_true_eq_false, not_false_eq_true, eq_self, reduceCtorEq, Bool.true_eq_false, and_true, true_and, and_false, false_and, or_true, true_or, or_false, false_or] at c_14; done) | (simp only [ixn hN31, c_14, hO.ix i_b, c_25, ↓reduceIte, Bool.true_and, Bool.and_true, Bool.false_and, Bool.and_false, Bool.true_or, Bool.or_true, Bool.false_or, Bool.or_false, Bool.not_true, Bool.not_false, decide_true, decide_false, bI_t, bI_f, Bool.false_eq_true, not_true_eq_false, not_false_eq_true, eq_self, reduceCtorEq, Bool.true_eq_false, and_true, true_and, and_false, false_and, or_true, true_or, or_false, false_or] at c_6; done))
  refine lv_bipush (v := -2) hx hb dX2_polygon_17 ib_m2 ?_
  exact pm_iret hx hb hr hlk hH dX2_polygon_19 (by first | with_reducible rfl | (simp only [pubRP, m_poly, c_6, ixn hN31, c_14, ↓reduceIte, Bool.true_and, Bool.and_true, Bool.false_and, Bool.and_false, Bool.true_or, Bool.or_true, Bool.false_or, Bool.or_false, Bool.not_true, Bool.not_false, decide_true, decide_false, bI_t, bI_f, Bool.false_eq_true, not_true_eq_false, not_false_eq_true, eq_self, reduceCtorEq, Bool.true_eq_false, and_true, true_and, and_false, false_and, or_true, true_or, or_false, false_or]; done) | (simp only [c_6, ixn hN31, ↓reduceIte, Bool.true_and, Bool.and_true, Bool.false_and, Bool.and_false, Bool.true_or, Bool.or_true, Bool.false_or, Bool.or_false, Bool.not_true, Bool.not_false, decide_true, decide_false, bI_t, bI_f, Bool.false_eq_true, not_true_eq_false, not_false_eq_true, eq_self, reduceCtorEq, Bool.true_eq_false, and_true, true_and, and_false, false_and, or_true, true_or, or_false, false_or] at c_14; done) | (simp only [ixn hN31, c_14, ↓reduceIte, Bool.true_and, Bool.and_true, Bool.false_and, Bool.and_false, Bool.true_or, Bool.or_true, Bool.false_or, Bool.or_false, Bool.not_true, Bool.not_false, decide_true, decide_false, bI_t, bI_f, Bool.false_eq_true, not_true_eq_false, not_false_eq_true, eq_self, reduceCtorEq, Bool.true_eq_false, and_true, true_and, and_false, false_and, or_true, true_or, or_false, false_or] at c_6; done))
theorem dX2_winding_0 : decode cX2_winding 0 = .ok (.aload_n 0, 1) := by decide +kernel
theorem dX2_winding_1 : decode cX2_winding 1 = .ok (.iload_n 1, 1) := by decide +kernel
theorem dX2_winding_2 : decode cX2_winding 2 = .ok (.iconst 1, 1) := by decide +kernel
theorem dX2_winding_3 : decode cX2_winding 3 = .ok (.invokevirtual 139, 3) := by decide +kernel
theorem dX2_winding_6 : decode cX2_winding 6 = .ok (.ifCond .eq 19, 3) := by decide +kernel
theorem dX2_winding_9 : decode cX2_winding 9 = .ok (.aload_n 0, 1) := by decide +kernel
theorem dX2_winding_10 : decode cX2_winding 10 = .ok (.iload_n 2, 1) := by decide +kernel
theorem dX2_winding_11 : decode cX2_winding 11 = .ok (.invokevirtual 69, 3) := by decide +kernel
theorem dX2_winding_14 : decode cX2_winding 14 = .ok (.ifCond .eq 11, 3) := by decide +kernel
theorem dX2_winding_17 : decode cX2_winding 17 = .ok (.aload_n 0, 1) := by decide +kernel
theorem dX2_winding_18 : decode cX2_winding 18 = .ok (.iload_n 1, 1) := by decide +kernel
theorem dX2_winding_19 : decode cX2_winding 19 = .ok (.invokevirtual 142, 3) := by decide +kernel
theorem dX2_winding_22 : decode cX2_winding 22 = .ok (.ifCond .ne 6, 3) := by decide +kernel
theorem dX2_winding_25 : decode cX2_winding 25 = .ok (.bipush (-100), 2) := by decide +kernel
theorem dX2_winding_27 : decode cX2_winding 27 = .ok (.ireturn, 1) := by decide +kernel
theorem dX2_winding_28 : decode cX2_winding 28 = .ok (.aload_n 0, 1) := by decide +kernel
theorem dX2_winding_29 : decode cX2_winding 29 = .ok (.iload_n 1, 1) := by decide +kernel
theorem dX2_winding_30 : decode cX2_winding 30 = .ok (.iload_n 2, 1) := by decide +kernel
theorem dX2_winding_31 : decode cX2_winding 31 = .ok (.invokevirtual 149, 3) := by decide +kernel
theorem dX2_winding_34 : decode cX2_winding 34 = .ok (.ifCond .eq 6, 3) := by decide +kernel
theorem dX2_winding_37 : decode cX2_winding 37 = .ok (.bipush 100, 2) := by decide +kernel
theorem dX2_winding_39 : decode cX2_winding 39 = .ok (.ireturn, 1) := by decide +kernel
theorem dX2_winding_40 : decode cX2_winding 40 = .ok (.iconst 0, 1) := by decide +kernel
theorem dX2_winding_41 : decode cX2_winding 41 = .ok (.istore_n 3, 1) := by decide +kernel
theorem dX2_winding_42 : decode cX2_winding 42 = .ok (.iconst 0, 1) := by decide +kernel
theorem dX2_winding_43 : decode cX2_winding 43 = .ok (.istore 4, 2) := by decide +kernel
theorem dX2_winding_45 : decode cX2_winding 45 = .ok (.iload 4, 2) := by decide +kernel
theorem dX2_winding_47 : decode cX2_winding 47 = .ok (.iload_n 1, 1) := by decide +kernel
theorem dX2_winding_48 : decode cX2_winding 48 = .ok (.if_icmp .ge 20, 3) := by decide +kernel
theorem dX2_winding_51 : decode cX2_winding 51 = .ok (.iload_n 3, 1) := by decide +kernel
theorem dX2_winding_52 : decode cX2_winding 52 = .ok (.aload_n 0, 1) := by decide +kernel
theorem dX2_winding_53 : decode cX2_winding 53 = .ok (.iload 4, 2) := by decide +kernel
theorem dX2_winding_55 : decode cX2_winding 55 = .ok (.iload_n 1, 1) := by decide +kernel
theorem dX2_winding_56 : decode cX2_winding 56 = .ok (.iload_n 2, 1) := by decide +kernel
theorem dX2_winding_57 : decode cX2_winding 57 = .ok (.invokevirtual 152, 3) := by decide +kernel
theorem dX2_winding_60 : decode cX2_winding 60 = .ok (.iadd, 1) := by decide +kernel
theorem dX2_winding_61 : decode cX2_winding 61 = .ok (.istore_n 3, 1) := by decide +kernel
theorem dX2_winding_62 : decode cX2_winding 62 = .ok (.iinc 4 1, 3) := by decide +kernel
theorem dX2_winding_65 : decode cX2_winding 65 = .ok (.goto (-20), 3) := by decide +kernel
theorem dX2_winding_68 : decode cX2_winding 68 = .ok (.iload_n 3, 1) := by decide +kernel
theorem dX2_winding_69 : decode cX2_winding 69 = .ok (.ireturn, 1) := by decide +kernel
set_option maxHeartbeats 4000000 in
theorem met_X2_winding (l : Launch) (G : GG) {H : Heap} {o : Nat} {A : Nat → Nat} {σ : Sg} {th : Int32} {n b : Int32} (hM : MW G H o A σ th) (hO : Ok σ) : PM l yX2_winding cX2_winding 5 (some .int) 4 91 G H [.ref o, .int n, .int b] (some (.int (m_wind σ n b))) := by
  refine pm_intro pl_X2_winding (Nat.le_of_ble_eq_true rfl) ?_
  intro pX eX sX mX belX methX cX ls hE hnm hl
  obtain ⟨hx, hb, hr, hlk, hml, hown, hts, hK, hZ, hH⟩ := hE
  have hl : lv_has ls 5 [(0, .ref o), (1, .int n), (2, .int b)] := hl
  refine lv_aload_n hx hb dX2_winding_0 rfl (lv_at hl 0 rfl) ?_
  refine lv_iload_n hx hb dX2_winding_1 rfl (lv_at hl 1 rfl) ?_
  refine lv_iconst (v := 1) hx hb dX2_winding_2 ic_1 ?_
  refine p_callV (As := [.int _, .int _]) hx hb hml hown hts hK hZ (met_X2_isMany l G hM) q840 q842 qs28 q43 q843 hv_X2_isMany rfl hM.1 rfl (by decide) hl.1 rfl (Nat.le_of_ble_eq_true rfl) dX2_winding_3 ⟨Nat.zero_le _, Nat.zero_le _⟩ ?_
  refine b_ifeq (tgt := 25) hx hb dX2_winding_6 rfl (fun c_6 => ?_) (fun c_6 => ?_)
  · skip
    refine lv_bipush (v := -100) hx hb dX2_winding_25 ib_m100 ?_
    exact pm_iret hx hb hr hlk hH dX2_winding_27 (by first | with_reducible rfl | (simp only [m_wind, c_6, ↓reduceIte, Bool.true_and, Bool.and_true, Bool.false_and, Bool.and_false, Bool.true_or, Bool.or_true, Bool.false_or, Bool.or_false, Bool.not_true, Bool.not_false, decide_true, decide_false, bI_t, bI_f, Bool.false_eq_true, not_true_eq_false, not_false_eq_true, eq_self, reduceCtorEq, Bool.true_eq_false, and_true, true_and, and_false, false_and, or_true, true_or, or_false, false_or]; done))
  obtain ⟨N, hN, rfl, hge⟩ := many_elim (by decide) hO.rn31 c_6
  have hN31 : N < 2 ^ 31 := Nat.lt_of_le_of_lt hN hO.rn31
  have e1_ : (1 : Int32).toInt = 1 := rfl
  have e3_ : (3 : Int32).toInt = 3 := rfl
  have hpos : 0 < N := by omega
  refine lv_aload_n hx hb dX2_winding_9 rfl (lv_at hl 0 rfl) ?_
  refine lv_iload_n hx hb dX2_winding_10 rfl (lv_at hl 2 rfl) ?_
  refine p_callV (As := [.int _]) hx hb hml hown hts hK hZ (met_X2_isPoint l G hM) q728 q730 qs13 q43 q731 hv_X2_isPoint rfl hM.1 rfl (by decide) hl.1 rfl (Nat.le_of_ble_eq_true rfl) dX2_winding_11 ⟨Nat.zero_le _, Nat.zero_le _⟩ ?_
  refine b_ifeq (tgt := 25) hx hb dX2_winding_14 rfl (fun c_14 => ?_) (fun c_14 => ?_)
  · skip
    refine lv_bipush (v := -100) hx hb dX2_winding_25 ib_m100 ?_
    exact pm_iret hx hb hr hlk hH dX2_winding_27 (by first | with_reducible rfl | (simp only [m_wind, c_6, ixn hN31, c_14, ↓reduceIte, Bool.true_and, Bool.and_true, Bool.false_and, Bool.and_false, Bool.true_or, Bool.or_true, Bool.false_or, Bool.or_false, Bool.not_true, Bool.not_false, decide_true, decide_false, bI_t, bI_f, Bool.false_eq_true, not_true_eq_false, not_false_eq_true, eq_self, reduceCtorEq, Bool.true_eq_false, and_true, true_and, and_false, false_and, or_true, true_or, or_false, false_or]; done) | (simp only [c_6, ixn hN31, ↓reduceIte, Bool.true_and, Bool.and_true, Bool.false_and, Bool.and_false, Bool.true_or, Bool.or_true, Bool.false_or, Bool.or_false, Bool.not_true, Bool.not_false, decide_true, decide_false, bI_t, bI_f, Bool.false_eq_true, not_true_eq_false, not_false_eq_true, eq_self, reduceCtorEq, Bool.true_eq_false, and_true, true_and, and_false, false_and, or_true, true_or, or_false, false_or] at c_14; done) | (simp only [ixn hN31, c_14, ↓reduceIte, Bool.true_and, Bool.and_true, Bool.false_and, Bool.and_false, Bool.true_or, Bool.or_true, Bool.false_or, Bool.or_false, Bool.not_true, Bool.not_false, decide_true, decide_false, bI_t, bI_f, Bool.false_eq_true, not_true_eq_false, not_false_eq_true, eq_self, reduceCtorEq, Bool.true_eq_false, and_true, true_and, and_false, false_and, or_true, true_or, or_false, false_or] at c_6; done))
  obtain ⟨b_, i_b, rfl⟩ := isPt_elim hO.1.1 c_14
  refine lv_aload_n hx hb dX2_winding_17 rfl (lv_at hl 0 rfl) ?_
  refine lv_iload_n hx hb dX2_winding_18 rfl (lv_at hl 1 rfl) ?_
  refine p_callV (As := [.int _]) hx hb hml hown hts hK hZ (met_X2_isWhole l G hM hO hN) q844 q846 qs29 q43 q847 hv_X2_isWhole rfl hM.1 rfl (by decide) hl.1 rfl (Nat.le_of_ble_eq_true rfl) dX2_winding_19 ⟨Nat.zero_le _, Nat.zero_le _⟩ ?_
  refine b_ifne (tgt := 28) hx hb dX2_winding_22 rfl (fun c_22 => ?_) (fun c_22 => ?_)
  · skip
    have hr_ := HR.of hO c_22
    refine lv_aload_n hx hb dX2_winding_28 rfl (lv_at hl 0 rfl) ?_
    refine lv_iload_n hx hb dX2_winding_29 rfl (lv_at hl 1 rfl) ?_
    refine lv_iload_n hx hb dX2_winding_30 rfl (lv_at hl 2 rfl) ?_
    refine p_callV (As := [.int _, .int _]) hx hb hml hown hts hK hZ (met_X2_isOnEdge l G hM hO hN hr_ i_b) q856 q858 qs31 q43 q859 hv_X2_isOnEdge rfl hM.1 rfl (by decide) hl.1 rfl (Nat.le_of_ble_eq_true rfl) dX2_winding_31 ⟨Nat.zero_le _, Nat.zero_le _⟩ ?_
    refine b_ifeq (tgt := 40) hx hb dX2_winding_34 rfl (fun c_34 => ?_) (fun c_34 => ?_)
    · skip
      refine lv_iconst (v := 0) hx hb dX2_winding_40 ic_0 ?_
      refine lv_istore_n (lv' := [(3, .int _), (0, .ref _), (1, .int _), (2, .int _)]) hx hb dX2_winding_41 rfl hl (Nat.le_of_ble_eq_true rfl) rfl (fun ls hl => ?_)
      refine lv_iconst (v := 0) hx hb dX2_winding_42 ic_0 ?_
      refine lv_istore (lv' := [(4, .int _), (3, .int _), (0, .ref _), (1, .int _), (2, .int _)]) hx hb dX2_winding_43 hl (Nat.le_of_ble_eq_true rfl) rfl (fun ls hl => ?_)
      refine loopW (N := N) (nL := 5) (lv := fun i => [(0, .ref o), (1, .int (nI N)), (2, .int (nI b_)), (3, .int (m_sum σ N (σ.pt b_) i)), (4, .int (nI i))]) (fun i hk_i ih_i ls hl => ?_) 0 (Nat.zero_le _) ls (lv_sub hl [2, 3, 4, 1, 0] rfl)
      replace hl : lv_has ls 5 [(0, .ref o), (1, .int (nI N)), (2, .int (nI b_)), (3, .int (m_sum σ N (σ.pt b_) i)), (4, .int (nI i))] := hl
      refine lv_iload hx hb dX2_winding_45 (lv_at hl 4 rfl) ?_
      refine lv_iload_n hx hb dX2_winding_47 rfl (lv_at hl 1 rfl) ?_
      refine lv_icmp_ge (tgt := 68) hx hb dX2_winding_48 rfl (fun c_48_4 => ?_) (fun c_48_4 => ?_)
      · skip
        have e_i := lp_out hk_i hN31 c_48_4
        subst e_i
        refine lv_iload_n hx hb dX2_winding_68 rfl (lv_at hl 3 rfl) ?_
        exact pm_iret hx hb hr hlk hH dX2_winding_69 (by first | with_reducible rfl | (simp only [m_wind, c_6, ixn hN31, c_14, hO.ix i_b, c_22, c_34, ↓reduceIte, Bool.true_and, Bool.and_true, Bool.false_and, Bool.and_false, Bool.true_or, Bool.or_true, Bool.false_or, Bool.or_false, Bool.not_true, Bool.not_false, decide_true, decide_false, bI_t, bI_f, Bool.false_eq_true, not_true_eq_false, not_false_eq_true, eq_self, reduceCtorEq, Bool.true_eq_false, and_true, true_and, and_false, false_and, or_true, true_or, or_false, false_or]; done) | (simp only [c_6, ixn hN31, c_14, hO.ix i_b, c_22, ↓reduceIte, Bool.true_and, Bool.and_true, Bool.false_and, Bool.and_false, Bool.true_or, Bool.or_true, Bool.false_or, Bool.or_false, Bool.not_true, Bool.not_false, decide_true, decide_false, bI_t, bI_f, Bool.false_eq_true, not_true_eq_false, not_false_eq_true, eq_self, reduceCtorEq, Bool.true_eq_false, and_true, true_and, and_false, false_and, or_true, true_or, or_false, false_or] at c_34; done) | (simp only [c_6, ixn hN31, c_14, hO.ix i_b, c_34, ↓reduceIte, Bool.true_and, Bool.and_true, Bool.false_and, Bool.and_false, Bool.true_or, Bool.or_true, Bool.false_or, Bool.or_false, Bool.not_true, Bool.not_false, decide_true, decide_false, bI_t, bI_f, Bool.false_eq_true, not_true_eq_false, not_false_eq_true, eq_self, reduceCtorEq, Bool.true_eq_false, and_true, true_and, and_false, false_and, or_true, true_or, or_false, false_or] at c_22; done) | (simp only [c_6, ixn hN31, hO.ix i_b, c_22, c_34, ↓reduceIte, Bool.true_and, Bool.and_true, Bool.false_and, Bool.and_false, Bool.true_or, Bool.or_true, Bool.false_or, Bool.or_false, Bool.not_true, Bool.not_false, decide_true, decide_false, bI_t, bI_f, Bool.false_eq_true, not_true_eq_false, not_false_eq_true, eq_self, reduceCtorEq, Bool.true_eq_false, and_true, true_and, and_false, false_and, or_true, true_or, or_false, false_or] at c_14; done) | (simp only [ixn hN31, c_14, hO.ix i_b, c_22, c_34, ↓reduceIte, Bool.true_and, Bool.and_true, Bool.false_and, Bool.and_false, Bool.true_or, Bool.or_true, Bool.false_or, Bool.or_false, Bool.not_true, Bool.not_false, decide_true, decide_false, bI_t, bI_f, Bool.false_eq_true, not_true_eq_false, not_false_eq_true, eq_self, reduceCtorEq, Bool.true_eq_false, and_true, true_and, and_false, false_and, or_true, true_or, or_false, false_or] at c_6; done))
      have h_i := lp_in hk_i hN31 c_48_4
      refine lv_iload_n hx hb dX2_winding_51 rfl (lv_at hl 3 rfl) ?_
      refine lv_aload_n hx hb dX2_winding_52 rfl (lv_at hl 0 rfl) ?_
      refine lv_iload hx hb dX2_winding_53 (lv_at hl 4 rfl) ?_
      refine lv_iload_n hx hb dX2_winding_55 rfl (lv_at hl 1 rfl) ?_
      refine lv_iload_n hx hb dX2_winding_56 rfl (lv_at hl 2 rfl) ?_
      refine p_callV (As := [.int _, .int _, .int _]) hx hb hml hown hts hK hZ (met_X2_rises l G hM hO hN hr_ h_i i_b) q860 q862 qs32 q43 q863 hv_X2_rises rfl hM.1 rfl (by decide) hl.1 rfl (Nat.le_of_ble_eq_true rfl) dX2_winding_57 ⟨Nat.zero_le _, Nat.zero_le _⟩ ?_
      refine lv_iadd hx hb dX2_winding_60 ?_
      refine lv_istore_n (lv' := [(3, .int _), (0, .ref _), (1, .int _), (2, .int _), (4, .int _)]) hx hb dX2_winding_61 rfl hl (Nat.le_of_ble_eq_true rfl) rfl (fun ls hl => ?_)
      refine lv_iinc (v := nI (i + 1)) (k := 4) (lv' := [(4, .int _), (3, .int _), (0, .ref _), (1, .int _), (2, .int _)]) hx hb dX2_winding_62 hl rfl (nI_1 _) (Nat.le_of_ble_eq_true rfl) rfl (fun ls hl => ?_)
      refine lv_goto (tgt := 45) hx hb dX2_winding_65 rfl ?_
      exact ih_i ls (lv_sub hl [2, 3, 4, 1, 0] rfl) h_i
    refine lv_bipush (v := 100) hx hb dX2_winding_37 ib_100 ?_
    exact pm_iret hx hb hr hlk hH dX2_winding_39 (by first | with_reducible rfl | (simp only [m_wind, c_6, ixn hN31, c_14, hO.ix i_b, c_22, c_34, ↓reduceIte, Bool.true_and, Bool.and_true, Bool.false_and, Bool.and_false, Bool.true_or, Bool.or_true, Bool.false_or, Bool.or_false, Bool.not_true, Bool.not_false, decide_true, decide_false, bI_t, bI_f, Bool.false_eq_true, not_true_eq_false, not_false_eq_true, eq_self, reduceCtorEq, Bool.true_eq_false, and_true, true_and, and_false, false_and, or_true, true_or, or_false, false_or]; done) | (simp only [c_6, ixn hN31, c_14, hO.ix i_b, c_22, ↓reduceIte, Bool.true_and, Bool.and_true, Bool.false_and, Bool.and_false, Bool.true_or, Bool.or_true, Bool.false_or, Bool.or_false, Bool.not_true, Bool.not_false, decide_true, decide_false, bI_t, bI_f, Bool.false_eq_true, not_true_eq_false, not_false_eq_true, eq_self, reduceCtorEq, Bool.true_eq_false, and_true, true_and, and_false, false_and, or_true, true_or, or_false, false_or] at c_34; done) | (simp only [c_6, ixn hN31, c_14, hO.ix i_b, c_34, ↓reduceIte, Bool.true_and, Bool.and_true, Bool.false_and, Bool.and_false, Bool.true_or, Bool.or_true, Bool.false_or, Bool.or_false, Bool.not_true, Bool.not_false, decide_true, decide_false, bI_t, bI_f, Bool.false_eq_true, not_true_eq_false, not_false_eq_true, eq_self, reduceCtorEq, Bool.true_eq_false, and_true, true_and, and_false, false_and, or_true, true_or, or_false, false_or] at c_22; done) | (simp only [c_6, ixn hN31, hO.ix i_b, c_22, c_34, ↓reduceIte, Bool.true_and, Bool.and_true, Bool.false_and, Bool.and_false, Bool.true_or, Bool.or_true, Bool.false_or, Bool.or_false, Bool.not_true, Bool.not_false, decide_true, decide_false, bI_t, bI_f, Bool.false_eq_true, not_true_eq_false, not_false_eq_true, eq_self, reduceCtorEq, Bool.true_eq_false, and_true, true_and, and_false, false_and, or_true, true_or, or_false, false_or] at c_14; done) | (simp only [ixn hN31, c_14, hO.ix i_b, c_22, c_34, ↓reduceIte, Bool.true_and, Bool.and_true, Bool.false_and, Bool.and_false, Bool.true_or, Bool.or_true, Bool.false_or, Bool.or_false, Bool.not_true, Bool.not_false, decide_true, decide_false, bI_t, bI_f, Bool.false_eq_true, not_true_eq_false, not_false_eq_true, eq_self, reduceCtorEq, Bool.true_eq_false, and_true, true_and, and_false, false_and, or_true, true_or, or_false, false_or] at c_6; done))
  refine lv_bipush (v := -100) hx hb dX2_winding_25 ib_m100 ?_
  exact pm_iret hx hb hr hlk hH dX2_winding_27 (by first | with_reducible rfl | (simp only [m_wind, c_6, ixn hN31, c_14, hO.ix i_b, c_22, ↓reduceIte, Bool.true_and, Bool.and_true, Bool.false_and, Bool.and_false, Bool.true_or, Bool.or_true, Bool.false_or, Bool.or_false, Bool.not_true, Bool.not_false, decide_true, decide_false, bI_t, bI_f, Bool.false_eq_true, not_true_eq_false, not_false_eq_true, eq_self, reduceCtorEq, Bool.true_eq_false, and_true, true_and, and_false, false_and, or_true, true_or, or_false, false_or]; done) | (simp only [c_6, ixn hN31, c_14, hO.ix i_b, ↓reduceIte, Bool.true_and, Bool.and_true, Bool.false_and, Bool.and_false, Bool.true_or, Bool.or_true, Bool.false_or, Bool.or_false, Bool.not_true, Bool.not_false, decide_true, decide_false, bI_t, bI_f, Bool.false_eq_true, not_true_eq_false, not_false_eq_true, eq_self, reduceCtorEq, Bool.true_eq_false, and_true, true_and, and_false, false_and, or_true, true_or, or_false, false_or] at c_22; done) | (simp only [c_6, ixn hN31, hO.ix i_b, c_22, ↓reduceIte, Bool.true_and, Bool.and_true, Bool.false_and, Bool.and_false, Bool.true_or, Bool.or_true, Bool.false_or, Bool.or_false, Bool.not_true, Bool.not_false, decide_true, decide_false, bI_t, bI_f, Bool.false_eq_true, not_true_eq_false, not_false_eq_true, eq_self, reduceCtorEq, Bool.true_eq_false, and_true, true_and, and_false, false_and, or_true, true_or, or_false, false_or] at c_14; done) | (simp only [ixn hN31, c_14, hO.ix i_b, c_22, ↓reduceIte, Bool.true_and, Bool.and_true, Bool.false_and, Bool.and_false, Bool.true_or, Bool.or_true, Bool.false_or, Bool.or_false, Bool.not_true, Bool.not_false, decide_true, decide_false, bI_t, bI_f, Bool.false_eq_true, not_true_eq_false, not_false_eq_true, eq_self, reduceCtorEq, Bool.true_eq_false, and_true, true_and, and_false, false_and, or_true, true_or, or_false, false_or] at c_6; done))
theorem dX2_nearest_0 : decode cX2_nearest 0 = .ok (.aload_n 0, 1) := by decide +kernel
theorem dX2_nearest_1 : decode cX2_nearest 1 = .ok (.iload_n 1, 1) := by decide +kernel
theorem dX2_nearest_2 : decode cX2_nearest 2 = .ok (.invokevirtual 69, 3) := by decide +kernel
theorem dX2_nearest_5 : decode cX2_nearest 5 = .ok (.ifCond .eq 12, 3) := by decide +kernel
theorem dX2_nearest_8 : decode cX2_nearest 8 = .ok (.aload_n 0, 1) := by decide +kernel
theorem dX2_nearest_9 : decode cX2_nearest 9 = .ok (.iload_n 2, 1) := by decide +kernel
theorem dX2_nearest_10 : decode cX2_nearest 10 = .ok (.iconst 1, 1) := by decide +kernel
theorem dX2_nearest_11 : decode cX2_nearest 11 = .ok (.invokevirtual 139, 3) := by decide +kernel
theorem dX2_nearest_14 : decode cX2_nearest 14 = .ok (.ifCond .ne 6, 3) := by decide +kernel
theorem dX2_nearest_17 : decode cX2_nearest 17 = .ok (.bipush (-2), 2) := by decide +kernel
theorem dX2_nearest_19 : decode cX2_nearest 19 = .ok (.ireturn, 1) := by decide +kernel
theorem dX2_nearest_20 : decode cX2_nearest 20 = .ok (.aload_n 0, 1) := by decide +kernel
theorem dX2_nearest_21 : decode cX2_nearest 21 = .ok (.iload_n 2, 1) := by decide +kernel
theorem dX2_nearest_22 : decode cX2_nearest 22 = .ok (.invokevirtual 142, 3) := by decide +kernel
theorem dX2_nearest_25 : decode cX2_nearest 25 = .ok (.ifCond .ne 6, 3) := by decide +kernel
theorem dX2_nearest_28 : decode cX2_nearest 28 = .ok (.bipush (-4), 2) := by decide +kernel
theorem dX2_nearest_30 : decode cX2_nearest 30 = .ok (.ireturn, 1) := by decide +kernel
theorem dX2_nearest_31 : decode cX2_nearest 31 = .ok (.iconst 0, 1) := by decide +kernel
theorem dX2_nearest_32 : decode cX2_nearest 32 = .ok (.istore_n 3, 1) := by decide +kernel
theorem dX2_nearest_33 : decode cX2_nearest 33 = .ok (.aload_n 0, 1) := by decide +kernel
theorem dX2_nearest_34 : decode cX2_nearest 34 = .ok (.iload_n 1, 1) := by decide +kernel
theorem dX2_nearest_35 : decode cX2_nearest 35 = .ok (.aload_n 0, 1) := by decide +kernel
theorem dX2_nearest_36 : decode cX2_nearest 36 = .ok (.getfield 20, 3) := by decide +kernel
theorem dX2_nearest_39 : decode cX2_nearest 39 = .ok (.iconst 0, 1) := by decide +kernel
theorem dX2_nearest_40 : decode cX2_nearest 40 = .ok (.iaload, 1) := by decide +kernel
theorem dX2_nearest_41 : decode cX2_nearest 41 = .ok (.invokevirtual 155, 3) := by decide +kernel
theorem dX2_nearest_44 : decode cX2_nearest 44 = .ok (.lstore 4, 2) := by decide +kernel
theorem dX2_nearest_46 : decode cX2_nearest 46 = .ok (.iconst 0, 1) := by decide +kernel
theorem dX2_nearest_47 : decode cX2_nearest 47 = .ok (.istore 6, 2) := by decide +kernel
theorem dX2_nearest_49 : decode cX2_nearest 49 = .ok (.iload 6, 2) := by decide +kernel
theorem dX2_nearest_51 : decode cX2_nearest 51 = .ok (.iload_n 2, 1) := by decide +kernel
theorem dX2_nearest_52 : decode cX2_nearest 52 = .ok (.if_icmp .ge 74, 3) := by decide +kernel
theorem dX2_nearest_55 : decode cX2_nearest 55 = .ok (.aload_n 0, 1) := by decide +kernel
theorem dX2_nearest_56 : decode cX2_nearest 56 = .ok (.iload_n 1, 1) := by decide +kernel
theorem dX2_nearest_57 : decode cX2_nearest 57 = .ok (.aload_n 0, 1) := by decide +kernel
theorem dX2_nearest_58 : decode cX2_nearest 58 = .ok (.getfield 20, 3) := by decide +kernel
theorem dX2_nearest_61 : decode cX2_nearest 61 = .ok (.iload 6, 2) := by decide +kernel
theorem dX2_nearest_63 : decode cX2_nearest 63 = .ok (.iaload, 1) := by decide +kernel
theorem dX2_nearest_64 : decode cX2_nearest 64 = .ok (.invokevirtual 155, 3) := by decide +kernel
theorem dX2_nearest_67 : decode cX2_nearest 67 = .ok (.lstore 7, 2) := by decide +kernel
theorem dX2_nearest_69 : decode cX2_nearest 69 = .ok (.lload 7, 2) := by decide +kernel
theorem dX2_nearest_71 : decode cX2_nearest 71 = .ok (.lload 4, 2) := by decide +kernel
theorem dX2_nearest_73 : decode cX2_nearest 73 = .ok (.lcmp, 1) := by decide +kernel
theorem dX2_nearest_74 : decode cX2_nearest 74 = .ok (.ifCond .ge 10, 3) := by decide +kernel
theorem dX2_nearest_77 : decode cX2_nearest 77 = .ok (.iconst 1, 1) := by decide +kernel
theorem dX2_nearest_78 : decode cX2_nearest 78 = .ok (.iload 6, 2) := by decide +kernel
theorem dX2_nearest_80 : decode cX2_nearest 80 = .ok (.ishl, 1) := by decide +kernel
theorem dX2_nearest_81 : decode cX2_nearest 81 = .ok (.goto 21, 3) := by decide +kernel
theorem dX2_nearest_84 : decode cX2_nearest 84 = .ok (.lload 7, 2) := by decide +kernel
theorem dX2_nearest_86 : decode cX2_nearest 86 = .ok (.lload 4, 2) := by decide +kernel
theorem dX2_nearest_88 : decode cX2_nearest 88 = .ok (.lcmp, 1) := by decide +kernel
theorem dX2_nearest_89 : decode cX2_nearest 89 = .ok (.ifCond .ne 12, 3) := by decide +kernel
theorem dX2_nearest_92 : decode cX2_nearest 92 = .ok (.iload_n 3, 1) := by decide +kernel
theorem dX2_nearest_93 : decode cX2_nearest 93 = .ok (.iconst 1, 1) := by decide +kernel
theorem dX2_nearest_94 : decode cX2_nearest 94 = .ok (.iload 6, 2) := by decide +kernel
theorem dX2_nearest_96 : decode cX2_nearest 96 = .ok (.ishl, 1) := by decide +kernel
theorem dX2_nearest_97 : decode cX2_nearest 97 = .ok (.ior, 1) := by decide +kernel
theorem dX2_nearest_98 : decode cX2_nearest 98 = .ok (.goto 4, 3) := by decide +kernel
theorem dX2_nearest_101 : decode cX2_nearest 101 = .ok (.iload_n 3, 1) := by decide +kernel
theorem dX2_nearest_102 : decode cX2_nearest 102 = .ok (.istore_n 3, 1) := by decide +kernel
theorem dX2_nearest_103 : decode cX2_nearest 103 = .ok (.lload 7, 2) := by decide +kernel
theorem dX2_nearest_105 : decode cX2_nearest 105 = .ok (.lload 4, 2) := by decide +kernel
theorem dX2_nearest_107 : decode cX2_nearest 107 = .ok (.lcmp, 1) := by decide +kernel
theorem dX2_nearest_108 : decode cX2_nearest 108 = .ok (.ifCond .ge 8, 3) := by decide +kernel
theorem dX2_nearest_111 : decode cX2_nearest 111 = .ok (.lload 7, 2) := by decide +kernel
theorem dX2_nearest_113 : decode cX2_nearest 113 = .ok (.goto 5, 3) := by decide +kernel
theorem dX2_nearest_116 : decode cX2_nearest 116 = .ok (.lload 4, 2) := by decide +kernel
theorem dX2_nearest_118 : decode cX2_nearest 118 = .ok (.lstore 4, 2) := by decide +kernel
theorem dX2_nearest_120 : decode cX2_nearest 120 = .ok (.iinc 6 1, 3) := by decide +kernel
theorem dX2_nearest_123 : decode cX2_nearest 123 = .ok (.goto (-74), 3) := by decide +kernel
theorem dX2_nearest_126 : decode cX2_nearest 126 = .ok (.iload_n 3, 1) := by decide +kernel
theorem dX2_nearest_127 : decode cX2_nearest 127 = .ok (.ireturn, 1) := by decide +kernel
set_option maxHeartbeats 4000000 in
theorem met_X2_nearest (l : Launch) (G : GG) {H : Heap} {o : Nat} {A : Nat → Nat} {σ : Sg} {th : Int32} {b n : Int32} (hM : MW G H o A σ th) (hO : Ok σ) : PM l yX2_nearest cX2_nearest 9 (some .int) 2 45 G H [.ref o, .int b, .int n] (some (.int (pubRP σ n b (m_near σ)))) := by
  refine pm_intro pl_X2_nearest (Nat.le_of_ble_eq_true rfl) ?_
  intro pX eX sX mX belX methX cX ls hE hnm hl
  obtain ⟨hx, hb, hr, hlk, hml, hown, hts, hK, hZ, hH⟩ := hE
  have hl : lv_has ls 9 [(0, .ref o), (1, .int b), (2, .int n)] := hl
  refine lv_aload_n hx hb dX2_nearest_0 rfl (lv_at hl 0 rfl) ?_
  refine lv_iload_n hx hb dX2_nearest_1 rfl (lv_at hl 1 rfl) ?_
  refine p_callV (As := [.int _]) hx hb hml hown hts hK hZ (met_X2_isPoint l G hM) q728 q730 qs13 q43 q731 hv_X2_isPoint rfl hM.1 rfl (by decide) hl.1 rfl (Nat.le_of_ble_eq_true rfl) dX2_nearest_2 ⟨Nat.zero_le _, Nat.zero_le _⟩ ?_
  refine b_ifeq (tgt := 17) hx hb dX2_nearest_5 rfl (fun c_5 => ?_) (fun c_5 => ?_)
  · skip
    refine lv_bipush (v := -2) hx hb dX2_nearest_17 ib_m2 ?_
    exact pm_iret hx hb hr hlk hH dX2_nearest_19 (by first | with_reducible rfl | (simp only [pubRP, m_near, c_5, ↓reduceIte, Bool.true_and, Bool.and_true, Bool.false_and, Bool.and_false, Bool.true_or, Bool.or_true, Bool.false_or, Bool.or_false, Bool.not_true, Bool.not_false, decide_true, decide_false, bI_t, bI_f, Bool.false_eq_true, not_true_eq_false, not_false_eq_true, eq_self, reduceCtorEq, Bool.true_eq_false, and_true, true_and, and_false, false_and, or_true, true_or, or_false, false_or]; done))
  obtain ⟨b_, i_b, rfl⟩ := isPt_elim hO.1.1 c_5
  refine lv_aload_n hx hb dX2_nearest_8 rfl (lv_at hl 0 rfl) ?_
  refine lv_iload_n hx hb dX2_nearest_9 rfl (lv_at hl 2 rfl) ?_
  refine lv_iconst (v := 1) hx hb dX2_nearest_10 ic_1 ?_
  refine p_callV (As := [.int _, .int _]) hx hb hml hown hts hK hZ (met_X2_isMany l G hM) q840 q842 qs28 q43 q843 hv_X2_isMany rfl hM.1 rfl (by decide) hl.1 rfl (Nat.le_of_ble_eq_true rfl) dX2_nearest_11 ⟨Nat.zero_le _, Nat.zero_le _⟩ ?_
  refine b_ifne (tgt := 20) hx hb dX2_nearest_14 rfl (fun c_14 => ?_) (fun c_14 => ?_)
  · skip
    obtain ⟨N, hN, rfl, hge⟩ := many_elim (by decide) hO.rn31 c_14
    have hN31 : N < 2 ^ 31 := Nat.lt_of_le_of_lt hN hO.rn31
    have e1_ : (1 : Int32).toInt = 1 := rfl
    have e3_ : (3 : Int32).toInt = 3 := rfl
    have hpos : 0 < N := by omega
    refine lv_aload_n hx hb dX2_nearest_20 rfl (lv_at hl 0 rfl) ?_
    refine lv_iload_n hx hb dX2_nearest_21 rfl (lv_at hl 2 rfl) ?_
    refine p_callV (As := [.int _]) hx hb hml hown hts hK hZ (met_X2_isWhole l G hM hO hN) q844 q846 qs29 q43 q847 hv_X2_isWhole rfl hM.1 rfl (by decide) hl.1 rfl (Nat.le_of_ble_eq_true rfl) dX2_nearest_22 ⟨Nat.zero_le _, Nat.zero_le _⟩ ?_
    refine b_ifne (tgt := 31) hx hb dX2_nearest_25 rfl (fun c_25 => ?_) (fun c_25 => ?_)
    · skip
      have hr_ := HR.of hO c_25
      refine lv_iconst (v := 0) hx hb dX2_nearest_31 ic_0 ?_
      refine lv_istore_n (lv' := [(3, .int _), (0, .ref _), (1, .int _), (2, .int _)]) hx hb dX2_nearest_32 rfl hl (Nat.le_of_ble_eq_true rfl) rfl (fun ls hl => ?_)
      refine lv_aload_n hx hb dX2_nearest_33 rfl (lv_at hl 1 rfl) ?_
      refine lv_iload_n hx hb dX2_nearest_34 rfl (lv_at hl 2 rfl) ?_
      refine lv_aload_n hx hb dX2_nearest_35 rfl (lv_at hl 1 rfl) ?_
      refine gf_X2_20 hx hb hts hown hK hM.1 rfl dX2_nearest_36 ?_
      refine lv_iconst (v := 0) hx hb dX2_nearest_39 ic_0 ?_
      refine r_iald hx hb hK hM.2.2.2.1 dX2_nearest_40 (k := 0) (hO.lt24 (Nat.lt_of_lt_of_le hpos hN)) (by decide) rfl (rI_some (hr_ _ hpos).1) ?_
      refine p_callV (As := [.int _, .int _]) hx hb hml hown hts hK hZ (met_X2_far l G hM hO i_b (hr_ _ hpos).2) q872 q874 qs33 q43 q875 hv_X2_far rfl hM.1 rfl (by decide) hl.1 rfl (Nat.le_of_ble_eq_true rfl) dX2_nearest_41 ⟨Nat.zero_le _, Nat.zero_le _⟩ ?_
      refine lv_lstore (lv' := [(4, .long _), (3, .int _), (0, .ref _), (1, .int _), (2, .int _)]) hx hb dX2_nearest_44 hl (Nat.le_of_ble_eq_true rfl) rfl (fun ls hl => ?_)
      refine lv_iconst (v := 0) hx hb dX2_nearest_46 ic_0 ?_
      refine lv_istore (lv' := [(6, .int _), (4, .long _), (3, .int _), (0, .ref _), (1, .int _), (2, .int _)]) hx hb dX2_nearest_47 hl (Nat.le_of_ble_eq_true rfl) rfl (fun ls hl => ?_)
      refine loopW (N := N) (nL := 9) (lv := fun k => [(0, .ref o), (1, .int (nI b_)), (2, .int (nI N)), (3, .int (m_nrO σ b_ k).1), (4, .long (m_nrO σ b_ k).2), (6, .int (nI k))]) (fun k hk_k ih_k ls hl => ?_) 0 (Nat.zero_le _) ls (lv_sub hl [3, 4, 5, 2, 1, 0] rfl)
      replace hl : lv_has ls 9 [(0, .ref o), (1, .int (nI b_)), (2, .int (nI N)), (3, .int (m_nrO σ b_ k).1), (4, .long (m_nrO σ b_ k).2), (6, .int (nI k))] := hl
      refine lv_iload hx hb dX2_nearest_49 (lv_at hl 5 rfl) ?_
      refine lv_iload_n hx hb dX2_nearest_51 rfl (lv_at hl 2 rfl) ?_
      refine lv_icmp_ge (tgt := 126) hx hb dX2_nearest_52 rfl (fun c_52_3 => ?_) (fun c_52_3 => ?_)
      · skip
        have e_k := lp_out hk_k hN31 c_52_3
        subst e_k
        refine lv_iload_n hx hb dX2_nearest_126 rfl (lv_at hl 3 rfl) ?_
        exact pm_iret hx hb hr hlk hH dX2_nearest_127 (by first | with_reducible rfl | (simp only [pubRP, m_near, c_5, hO.ix i_b, c_14, ixn hN31, c_25, ↓reduceIte, Bool.true_and, Bool.and_true, Bool.false_and, Bool.and_false, Bool.true_or, Bool.or_true, Bool.false_or, Bool.or_false, Bool.not_true, Bool.not_false, decide_true, decide_false, bI_t, bI_f, Bool.false_eq_true, not_true_eq_false, not_false_eq_true, eq_self, reduceCtorEq, Bool.true_eq_false, and_true, true_and, and_false, false_and, or_true, true_or, or_false, false_or]; done) | (simp only [c_5, hO.ix i_b, c_14, ixn hN31, ↓reduceIte, Bool.true_and, Bool.and_true, Bool.false_and, Bool.and_false, Bool.true_or, Bool.or_true, Bool.false_or, Bool.or_false, Bool.not_true, Bool.not_false, decide_true, decide_false, bI_t, bI_f, Bool.false_eq_true, not_true_eq_false, not_false_eq_true, eq_self, reduceCtorEq, Bool.true_eq_false, and_true, true_and, and_false, false_and, or_true, true_or, or_false, false_or] at c_25; done) | (simp only [c_5, hO.ix i_b, ixn hN31, c_25, ↓reduceIte, Bool.true_and, Bool.and_true, Bool.false_and, Bool.and_false, Bool.true_or, Bool.or_true, Bool.false_or, Bool.or_false, Bool.not_true, Bool.not_false, decide_true, decide_false, bI_t, bI_f, Bool.false_eq_true, not_true_eq_false, not_false_eq_true, eq_self, reduceCtorEq, Bool.true_eq_false, and_true, true_and, and_false, false_and, or_true, true_or, or_false, false_or] at c_14; done) | (simp only [hO.ix i_b, c_14, ixn hN31, c_25, ↓reduceIte, Bool.true_and, Bool.and_true, Bool.false_and, Bool.and_false, Bool.true_or, Bool.or_true, Bool.false_or, Bool.or_false, Bool.not_true, Bool.not_false, decide_true, decide_false, bI_t, bI_f, Bool.false_eq_true, not_true_eq_false, not_false_eq_true, eq_self, reduceCtorEq, Bool.true_eq_false, and_true, true_and, and_false, false_and, or_true, true_or, or_false, false_or] at c_5; done))
      have h_k := lp_in hk_k hN31 c_52_3
      refine lv_aload_n hx hb dX2_nearest_55 rfl (lv_at hl 0 rfl) ?_
      refine lv_iload_n hx hb dX2_nearest_56 rfl (lv_at hl 1 rfl) ?_
      refine lv_aload_n hx hb dX2_nearest_57 rfl (lv_at hl 0 rfl) ?_
      refine gf_X2_20 hx hb hts hown hK hM.1 rfl dX2_nearest_58 ?_
      refine lv_iload hx hb dX2_nearest_61 (lv_at hl 5 rfl) ?_
      refine r_iald hx hb hK hM.2.2.2.1 dX2_nearest_63 (k := k) (hO.lt24 (Nat.lt_of_lt_of_le h_k hN)) (by decide) rfl (rI_some (hr_ _ h_k).1) ?_
      refine p_callV (As := [.int _, .int _]) hx hb hml hown hts hK hZ (met_X2_far l G hM hO i_b (hr_ _ h_k).2) q872 q874 qs33 q43 q875 hv_X2_far rfl hM.1 rfl (by decide) hl.1 rfl (Nat.le_of_ble_eq_true rfl) dX2_nearest_64 ⟨Nat.zero_le _, Nat.zero_le _⟩ ?_
      refine lv_lstore (lv' := [(7, .long _), (0, .ref _), (1, .int _), (2, .int _), (3, .int _), (4, .long _), (6, .int _)]) hx hb dX2_nearest_67 hl (Nat.le_of_ble_eq_true rfl) rfl (fun ls hl => ?_)
      refine cutI (J := 102) (v := if (m_nrO σ b_ k).2 ≤ s_far (σ.pt b_) (σ.rp k) then (if s_far (σ.pt b_) (σ.rp k) = (m_nrO σ b_ k).2 then (m_nrO σ b_ k).1 ||| (1 <<< (nI k &&& 31)) else (m_nrO σ b_ k).1) else 1 <<< (nI k &&& 31)) ?_ (fun K16 => ?_)
      rotate_left
      · skip
        refine lv_lload hx hb dX2_nearest_69 (lv_at hl 0 rfl) ?_
        refine lv_lload hx hb dX2_nearest_71 (lv_at hl 5 rfl) ?_
        refine lc_ge (tgt := 84) hx hb dX2_nearest_73 dX2_nearest_74 rfl (fun c_73_4 => ?_) (fun c_73_4 => ?_)
        · skip
          refine lv_lload hx hb dX2_nearest_84 (lv_at hl 0 rfl) ?_
          refine lv_lload hx hb dX2_nearest_86 (lv_at hl 5 rfl) ?_
          refine lc_ne (tgt := 101) hx hb dX2_nearest_88 dX2_nearest_89 rfl (fun c_88_5 => ?_) (fun c_88_5 => ?_)
          · skip
            refine lv_iload_n hx hb dX2_nearest_101 rfl (lv_at hl 4 rfl) ?_
            exact K16 _ (by first | with_reducible rfl | (simp only [pubRP, m_near, c_5, hO.ix i_b, c_14, ixn hN31, c_25, c_73_4, Int64.not_lt.mpr c_73_4, c_88_5, ↓reduceIte, Bool.true_and, Bool.and_true, Bool.false_and, Bool.and_false, Bool.true_or, Bool.or_true, Bool.false_or, Bool.or_false, Bool.not_true, Bool.not_false, decide_true, decide_false, bI_t, bI_f, Bool.false_eq_true, not_true_eq_false, not_false_eq_true, eq_self, reduceCtorEq, Bool.true_eq_false, and_true, true_and, and_false, false_and, or_true, true_or, or_false, false_or]; done) | (simp only [c_5, hO.ix i_b, c_14, ixn hN31, c_25, c_73_4, Int64.not_lt.mpr c_73_4, ↓reduceIte, Bool.true_and, Bool.and_true, Bool.false_and, Bool.and_false, Bool.true_or, Bool.or_true, Bool.false_or, Bool.or_false, Bool.not_true, Bool.not_false, decide_true, decide_false, bI_t, bI_f, Bool.false_eq_true, not_true_eq_false, not_false_eq_true, eq_self, reduceCtorEq, Bool.true_eq_false, and_true, true_and, and_false, false_and, or_true, true_or, or_false, false_or] at c_88_5; done) | (simp only [c_5, hO.ix i_b, c_14, ixn hN31, c_25, c_88_5, ↓reduceIte, Bool.true_and, Bool.and_true, Bool.false_and, Bool.and_false, Bool.true_or, Bool.or_true, Bool.false_or, Bool.or_false, Bool.not_true, Bool.not_false, decide_true, decide_false, bI_t, bI_f, Bool.false_eq_true, not_true_eq_false, not_false_eq_true, eq_self, reduceCtorEq, Bool.true_eq_false, and_true, true_and, and_false, false_and, or_true, true_or, or_false, false_or] at c_73_4; done) | (simp only [c_5, hO.ix i_b, c_14, ixn hN31, c_73_4, Int64.not_lt.mpr c_73_4, c_88_5, ↓reduceIte, Bool.true_and, Bool.and_true, Bool.false_and, Bool.and_false, Bool.true_or, Bool.or_true, Bool.false_or, Bool.or_false, Bool.not_true, Bool.not_false, decide_true, decide_false, bI_t, bI_f, Bool.false_eq_true, not_true_eq_false, not_false_eq_true, eq_self, reduceCtorEq, Bool.true_eq_false, and_true, true_and, and_false, false_and, or_true, true_or, or_false, false_or] at c_25; done) | (simp only [c_5, hO.ix i_b, ixn hN31, c_25, c_73_4, Int64.not_lt.mpr c_73_4, c_88_5, ↓reduceIte, Bool.true_and, Bool.and_true, Bool.false_and, Bool.and_false, Bool.true_or, Bool.or_true, Bool.false_or, Bool.or_false, Bool.not_true, Bool.not_false, decide_true, decide_false, bI_t, bI_f, Bool.false_eq_true, not_true_eq_false, not_false_eq_true, eq_self, reduceCtorEq, Bool.true_eq_false, and_true, true_and, and_false, false_and, or_true, true_or, or_false, false_or] at c_14; done) | (simp only [hO.ix i_b, c_14, ixn hN31, c_25, c_73_4, Int64.not_lt.mpr c_73_4, c_88_5, ↓reduceIte, Bool.true_and, Bool.and_true, Bool.false_and, Bool.and_false, Bool.true_or, Bool.or_true, Bool.false_or, Bool.or_false, Bool.not_true, Bool.not_false, decide_true, decide_false, bI_t, bI_f, Bool.false_eq_true, not_true_eq_false, not_false_eq_true, eq_self, reduceCtorEq, Bool.true_eq_false, and_true, true_and, and_false, false_and, or_true, true_or, or_false, false_or] at c_5; done))
          refine lv_iload_n hx hb dX2_nearest_92 rfl (lv_at hl 4 rfl) ?_
          refine lv_iconst (v := 1) hx hb dX2_nearest_93 ic_1 ?_
          refine lv_iload hx hb dX2_nearest_94 (lv_at hl 6 rfl) ?_
          refine lv_ishl hx hb dX2_nearest_96 ?_
          refine lv_ior hx hb dX2_nearest_97 ?_
          refine lv_goto (tgt := 102) hx hb dX2_nearest_98 rfl ?_
          exact K16 _ (by first | with_reducible rfl | (simp only [pubRP, m_near, c_5, hO.ix i_b, c_14, ixn hN31, c_25, c_73_4, Int64.not_lt.mpr c_73_4, eq_true c_88_5, ↓reduceIte, Bool.true_and, Bool.and_true, Bool.false_and, Bool.and_false, Bool.true_or, Bool.or_true, Bool.false_or, Bool.or_false, Bool.not_true, Bool.not_false, decide_true, decide_false, bI_t, bI_f, Bool.false_eq_true, not_true_eq_false, not_false_eq_true, eq_self, reduceCtorEq, Bool.true_eq_false, and_true, true_and, and_false, false_and, or_true, true_or, or_false, false_or]; done) | (simp only [c_5, hO.ix i_b, c_14, ixn hN31, c_25, c_73_4, Int64.not_lt.mpr c_73_4, ↓reduceIte, Bool.true_and, Bool.and_true, Bool.false_and, Bool.and_false, Bool.true_or, Bool.or_true, Bool.false_or, Bool.or_false, Bool.not_true, Bool.not_false, decide_true, decide_false, bI_t, bI_f, Bool.false_eq_true, not_true_eq_false, not_false_eq_true, eq_self, reduceCtorEq, Bool.true_eq_false, and_true, true_and, and_false, false_and, or_true, true_or, or_false, false_or] at c_88_5; done) | (simp only [c_5, hO.ix i_b, c_14, ixn hN31, c_25, eq_true c_88_5, ↓reduceIte, Bool.true_and, Bool.and_true, Bool.false_and, Bool.and_false, Bool.true_or, Bool.or_true, Bool.false_or, Bool.or_false, Bool.not_true, Bool.not_false, decide_true, decide_false, bI_t, bI_f, Bool.false_eq_true, not_true_eq_false, not_false_eq_true, eq_self, reduceCtorEq, Bool.true_eq_false, and_true, true_and, and_false, false_and, or_true, true_or, or_false, false_or] at c_73_4; done) | (simp only [c_5, hO.ix i_b, c_14, ixn hN31, c_73_4, Int64.not_lt.mpr c_73_4, eq_true c_88_5, ↓reduceIte, Bool.true_and, Bool.and_true, Bool.false_and, Bool.and_false, Bool.true_or, Bool.or_true, Bool.false_or, Bool.or_false, Bool.not_true, Bool.not_false, decide_true, decide_false, bI_t, bI_f, Bool.false_eq_true, not_true_eq_false, not_false_eq_true, eq_self, reduceCtorEq, Bool.true_eq_false, and_true, true_and, and_false, false_and, or_true, true_or, or_false, false_or] at c_25; done) | (simp only [c_5, hO.ix i_b, ixn hN31, c_25, c_73_4, Int64.not_lt.mpr c_73_4, eq_true c_88_5, ↓reduceIte, Bool.true_and, Bool.and_true, Bool.false_and, Bool.and_false, Bool.true_or, Bool.or_true, Bool.false_or, Bool.or_false, Bool.not_true, Bool.not_false, decide_true, decide_false, bI_t, bI_f, Bool.false_eq_true, not_true_eq_false, not_false_eq_true, eq_self, reduceCtorEq, Bool.true_eq_false, and_true, true_and, and_false, false_and, or_true, true_or, or_false, false_or] at c_14; done) | (simp only [hO.ix i_b, c_14, ixn hN31, c_25, c_73_4, Int64.not_lt.mpr c_73_4, eq_true c_88_5, ↓reduceIte, Bool.true_and, Bool.and_true, Bool.false_and, Bool.and_false, Bool.true_or, Bool.or_true, Bool.false_or, Bool.or_false, Bool.not_true, Bool.not_false, decide_true, decide_false, bI_t, bI_f, Bool.false_eq_true, not_true_eq_false, not_false_eq_true, eq_self, reduceCtorEq, Bool.true_eq_false, and_true, true_and, and_false, false_and, or_true, true_or, or_false, false_or] at c_5; done))
        refine lv_iconst (v := 1) hx hb dX2_nearest_77 ic_1 ?_
        refine lv_iload hx hb dX2_nearest_78 (lv_at hl 6 rfl) ?_
        refine lv_ishl hx hb dX2_nearest_80 ?_
        refine lv_goto (tgt := 102) hx hb dX2_nearest_81 rfl ?_
        exact K16 _ (by first | with_reducible rfl | (simp only [pubRP, m_near, c_5, hO.ix i_b, c_14, ixn hN31, c_25, c_73_4, Int64.not_le.mp c_73_4, ↓reduceIte, Bool.true_and, Bool.and_true, Bool.false_and, Bool.and_false, Bool.true_or, Bool.or_true, Bool.false_or, Bool.or_false, Bool.not_true, Bool.not_false, decide_true, decide_false, bI_t, bI_f, Bool.false_eq_true, not_true_eq_false, not_false_eq_true, eq_self, reduceCtorEq, Bool.true_eq_false, and_true, true_and, and_false, false_and, or_true, true_or, or_false, false_or]; done) | (simp only [c_5, hO.ix i_b, c_14, ixn hN31, c_25, ↓reduceIte, Bool.true_and, Bool.and_true, Bool.false_and, Bool.and_false, Bool.true_or, Bool.or_true, Bool.false_or, Bool.or_false, Bool.not_true, Bool.not_false, decide_true, decide_false, bI_t, bI_f, Bool.false_eq_true, not_true_eq_false, not_false_eq_true, eq_self, reduceCtorEq, Bool.true_eq_false, and_true, true_and, and_false, false_and, or_true, true_or, or_false, false_or] at c_73_4; done) | (simp only [c_5, hO.ix i_b, c_14, ixn hN31, c_73_4, Int64.not_le.mp c_73_4, ↓reduceIte, Bool.true_and, Bool.and_true, Bool.false_and, Bool.and_false, Bool.true_or, Bool.or_true, Bool.false_or, Bool.or_false, Bool.not_true, Bool.not_false, decide_true, decide_false, bI_t, bI_f, Bool.false_eq_true, not_true_eq_false, not_false_eq_true, eq_self, reduceCtorEq, Bool.true_eq_false, and_true, true_and, and_false, false_and, or_true, true_or, or_false, false_or] at c_25; done) | (simp only [c_5, hO.ix i_b, ixn hN31, c_25, c_73_4, Int64.not_le.mp c_73_4, ↓reduceIte, Bool.true_and, Bool.and_true, Bool.false_and, Bool.and_false, Bool.true_or, Bool.or_true, Bool.false_or, Bool.or_false, Bool.not_true, Bool.not_false, decide_true, decide_false, bI_t, bI_f, Bool.false_eq_true, not_true_eq_false, not_false_eq_true, eq_self, reduceCtorEq, Bool.true_eq_false, and_true, true_and, and_false, false_and, or_true, true_or, or_false, false_or] at c_14; done) | (simp only [hO.ix i_b, c_14, ixn hN31, c_25, c_73_4, Int64.not_le.mp c_73_4, ↓reduceIte, Bool.true_and, Bool.and_true, Bool.false_and, Bool.and_false, Bool.true_or, Bool.or_true, Bool.false_or, Bool.or_false, Bool.not_true, Bool.not_false, decide_true, decide_false, bI_t, bI_f, Bool.false_eq_true, not_true_eq_false, not_false_eq_true, eq_self, reduceCtorEq, Bool.true_eq_false, and_true, true_and, and_false, false_and, or_true, true_or, or_false, false_or] at c_5; done))
      refine lv_istore_n (lv' := [(3, .int _), (7, .long _), (0, .ref _), (1, .int _), (2, .int _), (4, .long _), (6, .int _)]) hx hb dX2_nearest_102 rfl hl (Nat.le_of_ble_eq_true rfl) rfl (fun ls hl => ?_)
      refine cutL (J := 118) (v := if (m_nrO σ b_ k).2 ≤ s_far (σ.pt b_) (σ.rp k) then (m_nrO σ b_ k).2 else s_far (σ.pt b_) (σ.rp k)) ?_ (fun K17 => ?_)
      rotate_left
      · skip
        refine lv_lload hx hb dX2_nearest_103 (lv_at hl 1 rfl) ?_
        refine lv_lload hx hb dX2_nearest_105 (lv_at hl 5 rfl) ?_
        refine lc_ge (tgt := 116) hx hb dX2_nearest_107 dX2_nearest_108 rfl (fun c_107_4 => ?_) (fun c_107_4 => ?_)
        · skip
          refine lv_lload hx hb dX2_nearest_116 (lv_at hl 5 rfl) ?_
          exact K17 _ (by first | with_reducible rfl | (simp only [pubRP, m_near, c_5, hO.ix i_b, c_14, ixn hN31, c_25, c_107_4, Int64.not_lt.mpr c_107_4, ↓reduceIte, Bool.true_and, Bool.and_true, Bool.false_and, Bool.and_false, Bool.true_or, Bool.or_true, Bool.false_or, Bool.or_false, Bool.not_true, Bool.not_false, decide_true, decide_false, bI_t, bI_f, Bool.false_eq_true, not_true_eq_false, not_false_eq_true, eq_self, reduceCtorEq, Bool.true_eq_false, and_true, true_and, and_false, false_and, or_true, true_or, or_false, false_or]; done) | (simp only [c_5, hO.ix i_b, c_14, ixn hN31, c_25, ↓reduceIte, Bool.true_and, Bool.and_true, Bool.false_and, Bool.and_false, Bool.true_or, Bool.or_true, Bool.false_or, Bool.or_false, Bool.not_true, Bool.not_false, decide_true, decide_false, bI_t, bI_f, Bool.false_eq_true, not_true_eq_false, not_false_eq_true, eq_self, reduceCtorEq, Bool.true_eq_false, and_true, true_and, and_false, false_and, or_true, true_or, or_false, false_or] at c_107_4; done) | (simp only [c_5, hO.ix i_b, c_14, ixn hN31, c_107_4, Int64.not_lt.mpr c_107_4, ↓reduceIte, Bool.true_and, Bool.and_true, Bool.false_and, Bool.and_false, Bool.true_or, Bool.or_true, Bool.false_or, Bool.or_false, Bool.not_true, Bool.not_false, decide_true, decide_false, bI_t, bI_f, Bool.false_eq_true, not_true_eq_false, not_false_eq_true, eq_self, reduceCtorEq, Bool.true_eq_false, and_true, true_and, and_false, false_and, or_true, true_or, or_false, false_or] at c_25; done) | (simp only [c_5, hO.ix i_b, ixn hN31, c_25, c_107_4, Int64.not_lt.mpr c_107_4, ↓reduceIte, Bool.true_and, Bool.and_true, Bool.false_and, Bool.and_false, Bool.true_or, Bool.or_true, Bool.false_or, Bool.or_false, Bool.not_true, Bool.not_false, decide_true, decide_false, bI_t, bI_f, Bool.false_eq_true, not_true_eq_false, not_false_eq_true, eq_self, reduceCtorEq, Bool.true_eq_false, and_true, true_and, and_false, false_and, or_true, true_or, or_false, false_or] at c_14; done) | (simp only [hO.ix i_b, c_14, ixn hN31, c_25, c_107_4, Int64.not_lt.mpr c_107_4, ↓reduceIte, Bool.true_and, Bool.and_true, Bool.false_and, Bool.and_false, Bool.true_or, Bool.or_true, Bool.false_or, Bool.or_false, Bool.not_true, Bool.not_false, decide_true, decide_false, bI_t, bI_f, Bool.false_eq_true, not_true_eq_false, not_false_eq_true, eq_self, reduceCtorEq, Bool.true_eq_false, and_true, true_and, and_false, false_and, or_true, true_or, or_false, false_or] at c_5; done))
        refine lv_lload hx hb dX2_nearest_111 (lv_at hl 1 rfl) ?_
        refine lv_goto (tgt := 118) hx hb dX2_nearest_113 rfl ?_
        exact K17 _ (by first | with_reducible rfl | (simp only [pubRP, m_near, c_5, hO.ix i_b, c_14, ixn hN31, c_25, c_107_4, Int64.not_le.mp c_107_4, ↓reduceIte, Bool.true_and, Bool.and_true, Bool.false_and, Bool.and_false, Bool.true_or, Bool.or_true, Bool.false_or, Bool.or_false, Bool.not_true, Bool.not_false, decide_true, decide_false, bI_t, bI_f, Bool.false_eq_true, not_true_eq_false, not_false_eq_true, eq_self, reduceCtorEq, Bool.true_eq_false, and_true, true_and, and_false, false_and, or_true, true_or, or_false, false_or]; done) | (simp only [c_5, hO.ix i_b, c_14, ixn hN31, c_25, ↓reduceIte, Bool.true_and, Bool.and_true, Bool.false_and, Bool.and_false, Bool.true_or, Bool.or_true, Bool.false_or, Bool.or_false, Bool.not_true, Bool.not_false, decide_true, decide_false, bI_t, bI_f, Bool.false_eq_true, not_true_eq_false, not_false_eq_true, eq_self, reduceCtorEq, Bool.true_eq_false, and_true, true_and, and_false, false_and, or_true, true_or, or_false, false_or] at c_107_4; done) | (simp only [c_5, hO.ix i_b, c_14, ixn hN31, c_107_4, Int64.not_le.mp c_107_4, ↓reduceIte, Bool.true_and, Bool.and_true, Bool.false_and, Bool.and_false, Bool.true_or, Bool.or_true, Bool.false_or, Bool.or_false, Bool.not_true, Bool.not_false, decide_true, decide_false, bI_t, bI_f, Bool.false_eq_true, not_true_eq_false, not_false_eq_true, eq_self, reduceCtorEq, Bool.true_eq_false, and_true, true_and, and_false, false_and, or_true, true_or, or_false, false_or] at c_25; done) | (simp only [c_5, hO.ix i_b, ixn hN31, c_25, c_107_4, Int64.not_le.mp c_107_4, ↓reduceIte, Bool.true_and, Bool.and_true, Bool.false_and, Bool.and_false, Bool.true_or, Bool.or_true, Bool.false_or, Bool.or_false, Bool.not_true, Bool.not_false, decide_true, decide_false, bI_t, bI_f, Bool.false_eq_true, not_true_eq_false, not_false_eq_true, eq_self, reduceCtorEq, Bool.true_eq_false, and_true, true_and, and_false, false_and, or_true, true_or, or_false, false_or] at c_14; done) | (simp only [hO.ix i_b, c_14, ixn hN31, c_25, c_107_4, Int64.not_le.mp c_107_4, ↓reduceIte, Bool.true_and, Bool.and_true, Bool.false_and, Bool.and_false, Bool.true_or, Bool.or_true, Bool.false_or, Bool.or_false, Bool.not_true, Bool.not_false, decide_true, decide_false, bI_t, bI_f, Bool.false_eq_true, not_true_eq_false, not_false_eq_true, eq_self, reduceCtorEq, Bool.true_eq_false, and_true, true_and, and_false, false_and, or_true, true_or, or_false, false_or] at c_5; done))
      refine lv_lstore (lv' := [(4, .long _), (3, .int _), (7, .long _), (0, .ref _), (1, .int _), (2, .int _), (6, .int _)]) hx hb dX2_nearest_118 hl (Nat.le_of_ble_eq_true rfl) rfl (fun ls hl => ?_)
      refine lv_iinc (v := nI (k + 1)) (k := 6) (lv' := [(6, .int _), (4, .long _), (3, .int _), (7, .long _), (0, .ref _), (1, .int _), (2, .int _)]) hx hb dX2_nearest_120 hl rfl (nI_1 _) (Nat.le_of_ble_eq_true rfl) rfl (fun ls hl => ?_)
      refine lv_goto (tgt := 49) hx hb dX2_nearest_123 rfl ?_
      exact ih_k ls (lv_sub hl [4, 5, 6, 2, 1, 0] rfl) h_k
    refine lv_bipush (v := -4) hx hb dX2_nearest_28 ib_m4 ?_
    exact pm_iret hx hb hr hlk hH dX2_nearest_30 (by first | with_reducible rfl | (simp only [pubRP, m_near, c_5, hO.ix i_b, c_14, ixn hN31, c_25, ↓reduceIte, Bool.true_and, Bool.and_true, Bool.false_and, Bool.and_false, Bool.true_or, Bool.or_true, Bool.false_or, Bool.or_false, Bool.not_true, Bool.not_false, decide_true, decide_false, bI_t, bI_f, Bool.false_eq_true, not_true_eq_false, not_false_eq_true, eq_self, reduceCtorEq, Bool.true_eq_false, and_true, true_and, and_false, false_and, or_true, true_or, or_false, false_or]; done) | (simp only [c_5, hO.ix i_b, c_14, ixn hN31, ↓reduceIte, Bool.true_and, Bool.and_true, Bool.false_and, Bool.and_false, Bool.true_or, Bool.or_true, Bool.false_or, Bool.or_false, Bool.not_true, Bool.not_false, decide_true, decide_false, bI_t, bI_f, Bool.false_eq_true, not_true_eq_false, not_false_eq_true, eq_self, reduceCtorEq, Bool.true_eq_false, and_true, true_and, and_false, false_and, or_true, true_or, or_false, false_or] at c_25; done) | (simp only [c_5, hO.ix i_b, ixn hN31, c_25, ↓reduceIte, Bool.true_and, Bool.and_true, Bool.false_and, Bool.and_false, Bool.true_or, Bool.or_true, Bool.false_or, Bool.or_false, Bool.not_true, Bool.not_false, decide_true, decide_false, bI_t, bI_f, Bool.false_eq_true, not_true_eq_false, not_false_eq_true, eq_self, reduceCtorEq, Bool.true_eq_false, and_true, true_and, and_false, false_and, or_true, true_or, or_false, false_or] at c_14; done) | (simp only [hO.ix i_b, c_14, ixn hN31, c_25, ↓reduceIte, Bool.true_and, Bool.and_true, Bool.false_and, Bool.and_false, Bool.true_or, Bool.or_true, Bool.false_or, Bool.or_false, Bool.not_true, Bool.not_false, decide_true, decide_false, bI_t, bI_f, Bool.false_eq_true, not_true_eq_false, not_false_eq_true, eq_self, reduceCtorEq, Bool.true_eq_false, and_true, true_and, and_false, false_and, or_true, true_or, or_false, false_or] at c_5; done))
  refine lv_bipush (v := -2) hx hb dX2_nearest_17 ib_m2 ?_
  exact pm_iret hx hb hr hlk hH dX2_nearest_19 (by first | with_reducible rfl | (simp only [pubRP, m_near, c_5, hO.ix i_b, c_14, ↓reduceIte, Bool.true_and, Bool.and_true, Bool.false_and, Bool.and_false, Bool.true_or, Bool.or_true, Bool.false_or, Bool.or_false, Bool.not_true, Bool.not_false, decide_true, decide_false, bI_t, bI_f, Bool.false_eq_true, not_true_eq_false, not_false_eq_true, eq_self, reduceCtorEq, Bool.true_eq_false, and_true, true_and, and_false, false_and, or_true, true_or, or_false, false_or]; done) | (simp only [c_5, hO.ix i_b, ↓reduceIte, Bool.true_and, Bool.and_true, Bool.false_and, Bool.and_false, Bool.true_or, Bool.or_true, Bool.false_or, Bool.or_false, Bool.not_true, Bool.not_false, decide_true, decide_false, bI_t, bI_f, Bool.false_eq_true, not_true_eq_false, not_false_eq_true, eq_self, reduceCtorEq, Bool.true_eq_false, and_true, true_and, and_false, false_and, or_true, true_or, or_false, false_or] at c_14; done) | (simp only [hO.ix i_b, c_14, ↓reduceIte, Bool.true_and, Bool.and_true, Bool.false_and, Bool.and_false, Bool.true_or, Bool.or_true, Bool.false_or, Bool.or_false, Bool.not_true, Bool.not_false, decide_true, decide_false, bI_t, bI_f, Bool.false_eq_true, not_true_eq_false, not_false_eq_true, eq_self, reduceCtorEq, Bool.true_eq_false, and_true, true_and, and_false, false_and, or_true, true_or, or_false, false_or] at c_5; done))
theorem dX2_isAhead_0 : decode cX2_isAhead 0 = .ok (.aload_n 0, 1) := by decide +kernel
theorem dX2_isAhead_1 : decode cX2_isAhead 1 = .ok (.getfield 20, 3) := by decide +kernel
theorem dX2_isAhead_4 : decode cX2_isAhead 4 = .ok (.iload_n 2, 1) := by decide +kernel
theorem dX2_isAhead_5 : decode cX2_isAhead 5 = .ok (.iaload, 1) := by decide +kernel
theorem dX2_isAhead_6 : decode cX2_isAhead 6 = .ok (.istore 4, 2) := by decide +kernel
theorem dX2_isAhead_8 : decode cX2_isAhead 8 = .ok (.aload_n 0, 1) := by decide +kernel
theorem dX2_isAhead_9 : decode cX2_isAhead 9 = .ok (.getfield 20, 3) := by decide +kernel
theorem dX2_isAhead_12 : decode cX2_isAhead 12 = .ok (.iload_n 3, 1) := by decide +kernel
theorem dX2_isAhead_13 : decode cX2_isAhead 13 = .ok (.iaload, 1) := by decide +kernel
theorem dX2_isAhead_14 : decode cX2_isAhead 14 = .ok (.istore 5, 2) := by decide +kernel
theorem dX2_isAhead_16 : decode cX2_isAhead 16 = .ok (.aload_n 0, 1) := by decide +kernel
theorem dX2_isAhead_17 : decode cX2_isAhead 17 = .ok (.iload_n 1, 1) := by decide +kernel
theorem dX2_isAhead_18 : decode cX2_isAhead 18 = .ok (.iload 4, 2) := by decide +kernel
theorem dX2_isAhead_20 : decode cX2_isAhead 20 = .ok (.invokevirtual 107, 3) := by decide +kernel
theorem dX2_isAhead_23 : decode cX2_isAhead 23 = .ok (.istore 6, 2) := by decide +kernel
theorem dX2_isAhead_25 : decode cX2_isAhead 25 = .ok (.aload_n 0, 1) := by decide +kernel
theorem dX2_isAhead_26 : decode cX2_isAhead 26 = .ok (.iload_n 1, 1) := by decide +kernel
theorem dX2_isAhead_27 : decode cX2_isAhead 27 = .ok (.iload 5, 2) := by decide +kernel
theorem dX2_isAhead_29 : decode cX2_isAhead 29 = .ok (.invokevirtual 107, 3) := by decide +kernel
theorem dX2_isAhead_32 : decode cX2_isAhead 32 = .ok (.istore 7, 2) := by decide +kernel
theorem dX2_isAhead_34 : decode cX2_isAhead 34 = .ok (.iload 6, 2) := by decide +kernel
theorem dX2_isAhead_36 : decode cX2_isAhead 36 = .ok (.ifCond .ne 8, 3) := by decide +kernel
theorem dX2_isAhead_39 : decode cX2_isAhead 39 = .ok (.iload 7, 2) := by decide +kernel
theorem dX2_isAhead_41 : decode cX2_isAhead 41 = .ok (.ifCond .eq 24, 3) := by decide +kernel
theorem dX2_isAhead_44 : decode cX2_isAhead 44 = .ok (.iload 6, 2) := by decide +kernel
theorem dX2_isAhead_46 : decode cX2_isAhead 46 = .ok (.ifCond .eq 17, 3) := by decide +kernel
theorem dX2_isAhead_49 : decode cX2_isAhead 49 = .ok (.iload 7, 2) := by decide +kernel
theorem dX2_isAhead_51 : decode cX2_isAhead 51 = .ok (.ifCond .eq 8, 3) := by decide +kernel
theorem dX2_isAhead_54 : decode cX2_isAhead 54 = .ok (.iload_n 2, 1) := by decide +kernel
theorem dX2_isAhead_55 : decode cX2_isAhead 55 = .ok (.iload_n 3, 1) := by decide +kernel
theorem dX2_isAhead_56 : decode cX2_isAhead 56 = .ok (.if_icmp .ge 7, 3) := by decide +kernel
theorem dX2_isAhead_59 : decode cX2_isAhead 59 = .ok (.iconst 1, 1) := by decide +kernel
theorem dX2_isAhead_60 : decode cX2_isAhead 60 = .ok (.goto 4, 3) := by decide +kernel
theorem dX2_isAhead_63 : decode cX2_isAhead 63 = .ok (.iconst 0, 1) := by decide +kernel
theorem dX2_isAhead_64 : decode cX2_isAhead 64 = .ok (.ireturn, 1) := by decide +kernel
theorem dX2_isAhead_65 : decode cX2_isAhead 65 = .ok (.aload_n 0, 1) := by decide +kernel
theorem dX2_isAhead_66 : decode cX2_isAhead 66 = .ok (.iload_n 1, 1) := by decide +kernel
theorem dX2_isAhead_67 : decode cX2_isAhead 67 = .ok (.iload 4, 2) := by decide +kernel
theorem dX2_isAhead_69 : decode cX2_isAhead 69 = .ok (.invokevirtual 159, 3) := by decide +kernel
theorem dX2_isAhead_72 : decode cX2_isAhead 72 = .ok (.aload_n 0, 1) := by decide +kernel
theorem dX2_isAhead_73 : decode cX2_isAhead 73 = .ok (.iload_n 1, 1) := by decide +kernel
theorem dX2_isAhead_74 : decode cX2_isAhead 74 = .ok (.iload 5, 2) := by decide +kernel
theorem dX2_isAhead_76 : decode cX2_isAhead 76 = .ok (.invokevirtual 159, 3) := by decide +kernel
theorem dX2_isAhead_79 : decode cX2_isAhead 79 = .ok (.if_icmp .eq 26, 3) := by decide +kernel
theorem dX2_isAhead_82 : decode cX2_isAhead 82 = .ok (.aload_n 0, 1) := by decide +kernel
theorem dX2_isAhead_83 : decode cX2_isAhead 83 = .ok (.iload_n 1, 1) := by decide +kernel
theorem dX2_isAhead_84 : decode cX2_isAhead 84 = .ok (.iload 4, 2) := by decide +kernel
theorem dX2_isAhead_86 : decode cX2_isAhead 86 = .ok (.invokevirtual 159, 3) := by decide +kernel
theorem dX2_isAhead_89 : decode cX2_isAhead 89 = .ok (.aload_n 0, 1) := by decide +kernel
theorem dX2_isAhead_90 : decode cX2_isAhead 90 = .ok (.iload_n 1, 1) := by decide +kernel
theorem dX2_isAhead_91 : decode cX2_isAhead 91 = .ok (.iload 5, 2) := by decide +kernel
theorem dX2_isAhead_93 : decode cX2_isAhead 93 = .ok (.invokevirtual 159, 3) := by decide +kernel
theorem dX2_isAhead_96 : decode cX2_isAhead 96 = .ok (.if_icmp .ge 7, 3) := by decide +kernel
theorem dX2_isAhead_99 : decode cX2_isAhead 99 = .ok (.iconst 1, 1) := by decide +kernel
theorem dX2_isAhead_100 : decode cX2_isAhead 100 = .ok (.goto 4, 3) := by decide +kernel
theorem dX2_isAhead_103 : decode cX2_isAhead 103 = .ok (.iconst 0, 1) := by decide +kernel
theorem dX2_isAhead_104 : decode cX2_isAhead 104 = .ok (.ireturn, 1) := by decide +kernel
theorem dX2_isAhead_105 : decode cX2_isAhead 105 = .ok (.aload_n 0, 1) := by decide +kernel
theorem dX2_isAhead_106 : decode cX2_isAhead 106 = .ok (.iload_n 1, 1) := by decide +kernel
theorem dX2_isAhead_107 : decode cX2_isAhead 107 = .ok (.iload 4, 2) := by decide +kernel
theorem dX2_isAhead_109 : decode cX2_isAhead 109 = .ok (.iload 5, 2) := by decide +kernel
theorem dX2_isAhead_111 : decode cX2_isAhead 111 = .ok (.invokevirtual 58, 3) := by decide +kernel
theorem dX2_isAhead_114 : decode cX2_isAhead 114 = .ok (.istore 8, 2) := by decide +kernel
theorem dX2_isAhead_116 : decode cX2_isAhead 116 = .ok (.iload 8, 2) := by decide +kernel
theorem dX2_isAhead_118 : decode cX2_isAhead 118 = .ok (.ifCond .eq 14, 3) := by decide +kernel
theorem dX2_isAhead_121 : decode cX2_isAhead 121 = .ok (.iload 8, 2) := by decide +kernel
theorem dX2_isAhead_123 : decode cX2_isAhead 123 = .ok (.ifCond .le 7, 3) := by decide +kernel
theorem dX2_isAhead_126 : decode cX2_isAhead 126 = .ok (.iconst 1, 1) := by decide +kernel
theorem dX2_isAhead_127 : decode cX2_isAhead 127 = .ok (.goto 4, 3) := by decide +kernel
theorem dX2_isAhead_130 : decode cX2_isAhead 130 = .ok (.iconst 0, 1) := by decide +kernel
theorem dX2_isAhead_131 : decode cX2_isAhead 131 = .ok (.ireturn, 1) := by decide +kernel
theorem dX2_isAhead_132 : decode cX2_isAhead 132 = .ok (.aload_n 0, 1) := by decide +kernel
theorem dX2_isAhead_133 : decode cX2_isAhead 133 = .ok (.iload_n 1, 1) := by decide +kernel
theorem dX2_isAhead_134 : decode cX2_isAhead 134 = .ok (.iload 4, 2) := by decide +kernel
theorem dX2_isAhead_136 : decode cX2_isAhead 136 = .ok (.invokevirtual 155, 3) := by decide +kernel
theorem dX2_isAhead_139 : decode cX2_isAhead 139 = .ok (.aload_n 0, 1) := by decide +kernel
theorem dX2_isAhead_140 : decode cX2_isAhead 140 = .ok (.iload_n 1, 1) := by decide +kernel
theorem dX2_isAhead_141 : decode cX2_isAhead 141 = .ok (.iload 5, 2) := by decide +kernel
theorem dX2_isAhead_143 : decode cX2_isAhead 143 = .ok (.invokevirtual 155, 3) := by decide +kernel
theorem dX2_isAhead_146 : decode cX2_isAhead 146 = .ok (.lcmp, 1) := by decide +kernel
theorem dX2_isAhead_147 : decode cX2_isAhead 147 = .ok (.ifCond .eq 29, 3) := by decide +kernel
theorem dX2_isAhead_150 : decode cX2_isAhead 150 = .ok (.aload_n 0, 1) := by decide +kernel
theorem dX2_isAhead_151 : decode cX2_isAhead 151 = .ok (.iload_n 1, 1) := by decide +kernel
theorem dX2_isAhead_152 : decode cX2_isAhead 152 = .ok (.iload 4, 2) := by decide +kernel
theorem dX2_isAhead_154 : decode cX2_isAhead 154 = .ok (.invokevirtual 155, 3) := by decide +kernel
theorem dX2_isAhead_157 : decode cX2_isAhead 157 = .ok (.aload_n 0, 1) := by decide +kernel
theorem dX2_isAhead_158 : decode cX2_isAhead 158 = .ok (.iload_n 1, 1) := by decide +kernel
theorem dX2_isAhead_159 : decode cX2_isAhead 159 = .ok (.iload 5, 2) := by decide +kernel
theorem dX2_isAhead_161 : decode cX2_isAhead 161 = .ok (.invokevirtual 155, 3) := by decide +kernel
theorem dX2_isAhead_164 : decode cX2_isAhead 164 = .ok (.lcmp, 1) := by decide +kernel
theorem dX2_isAhead_165 : decode cX2_isAhead 165 = .ok (.ifCond .ge 7, 3) := by decide +kernel
theorem dX2_isAhead_168 : decode cX2_isAhead 168 = .ok (.iconst 1, 1) := by decide +kernel
theorem dX2_isAhead_169 : decode cX2_isAhead 169 = .ok (.goto 17, 3) := by decide +kernel
theorem dX2_isAhead_172 : decode cX2_isAhead 172 = .ok (.iconst 0, 1) := by decide +kernel
theorem dX2_isAhead_173 : decode cX2_isAhead 173 = .ok (.goto 13, 3) := by decide +kernel
theorem dX2_isAhead_176 : decode cX2_isAhead 176 = .ok (.iload_n 2, 1) := by decide +kernel
theorem dX2_isAhead_177 : decode cX2_isAhead 177 = .ok (.iload_n 3, 1) := by decide +kernel
theorem dX2_isAhead_178 : decode cX2_isAhead 178 = .ok (.if_icmp .ge 7, 3) := by decide +kernel
theorem dX2_isAhead_181 : decode cX2_isAhead 181 = .ok (.iconst 1, 1) := by decide +kernel
theorem dX2_isAhead_182 : decode cX2_isAhead 182 = .ok (.goto 4, 3) := by decide +kernel
theorem dX2_isAhead_185 : decode cX2_isAhead 185 = .ok (.iconst 0, 1) := by decide +kernel
theorem dX2_isAhead_186 : decode cX2_isAhead 186 = .ok (.ireturn, 1) := by decide +kernel
set_option maxHeartbeats 4000000 in
theorem met_X2_isAhead (l : Launch) (G : GG) {H : Heap} {o : Nat} {A : Nat → Nat} {σ : Sg} {th : Int32} {N c0 i k : Nat} (hM : MW G H o A σ th) (hO : Ok σ) (hN : N ≤ σ.rn) (hr_ : HR σ N) (i_c : c0 < σ.np) (h_i : i < N) (h_k : k < N) : PM l yX2_isAhead cX2_isAhead 9 (some .boolean) 2 45 G H [.ref o, .int (nI c0), .int (nI i), .int (nI k)] (some (.int (bI (m_ah (σ.pt c0) (σ.rp i) (σ.rp k) i k)))) := by
  refine pm_intro pl_X2_isAhead (Nat.le_of_ble_eq_true rfl) ?_
  intro pX eX sX mX belX methX cX ls hE hnm hl
  obtain ⟨hx, hb, hr, hlk, hml, hown, hts, hK, hZ, hH⟩ := hE
  have hl : lv_has ls 9 [(0, .ref o), (1, .int (nI c0)), (2, .int (nI i)), (3, .int (nI k))] := hl
  have hN31 : N < 2 ^ 31 := Nat.lt_of_le_of_lt hN hO.rn31
  refine lv_aload_n hx hb dX2_isAhead_0 rfl (lv_at hl 0 rfl) ?_
  refine gf_X2_20 hx hb hts hown hK hM.1 rfl dX2_isAhead_1 ?_
  refine lv_iload_n hx hb dX2_isAhead_4 rfl (lv_at hl 2 rfl) ?_
  refine r_iald hx hb hK hM.2.2.2.1 dX2_isAhead_5 (k := i) (hO.lt24 (Nat.lt_of_lt_of_le h_i hN)) (by decide) rfl (rI_some (hr_ _ h_i).1) ?_
  refine lv_istore (lv' := [(4, .int _), (0, .ref _), (1, .int _), (2, .int _), (3, .int _)]) hx hb dX2_isAhead_6 hl (Nat.le_of_ble_eq_true rfl) rfl (fun ls hl => ?_)
  refine lv_aload_n hx hb dX2_isAhead_8 rfl (lv_at hl 1 rfl) ?_
  refine gf_X2_20 hx hb hts hown hK hM.1 rfl dX2_isAhead_9 ?_
  refine lv_iload_n hx hb dX2_isAhead_12 rfl (lv_at hl 4 rfl) ?_
  refine r_iald hx hb hK hM.2.2.2.1 dX2_isAhead_13 (k := k) (hO.lt24 (Nat.lt_of_lt_of_le h_k hN)) (by decide) rfl (rI_some (hr_ _ h_k).1) ?_
  refine lv_istore (lv' := [(5, .int _), (4, .int _), (0, .ref _), (1, .int _), (2, .int _), (3, .int _)]) hx hb dX2_isAhead_14 hl (Nat.le_of_ble_eq_true rfl) rfl (fun ls hl => ?_)
  refine lv_aload_n hx hb dX2_isAhead_16 rfl (lv_at hl 2 rfl) ?_
  refine lv_iload_n hx hb dX2_isAhead_17 rfl (lv_at hl 3 rfl) ?_
  refine lv_iload hx hb dX2_isAhead_18 (lv_at hl 1 rfl) ?_
  refine p_callV (As := [.int _, .int _]) hx hb hml hown hts hK hZ (met_X2_areEqual l G hM hO i_c (hr_ _ h_i).2) q744 q746 qs15 q43 q747 hv_X2_areEqual rfl hM.1 rfl (by decide) hl.1 rfl (Nat.le_of_ble_eq_true rfl) dX2_isAhead_20 ⟨Nat.zero_le _, Nat.zero_le _⟩ ?_
  refine lv_istore (lv' := [(6, .int _), (5, .int _), (4, .int _), (0, .ref _), (1, .int _), (2, .int _), (3, .int _)]) hx hb dX2_isAhead_23 hl (Nat.le_of_ble_eq_true rfl) rfl (fun ls hl => ?_)
  refine lv_aload_n hx hb dX2_isAhead_25 rfl (lv_at hl 3 rfl) ?_
  refine lv_iload_n hx hb dX2_isAhead_26 rfl (lv_at hl 4 rfl) ?_
  refine lv_iload hx hb dX2_isAhead_27 (lv_at hl 1 rfl) ?_
  refine p_callV (As := [.int _, .int _]) hx hb hml hown hts hK hZ (met_X2_areEqual l G hM hO i_c (hr_ _ h_k).2) q744 q746 qs15 q43 q747 hv_X2_areEqual rfl hM.1 rfl (by decide) hl.1 rfl (Nat.le_of_ble_eq_true rfl) dX2_isAhead_29 ⟨Nat.zero_le _, Nat.zero_le _⟩ ?_
  refine lv_istore (lv' := [(7, .int _), (6, .int _), (5, .int _), (4, .int _), (0, .ref _), (1, .int _), (2, .int _), (3, .int _)]) hx hb dX2_isAhead_32 hl (Nat.le_of_ble_eq_true rfl) rfl (fun ls hl => ?_)
  refine lv_iload hx hb dX2_isAhead_34 (lv_at hl 1 rfl) ?_
  refine b_ifne (tgt := 44) hx hb dX2_isAhead_36 rfl (fun c_36 => ?_) (fun c_36 => ?_)
  · skip
    refine lv_iload hx hb dX2_isAhead_44 (lv_at hl 1 rfl) ?_
    refine b_ifeq (tgt := 63) hx hb dX2_isAhead_46 rfl (fun c_46 => ?_) (fun c_46 => ?_)
    · skip
      refine lv_iconst (v := 0) hx hb dX2_isAhead_63 ic_0 ?_
      exact pm_zret hx hb hr hlk hH dX2_isAhead_64 (by first | with_reducible rfl | (simp only [m_ah, c_36, c_46, ↓reduceIte, Bool.true_and, Bool.and_true, Bool.false_and, Bool.and_false, Bool.true_or, Bool.or_true, Bool.false_or, Bool.or_false, Bool.not_true, Bool.not_false, decide_true, decide_false, bI_t, bI_f, Bool.false_eq_true, not_true_eq_false, not_false_eq_true, eq_self, reduceCtorEq, Bool.true_eq_false, and_true, true_and, and_false, false_and, or_true, true_or, or_false, false_or]; done) | (simp only [c_36, ↓reduceIte, Bool.true_and, Bool.and_true, Bool.false_and, Bool.and_false, Bool.true_or, Bool.or_true, Bool.false_or, Bool.or_false, Bool.not_true, Bool.not_false, decide_true, decide_false, bI_t, bI_f, Bool.false_eq_true, not_true_eq_false, not_false_eq_true, eq_self, reduceCtorEq, Bool.true_eq_false, and_true, true_and, and_false, false_and, or_true, true_or, or_false, false_or] at c_46; done) | (simp only [c_46, ↓reduceIte, Bool.true_and, Bool.and_true, Bool.false_and, Bool.and_false, Bool.true_or, Bool.or_true, Bool.false_or, Bool.or_false, Bool.not_true, Bool.not_false, decide_true, decide_false, bI_t, bI_f, Bool.false_eq_true, not_true_eq_false, not_false_eq_true, eq_self, reduceCtorEq, Bool.true_eq_false, and_true, true_and, and_false, false_and, or_true, true_or, or_false, false_or] at c_36; done))
    refine lv_iload hx hb dX2_isAhead_49 (lv_at hl 0 rfl) ?_
    refine b_ifeq (tgt := 59) hx hb dX2_isAhead_51 rfl (fun c_51 => ?_) (fun c_51 => ?_)
    · skip
      refine lv_iconst (v := 1) hx hb dX2_isAhead_59 ic_1 ?_
      refine lv_goto (tgt := 64) hx hb dX2_isAhead_60 rfl ?_
      exact pm_zret hx hb hr hlk hH dX2_isAhead_64 (by first | with_reducible rfl | (simp only [m_ah, c_36, c_46, c_51, ↓reduceIte, Bool.true_and, Bool.and_true, Bool.false_and, Bool.and_false, Bool.true_or, Bool.or_true, Bool.false_or, Bool.or_false, Bool.not_true, Bool.not_false, decide_true, decide_false, bI_t, bI_f, Bool.false_eq_true, not_true_eq_false, not_false_eq_true, eq_self, reduceCtorEq, Bool.true_eq_false, and_true, true_and, and_false, false_and, or_true, true_or, or_false, false_or]; done) | (simp only [c_36, c_46, ↓reduceIte, Bool.true_and, Bool.and_true, Bool.false_and, Bool.and_false, Bool.true_or, Bool.or_true, Bool.false_or, Bool.or_false, Bool.not_true, Bool.not_false, decide_true, decide_false, bI_t, bI_f, Bool.false_eq_true, not_true_eq_false, not_false_eq_true, eq_self, reduceCtorEq, Bool.true_eq_false, and_true, true_and, and_false, false_and, or_true, true_or, or_false, false_or] at c_51; done) | (simp only [c_36, c_51, ↓reduceIte, Bool.true_and, Bool.and_true, Bool.false_and, Bool.and_false, Bool.true_or, Bool.or_true, Bool.false_or, Bool.or_false, Bool.not_true, Bool.not_false, decide_true, decide_false, bI_t, bI_f, Bool.false_eq_true, not_true_eq_false, not_false_eq_true, eq_self, reduceCtorEq, Bool.true_eq_false, and_true, true_and, and_false, false_and, or_true, true_or, or_false, false_or] at c_46; done) | (simp only [c_46, c_51, ↓reduceIte, Bool.true_and, Bool.and_true, Bool.false_and, Bool.and_false, Bool.true_or, Bool.or_true, Bool.false_or, Bool.or_false, Bool.not_true, Bool.not_false, decide_true, decide_false, bI_t, bI_f, Bool.false_eq_true, not_true_eq_false, not_false_eq_true, eq_self, reduceCtorEq, Bool.true_eq_false, and_true, true_and, and_false, false_and, or_true, true_or, or_false, false_or] at c_36; done))
    refine lv_iload_n hx hb dX2_isAhead_54 rfl (lv_at hl 6 rfl) ?_
    refine lv_iload_n hx hb dX2_isAhead_55 rfl (lv_at hl 7 rfl) ?_
    refine lv_icmp_ge (tgt := 63) hx hb dX2_isAhead_56 rfl (fun c_56 => ?_) (fun c_56 => ?_)
    · skip
      refine lv_iconst (v := 0) hx hb dX2_isAhead_63 ic_0 ?_
      exact pm_zret hx hb hr hlk hH dX2_isAhead_64 (by first | with_reducible rfl | (simp only [m_ah, c_36, c_46, c_51, Nat.not_lt.mpr ((nI_leI (a := k) (b := i) (by omega) (by omega)).mp c_56), ↓reduceIte, Bool.true_and, Bool.and_true, Bool.false_and, Bool.and_false, Bool.true_or, Bool.or_true, Bool.false_or, Bool.or_false, Bool.not_true, Bool.not_false, decide_true, decide_false, bI_t, bI_f, Bool.false_eq_true, not_true_eq_false, not_false_eq_true, eq_self, reduceCtorEq, Bool.true_eq_false, and_true, true_and, and_false, false_and, or_true, true_or, or_false, false_or]; done) | (simp only [c_36, c_46, c_51, ↓reduceIte, Bool.true_and, Bool.and_true, Bool.false_and, Bool.and_false, Bool.true_or, Bool.or_true, Bool.false_or, Bool.or_false, Bool.not_true, Bool.not_false, decide_true, decide_false, bI_t, bI_f, Bool.false_eq_true, not_true_eq_false, not_false_eq_true, eq_self, reduceCtorEq, Bool.true_eq_false, and_true, true_and, and_false, false_and, or_true, true_or, or_false, false_or] at c_56; done) | (simp only [c_36, c_46, Nat.not_lt.mpr ((nI_leI (a := k) (b := i) (by omega) (by omega)).mp c_56), ↓reduceIte, Bool.true_and, Bool.and_true, Bool.false_and, Bool.and_false, Bool.true_or, Bool.or_true, Bool.false_or, Bool.or_false, Bool.not_true, Bool.not_false, decide_true, decide_false, bI_t, bI_f, Bool.false_eq_true, not_true_eq_false, not_false_eq_true, eq_self, reduceCtorEq, Bool.true_eq_false, and_true, true_and, and_false, false_and, or_true, true_or, or_false, false_or] at c_51; done) | (simp only [c_36, c_51, Nat.not_lt.mpr ((nI_leI (a := k) (b := i) (by omega) (by omega)).mp c_56), ↓reduceIte, Bool.true_and, Bool.and_true, Bool.false_and, Bool.and_false, Bool.true_or, Bool.or_true, Bool.false_or, Bool.or_false, Bool.not_true, Bool.not_false, decide_true, decide_false, bI_t, bI_f, Bool.false_eq_true, not_true_eq_false, not_false_eq_true, eq_self, reduceCtorEq, Bool.true_eq_false, and_true, true_and, and_false, false_and, or_true, true_or, or_false, false_or] at c_46; done) | (simp only [c_46, c_51, Nat.not_lt.mpr ((nI_leI (a := k) (b := i) (by omega) (by omega)).mp c_56), ↓reduceIte, Bool.true_and, Bool.and_true, Bool.false_and, Bool.and_false, Bool.true_or, Bool.or_true, Bool.false_or, Bool.or_false, Bool.not_true, Bool.not_false, decide_true, decide_false, bI_t, bI_f, Bool.false_eq_true, not_true_eq_false, not_false_eq_true, eq_self, reduceCtorEq, Bool.true_eq_false, and_true, true_and, and_false, false_and, or_true, true_or, or_false, false_or] at c_36; done))
    refine lv_iconst (v := 1) hx hb dX2_isAhead_59 ic_1 ?_
    refine lv_goto (tgt := 64) hx hb dX2_isAhead_60 rfl ?_
    exact pm_zret hx hb hr hlk hH dX2_isAhead_64 (by first | with_reducible rfl | (simp only [m_ah, c_36, c_46, c_51, Nat.lt_of_not_le (fun h => c_56 ((nI_leI (a := k) (b := i) (by omega) (by omega)).mpr h)), ↓reduceIte, Bool.true_and, Bool.and_true, Bool.false_and, Bool.and_false, Bool.true_or, Bool.or_true, Bool.false_or, Bool.or_false, Bool.not_true, Bool.not_false, decide_true, decide_false, bI_t, bI_f, Bool.false_eq_true, not_true_eq_false, not_false_eq_true, eq_self, reduceCtorEq, Bool.true_eq_false, and_true, true_and, and_false, false_and, or_true, true_or, or_false, false_or]; done) | (simp only [c_36, c_46, c_51, ↓reduceIte, Bool.true_and, Bool.and_true, Bool.false_and, Bool.and_false, Bool.true_or, Bool.or_true, Bool.false_or, Bool.or_false, Bool.not_true, Bool.not_false, decide_true, decide_false, bI_t, bI_f, Bool.false_eq_true, not_true_eq_false, not_false_eq_true, eq_self, reduceCtorEq, Bool.true_eq_false, and_true, true_and, and_false, false_and, or_true, true_or, or_false, false_or] at c_56; done) | (simp only [c_36, c_46, Nat.lt_of_not_le (fun h => c_56 ((nI_leI (a := k) (b := i) (by omega) (by omega)).mpr h)), ↓reduceIte, Bool.true_and, Bool.and_true, Bool.false_and, Bool.and_false, Bool.true_or, Bool.or_true, Bool.false_or, Bool.or_false, Bool.not_true, Bool.not_false, decide_true, decide_false, bI_t, bI_f, Bool.false_eq_true, not_true_eq_false, not_false_eq_true, eq_self, reduceCtorEq, Bool.true_eq_false, and_true, true_and, and_false, false_and, or_true, true_or, or_false, false_or] at c_51; done) | (simp only [c_36, c_51, Nat.lt_of_not_le (fun h => c_56 ((nI_leI (a := k) (b := i) (by omega) (by omega)).mpr h)), ↓reduceIte, Bool.true_and, Bool.and_true, Bool.false_and, Bool.and_false, Bool.true_or, Bool.or_true, Bool.false_or, Bool.or_false, Bool.not_true, Bool.not_false, decide_true, decide_false, bI_t, bI_f, Bool.false_eq_true, not_true_eq_false, not_false_eq_true, eq_self, reduceCtorEq, Bool.true_eq_false, and_true, true_and, and_false, false_and, or_true, true_or, or_false, false_or] at c_46; done) | (simp only [c_46, c_51, Nat.lt_of_not_le (fun h => c_56 ((nI_leI (a := k) (b := i) (by omega) (by omega)).mpr h)), ↓reduceIte, Bool.true_and, Bool.and_true, Bool.false_and, Bool.and_false, Bool.true_or, Bool.or_true, Bool.false_or, Bool.or_false, Bool.not_true, Bool.not_false, decide_true, decide_false, bI_t, bI_f, Bool.false_eq_true, not_true_eq_false, not_false_eq_true, eq_self, reduceCtorEq, Bool.true_eq_false, and_true, true_and, and_false, false_and, or_true, true_or, or_false, false_or] at c_36; done))
  refine lv_iload hx hb dX2_isAhead_39 (lv_at hl 0 rfl) ?_
  refine b_ifeq (tgt := 65) hx hb dX2_isAhead_41 rfl (fun c_41 => ?_) (fun c_41 => ?_)
  · skip
    refine lv_aload_n hx hb dX2_isAhead_65 rfl (lv_at hl 4 rfl) ?_
    refine lv_iload_n hx hb dX2_isAhead_66 rfl (lv_at hl 5 rfl) ?_
    refine lv_iload hx hb dX2_isAhead_67 (lv_at hl 3 rfl) ?_
    refine p_callV (As := [.int _, .int _]) hx hb hml hown hts hK hZ (met_X2_half l G hM hO i_c (hr_ _ h_i).2) q884 q886 qs35 q43 q887 hv_X2_half rfl hM.1 rfl (by decide) hl.1 rfl (Nat.le_of_ble_eq_true rfl) dX2_isAhead_69 ⟨Nat.zero_le _, Nat.zero_le _⟩ ?_
    refine lv_aload_n hx hb dX2_isAhead_72 rfl (lv_at hl 4 rfl) ?_
    refine lv_iload_n hx hb dX2_isAhead_73 rfl (lv_at hl 5 rfl) ?_
    refine lv_iload hx hb dX2_isAhead_74 (lv_at hl 2 rfl) ?_
    refine p_callV (As := [.int _, .int _]) hx hb hml hown hts hK hZ (met_X2_half l G hM hO i_c (hr_ _ h_k).2) q884 q886 qs35 q43 q887 hv_X2_half rfl hM.1 rfl (by decide) hl.1 rfl (Nat.le_of_ble_eq_true rfl) dX2_isAhead_76 ⟨Nat.zero_le _, Nat.zero_le _⟩ ?_
    refine lv_icmp_eq (tgt := 105) hx hb dX2_isAhead_79 rfl (fun c_79 => ?_) (fun c_79 => ?_)
    · skip
      refine lv_aload_n hx hb dX2_isAhead_105 rfl (lv_at hl 4 rfl) ?_
      refine lv_iload_n hx hb dX2_isAhead_106 rfl (lv_at hl 5 rfl) ?_
      refine lv_iload hx hb dX2_isAhead_107 (lv_at hl 3 rfl) ?_
      refine lv_iload hx hb dX2_isAhead_109 (lv_at hl 2 rfl) ?_
      refine p_callV (As := [.int _, .int _, .int _]) hx hb hml hown hts hK hZ (met_X2_turn l G hM hO i_c (hr_ _ h_i).2 (hr_ _ h_k).2) q772 q774 qs20 q43 q775 hv_X2_turn rfl hM.1 rfl (by decide) hl.1 rfl (Nat.le_of_ble_eq_true rfl) dX2_isAhead_111 ⟨Nat.zero_le _, Nat.zero_le _⟩ ?_
      refine lv_istore (lv' := [(8, .int _), (7, .int _), (6, .int _), (5, .int _), (4, .int _), (0, .ref _), (1, .int _), (2, .int _), (3, .int _)]) hx hb dX2_isAhead_114 hl (Nat.le_of_ble_eq_true rfl) rfl (fun ls hl => ?_)
      refine lv_iload hx hb dX2_isAhead_116 (lv_at hl 0 rfl) ?_
      refine lv_if_eq (tgt := 132) hx hb dX2_isAhead_118 rfl (fun c_118 => ?_) (fun c_118 => ?_)
      · skip
        refine lv_aload_n hx hb dX2_isAhead_132 rfl (lv_at hl 5 rfl) ?_
        refine lv_iload_n hx hb dX2_isAhead_133 rfl (lv_at hl 6 rfl) ?_
        refine lv_iload hx hb dX2_isAhead_134 (lv_at hl 4 rfl) ?_
        refine p_callV (As := [.int _, .int _]) hx hb hml hown hts hK hZ (met_X2_far l G hM hO i_c (hr_ _ h_i).2) q872 q874 qs33 q43 q875 hv_X2_far rfl hM.1 rfl (by decide) hl.1 rfl (Nat.le_of_ble_eq_true rfl) dX2_isAhead_136 ⟨Nat.zero_le _, Nat.zero_le _⟩ ?_
        refine lv_aload_n hx hb dX2_isAhead_139 rfl (lv_at hl 5 rfl) ?_
        refine lv_iload_n hx hb dX2_isAhead_140 rfl (lv_at hl 6 rfl) ?_
        refine lv_iload hx hb dX2_isAhead_141 (lv_at hl 3 rfl) ?_
        refine p_callV (As := [.int _, .int _]) hx hb hml hown hts hK hZ (met_X2_far l G hM hO i_c (hr_ _ h_k).2) q872 q874 qs33 q43 q875 hv_X2_far rfl hM.1 rfl (by decide) hl.1 rfl (Nat.le_of_ble_eq_true rfl) dX2_isAhead_143 ⟨Nat.zero_le _, Nat.zero_le _⟩ ?_
        refine lc_eq (tgt := 176) hx hb dX2_isAhead_146 dX2_isAhead_147 rfl (fun c_146 => ?_) (fun c_146 => ?_)
        · skip
          refine lv_iload_n hx hb dX2_isAhead_176 rfl (lv_at hl 7 rfl) ?_
          refine lv_iload_n hx hb dX2_isAhead_177 rfl (lv_at hl 8 rfl) ?_
          refine lv_icmp_ge (tgt := 185) hx hb dX2_isAhead_178 rfl (fun c_178 => ?_) (fun c_178 => ?_)
          · skip
            refine lv_iconst (v := 0) hx hb dX2_isAhead_185 ic_0 ?_
            exact pm_zret hx hb hr hlk hH dX2_isAhead_186 (by first | with_reducible rfl | (simp only [m_ah, c_36, c_41, eq_true c_79, eq_true c_118, eq_true c_146, Nat.not_lt.mpr ((nI_leI (a := k) (b := i) (by omega) (by omega)).mp c_178), ↓reduceIte, Bool.true_and, Bool.and_true, Bool.false_and, Bool.and_false, Bool.true_or, Bool.or_true, Bool.false_or, Bool.or_false, Bool.not_true, Bool.not_false, decide_true, decide_false, bI_t, bI_f, Bool.false_eq_true, not_true_eq_false, not_false_eq_true, eq_self, reduceCtorEq, Bool.true_eq_false, and_true, true_and, and_false, false_and, or_true, true_or, or_false, false_or]; done) | (simp only [c_36, c_41, eq_true c_79, eq_true c_118, eq_true c_146, ↓reduceIte, Bool.true_and, Bool.and_true, Bool.false_and, Bool.and_false, Bool.true_or, Bool.or_true, Bool.false_or, Bool.or_false, Bool.not_true, Bool.not_false, decide_true, decide_false, bI_t, bI_f, Bool.false_eq_true, not_true_eq_false, not_false_eq_true, eq_self, reduceCtorEq, Bool.true_eq_false, and_true, true_and, and_false, false_and, or_true, true_or, or_false, false_or] at c_178; done) | (simp only [c_36, c_41, eq_true c_79, eq_true c_118, Nat.not_lt.mpr ((nI_leI (a := k) (b := i) (by omega) (by omega)).mp c_178), ↓reduceIte, Bool.true_and, Bool.and_true, Bool.false_and, Bool.and_false, Bool.true_or, Bool.or_true, Bool.false_or, Bool.or_false, Bool.not_true, Bool.not_false, decide_true, decide_false, bI_t, bI_f, Bool.false_eq_true, not_true_eq_false, not_false_eq_true, eq_self, reduceCtorEq, Bool.true_eq_false, and_true, true_and, and_false, false_and, or_true, true_or, or_false, false_or] at c_146; done) | (simp only [c_36, c_41, eq_true c_79, eq_true c_146, Nat.not_lt.mpr ((nI_leI (a := k) (b := i) (by omega) (by omega)).mp c_178), ↓reduceIte, Bool.true_and, Bool.and_true, Bool.false_and, Bool.and_false, Bool.true_or, Bool.or_true, Bool.false_or, Bool.or_false, Bool.not_true, Bool.not_false, decide_true, decide_false, bI_t, bI_f, Bool.false_eq_true, not_true_eq_false, not_false_eq_true, eq_self, reduceCtorEq, Bool.true_eq_false, and_true, true_and, and_false, false_and, or_true, true_or, or_false, false_or] at c_118; done) | (simp only [c_36, c_41, eq_true c_118, eq_true c_146, Nat.not_lt.mpr ((nI_leI (a := k) (b := i) (by omega) (by omega)).mp c_178), ↓reduceIte, Bool.true_and, Bool.and_true, Bool.false_and, Bool.and_false, Bool.true_or, Bool.or_true, Bool.false_or, Bool.or_false, Bool.not_true, Bool.not_false, decide_true, decide_false, bI_t, bI_f, Bool.false_eq_true, not_true_eq_false, not_false_eq_true, eq_self, reduceCtorEq, Bool.true_eq_false, and_true, true_and, and_false, false_and, or_true, true_or, or_false, false_or] at c_79; done) | (simp only [c_36, eq_true c_79, eq_true c_118, eq_true c_146, Nat.not_lt.mpr ((nI_leI (a := k) (b := i) (by omega) (by omega)).mp c_178), ↓reduceIte, Bool.true_and, Bool.and_true, Bool.false_and, Bool.and_false, Bool.true_or, Bool.or_true, Bool.false_or, Bool.or_false, Bool.not_true, Bool.not_false, decide_true, decide_false, bI_t, bI_f, Bool.false_eq_true, not_true_eq_false, not_false_eq_true, eq_self, reduceCtorEq, Bool.true_eq_false, and_true, true_and, and_false, false_and, or_true, true_or, or_false, false_or] at c_41; done) | (simp only [c_41, eq_true c_79, eq_true c_118, eq_true c_146, Nat.not_lt.mpr ((nI_leI (a := k) (b := i) (by omega) (by omega)).mp c_178), ↓reduceIte, Bool.true_and, Bool.and_true, Bool.false_and, Bool.and_false, Bool.true_or, Bool.or_true, Bool.false_or, Bool.or_false, Bool.not_true, Bool.not_false, decide_true, decide_false, bI_t, bI_f, Bool.false_eq_true, not_true_eq_false, not_false_eq_true, eq_self, reduceCtorEq, Bool.true_eq_false, and_true, true_and, and_false, false_and, or_true, true_or, or_false, false_or] at c_36; done))
          refine lv_iconst (v := 1) hx hb dX2_isAhead_181 ic_1 ?_
          refine lv_goto (tgt := 186) hx hb dX2_isAhead_182 rfl ?_
          exact pm_zret hx hb hr hlk hH dX2_isAhead_186 (by first | with_reducible rfl | (simp only [m_ah, c_36, c_41, eq_true c_79, eq_true c_118, eq_true c_146, Nat.lt_of_not_le (fun h => c_178 ((nI_leI (a := k) (b := i) (by omega) (by omega)).mpr h)), ↓reduceIte, Bool.true_and, Bool.and_true, Bool.false_and, Bool.and_false, Bool.true_or, Bool.or_true, Bool.false_or, Bool.or_false, Bool.not_true, Bool.not_false, decide_true, decide_false, bI_t, bI_f, Bool.false_eq_true, not_true_eq_false, not_false_eq_true, eq_self, reduceCtorEq, Bool.true_eq_false, and_true, true_and, and_false, false_and, or_true, true_or, or_false, false_or]; done) | (simp only [c_36, c_41, eq_true c_79, eq_true c_118, eq_true c_146, ↓reduceIte, Bool.true_and, Bool.and_true, Bool.false_and, Bool.and_false, Bool.true_or, Bool.or_true, Bool.false_or, Bool.or_false, Bool.not_true, Bool.not_false, decide_true, decide_false, bI_t, bI_f, Bool.false_eq_true, not_true_eq_false, not_false_eq_true, eq_self, reduceCtorEq, Bool.true_eq_false, and_true, true_and, and_false, false_and, or_true, true_or, or_false, false_or] at c_178; done) | (simp only [c_36, c_41, eq_true c_79, eq_true c_118, Nat.lt_of_not_le (fun h => c_178 ((nI_leI (a := k) (b := i) (by omega) (by omega)).mpr h)), ↓reduceIte, Bool.true_and, Bool.and_true, Bool.false_and, Bool.and_false, Bool.true_or, Bool.or_true, Bool.false_or, Bool.or_false, Bool.not_true, Bool.not_false, decide_true, decide_false, bI_t, bI_f, Bool.false_eq_true, not_true_eq_false, not_false_eq_true, eq_self, reduceCtorEq, Bool.true_eq_false, and_true, true_and, and_false, false_and, or_true, true_or, or_false, false_or] at c_146; done) | (simp only [c_36, c_41, eq_true c_79, eq_true c_146, Nat.lt_of_not_le (fun h => c_178 ((nI_leI (a := k) (b := i) (by omega) (by omega)).mpr h)), ↓reduceIte, Bool.true_and, Bool.and_true, Bool.false_and, Bool.and_false, Bool.true_or, Bool.or_true, Bool.false_or, Bool.or_false, Bool.not_true, Bool.not_false, decide_true, decide_false, bI_t, bI_f, Bool.false_eq_true, not_true_eq_false, not_false_eq_true, eq_self, reduceCtorEq, Bool.true_eq_false, and_true, true_and, and_false, false_and, or_true, true_or, or_false, false_or] at c_118; done) | (simp only [c_36, c_41, eq_true c_118, eq_true c_146, Nat.lt_of_not_le (fun h => c_178 ((nI_leI (a := k) (b := i) (by omega) (by omega)).mpr h)), ↓reduceIte, Bool.true_and, Bool.and_true, Bool.false_and, Bool.and_false, Bool.true_or, Bool.or_true, Bool.false_or, Bool.or_false, Bool.not_true, Bool.not_false, decide_true, decide_false, bI_t, bI_f, Bool.false_eq_true, not_true_eq_false, not_false_eq_true, eq_self, reduceCtorEq, Bool.true_eq_false, and_true, true_and, and_false, false_and, or_true, true_or, or_false, false_or] at c_79; done) | (simp only [c_36, eq_true c_79, eq_true c_118, eq_true c_146, Nat.lt_of_not_le (fun h => c_178 ((nI_leI (a := k) (b := i) (by omega) (by omega)).mpr h)), ↓reduceIte, Bool.true_and, Bool.and_true, Bool.false_and, Bool.and_false, Bool.true_or, Bool.or_true, Bool.false_or, Bool.or_false, Bool.not_true, Bool.not_false, decide_true, decide_false, bI_t, bI_f, Bool.false_eq_true, not_true_eq_false, not_false_eq_true, eq_self, reduceCtorEq, Bool.true_eq_false, and_true, true_and, and_false, false_and, or_true, true_or, or_false, false_or] at c_41; done) | (simp only [c_41, eq_true c_79, eq_true c_118, eq_true c_146, Nat.lt_of_not_le (fun h => c_178 ((nI_leI (a := k) (b := i) (by omega) (by omega)).mpr h)), ↓reduceIte, Bool.true_and, Bool.and_true, Bool.false_and, Bool.and_false, Bool.true_or, Bool.or_true, Bool.false_or, Bool.or_false, Bool.not_true, Bool.not_false, decide_true, decide_false, bI_t, bI_f, Bool.false_eq_true, not_true_eq_false, not_false_eq_true, eq_self, reduceCtorEq, Bool.true_eq_false, and_true, true_and, and_false, false_and, or_true, true_or, or_false, false_or] at c_36; done))
        refine lv_aload_n hx hb dX2_isAhead_150 rfl (lv_at hl 5 rfl) ?_
        refine lv_iload_n hx hb dX2_isAhead_151 rfl (lv_at hl 6 rfl) ?_
        refine lv_iload hx hb dX2_isAhead_152 (lv_at hl 4 rfl) ?_
        refine p_callV (As := [.int _, .int _]) hx hb hml hown hts hK hZ (met_X2_far l G hM hO i_c (hr_ _ h_i).2) q872 q874 qs33 q43 q875 hv_X2_far rfl hM.1 rfl (by decide) hl.1 rfl (Nat.le_of_ble_eq_true rfl) dX2_isAhead_154 ⟨Nat.zero_le _, Nat.zero_le _⟩ ?_
        refine lv_aload_n hx hb dX2_isAhead_157 rfl (lv_at hl 5 rfl) ?_
        refine lv_iload_n hx hb dX2_isAhead_158 rfl (lv_at hl 6 rfl) ?_
        refine lv_iload hx hb dX2_isAhead_159 (lv_at hl 3 rfl) ?_
        refine p_callV (As := [.int _, .int _]) hx hb hml hown hts hK hZ (met_X2_far l G hM hO i_c (hr_ _ h_k).2) q872 q874 qs33 q43 q875 hv_X2_far rfl hM.1 rfl (by decide) hl.1 rfl (Nat.le_of_ble_eq_true rfl) dX2_isAhead_161 ⟨Nat.zero_le _, Nat.zero_le _⟩ ?_
        refine lc_ge (tgt := 172) hx hb dX2_isAhead_164 dX2_isAhead_165 rfl (fun c_164 => ?_) (fun c_164 => ?_)
        · skip
          refine lv_iconst (v := 0) hx hb dX2_isAhead_172 ic_0 ?_
          refine lv_goto (tgt := 186) hx hb dX2_isAhead_173 rfl ?_
          exact pm_zret hx hb hr hlk hH dX2_isAhead_186 (by first | with_reducible rfl | (simp only [m_ah, c_36, c_41, eq_true c_79, eq_true c_118, c_146, c_164, Int64.not_lt.mpr c_164, ↓reduceIte, Bool.true_and, Bool.and_true, Bool.false_and, Bool.and_false, Bool.true_or, Bool.or_true, Bool.false_or, Bool.or_false, Bool.not_true, Bool.not_false, decide_true, decide_false, bI_t, bI_f, Bool.false_eq_true, not_true_eq_false, not_false_eq_true, eq_self, reduceCtorEq, Bool.true_eq_false, and_true, true_and, and_false, false_and, or_true, true_or, or_false, false_or]; done) | (simp only [c_36, c_41, eq_true c_79, eq_true c_118, c_146, ↓reduceIte, Bool.true_and, Bool.and_true, Bool.false_and, Bool.and_false, Bool.true_or, Bool.or_true, Bool.false_or, Bool.or_false, Bool.not_true, Bool.not_false, decide_true, decide_false, bI_t, bI_f, Bool.false_eq_true, not_true_eq_false, not_false_eq_true, eq_self, reduceCtorEq, Bool.true_eq_false, and_true, true_and, and_false, false_and, or_true, true_or, or_false, false_or] at c_164; done) | (simp only [c_36, c_41, eq_true c_79, eq_true c_118, c_164, Int64.not_lt.mpr c_164, ↓reduceIte, Bool.true_and, Bool.and_true, Bool.false_and, Bool.and_false, Bool.true_or, Bool.or_true, Bool.false_or, Bool.or_false, Bool.not_true, Bool.not_false, decide_true, decide_false, bI_t, bI_f, Bool.false_eq_true, not_true_eq_false, not_false_eq_true, eq_self, reduceCtorEq, Bool.true_eq_false, and_true, true_and, and_false, false_and, or_true, true_or, or_false, false_or] at c_146; done) | (simp only [c_36, c_41, eq_true c_79, c_146, c_164, Int64.not_lt.mpr c_164, ↓reduceIte, Bool.true_and, Bool.and_true, Bool.false_and, Bool.and_false, Bool.true_or, Bool.or_true, Bool.false_or, Bool.or_false, Bool.not_true, Bool.not_false, decide_true, decide_false, bI_t, bI_f, Bool.false_eq_true, not_true_eq_false, not_false_eq_true, eq_self, reduceCtorEq, Bool.true_eq_false, and_true, true_and, and_false, false_and, or_true, true_or, or_false, false_or] at c_118; done) | (simp only [c_36, c_41, eq_true c_118, c_146, c_164, Int64.not_lt.mpr c_164, ↓reduceIte, Bool.true_and, Bool.and_true, Bool.false_and, Bool.and_false, Bool.true_or, Bool.or_true, Bool.false_or, Bool.or_false, Bool.not_true, Bool.not_false, decide_true, decide_false, bI_t, bI_f, Bool.false_eq_true, not_true_eq_false, not_false_eq_true, eq_self, reduceCtorEq, Bool.true_eq_false, and_true, true_and, and_false, false_and, or_true, true_or, or_false, false_or] at c_79; done) | (simp only [c_36, eq_true c_79, eq_true c_118, c_146, c_164, Int64.not_lt.mpr c_164, ↓reduceIte, Bool.true_and, Bool.and_true, Bool.false_and, Bool.and_false, Bool.true_or, Bool.or_true, Bool.false_or, Bool.or_false, Bool.not_true, Bool.not_false, decide_true, decide_false, bI_t, bI_f, Bool.false_eq_true, not_true_eq_false, not_false_eq_true, eq_self, reduceCtorEq, Bool.true_eq_false, and_true, true_and, and_false, false_and, or_true, true_or, or_false, false_or] at c_41; done) | (simp only [c_41, eq_true c_79, eq_true c_118, c_146, c_164, Int64.not_lt.mpr c_164, ↓reduceIte, Bool.true_and, Bool.and_true, Bool.false_and, Bool.and_false, Bool.true_or, Bool.or_true, Bool.false_or, Bool.or_false, Bool.not_true, Bool.not_false, decide_true, decide_false, bI_t, bI_f, Bool.false_eq_true, not_true_eq_false, not_false_eq_true, eq_self, reduceCtorEq, Bool.true_eq_false, and_true, true_and, and_false, false_and, or_true, true_or, or_false, false_or] at c_36; done))
        refine lv_iconst (v := 1) hx hb dX2_isAhead_168 ic_1 ?_
        refine lv_goto (tgt := 186) hx hb dX2_isAhead_169 rfl ?_
        exact pm_zret hx hb hr hlk hH dX2_isAhead_186 (by first | with_reducible rfl | (simp only [m_ah, c_36, c_41, eq_true c_79, eq_true c_118, c_146, c_164, Int64.not_le.mp c_164, ↓reduceIte, Bool.true_and, Bool.and_true, Bool.false_and, Bool.and_false, Bool.true_or, Bool.or_true, Bool.false_or, Bool.or_false, Bool.not_true, Bool.not_false, decide_true, decide_false, bI_t, bI_f, Bool.false_eq_true, not_true_eq_false, not_false_eq_true, eq_self, reduceCtorEq, Bool.true_eq_false, and_true, true_and, and_false, false_and, or_true, true_or, or_false, false_or]; done) | (simp only [c_36, c_41, eq_true c_79, eq_true c_118, c_146, ↓reduceIte, Bool.true_and, Bool.and_true, Bool.false_and, Bool.and_false, Bool.true_or, Bool.or_true, Bool.false_or, Bool.or_false, Bool.not_true, Bool.not_false, decide_true, decide_false, bI_t, bI_f, Bool.false_eq_true, not_true_eq_false, not_false_eq_true, eq_self, reduceCtorEq, Bool.true_eq_false, and_true, true_and, and_false, false_and, or_true, true_or, or_false, false_or] at c_164; done) | (simp only [c_36, c_41, eq_true c_79, eq_true c_118, c_164, Int64.not_le.mp c_164, ↓reduceIte, Bool.true_and, Bool.and_true, Bool.false_and, Bool.and_false, Bool.true_or, Bool.or_true, Bool.false_or, Bool.or_false, Bool.not_true, Bool.not_false, decide_true, decide_false, bI_t, bI_f, Bool.false_eq_true, not_true_eq_false, not_false_eq_true, eq_self, reduceCtorEq, Bool.true_eq_false, and_true, true_and, and_false, false_and, or_true, true_or, or_false, false_or] at c_146; done) | (simp only [c_36, c_41, eq_true c_79, c_146, c_164, Int64.not_le.mp c_164, ↓reduceIte, Bool.true_and, Bool.and_true, Bool.false_and, Bool.and_false, Bool.true_or, Bool.or_true, Bool.false_or, Bool.or_false, Bool.not_true, Bool.not_false, decide_true, decide_false, bI_t, bI_f, Bool.false_eq_true, not_true_eq_false, not_false_eq_true, eq_self, reduceCtorEq, Bool.true_eq_false, and_true, true_and, and_false, false_and, or_true, true_or, or_false, false_or] at c_118; done) | (simp only [c_36, c_41, eq_true c_118, c_146, c_164, Int64.not_le.mp c_164, ↓reduceIte, Bool.true_and, Bool.and_true, Bool.false_and, Bool.and_false, Bool.true_or, Bool.or_true, Bool.false_or, Bool.or_false, Bool.not_true, Bool.not_false, decide_true, decide_false, bI_t, bI_f, Bool.false_eq_true, not_true_eq_false, not_false_eq_true, eq_self, reduceCtorEq, Bool.true_eq_false, and_true, true_and, and_false, false_and, or_true, true_or, or_false, false_or] at c_79; done) | (simp only [c_36, eq_true c_79, eq_true c_118, c_146, c_164, Int64.not_le.mp c_164, ↓reduceIte, Bool.true_and, Bool.and_true, Bool.false_and, Bool.and_false, Bool.true_or, Bool.or_true, Bool.false_or, Bool.or_false, Bool.not_true, Bool.not_false, decide_true, decide_false, bI_t, bI_f, Bool.false_eq_true, not_true_eq_false, not_false_eq_true, eq_self, reduceCtorEq, Bool.true_eq_false, and_true, true_and, and_false, false_and, or_true, true_or, or_false, false_or] at c_41; done) | (simp only [c_41, eq_true c_79, eq_true c_118, c_146, c_164, Int64.not_le.mp c_164, ↓reduceIte, Bool.true_and, Bool.and_true, Bool.false_and, Bool.and_false, Bool.true_or, Bool.or_true, Bool.false_or, Bool.or_false, Bool.not_true, Bool.not_false, decide_true, decide_false, bI_t, bI_f, Bool.false_eq_true, not_true_eq_false, not_false_eq_true, eq_self, reduceCtorEq, Bool.true_eq_false, and_true, true_and, and_false, false_and, or_true, true_or, or_false, false_or] at c_36; done))
      refine lv_iload hx hb dX2_isAhead_121 (lv_at hl 0 rfl) ?_
      refine lv_if_le (tgt := 130) hx hb dX2_isAhead_123 rfl (fun c_123 => ?_) (fun c_123 => ?_)
      · skip
        refine lv_iconst (v := 0) hx hb dX2_isAhead_130 ic_0 ?_
        exact pm_zret hx hb hr hlk hH dX2_isAhead_131 (by first | with_reducible rfl | (simp only [m_ah, c_36, c_41, eq_true c_79, c_118, c_123, Int32.not_lt.mpr c_123, ↓reduceIte, Bool.true_and, Bool.and_true, Bool.false_and, Bool.and_false, Bool.true_or, Bool.or_true, Bool.false_or, Bool.or_false, Bool.not_true, Bool.not_false, decide_true, decide_false, bI_t, bI_f, Bool.false_eq_true, not_true_eq_false, not_false_eq_true, eq_self, reduceCtorEq, Bool.true_eq_false, and_true, true_and, and_false, false_and, or_true, true_or, or_false, false_or]; done) | (simp only [c_36, c_41, eq_true c_79, c_118, ↓reduceIte, Bool.true_and, Bool.and_true, Bool.false_and, Bool.and_false, Bool.true_or, Bool.or_true, Bool.false_or, Bool.or_false, Bool.not_true, Bool.not_false, decide_true, decide_false, bI_t, bI_f, Bool.false_eq_true, not_true_eq_false, not_false_eq_true, eq_self, reduceCtorEq, Bool.true_eq_false, and_true, true_and, and_false, false_and, or_true, true_or, or_false, false_or] at c_123; done) | (simp only [c_36, c_41, eq_true c_79, c_123, Int32.not_lt.mpr c_123, ↓reduceIte, Bool.true_and, Bool.and_true, Bool.false_and, Bool.and_false, Bool.true_or, Bool.or_true, Bool.false_or, Bool.or_false, Bool.not_true, Bool.not_false, decide_true, decide_false, bI_t, bI_f, Bool.false_eq_true, not_true_eq_false, not_false_eq_true, eq_self, reduceCtorEq, Bool.true_eq_false, and_true, true_and, and_false, false_and, or_true, true_or, or_false, false_or] at c_118; done) | (simp only [c_36, c_41, c_118, c_123, Int32.not_lt.mpr c_123, ↓reduceIte, Bool.true_and, Bool.and_true, Bool.false_and, Bool.and_false, Bool.true_or, Bool.or_true, Bool.false_or, Bool.or_false, Bool.not_true, Bool.not_false, decide_true, decide_false, bI_t, bI_f, Bool.false_eq_true, not_true_eq_false, not_false_eq_true, eq_self, reduceCtorEq, Bool.true_eq_false, and_true, true_and, and_false, false_and, or_true, true_or, or_false, false_or] at c_79; done) | (simp only [c_36, eq_true c_79, c_118, c_123, Int32.not_lt.mpr c_123, ↓reduceIte, Bool.true_and, Bool.and_true, Bool.false_and, Bool.and_false, Bool.true_or, Bool.or_true, Bool.false_or, Bool.or_false, Bool.not_true, Bool.not_false, decide_true, decide_false, bI_t, bI_f, Bool.false_eq_true, not_true_eq_false, not_false_eq_true, eq_self, reduceCtorEq, Bool.true_eq_false, and_true, true_and, and_false, false_and, or_true, true_or, or_false, false_or] at c_41; done) | (simp only [c_41, eq_true c_79, c_118, c_123, Int32.not_lt.mpr c_123, ↓reduceIte, Bool.true_and, Bool.and_true, Bool.false_and, Bool.and_false, Bool.true_or, Bool.or_true, Bool.false_or, Bool.or_false, Bool.not_true, Bool.not_false, decide_true, decide_false, bI_t, bI_f, Bool.false_eq_true, not_true_eq_false, not_false_eq_true, eq_self, reduceCtorEq, Bool.true_eq_false, and_true, true_and, and_false, false_and, or_true, true_or, or_false, false_or] at c_36; done))
      refine lv_iconst (v := 1) hx hb dX2_isAhead_126 ic_1 ?_
      refine lv_goto (tgt := 131) hx hb dX2_isAhead_127 rfl ?_
      exact pm_zret hx hb hr hlk hH dX2_isAhead_131 (by first | with_reducible rfl | (simp only [m_ah, c_36, c_41, eq_true c_79, c_118, c_123, Int32.not_le.mp c_123, ↓reduceIte, Bool.true_and, Bool.and_true, Bool.false_and, Bool.and_false, Bool.true_or, Bool.or_true, Bool.false_or, Bool.or_false, Bool.not_true, Bool.not_false, decide_true, decide_false, bI_t, bI_f, Bool.false_eq_true, not_true_eq_false, not_false_eq_true, eq_self, reduceCtorEq, Bool.true_eq_false, and_true, true_and, and_false, false_and, or_true, true_or, or_false, false_or]; done) | (simp only [c_36, c_41, eq_true c_79, c_118, ↓reduceIte, Bool.true_and, Bool.and_true, Bool.false_and, Bool.and_false, Bool.true_or, Bool.or_true, Bool.false_or, Bool.or_false, Bool.not_true, Bool.not_false, decide_true, decide_false, bI_t, bI_f, Bool.false_eq_true, not_true_eq_false, not_false_eq_true, eq_self, reduceCtorEq, Bool.true_eq_false, and_true, true_and, and_false, false_and, or_true, true_or, or_false, false_or] at c_123; done) | (simp only [c_36, c_41, eq_true c_79, c_123, Int32.not_le.mp c_123, ↓reduceIte, Bool.true_and, Bool.and_true, Bool.false_and, Bool.and_false, Bool.true_or, Bool.or_true, Bool.false_or, Bool.or_false, Bool.not_true, Bool.not_false, decide_true, decide_false, bI_t, bI_f, Bool.false_eq_true, not_true_eq_false, not_false_eq_true, eq_self, reduceCtorEq, Bool.true_eq_false, and_true, true_and, and_false, false_and, or_true, true_or, or_false, false_or] at c_118; done) | (simp only [c_36, c_41, c_118, c_123, Int32.not_le.mp c_123, ↓reduceIte, Bool.true_and, Bool.and_true, Bool.false_and, Bool.and_false, Bool.true_or, Bool.or_true, Bool.false_or, Bool.or_false, Bool.not_true, Bool.not_false, decide_true, decide_false, bI_t, bI_f, Bool.false_eq_true, not_true_eq_false, not_false_eq_true, eq_self, reduceCtorEq, Bool.true_eq_false, and_true, true_and, and_false, false_and, or_true, true_or, or_false, false_or] at c_79; done) | (simp only [c_36, eq_true c_79, c_118, c_123, Int32.not_le.mp c_123, ↓reduceIte, Bool.true_and, Bool.and_true, Bool.false_and, Bool.and_false, Bool.true_or, Bool.or_true, Bool.false_or, Bool.or_false, Bool.not_true, Bool.not_false, decide_true, decide_false, bI_t, bI_f, Bool.false_eq_true, not_true_eq_false, not_false_eq_true, eq_self, reduceCtorEq, Bool.true_eq_false, and_true, true_and, and_false, false_and, or_true, true_or, or_false, false_or] at c_41; done) | (simp only [c_41, eq_true c_79, c_118, c_123, Int32.not_le.mp c_123, ↓reduceIte, Bool.true_and, Bool.and_true, Bool.false_and, Bool.and_false, Bool.true_or, Bool.or_true, Bool.false_or, Bool.or_false, Bool.not_true, Bool.not_false, decide_true, decide_false, bI_t, bI_f, Bool.false_eq_true, not_true_eq_false, not_false_eq_true, eq_self, reduceCtorEq, Bool.true_eq_false, and_true, true_and, and_false, false_and, or_true, true_or, or_false, false_or] at c_36; done))
    refine lv_aload_n hx hb dX2_isAhead_82 rfl (lv_at hl 4 rfl) ?_
    refine lv_iload_n hx hb dX2_isAhead_83 rfl (lv_at hl 5 rfl) ?_
    refine lv_iload hx hb dX2_isAhead_84 (lv_at hl 3 rfl) ?_
    refine p_callV (As := [.int _, .int _]) hx hb hml hown hts hK hZ (met_X2_half l G hM hO i_c (hr_ _ h_i).2) q884 q886 qs35 q43 q887 hv_X2_half rfl hM.1 rfl (by decide) hl.1 rfl (Nat.le_of_ble_eq_true rfl) dX2_isAhead_86 ⟨Nat.zero_le _, Nat.zero_le _⟩ ?_
    refine lv_aload_n hx hb dX2_isAhead_89 rfl (lv_at hl 4 rfl) ?_
    refine lv_iload_n hx hb dX2_isAhead_90 rfl (lv_at hl 5 rfl) ?_
    refine lv_iload hx hb dX2_isAhead_91 (lv_at hl 2 rfl) ?_
    refine p_callV (As := [.int _, .int _]) hx hb hml hown hts hK hZ (met_X2_half l G hM hO i_c (hr_ _ h_k).2) q884 q886 qs35 q43 q887 hv_X2_half rfl hM.1 rfl (by decide) hl.1 rfl (Nat.le_of_ble_eq_true rfl) dX2_isAhead_93 ⟨Nat.zero_le _, Nat.zero_le _⟩ ?_
    refine lv_icmp_ge (tgt := 103) hx hb dX2_isAhead_96 rfl (fun c_96 => ?_) (fun c_96 => ?_)
    · skip
      refine lv_iconst (v := 0) hx hb dX2_isAhead_103 ic_0 ?_
      exact pm_zret hx hb hr hlk hH dX2_isAhead_104 (by first | with_reducible rfl | (simp only [m_ah, c_36, c_41, c_79, c_96, Int32.not_lt.mpr c_96, ↓reduceIte, Bool.true_and, Bool.and_true, Bool.false_and, Bool.and_false, Bool.true_or, Bool.or_true, Bool.false_or, Bool.or_false, Bool.not_true, Bool.not_false, decide_true, decide_false, bI_t, bI_f, Bool.false_eq_true, not_true_eq_false, not_false_eq_true, eq_self, reduceCtorEq, Bool.true_eq_false, and_true, true_and, and_false, false_and, or_true, true_or, or_false, false_or]; done) | (simp only [c_36, c_41, c_79, ↓reduceIte, Bool.true_and, Bool.and_true, Bool.false_and, Bool.and_false, Bool.true_or, Bool.or_true, Bool.false_or, Bool.or_false, Bool.not_true, Bool.not_false, decide_true, decide_false, bI_t, bI_f, Bool.false_eq_true, not_true_eq_false, not_false_eq_true, eq_self, reduceCtorEq, Bool.true_eq_false, and_true, true_and, and_false, false_and, or_true, true_or, or_false, false_or] at c_96; done) | (simp only [c_36, c_41, c_96, Int32.not_lt.mpr c_96, ↓reduceIte, Bool.true_and, Bool.and_true, Bool.false_and, Bool.and_false, Bool.true_or, Bool.or_true, Bool.false_or, Bool.or_false, Bool.not_true, Bool.not_false, decide_true, decide_false, bI_t, bI_f, Bool.false_eq_true, not_true_eq_false, not_false_eq_true, eq_self, reduceCtorEq, Bool.true_eq_false, and_true, true_and, and_false, false_and, or_true, true_or, or_false, false_or] at c_79; done) | (simp only [c_36, c_79, c_96, Int32.not_lt.mpr c_96, ↓reduceIte, Bool.true_and, Bool.and_true, Bool.false_and, Bool.and_false, Bool.true_or, Bool.or_true, Bool.false_or, Bool.or_false, Bool.not_true, Bool.not_false, decide_true, decide_false, bI_t, bI_f, Bool.false_eq_true, not_true_eq_false, not_false_eq_true, eq_self, reduceCtorEq, Bool.true_eq_false, and_true, true_and, and_false, false_and, or_true, true_or, or_false, false_or] at c_41; done) | (simp only [c_41, c_79, c_96, Int32.not_lt.mpr c_96, ↓reduceIte, Bool.true_and, Bool.and_true, Bool.false_and, Bool.and_false, Bool.true_or, Bool.or_true, Bool.false_or, Bool.or_false, Bool.not_true, Bool.not_false, decide_true, decide_false, bI_t, bI_f, Bool.false_eq_true, not_true_eq_false, not_false_eq_true, eq_self, reduceCtorEq, Bool.true_eq_false, and_true, true_and, and_false, false_and, or_true, true_or, or_false, false_or] at c_36; done))
    refine lv_iconst (v := 1) hx hb dX2_isAhead_99 ic_1 ?_
    refine lv_goto (tgt := 104) hx hb dX2_isAhead_100 rfl ?_
    exact pm_zret hx hb hr hlk hH dX2_isAhead_104 (by first | with_reducible rfl | (simp only [m_ah, c_36, c_41, c_79, c_96, Int32.not_le.mp c_96, ↓reduceIte, Bool.true_and, Bool.and_true, Bool.false_and, Bool.and_false, Bool.true_or, Bool.or_true, Bool.false_or, Bool.or_false, Bool.not_true, Bool.not_false, decide_true, decide_false, bI_t, bI_f, Bool.false_eq_true, not_true_eq_false, not_false_eq_true, eq_self, reduceCtorEq, Bool.true_eq_false, and_true, true_and, and_false, false_and, or_true, true_or, or_false, false_or]; done) | (simp only [c_36, c_41, c_79, ↓reduceIte, Bool.true_and, Bool.and_true, Bool.false_and, Bool.and_false, Bool.true_or, Bool.or_true, Bool.false_or, Bool.or_false, Bool.not_true, Bool.not_false, decide_true, decide_false, bI_t, bI_f, Bool.false_eq_true, not_true_eq_false, not_false_eq_true, eq_self, reduceCtorEq, Bool.true_eq_false, and_true, true_and, and_false, false_and, or_true, true_or, or_false, false_or] at c_96; done) | (simp only [c_36, c_41, c_96, Int32.not_le.mp c_96, ↓reduceIte, Bool.true_and, Bool.and_true, Bool.false_and, Bool.and_false, Bool.true_or, Bool.or_true, Bool.false_or, Bool.or_false, Bool.not_true, Bool.not_false, decide_true, decide_false, bI_t, bI_f, Bool.false_eq_true, not_true_eq_false, not_false_eq_true, eq_self, reduceCtorEq, Bool.true_eq_false, and_true, true_and, and_false, false_and, or_true, true_or, or_false, false_or] at c_79; done) | (simp only [c_36, c_79, c_96, Int32.not_le.mp c_96, ↓reduceIte, Bool.true_and, Bool.and_true, Bool.false_and, Bool.and_false, Bool.true_or, Bool.or_true, Bool.false_or, Bool.or_false, Bool.not_true, Bool.not_false, decide_true, decide_false, bI_t, bI_f, Bool.false_eq_true, not_true_eq_false, not_false_eq_true, eq_self, reduceCtorEq, Bool.true_eq_false, and_true, true_and, and_false, false_and, or_true, true_or, or_false, false_or] at c_41; done) | (simp only [c_41, c_79, c_96, Int32.not_le.mp c_96, ↓reduceIte, Bool.true_and, Bool.and_true, Bool.false_and, Bool.and_false, Bool.true_or, Bool.or_true, Bool.false_or, Bool.or_false, Bool.not_true, Bool.not_false, decide_true, decide_false, bI_t, bI_f, Bool.false_eq_true, not_true_eq_false, not_false_eq_true, eq_self, reduceCtorEq, Bool.true_eq_false, and_true, true_and, and_false, false_and, or_true, true_or, or_false, false_or] at c_36; done))
  refine lv_iload hx hb dX2_isAhead_44 (lv_at hl 1 rfl) ?_
  refine b_ifeq (tgt := 63) hx hb dX2_isAhead_46 rfl (fun c_46 => ?_) (fun c_46 => ?_)
  · skip
    refine lv_iconst (v := 0) hx hb dX2_isAhead_63 ic_0 ?_
    exact pm_zret hx hb hr hlk hH dX2_isAhead_64 (by first | with_reducible rfl | (simp only [m_ah, c_36, c_41, c_46, ↓reduceIte, Bool.true_and, Bool.and_true, Bool.false_and, Bool.and_false, Bool.true_or, Bool.or_true, Bool.false_or, Bool.or_false, Bool.not_true, Bool.not_false, decide_true, decide_false, bI_t, bI_f, Bool.false_eq_true, not_true_eq_false, not_false_eq_true, eq_self, reduceCtorEq, Bool.true_eq_false, and_true, true_and, and_false, false_and, or_true, true_or, or_false, false_or]; done) | (simp only [c_36, c_41, ↓reduceIte, Bool.true_and, Bool.and_true, Bool.false_and, Bool.and_false, Bool.true_or, Bool.or_true, Bool.false_or, Bool.or_false, Bool.not_true, Bool.not_false, decide_true, decide_false, bI_t, bI_f, Bool.false_eq_true, not_true_eq_false, not_false_eq_true, eq_self, reduceCtorEq, Bool.true_eq_false, and_true, true_and, and_false, false_and, or_true, true_or, or_false, false_or] at c_46; done) | (simp only [c_36, c_46, ↓reduceIte, Bool.true_and, Bool.and_true, Bool.false_and, Bool.and_false, Bool.true_or, Bool.or_true, Bool.false_or, Bool.or_false, Bool.not_true, Bool.not_false, decide_true, decide_false, bI_t, bI_f, Bool.false_eq_true, not_true_eq_false, not_false_eq_true, eq_self, reduceCtorEq, Bool.true_eq_false, and_true, true_and, and_false, false_and, or_true, true_or, or_false, false_or] at c_41; done) | (simp only [c_41, c_46, ↓reduceIte, Bool.true_and, Bool.and_true, Bool.false_and, Bool.and_false, Bool.true_or, Bool.or_true, Bool.false_or, Bool.or_false, Bool.not_true, Bool.not_false, decide_true, decide_false, bI_t, bI_f, Bool.false_eq_true, not_true_eq_false, not_false_eq_true, eq_self, reduceCtorEq, Bool.true_eq_false, and_true, true_and, and_false, false_and, or_true, true_or, or_false, false_or] at c_36; done))
  refine lv_iload hx hb dX2_isAhead_49 (lv_at hl 0 rfl) ?_
  refine b_ifeq (tgt := 59) hx hb dX2_isAhead_51 rfl (fun c_51 => ?_) (fun c_51 => ?_)
  · skip
    refine lv_iconst (v := 1) hx hb dX2_isAhead_59 ic_1 ?_
    refine lv_goto (tgt := 64) hx hb dX2_isAhead_60 rfl ?_
    exact pm_zret hx hb hr hlk hH dX2_isAhead_64 (by first | with_reducible rfl | (simp only [m_ah, c_36, c_41, c_46, c_51, ↓reduceIte, Bool.true_and, Bool.and_true, Bool.false_and, Bool.and_false, Bool.true_or, Bool.or_true, Bool.false_or, Bool.or_false, Bool.not_true, Bool.not_false, decide_true, decide_false, bI_t, bI_f, Bool.false_eq_true, not_true_eq_false, not_false_eq_true, eq_self, reduceCtorEq, Bool.true_eq_false, and_true, true_and, and_false, false_and, or_true, true_or, or_false, false_or]; done) | (simp only [c_36, c_41, c_46, ↓reduceIte, Bool.true_and, Bool.and_true, Bool.false_and, Bool.and_false, Bool.true_or, Bool.or_true, Bool.false_or, Bool.or_false, Bool.not_true, Bool.not_false, decide_true, decide_false, bI_t, bI_f, Bool.false_eq_true, not_true_eq_false, not_false_eq_true, eq_self, reduceCtorEq, Bool.true_eq_false, and_true, true_and, and_false, false_and, or_true, true_or, or_false, false_or] at c_51; done) | (simp only [c_36, c_41, c_51, ↓reduceIte, Bool.true_and, Bool.and_true, Bool.false_and, Bool.and_false, Bool.true_or, Bool.or_true, Bool.false_or, Bool.or_false, Bool.not_true, Bool.not_false, decide_true, decide_false, bI_t, bI_f, Bool.false_eq_true, not_true_eq_false, not_false_eq_true, eq_self, reduceCtorEq, Bool.true_eq_false, and_true, true_and, and_false, false_and, or_true, true_or, or_false, false_or] at c_46; done) | (simp only [c_36, c_46, c_51, ↓reduceIte, Bool.true_and, Bool.and_true, Bool.false_and, Bool.and_false, Bool.true_or, Bool.or_true, Bool.false_or, Bool.or_false, Bool.not_true, Bool.not_false, decide_true, decide_false, bI_t, bI_f, Bool.false_eq_true, not_true_eq_false, not_false_eq_true, eq_self, reduceCtorEq, Bool.true_eq_false, and_true, true_and, and_false, false_and, or_true, true_or, or_false, false_or] at c_41; done) | (simp only [c_41, c_46, c_51, ↓reduceIte, Bool.true_and, Bool.and_true, Bool.false_and, Bool.and_false, Bool.true_or, Bool.or_true, Bool.false_or, Bool.or_false, Bool.not_true, Bool.not_false, decide_true, decide_false, bI_t, bI_f, Bool.false_eq_true, not_true_eq_false, not_false_eq_true, eq_self, reduceCtorEq, Bool.true_eq_false, and_true, true_and, and_false, false_and, or_true, true_or, or_false, false_or] at c_36; done))
  refine lv_iload_n hx hb dX2_isAhead_54 rfl (lv_at hl 6 rfl) ?_
  refine lv_iload_n hx hb dX2_isAhead_55 rfl (lv_at hl 7 rfl) ?_
  refine lv_icmp_ge (tgt := 63) hx hb dX2_isAhead_56 rfl (fun c_56 => ?_) (fun c_56 => ?_)
  · skip
    refine lv_iconst (v := 0) hx hb dX2_isAhead_63 ic_0 ?_
    exact pm_zret hx hb hr hlk hH dX2_isAhead_64 (by first | with_reducible rfl | (simp only [m_ah, c_36, c_41, c_46, c_51, Nat.not_lt.mpr ((nI_leI (a := k) (b := i) (by omega) (by omega)).mp c_56), ↓reduceIte, Bool.true_and, Bool.and_true, Bool.false_and, Bool.and_false, Bool.true_or, Bool.or_true, Bool.false_or, Bool.or_false, Bool.not_true, Bool.not_false, decide_true, decide_false, bI_t, bI_f, Bool.false_eq_true, not_true_eq_false, not_false_eq_true, eq_self, reduceCtorEq, Bool.true_eq_false, and_true, true_and, and_false, false_and, or_true, true_or, or_false, false_or]; done) | (simp only [c_36, c_41, c_46, c_51, ↓reduceIte, Bool.true_and, Bool.and_true, Bool.false_and, Bool.and_false, Bool.true_or, Bool.or_true, Bool.false_or, Bool.or_false, Bool.not_true, Bool.not_false, decide_true, decide_false, bI_t, bI_f, Bool.false_eq_true, not_true_eq_false, not_false_eq_true, eq_self, reduceCtorEq, Bool.true_eq_false, and_true, true_and, and_false, false_and, or_true, true_or, or_false, false_or] at c_56; done) | (simp only [c_36, c_41, c_46, Nat.not_lt.mpr ((nI_leI (a := k) (b := i) (by omega) (by omega)).mp c_56), ↓reduceIte, Bool.true_and, Bool.and_true, Bool.false_and, Bool.and_false, Bool.true_or, Bool.or_true, Bool.false_or, Bool.or_false, Bool.not_true, Bool.not_false, decide_true, decide_false, bI_t, bI_f, Bool.false_eq_true, not_true_eq_false, not_false_eq_true, eq_self, reduceCtorEq, Bool.true_eq_false, and_true, true_and, and_false, false_and, or_true, true_or, or_false, false_or] at c_51; done) | (simp only [c_36, c_41, c_51, Nat.not_lt.mpr ((nI_leI (a := k) (b := i) (by omega) (by omega)).mp c_56), ↓reduceIte, Bool.true_and, Bool.and_true, Bool.false_and, Bool.and_false, Bool.true_or, Bool.or_true, Bool.false_or, Bool.or_false, Bool.not_true, Bool.not_false, decide_true, decide_false, bI_t, bI_f, Bool.false_eq_true, not_true_eq_false, not_false_eq_true, eq_self, reduceCtorEq, Bool.true_eq_false, and_true, true_and, and_false, false_and, or_true, true_or, or_false, false_or] at c_46; done) | (simp only [c_36, c_46, c_51, Nat.not_lt.mpr ((nI_leI (a := k) (b := i) (by omega) (by omega)).mp c_56), ↓reduceIte, Bool.true_and, Bool.and_true, Bool.false_and, Bool.and_false, Bool.true_or, Bool.or_true, Bool.false_or, Bool.or_false, Bool.not_true, Bool.not_false, decide_true, decide_false, bI_t, bI_f, Bool.false_eq_true, not_true_eq_false, not_false_eq_true, eq_self, reduceCtorEq, Bool.true_eq_false, and_true, true_and, and_false, false_and, or_true, true_or, or_false, false_or] at c_41; done) | (simp only [c_41, c_46, c_51, Nat.not_lt.mpr ((nI_leI (a := k) (b := i) (by omega) (by omega)).mp c_56), ↓reduceIte, Bool.true_and, Bool.and_true, Bool.false_and, Bool.and_false, Bool.true_or, Bool.or_true, Bool.false_or, Bool.or_false, Bool.not_true, Bool.not_false, decide_true, decide_false, bI_t, bI_f, Bool.false_eq_true, not_true_eq_false, not_false_eq_true, eq_self, reduceCtorEq, Bool.true_eq_false, and_true, true_and, and_false, false_and, or_true, true_or, or_false, false_or] at c_36; done))
  refine lv_iconst (v := 1) hx hb dX2_isAhead_59 ic_1 ?_
  refine lv_goto (tgt := 64) hx hb dX2_isAhead_60 rfl ?_
  exact pm_zret hx hb hr hlk hH dX2_isAhead_64 (by first | with_reducible rfl | (simp only [m_ah, c_36, c_41, c_46, c_51, Nat.lt_of_not_le (fun h => c_56 ((nI_leI (a := k) (b := i) (by omega) (by omega)).mpr h)), ↓reduceIte, Bool.true_and, Bool.and_true, Bool.false_and, Bool.and_false, Bool.true_or, Bool.or_true, Bool.false_or, Bool.or_false, Bool.not_true, Bool.not_false, decide_true, decide_false, bI_t, bI_f, Bool.false_eq_true, not_true_eq_false, not_false_eq_true, eq_self, reduceCtorEq, Bool.true_eq_false, and_true, true_and, and_false, false_and, or_true, true_or, or_false, false_or]; done) | (simp only [c_36, c_41, c_46, c_51, ↓reduceIte, Bool.true_and, Bool.and_true, Bool.false_and, Bool.and_false, Bool.true_or, Bool.or_true, Bool.false_or, Bool.or_false, Bool.not_true, Bool.not_false, decide_true, decide_false, bI_t, bI_f, Bool.false_eq_true, not_true_eq_false, not_false_eq_true, eq_self, reduceCtorEq, Bool.true_eq_false, and_true, true_and, and_false, false_and, or_true, true_or, or_false, false_or] at c_56; done) | (simp only [c_36, c_41, c_46, Nat.lt_of_not_le (fun h => c_56 ((nI_leI (a := k) (b := i) (by omega) (by omega)).mpr h)), ↓reduceIte, Bool.true_and, Bool.and_true, Bool.false_and, Bool.and_false, Bool.true_or, Bool.or_true, Bool.false_or, Bool.or_false, Bool.not_true, Bool.not_false, decide_true, decide_false, bI_t, bI_f, Bool.false_eq_true, not_true_eq_false, not_false_eq_true, eq_self, reduceCtorEq, Bool.true_eq_false, and_true, true_and, and_false, false_and, or_true, true_or, or_false, false_or] at c_51; done) | (simp only [c_36, c_41, c_51, Nat.lt_of_not_le (fun h => c_56 ((nI_leI (a := k) (b := i) (by omega) (by omega)).mpr h)), ↓reduceIte, Bool.true_and, Bool.and_true, Bool.false_and, Bool.and_false, Bool.true_or, Bool.or_true, Bool.false_or, Bool.or_false, Bool.not_true, Bool.not_false, decide_true, decide_false, bI_t, bI_f, Bool.false_eq_true, not_true_eq_false, not_false_eq_true, eq_self, reduceCtorEq, Bool.true_eq_false, and_true, true_and, and_false, false_and, or_true, true_or, or_false, false_or] at c_46; done) | (simp only [c_36, c_46, c_51, Nat.lt_of_not_le (fun h => c_56 ((nI_leI (a := k) (b := i) (by omega) (by omega)).mpr h)), ↓reduceIte, Bool.true_and, Bool.and_true, Bool.false_and, Bool.and_false, Bool.true_or, Bool.or_true, Bool.false_or, Bool.or_false, Bool.not_true, Bool.not_false, decide_true, decide_false, bI_t, bI_f, Bool.false_eq_true, not_true_eq_false, not_false_eq_true, eq_self, reduceCtorEq, Bool.true_eq_false, and_true, true_and, and_false, false_and, or_true, true_or, or_false, false_or] at c_41; done) | (simp only [c_41, c_46, c_51, Nat.lt_of_not_le (fun h => c_56 ((nI_leI (a := k) (b := i) (by omega) (by omega)).mpr h)), ↓reduceIte, Bool.true_and, Bool.and_true, Bool.false_and, Bool.and_false, Bool.true_or, Bool.or_true, Bool.false_or, Bool.or_false, Bool.not_true, Bool.not_false, decide_true, decide_false, bI_t, bI_f, Bool.false_eq_true, not_true_eq_false, not_false_eq_true, eq_self, reduceCtorEq, Bool.true_eq_false, and_true, true_and, and_false, false_and, or_true, true_or, or_false, false_or] at c_36; done))
theorem dX2_isLess_0 : decode cX2_isLess 0 = .ok (.aload_n 0, 1) := by decide +kernel
theorem dX2_isLess_1 : decode cX2_isLess 1 = .ok (.getfield 20, 3) := by decide +kernel
theorem dX2_isLess_4 : decode cX2_isLess 4 = .ok (.iload_n 1, 1) := by decide +kernel
theorem dX2_isLess_5 : decode cX2_isLess 5 = .ok (.iaload, 1) := by decide +kernel
theorem dX2_isLess_6 : decode cX2_isLess 6 = .ok (.istore_n 3, 1) := by decide +kernel
theorem dX2_isLess_7 : decode cX2_isLess 7 = .ok (.aload_n 0, 1) := by decide +kernel
theorem dX2_isLess_8 : decode cX2_isLess 8 = .ok (.getfield 20, 3) := by decide +kernel
theorem dX2_isLess_11 : decode cX2_isLess 11 = .ok (.iload_n 2, 1) := by decide +kernel
theorem dX2_isLess_12 : decode cX2_isLess 12 = .ok (.iaload, 1) := by decide +kernel
theorem dX2_isLess_13 : decode cX2_isLess 13 = .ok (.istore 4, 2) := by decide +kernel
theorem dX2_isLess_15 : decode cX2_isLess 15 = .ok (.aload_n 0, 1) := by decide +kernel
theorem dX2_isLess_16 : decode cX2_isLess 16 = .ok (.getfield 13, 3) := by decide +kernel
theorem dX2_isLess_19 : decode cX2_isLess 19 = .ok (.iload_n 3, 1) := by decide +kernel
theorem dX2_isLess_20 : decode cX2_isLess 20 = .ok (.iaload, 1) := by decide +kernel
theorem dX2_isLess_21 : decode cX2_isLess 21 = .ok (.aload_n 0, 1) := by decide +kernel
theorem dX2_isLess_22 : decode cX2_isLess 22 = .ok (.getfield 13, 3) := by decide +kernel
theorem dX2_isLess_25 : decode cX2_isLess 25 = .ok (.iload 4, 2) := by decide +kernel
theorem dX2_isLess_27 : decode cX2_isLess 27 = .ok (.iaload, 1) := by decide +kernel
theorem dX2_isLess_28 : decode cX2_isLess 28 = .ok (.if_icmp .eq 27, 3) := by decide +kernel
theorem dX2_isLess_31 : decode cX2_isLess 31 = .ok (.aload_n 0, 1) := by decide +kernel
theorem dX2_isLess_32 : decode cX2_isLess 32 = .ok (.getfield 13, 3) := by decide +kernel
theorem dX2_isLess_35 : decode cX2_isLess 35 = .ok (.iload_n 3, 1) := by decide +kernel
theorem dX2_isLess_36 : decode cX2_isLess 36 = .ok (.iaload, 1) := by decide +kernel
theorem dX2_isLess_37 : decode cX2_isLess 37 = .ok (.aload_n 0, 1) := by decide +kernel
theorem dX2_isLess_38 : decode cX2_isLess 38 = .ok (.getfield 13, 3) := by decide +kernel
theorem dX2_isLess_41 : decode cX2_isLess 41 = .ok (.iload 4, 2) := by decide +kernel
theorem dX2_isLess_43 : decode cX2_isLess 43 = .ok (.iaload, 1) := by decide +kernel
theorem dX2_isLess_44 : decode cX2_isLess 44 = .ok (.if_icmp .ge 7, 3) := by decide +kernel
theorem dX2_isLess_47 : decode cX2_isLess 47 = .ok (.iconst 1, 1) := by decide +kernel
theorem dX2_isLess_48 : decode cX2_isLess 48 = .ok (.goto 57, 3) := by decide +kernel
theorem dX2_isLess_51 : decode cX2_isLess 51 = .ok (.iconst 0, 1) := by decide +kernel
theorem dX2_isLess_52 : decode cX2_isLess 52 = .ok (.goto 53, 3) := by decide +kernel
theorem dX2_isLess_55 : decode cX2_isLess 55 = .ok (.aload_n 0, 1) := by decide +kernel
theorem dX2_isLess_56 : decode cX2_isLess 56 = .ok (.getfield 17, 3) := by decide +kernel
theorem dX2_isLess_59 : decode cX2_isLess 59 = .ok (.iload_n 3, 1) := by decide +kernel
theorem dX2_isLess_60 : decode cX2_isLess 60 = .ok (.iaload, 1) := by decide +kernel
theorem dX2_isLess_61 : decode cX2_isLess 61 = .ok (.aload_n 0, 1) := by decide +kernel
theorem dX2_isLess_62 : decode cX2_isLess 62 = .ok (.getfield 17, 3) := by decide +kernel
theorem dX2_isLess_65 : decode cX2_isLess 65 = .ok (.iload 4, 2) := by decide +kernel
theorem dX2_isLess_67 : decode cX2_isLess 67 = .ok (.iaload, 1) := by decide +kernel
theorem dX2_isLess_68 : decode cX2_isLess 68 = .ok (.if_icmp .eq 27, 3) := by decide +kernel
theorem dX2_isLess_71 : decode cX2_isLess 71 = .ok (.aload_n 0, 1) := by decide +kernel
theorem dX2_isLess_72 : decode cX2_isLess 72 = .ok (.getfield 17, 3) := by decide +kernel
theorem dX2_isLess_75 : decode cX2_isLess 75 = .ok (.iload_n 3, 1) := by decide +kernel
theorem dX2_isLess_76 : decode cX2_isLess 76 = .ok (.iaload, 1) := by decide +kernel
theorem dX2_isLess_77 : decode cX2_isLess 77 = .ok (.aload_n 0, 1) := by decide +kernel
theorem dX2_isLess_78 : decode cX2_isLess 78 = .ok (.getfield 17, 3) := by decide +kernel
theorem dX2_isLess_81 : decode cX2_isLess 81 = .ok (.iload 4, 2) := by decide +kernel
theorem dX2_isLess_83 : decode cX2_isLess 83 = .ok (.iaload, 1) := by decide +kernel
theorem dX2_isLess_84 : decode cX2_isLess 84 = .ok (.if_icmp .ge 7, 3) := by decide +kernel
theorem dX2_isLess_87 : decode cX2_isLess 87 = .ok (.iconst 1, 1) := by decide +kernel
theorem dX2_isLess_88 : decode cX2_isLess 88 = .ok (.goto 17, 3) := by decide +kernel
theorem dX2_isLess_91 : decode cX2_isLess 91 = .ok (.iconst 0, 1) := by decide +kernel
theorem dX2_isLess_92 : decode cX2_isLess 92 = .ok (.goto 13, 3) := by decide +kernel
theorem dX2_isLess_95 : decode cX2_isLess 95 = .ok (.iload_n 1, 1) := by decide +kernel
theorem dX2_isLess_96 : decode cX2_isLess 96 = .ok (.iload_n 2, 1) := by decide +kernel
theorem dX2_isLess_97 : decode cX2_isLess 97 = .ok (.if_icmp .ge 7, 3) := by decide +kernel
theorem dX2_isLess_100 : decode cX2_isLess 100 = .ok (.iconst 1, 1) := by decide +kernel
theorem dX2_isLess_101 : decode cX2_isLess 101 = .ok (.goto 4, 3) := by decide +kernel
theorem dX2_isLess_104 : decode cX2_isLess 104 = .ok (.iconst 0, 1) := by decide +kernel
theorem dX2_isLess_105 : decode cX2_isLess 105 = .ok (.ireturn, 1) := by decide +kernel
set_option maxHeartbeats 4000000 in
theorem met_X2_isLess (l : Launch) (G : GG) {H : Heap} {o : Nat} {A : Nat → Nat} {σ : Sg} {th : Int32} {N i k : Nat} (hM : MW G H o A σ th) (hO : Ok σ) (hN : N ≤ σ.rn) (hr_ : HR σ N) (h_i : i < N) (h_k : k < N) : PM l yX2_isLess cX2_isLess 5 (some .boolean) 0 0 G H [.ref o, .int (nI i), .int (nI k)] (some (.int (bI (m_less (σ.rp i) (σ.rp k) i k)))) := by
  refine pm_intro pl_X2_isLess (Nat.le_of_ble_eq_true rfl) ?_
  intro pX eX sX mX belX methX cX ls hE hnm hl
  obtain ⟨hx, hb, hr, hlk, hml, hown, hts, hK, hZ, hH⟩ := hE
  have hl : lv_has ls 5 [(0, .ref o), (1, .int (nI i)), (2, .int (nI k))] := hl
  have hN31 : N < 2 ^ 31 := Nat.lt_of_le_of_lt hN hO.rn31
  refine lv_aload_n hx hb dX2_isLess_0 rfl (lv_at hl 0 rfl) ?_
  refine gf_X2_20 hx hb hts hown hK hM.1 rfl dX2_isLess_1 ?_
  refine lv_iload_n hx hb dX2_isLess_4 rfl (lv_at hl 1 rfl) ?_
  refine r_iald hx hb hK hM.2.2.2.1 dX2_isLess_5 (k := i) (hO.lt24 (Nat.lt_of_lt_of_le h_i hN)) (by decide) rfl (rI_some (hr_ _ h_i).1) ?_
  refine lv_istore_n (lv' := [(3, .int _), (0, .ref _), (1, .int _), (2, .int _)]) hx hb dX2_isLess_6 rfl hl (Nat.le_of_ble_eq_true rfl) rfl (fun ls hl => ?_)
  refine lv_aload_n hx hb dX2_isLess_7 rfl (lv_at hl 1 rfl) ?_
  refine gf_X2_20 hx hb hts hown hK hM.1 rfl dX2_isLess_8 ?_
  refine lv_iload_n hx hb dX2_isLess_11 rfl (lv_at hl 3 rfl) ?_
  refine r_iald hx hb hK hM.2.2.2.1 dX2_isLess_12 (k := k) (hO.lt24 (Nat.lt_of_lt_of_le h_k hN)) (by decide) rfl (rI_some (hr_ _ h_k).1) ?_
  refine lv_istore (lv' := [(4, .int _), (3, .int _), (0, .ref _), (1, .int _), (2, .int _)]) hx hb dX2_isLess_13 hl (Nat.le_of_ble_eq_true rfl) rfl (fun ls hl => ?_)
  refine lv_aload_n hx hb dX2_isLess_15 rfl (lv_at hl 2 rfl) ?_
  refine gf_X2_13 hx hb hts hown hK hM.1 rfl dX2_isLess_16 ?_
  refine lv_iload_n hx hb dX2_isLess_19 rfl (lv_at hl 1 rfl) ?_
  refine r_iald hx hb hK hM.2.1 dX2_isLess_20 (k := (σ.ri i)) (hO.lt60 (hr_ _ h_i).2) (by decide) rfl rfl ?_
  refine lv_aload_n hx hb dX2_isLess_21 rfl (lv_at hl 2 rfl) ?_
  refine gf_X2_13 hx hb hts hown hK hM.1 rfl dX2_isLess_22 ?_
  refine lv_iload hx hb dX2_isLess_25 (lv_at hl 0 rfl) ?_
  refine r_iald hx hb hK hM.2.1 dX2_isLess_27 (k := (σ.ri k)) (hO.lt60 (hr_ _ h_k).2) (by decide) rfl rfl ?_
  refine lv_icmp_eq (tgt := 55) hx hb dX2_isLess_28 rfl (fun c_28 => ?_) (fun c_28 => ?_)
  · skip
    refine lv_aload_n hx hb dX2_isLess_55 rfl (lv_at hl 2 rfl) ?_
    refine gf_X2_17 hx hb hts hown hK hM.1 rfl dX2_isLess_56 ?_
    refine lv_iload_n hx hb dX2_isLess_59 rfl (lv_at hl 1 rfl) ?_
    refine r_iald hx hb hK hM.2.2.1 dX2_isLess_60 (k := (σ.ri i)) (hO.lt60 (hr_ _ h_i).2) (by decide) rfl rfl ?_
    refine lv_aload_n hx hb dX2_isLess_61 rfl (lv_at hl 2 rfl) ?_
    refine gf_X2_17 hx hb hts hown hK hM.1 rfl dX2_isLess_62 ?_
    refine lv_iload hx hb dX2_isLess_65 (lv_at hl 0 rfl) ?_
    refine r_iald hx hb hK hM.2.2.1 dX2_isLess_67 (k := (σ.ri k)) (hO.lt60 (hr_ _ h_k).2) (by decide) rfl rfl ?_
    refine lv_icmp_eq (tgt := 95) hx hb dX2_isLess_68 rfl (fun c_68 => ?_) (fun c_68 => ?_)
    · skip
      refine lv_iload_n hx hb dX2_isLess_95 rfl (lv_at hl 3 rfl) ?_
      refine lv_iload_n hx hb dX2_isLess_96 rfl (lv_at hl 4 rfl) ?_
      refine lv_icmp_ge (tgt := 104) hx hb dX2_isLess_97 rfl (fun c_97 => ?_) (fun c_97 => ?_)
      · skip
        refine lv_iconst (v := 0) hx hb dX2_isLess_104 ic_0 ?_
        exact pm_zret hx hb hr hlk hH dX2_isLess_105 (by first | with_reducible rfl | (simp only [m_less, eq_true c_28, eq_true c_68, Nat.not_lt.mpr ((nI_leI (a := k) (b := i) (by omega) (by omega)).mp c_97), ↓reduceIte, Bool.true_and, Bool.and_true, Bool.false_and, Bool.and_false, Bool.true_or, Bool.or_true, Bool.false_or, Bool.or_false, Bool.not_true, Bool.not_false, decide_true, decide_false, bI_t, bI_f, Bool.false_eq_true, not_true_eq_false, not_false_eq_true, eq_self, reduceCtorEq, Bool.true_eq_false, and_true, true_and, and_false, false_and, or_true, true_or, or_false, false_or]; done) | (simp only [eq_true c_28, eq_true c_68, ↓reduceIte, Bool.true_and, Bool.and_true, Bool.false_and, Bool.and_false, Bool.true_or, Bool.or_true, Bool.false_or, Bool.or_false, Bool.not_true, Bool.not_false, decide_true, decide_false, bI_t, bI_f, Bool.false_eq_true, not_true_eq_false, not_false_eq_true, eq_self, reduceCtorEq, Bool.true_eq_false, and_true, true_and, and_false, false_and, or_true, true_or, or_false, false_or] at c_97; done) | (simp only [eq_true c_28, Nat.not_lt.mpr ((nI_leI (a := k) (b := i) (by omega) (by omega)).mp c_97), ↓reduceIte, Bool.true_and, Bool.and_true, Bool.false_and, Bool.and_false, Bool.true_or, Bool.or_true, Bool.false_or, Bool.or_false, Bool.not_true, Bool.not_false, decide_true, decide_false, bI_t, bI_f, Bool.false_eq_true, not_true_eq_false, not_false_eq_true, eq_self, reduceCtorEq, Bool.true_eq_false, and_true, true_and, and_false, false_and, or_true, true_or, or_false, false_or] at c_68; done) | (simp only [eq_true c_68, Nat.not_lt.mpr ((nI_leI (a := k) (b := i) (by omega) (by omega)).mp c_97), ↓reduceIte, Bool.true_and, Bool.and_true, Bool.false_and, Bool.and_false, Bool.true_or, Bool.or_true, Bool.false_or, Bool.or_false, Bool.not_true, Bool.not_false, decide_true, decide_false, bI_t, bI_f, Bool.false_eq_true, not_true_eq_false, not_false_eq_true, eq_self, reduceCtorEq, Bool.true_eq_false, and_true, true_and, and_false, false_and, or_true, true_or, or_false, false_or] at c_28; done))
      refine lv_iconst (v := 1) hx hb dX2_isLess_100 ic_1 ?_
      refine lv_goto (tgt := 105) hx hb dX2_isLess_101 rfl ?_
      exact pm_zret hx hb hr hlk hH dX2_isLess_105 (by first | with_reducible rfl | (simp only [m_less, eq_true c_28, eq_true c_68, Nat.lt_of_not_le (fun h => c_97 ((nI_leI (a := k) (b := i) (by omega) (by omega)).mpr h)), ↓reduceIte, Bool.true_and, Bool.and_true, Bool.false_and, Bool.and_false, Bool.true_or, Bool.or_true, Bool.false_or, Bool.or_false, Bool.not_true, Bool.not_false, decide_true, decide_false, bI_t, bI_f, Bool.false_eq_true, not_true_eq_false, not_false_eq_true, eq_self, reduceCtorEq, Bool.true_eq_false, and_true, true_and, and_false, false_and, or_true, true_or, or_false, false_or]; done) | (simp only [eq_true c_28, eq_true c_68, ↓reduceIte, Bool.true_and, Bool.and_true, Bool.false_and, Bool.and_false, Bool.true_or, Bool.or_true, Bool.false_or, Bool.or_false, Bool.not_true, Bool.not_false, decide_true, decide_false, bI_t, bI_f, Bool.false_eq_true, not_true_eq_false, not_false_eq_true, eq_self, reduceCtorEq, Bool.true_eq_false, and_true, true_and, and_false, false_and, or_true, true_or, or_false, false_or] at c_97; done) | (simp only [eq_true c_28, Nat.lt_of_not_le (fun h => c_97 ((nI_leI (a := k) (b := i) (by omega) (by omega)).mpr h)), ↓reduceIte, Bool.true_and, Bool.and_true, Bool.false_and, Bool.and_false, Bool.true_or, Bool.or_true, Bool.false_or, Bool.or_false, Bool.not_true, Bool.not_false, decide_true, decide_false, bI_t, bI_f, Bool.false_eq_true, not_true_eq_false, not_false_eq_true, eq_self, reduceCtorEq, Bool.true_eq_false, and_true, true_and, and_false, false_and, or_true, true_or, or_false, false_or] at c_68; done) | (simp only [eq_true c_68, Nat.lt_of_not_le (fun h => c_97 ((nI_leI (a := k) (b := i) (by omega) (by omega)).mpr h)), ↓reduceIte, Bool.true_and, Bool.and_true, Bool.false_and, Bool.and_false, Bool.true_or, Bool.or_true, Bool.false_or, Bool.or_false, Bool.not_true, Bool.not_false, decide_true, decide_false, bI_t, bI_f, Bool.false_eq_true, not_true_eq_false, not_false_eq_true, eq_self, reduceCtorEq, Bool.true_eq_false, and_true, true_and, and_false, false_and, or_true, true_or, or_false, false_or] at c_28; done))
    refine lv_aload_n hx hb dX2_isLess_71 rfl (lv_at hl 2 rfl) ?_
    refine gf_X2_17 hx hb hts hown hK hM.1 rfl dX2_isLess_72 ?_
    refine lv_iload_n hx hb dX2_isLess_75 rfl (lv_at hl 1 rfl) ?_
    refine r_iald hx hb hK hM.2.2.1 dX2_isLess_76 (k := (σ.ri i)) (hO.lt60 (hr_ _ h_i).2) (by decide) rfl rfl ?_
    refine lv_aload_n hx hb dX2_isLess_77 rfl (lv_at hl 2 rfl) ?_
    refine gf_X2_17 hx hb hts hown hK hM.1 rfl dX2_isLess_78 ?_
    refine lv_iload hx hb dX2_isLess_81 (lv_at hl 0 rfl) ?_
    refine r_iald hx hb hK hM.2.2.1 dX2_isLess_83 (k := (σ.ri k)) (hO.lt60 (hr_ _ h_k).2) (by decide) rfl rfl ?_
    refine lv_icmp_ge (tgt := 91) hx hb dX2_isLess_84 rfl (fun c_84 => ?_) (fun c_84 => ?_)
    · skip
      refine lv_iconst (v := 0) hx hb dX2_isLess_91 ic_0 ?_
      refine lv_goto (tgt := 105) hx hb dX2_isLess_92 rfl ?_
      exact pm_zret hx hb hr hlk hH dX2_isLess_105 (by first | with_reducible rfl | (simp only [m_less, eq_true c_28, c_68, c_84, Int32.not_lt.mpr c_84, ↓reduceIte, Bool.true_and, Bool.and_true, Bool.false_and, Bool.and_false, Bool.true_or, Bool.or_true, Bool.false_or, Bool.or_false, Bool.not_true, Bool.not_false, decide_true, decide_false, bI_t, bI_f, Bool.false_eq_true, not_true_eq_false, not_false_eq_true, eq_self, reduceCtorEq, Bool.true_eq_false, and_true, true_and, and_false, false_and, or_true, true_or, or_false, false_or]; done) | (simp only [eq_true c_28, c_68, ↓reduceIte, Bool.true_and, Bool.and_true, Bool.false_and, Bool.and_false, Bool.true_or, Bool.or_true, Bool.false_or, Bool.or_false, Bool.not_true, Bool.not_false, decide_true, decide_false, bI_t, bI_f, Bool.false_eq_true, not_true_eq_false, not_false_eq_true, eq_self, reduceCtorEq, Bool.true_eq_false, and_true, true_and, and_false, false_and, or_true, true_or, or_false, false_or] at c_84; done) | (simp only [eq_true c_28, c_84, Int32.not_lt.mpr c_84, ↓reduceIte, Bool.true_and, Bool.and_true, Bool.false_and, Bool.and_false, Bool.true_or, Bool.or_true, Bool.false_or, Bool.or_false, Bool.not_true, Bool.not_false, decide_true, decide_false, bI_t, bI_f, Bool.false_eq_true, not_true_eq_false, not_false_eq_true, eq_self, reduceCtorEq, Bool.true_eq_false, and_true, true_and, and_false, false_and, or_true, true_or, or_false, false_or] at c_68; done) | (simp only [c_68, c_84, Int32.not_lt.mpr c_84, ↓reduceIte, Bool.true_and, Bool.and_true, Bool.false_and, Bool.and_false, Bool.true_or, Bool.or_true, Bool.false_or, Bool.or_false, Bool.not_true, Bool.not_false, decide_true, decide_false, bI_t, bI_f, Bool.false_eq_true, not_true_eq_false, not_false_eq_true, eq_self, reduceCtorEq, Bool.true_eq_false, and_true, true_and, and_false, false_and, or_true, true_or, or_false, false_or] at c_28; done))
    refine lv_iconst (v := 1) hx hb dX2_isLess_87 ic_1 ?_
    refine lv_goto (tgt := 105) hx hb dX2_isLess_88 rfl ?_
    exact pm_zret hx hb hr hlk hH dX2_isLess_105 (by first | with_reducible rfl | (simp only [m_less, eq_true c_28, c_68, c_84, Int32.not_le.mp c_84, ↓reduceIte, Bool.true_and, Bool.and_true, Bool.false_and, Bool.and_false, Bool.true_or, Bool.or_true, Bool.false_or, Bool.or_false, Bool.not_true, Bool.not_false, decide_true, decide_false, bI_t, bI_f, Bool.false_eq_true, not_true_eq_false, not_false_eq_true, eq_self, reduceCtorEq, Bool.true_eq_false, and_true, true_and, and_false, false_and, or_true, true_or, or_false, false_or]; done) | (simp only [eq_true c_28, c_68, ↓reduceIte, Bool.true_and, Bool.and_true, Bool.false_and, Bool.and_false, Bool.true_or, Bool.or_true, Bool.false_or, Bool.or_false, Bool.not_true, Bool.not_false, decide_true, decide_false, bI_t, bI_f, Bool.false_eq_true, not_true_eq_false, not_false_eq_true, eq_self, reduceCtorEq, Bool.true_eq_false, and_true, true_and, and_false, false_and, or_true, true_or, or_false, false_or] at c_84; done) | (simp only [eq_true c_28, c_84, Int32.not_le.mp c_84, ↓reduceIte, Bool.true_and, Bool.and_true, Bool.false_and, Bool.and_false, Bool.true_or, Bool.or_true, Bool.false_or, Bool.or_false, Bool.not_true, Bool.not_false, decide_true, decide_false, bI_t, bI_f, Bool.false_eq_true, not_true_eq_false, not_false_eq_true, eq_self, reduceCtorEq, Bool.true_eq_false, and_true, true_and, and_false, false_and, or_true, true_or, or_false, false_or] at c_68; done) | (simp only [c_68, c_84, Int32.not_le.mp c_84, ↓reduceIte, Bool.true_and, Bool.and_true, Bool.false_and, Bool.and_false, Bool.true_or, Bool.or_true, Bool.false_or, Bool.or_false, Bool.not_true, Bool.not_false, decide_true, decide_false, bI_t, bI_f, Bool.false_eq_true, not_true_eq_false, not_false_eq_true, eq_self, reduceCtorEq, Bool.true_eq_false, and_true, true_and, and_false, false_and, or_true, true_or, or_false, false_or] at c_28; done))
  refine lv_aload_n hx hb dX2_isLess_31 rfl (lv_at hl 2 rfl) ?_
  refine gf_X2_13 hx hb hts hown hK hM.1 rfl dX2_isLess_32 ?_
  refine lv_iload_n hx hb dX2_isLess_35 rfl (lv_at hl 1 rfl) ?_
  refine r_iald hx hb hK hM.2.1 dX2_isLess_36 (k := (σ.ri i)) (hO.lt60 (hr_ _ h_i).2) (by decide) rfl rfl ?_
  refine lv_aload_n hx hb dX2_isLess_37 rfl (lv_at hl 2 rfl) ?_
  refine gf_X2_13 hx hb hts hown hK hM.1 rfl dX2_isLess_38 ?_
  refine lv_iload hx hb dX2_isLess_41 (lv_at hl 0 rfl) ?_
  refine r_iald hx hb hK hM.2.1 dX2_isLess_43 (k := (σ.ri k)) (hO.lt60 (hr_ _ h_k).2) (by decide) rfl rfl ?_
  refine lv_icmp_ge (tgt := 51) hx hb dX2_isLess_44 rfl (fun c_44 => ?_) (fun c_44 => ?_)
  · skip
    refine lv_iconst (v := 0) hx hb dX2_isLess_51 ic_0 ?_
    refine lv_goto (tgt := 105) hx hb dX2_isLess_52 rfl ?_
    exact pm_zret hx hb hr hlk hH dX2_isLess_105 (by first | with_reducible rfl | (simp only [m_less, c_28, c_44, Int32.not_lt.mpr c_44, ↓reduceIte, Bool.true_and, Bool.and_true, Bool.false_and, Bool.and_false, Bool.true_or, Bool.or_true, Bool.false_or, Bool.or_false, Bool.not_true, Bool.not_false, decide_true, decide_false, bI_t, bI_f, Bool.false_eq_true, not_true_eq_false, not_false_eq_true, eq_self, reduceCtorEq, Bool.true_eq_false, and_true, true_and, and_false, false_and, or_true, true_or, or_false, false_or]; done) | (simp only [c_28, ↓reduceIte, Bool.true_and, Bool.and_true, Bool.false_and, Bool.and_false, Bool.true_or, Bool.or_true, Bool.false_or, Bool.or_false, Bool.not_true, Bool.not_false, decide_true, decide_false, bI_t, bI_f, Bool.false_eq_true, not_true_eq_false, not_false_eq_true, eq_self, reduceCtorEq, Bool.true_eq_false, and_true, true_and, and_false, false_and, or_true, true_or, or_false, false_or] at c_44; done) | (simp only [c_44, Int32.not_lt.mpr c_44, ↓reduceIte, Bool.true_and, Bool.and_true, Bool.false_and, Bool.and_false, Bool.true_or, Bool.or_true, Bool.false_or, Bool.or_false, Bool.not_true, Bool.not_false, decide_true, decide_false, bI_t, bI_f, Bool.false_eq_true, not_true_eq_false, not_false_eq_true, eq_self, reduceCtorEq, Bool.true_eq_false, and_true, true_and, and_false, false_and, or_true, true_or, or_false, false_or] at c_28; done))
  refine lv_iconst (v := 1) hx hb dX2_isLess_47 ic_1 ?_
  refine lv_goto (tgt := 105) hx hb dX2_isLess_48 rfl ?_
  exact pm_zret hx hb hr hlk hH dX2_isLess_105 (by first | with_reducible rfl | (simp only [m_less, c_28, c_44, Int32.not_le.mp c_44, ↓reduceIte, Bool.true_and, Bool.and_true, Bool.false_and, Bool.and_false, Bool.true_or, Bool.or_true, Bool.false_or, Bool.or_false, Bool.not_true, Bool.not_false, decide_true, decide_false, bI_t, bI_f, Bool.false_eq_true, not_true_eq_false, not_false_eq_true, eq_self, reduceCtorEq, Bool.true_eq_false, and_true, true_and, and_false, false_and, or_true, true_or, or_false, false_or]; done) | (simp only [c_28, ↓reduceIte, Bool.true_and, Bool.and_true, Bool.false_and, Bool.and_false, Bool.true_or, Bool.or_true, Bool.false_or, Bool.or_false, Bool.not_true, Bool.not_false, decide_true, decide_false, bI_t, bI_f, Bool.false_eq_true, not_true_eq_false, not_false_eq_true, eq_self, reduceCtorEq, Bool.true_eq_false, and_true, true_and, and_false, false_and, or_true, true_or, or_false, false_or] at c_44; done) | (simp only [c_44, Int32.not_le.mp c_44, ↓reduceIte, Bool.true_and, Bool.and_true, Bool.false_and, Bool.and_false, Bool.true_or, Bool.or_true, Bool.false_or, Bool.or_false, Bool.not_true, Bool.not_false, decide_true, decide_false, bI_t, bI_f, Bool.false_eq_true, not_true_eq_false, not_false_eq_true, eq_self, reduceCtorEq, Bool.true_eq_false, and_true, true_and, and_false, false_and, or_true, true_or, or_false, false_or] at c_28; done))
theorem dX2_around_0 : decode cX2_around 0 = .ok (.aload_n 0, 1) := by decide +kernel
theorem dX2_around_1 : decode cX2_around 1 = .ok (.iload_n 1, 1) := by decide +kernel
theorem dX2_around_2 : decode cX2_around 2 = .ok (.invokevirtual 69, 3) := by decide +kernel
theorem dX2_around_5 : decode cX2_around 5 = .ok (.ifCond .eq 21, 3) := by decide +kernel
theorem dX2_around_8 : decode cX2_around 8 = .ok (.aload_n 0, 1) := by decide +kernel
theorem dX2_around_9 : decode cX2_around 9 = .ok (.iload_n 2, 1) := by decide +kernel
theorem dX2_around_10 : decode cX2_around 10 = .ok (.iconst 1, 1) := by decide +kernel
theorem dX2_around_11 : decode cX2_around 11 = .ok (.invokevirtual 139, 3) := by decide +kernel
theorem dX2_around_14 : decode cX2_around 14 = .ok (.ifCond .eq 12, 3) := by decide +kernel
theorem dX2_around_17 : decode cX2_around 17 = .ok (.iload_n 3, 1) := by decide +kernel
theorem dX2_around_18 : decode cX2_around 18 = .ok (.ifCond .lt 8, 3) := by decide +kernel
theorem dX2_around_21 : decode cX2_around 21 = .ok (.iload_n 3, 1) := by decide +kernel
theorem dX2_around_22 : decode cX2_around 22 = .ok (.iload_n 2, 1) := by decide +kernel
theorem dX2_around_23 : decode cX2_around 23 = .ok (.if_icmp .lt 6, 3) := by decide +kernel
theorem dX2_around_26 : decode cX2_around 26 = .ok (.bipush (-2), 2) := by decide +kernel
theorem dX2_around_28 : decode cX2_around 28 = .ok (.ireturn, 1) := by decide +kernel
theorem dX2_around_29 : decode cX2_around 29 = .ok (.aload_n 0, 1) := by decide +kernel
theorem dX2_around_30 : decode cX2_around 30 = .ok (.iload_n 2, 1) := by decide +kernel
theorem dX2_around_31 : decode cX2_around 31 = .ok (.invokevirtual 142, 3) := by decide +kernel
theorem dX2_around_34 : decode cX2_around 34 = .ok (.ifCond .ne 6, 3) := by decide +kernel
theorem dX2_around_37 : decode cX2_around 37 = .ok (.bipush (-4), 2) := by decide +kernel
theorem dX2_around_39 : decode cX2_around 39 = .ok (.ireturn, 1) := by decide +kernel
theorem dX2_around_40 : decode cX2_around 40 = .ok (.iconst (-1), 1) := by decide +kernel
theorem dX2_around_41 : decode cX2_around 41 = .ok (.istore 4, 2) := by decide +kernel
theorem dX2_around_43 : decode cX2_around 43 = .ok (.iconst 0, 1) := by decide +kernel
theorem dX2_around_44 : decode cX2_around 44 = .ok (.istore 5, 2) := by decide +kernel
theorem dX2_around_46 : decode cX2_around 46 = .ok (.iload 5, 2) := by decide +kernel
theorem dX2_around_48 : decode cX2_around 48 = .ok (.iload_n 2, 1) := by decide +kernel
theorem dX2_around_49 : decode cX2_around 49 = .ok (.if_icmp .ge 71, 3) := by decide +kernel
theorem dX2_around_52 : decode cX2_around 52 = .ok (.iconst 0, 1) := by decide +kernel
theorem dX2_around_53 : decode cX2_around 53 = .ok (.istore 6, 2) := by decide +kernel
theorem dX2_around_55 : decode cX2_around 55 = .ok (.iconst 0, 1) := by decide +kernel
theorem dX2_around_56 : decode cX2_around 56 = .ok (.istore 7, 2) := by decide +kernel
theorem dX2_around_58 : decode cX2_around 58 = .ok (.iload 7, 2) := by decide +kernel
theorem dX2_around_60 : decode cX2_around 60 = .ok (.iload_n 2, 1) := by decide +kernel
theorem dX2_around_61 : decode cX2_around 61 = .ok (.if_icmp .ge 38, 3) := by decide +kernel
theorem dX2_around_64 : decode cX2_around 64 = .ok (.iload 6, 2) := by decide +kernel
theorem dX2_around_66 : decode cX2_around 66 = .ok (.iload 7, 2) := by decide +kernel
theorem dX2_around_68 : decode cX2_around 68 = .ok (.iload 5, 2) := by decide +kernel
theorem dX2_around_70 : decode cX2_around 70 = .ok (.if_icmp .eq 19, 3) := by decide +kernel
theorem dX2_around_73 : decode cX2_around 73 = .ok (.aload_n 0, 1) := by decide +kernel
theorem dX2_around_74 : decode cX2_around 74 = .ok (.iload_n 1, 1) := by decide +kernel
theorem dX2_around_75 : decode cX2_around 75 = .ok (.iload 7, 2) := by decide +kernel
theorem dX2_around_77 : decode cX2_around 77 = .ok (.iload 5, 2) := by decide +kernel
theorem dX2_around_79 : decode cX2_around 79 = .ok (.invokevirtual 162, 3) := by decide +kernel
theorem dX2_around_82 : decode cX2_around 82 = .ok (.ifCond .eq 7, 3) := by decide +kernel
theorem dX2_around_85 : decode cX2_around 85 = .ok (.iconst 1, 1) := by decide +kernel
theorem dX2_around_86 : decode cX2_around 86 = .ok (.goto 4, 3) := by decide +kernel
theorem dX2_around_89 : decode cX2_around 89 = .ok (.iconst 0, 1) := by decide +kernel
theorem dX2_around_90 : decode cX2_around 90 = .ok (.iadd, 1) := by decide +kernel
theorem dX2_around_91 : decode cX2_around 91 = .ok (.istore 6, 2) := by decide +kernel
theorem dX2_around_93 : decode cX2_around 93 = .ok (.iinc 7 1, 3) := by decide +kernel
theorem dX2_around_96 : decode cX2_around 96 = .ok (.goto (-38), 3) := by decide +kernel
theorem dX2_around_99 : decode cX2_around 99 = .ok (.iload 6, 2) := by decide +kernel
theorem dX2_around_101 : decode cX2_around 101 = .ok (.iload_n 3, 1) := by decide +kernel
theorem dX2_around_102 : decode cX2_around 102 = .ok (.if_icmp .ne 8, 3) := by decide +kernel
theorem dX2_around_105 : decode cX2_around 105 = .ok (.iload 5, 2) := by decide +kernel
theorem dX2_around_107 : decode cX2_around 107 = .ok (.goto 5, 3) := by decide +kernel
theorem dX2_around_110 : decode cX2_around 110 = .ok (.iload 4, 2) := by decide +kernel
theorem dX2_around_112 : decode cX2_around 112 = .ok (.istore 4, 2) := by decide +kernel
theorem dX2_around_114 : decode cX2_around 114 = .ok (.iinc 5 1, 3) := by decide +kernel
theorem dX2_around_117 : decode cX2_around 117 = .ok (.goto (-71), 3) := by decide +kernel
theorem dX2_around_120 : decode cX2_around 120 = .ok (.iload 4, 2) := by decide +kernel
theorem dX2_around_122 : decode cX2_around 122 = .ok (.ireturn, 1) := by decide +kernel
set_option maxHeartbeats 4000000 in
theorem met_X2_around (l : Launch) (G : GG) {H : Heap} {o : Nat} {A : Nat → Nat} {σ : Sg} {th : Int32} {c0 n i : Int32} (hM : MW G H o A σ th) (hO : Ok σ) : PM l yX2_around cX2_around 8 (some .int) 3 73 G H [.ref o, .int c0, .int n, .int i] (some (.int (pubA σ c0 n i (fun z i k => m_ah z (σ.rp i) (σ.rp k) i k)))) := by
  refine pm_intro pl_X2_around (Nat.le_of_ble_eq_true rfl) ?_
  intro pX eX sX mX belX methX cX ls hE hnm hl
  obtain ⟨hx, hb, hr, hlk, hml, hown, hts, hK, hZ, hH⟩ := hE
  have hl : lv_has ls 8 [(0, .ref o), (1, .int c0), (2, .int n), (3, .int i)] := hl
  refine lv_aload_n hx hb dX2_around_0 rfl (lv_at hl 0 rfl) ?_
  refine lv_iload_n hx hb dX2_around_1 rfl (lv_at hl 1 rfl) ?_
  refine p_callV (As := [.int _]) hx hb hml hown hts hK hZ (met_X2_isPoint l G hM) q728 q730 qs13 q43 q731 hv_X2_isPoint rfl hM.1 rfl (by decide) hl.1 rfl (Nat.le_of_ble_eq_true rfl) dX2_around_2 ⟨Nat.zero_le _, Nat.zero_le _⟩ ?_
  refine b_ifeq (tgt := 26) hx hb dX2_around_5 rfl (fun c_5 => ?_) (fun c_5 => ?_)
  · skip
    refine lv_bipush (v := -2) hx hb dX2_around_26 ib_m2 ?_
    exact pm_iret hx hb hr hlk hH dX2_around_28 (by first | with_reducible rfl | (simp only [pubA, inR, c_5, ↓reduceIte, Bool.true_and, Bool.and_true, Bool.false_and, Bool.and_false, Bool.true_or, Bool.or_true, Bool.false_or, Bool.or_false, Bool.not_true, Bool.not_false, decide_true, decide_false, bI_t, bI_f, Bool.false_eq_true, not_true_eq_false, not_false_eq_true, eq_self, reduceCtorEq, Bool.true_eq_false, and_true, true_and, and_false, false_and, or_true, true_or, or_false, false_or]; done))
  obtain ⟨c0_, i_c0, rfl⟩ := isPt_elim hO.1.1 c_5
  refine lv_aload_n hx hb dX2_around_8 rfl (lv_at hl 0 rfl) ?_
  refine lv_iload_n hx hb dX2_around_9 rfl (lv_at hl 2 rfl) ?_
  refine lv_iconst (v := 1) hx hb dX2_around_10 ic_1 ?_
  refine p_callV (As := [.int _, .int _]) hx hb hml hown hts hK hZ (met_X2_isMany l G hM) q840 q842 qs28 q43 q843 hv_X2_isMany rfl hM.1 rfl (by decide) hl.1 rfl (Nat.le_of_ble_eq_true rfl) dX2_around_11 ⟨Nat.zero_le _, Nat.zero_le _⟩ ?_
  refine b_ifeq (tgt := 26) hx hb dX2_around_14 rfl (fun c_14 => ?_) (fun c_14 => ?_)
  · skip
    refine lv_bipush (v := -2) hx hb dX2_around_26 ib_m2 ?_
    exact pm_iret hx hb hr hlk hH dX2_around_28 (by first | with_reducible rfl | (simp only [pubA, inR, c_5, hO.ix i_c0, c_14, ↓reduceIte, Bool.true_and, Bool.and_true, Bool.false_and, Bool.and_false, Bool.true_or, Bool.or_true, Bool.false_or, Bool.or_false, Bool.not_true, Bool.not_false, decide_true, decide_false, bI_t, bI_f, Bool.false_eq_true, not_true_eq_false, not_false_eq_true, eq_self, reduceCtorEq, Bool.true_eq_false, and_true, true_and, and_false, false_and, or_true, true_or, or_false, false_or]; done) | (simp only [c_5, hO.ix i_c0, ↓reduceIte, Bool.true_and, Bool.and_true, Bool.false_and, Bool.and_false, Bool.true_or, Bool.or_true, Bool.false_or, Bool.or_false, Bool.not_true, Bool.not_false, decide_true, decide_false, bI_t, bI_f, Bool.false_eq_true, not_true_eq_false, not_false_eq_true, eq_self, reduceCtorEq, Bool.true_eq_false, and_true, true_and, and_false, false_and, or_true, true_or, or_false, false_or] at c_14; done) | (simp only [hO.ix i_c0, c_14, ↓reduceIte, Bool.true_and, Bool.and_true, Bool.false_and, Bool.and_false, Bool.true_or, Bool.or_true, Bool.false_or, Bool.or_false, Bool.not_true, Bool.not_false, decide_true, decide_false, bI_t, bI_f, Bool.false_eq_true, not_true_eq_false, not_false_eq_true, eq_self, reduceCtorEq, Bool.true_eq_false, and_true, true_and, and_false, false_and, or_true, true_or, or_false, false_or] at c_5; done))
  obtain ⟨N, hN, rfl, hge⟩ := many_elim (by decide) hO.rn31 c_14
  have hN31 : N < 2 ^ 31 := Nat.lt_of_le_of_lt hN hO.rn31
  have e1_ : (1 : Int32).toInt = 1 := rfl
  have e3_ : (3 : Int32).toInt = 3 := rfl
  have hpos : 0 < N := by omega
  refine lv_iload_n hx hb dX2_around_17 rfl (lv_at hl 3 rfl) ?_
  refine lv_if_lt (tgt := 26) hx hb dX2_around_18 rfl (fun c_18 => ?_) (fun c_18 => ?_)
  · skip
    refine lv_bipush (v := -2) hx hb dX2_around_26 ib_m2 ?_
    exact pm_iret hx hb hr hlk hH dX2_around_28 (by first | with_reducible rfl | (simp only [pubA, inR, c_5, hO.ix i_c0, c_14, ixn hN31, c_18, Int32.not_le.mpr c_18, ↓reduceIte, Bool.true_and, Bool.and_true, Bool.false_and, Bool.and_false, Bool.true_or, Bool.or_true, Bool.false_or, Bool.or_false, Bool.not_true, Bool.not_false, decide_true, decide_false, bI_t, bI_f, Bool.false_eq_true, not_true_eq_false, not_false_eq_true, eq_self, reduceCtorEq, Bool.true_eq_false, and_true, true_and, and_false, false_and, or_true, true_or, or_false, false_or]; done) | (simp only [c_5, hO.ix i_c0, c_14, ixn hN31, ↓reduceIte, Bool.true_and, Bool.and_true, Bool.false_and, Bool.and_false, Bool.true_or, Bool.or_true, Bool.false_or, Bool.or_false, Bool.not_true, Bool.not_false, decide_true, decide_false, bI_t, bI_f, Bool.false_eq_true, not_true_eq_false, not_false_eq_true, eq_self, reduceCtorEq, Bool.true_eq_false, and_true, true_and, and_false, false_and, or_true, true_or, or_false, false_or] at c_18; done) | (simp only [c_5, hO.ix i_c0, ixn hN31, c_18, Int32.not_le.mpr c_18, ↓reduceIte, Bool.true_and, Bool.and_true, Bool.false_and, Bool.and_false, Bool.true_or, Bool.or_true, Bool.false_or, Bool.or_false, Bool.not_true, Bool.not_false, decide_true, decide_false, bI_t, bI_f, Bool.false_eq_true, not_true_eq_false, not_false_eq_true, eq_self, reduceCtorEq, Bool.true_eq_false, and_true, true_and, and_false, false_and, or_true, true_or, or_false, false_or] at c_14; done) | (simp only [hO.ix i_c0, c_14, ixn hN31, c_18, Int32.not_le.mpr c_18, ↓reduceIte, Bool.true_and, Bool.and_true, Bool.false_and, Bool.and_false, Bool.true_or, Bool.or_true, Bool.false_or, Bool.or_false, Bool.not_true, Bool.not_false, decide_true, decide_false, bI_t, bI_f, Bool.false_eq_true, not_true_eq_false, not_false_eq_true, eq_self, reduceCtorEq, Bool.true_eq_false, and_true, true_and, and_false, false_and, or_true, true_or, or_false, false_or] at c_5; done))
  refine lv_iload_n hx hb dX2_around_21 rfl (lv_at hl 3 rfl) ?_
  refine lv_iload_n hx hb dX2_around_22 rfl (lv_at hl 2 rfl) ?_
  refine lv_icmp_lt (tgt := 29) hx hb dX2_around_23 rfl (fun c_23 => ?_) (fun c_23 => ?_)
  · skip
    refine lv_aload_n hx hb dX2_around_29 rfl (lv_at hl 0 rfl) ?_
    refine lv_iload_n hx hb dX2_around_30 rfl (lv_at hl 2 rfl) ?_
    refine p_callV (As := [.int _]) hx hb hml hown hts hK hZ (met_X2_isWhole l G hM hO hN) q844 q846 qs29 q43 q847 hv_X2_isWhole rfl hM.1 rfl (by decide) hl.1 rfl (Nat.le_of_ble_eq_true rfl) dX2_around_31 ⟨Nat.zero_le _, Nat.zero_le _⟩ ?_
    refine b_ifne (tgt := 40) hx hb dX2_around_34 rfl (fun c_34 => ?_) (fun c_34 => ?_)
    · skip
      have hr_ := HR.of hO c_34
      refine lv_iconst (v := -1) hx hb dX2_around_40 ic_m1 ?_
      refine lv_istore (lv' := [(4, .int _), (0, .ref _), (1, .int _), (2, .int _), (3, .int _)]) hx hb dX2_around_41 hl (Nat.le_of_ble_eq_true rfl) rfl (fun ls hl => ?_)
      refine lv_iconst (v := 0) hx hb dX2_around_43 ic_0 ?_
      refine lv_istore (lv' := [(5, .int _), (4, .int _), (0, .ref _), (1, .int _), (2, .int _), (3, .int _)]) hx hb dX2_around_44 hl (Nat.le_of_ble_eq_true rfl) rfl (fun ls hl => ?_)
      refine loopW (N := N) (nL := 8) (lv := fun k => [(0, .ref o), (1, .int (nI c0_)), (2, .int (nI N)), (3, .int i), (4, .int (plF (fun i k => m_ah (σ.pt c0_) (σ.rp i) (σ.rp k) i k) N i k)), (5, .int (nI k))]) (fun k hk_k ih_k ls hl => ?_) 0 (Nat.zero_le _) ls (lv_sub hl [2, 3, 4, 5, 1, 0] rfl)
      replace hl : lv_has ls 8 [(0, .ref o), (1, .int (nI c0_)), (2, .int (nI N)), (3, .int i), (4, .int (plF (fun i k => m_ah (σ.pt c0_) (σ.rp i) (σ.rp k) i k) N i k)), (5, .int (nI k))] := hl
      refine lv_iload hx hb dX2_around_46 (lv_at hl 5 rfl) ?_
      refine lv_iload_n hx hb dX2_around_48 rfl (lv_at hl 2 rfl) ?_
      refine lv_icmp_ge (tgt := 120) hx hb dX2_around_49 rfl (fun c_49_5 => ?_) (fun c_49_5 => ?_)
      · skip
        have e_k := lp_out hk_k hN31 c_49_5
        subst e_k
        refine lv_iload hx hb dX2_around_120 (lv_at hl 4 rfl) ?_
        exact pm_iret hx hb hr hlk hH dX2_around_122 (by first | with_reducible rfl | (simp only [pubA, inR, c_5, hO.ix i_c0, c_14, ixn hN31, c_18, Int32.not_lt.mp c_18, c_23, Int32.not_le.mpr c_23, c_34, ↓reduceIte, Bool.true_and, Bool.and_true, Bool.false_and, Bool.and_false, Bool.true_or, Bool.or_true, Bool.false_or, Bool.or_false, Bool.not_true, Bool.not_false, decide_true, decide_false, bI_t, bI_f, Bool.false_eq_true, not_true_eq_false, not_false_eq_true, eq_self, reduceCtorEq, Bool.true_eq_false, and_true, true_and, and_false, false_and, or_true, true_or, or_false, false_or]; done) | (simp only [c_5, hO.ix i_c0, c_14, ixn hN31, c_18, Int32.not_lt.mp c_18, c_23, Int32.not_le.mpr c_23, ↓reduceIte, Bool.true_and, Bool.and_true, Bool.false_and, Bool.and_false, Bool.true_or, Bool.or_true, Bool.false_or, Bool.or_false, Bool.not_true, Bool.not_false, decide_true, decide_false, bI_t, bI_f, Bool.false_eq_true, not_true_eq_false, not_false_eq_true, eq_self, reduceCtorEq, Bool.true_eq_false, and_true, true_and, and_false, false_and, or_true, true_or, or_false, false_or] at c_34; done) | (simp only [c_5, hO.ix i_c0, c_14, ixn hN31, c_18, Int32.not_lt.mp c_18, c_34, ↓reduceIte, Bool.true_and, Bool.and_true, Bool.false_and, Bool.and_false, Bool.true_or, Bool.or_true, Bool.false_or, Bool.or_false, Bool.not_true, Bool.not_false, decide_true, decide_false, bI_t, bI_f, Bool.false_eq_true, not_true_eq_false, not_false_eq_true, eq_self, reduceCtorEq, Bool.true_eq_false, and_true, true_and, and_false, false_and, or_true, true_or, or_false, false_or] at c_23; done) | (simp only [c_5, hO.ix i_c0, c_14, ixn hN31, c_23, Int32.not_le.mpr c_23, c_34, ↓reduceIte, Bool.true_and, Bool.and_true, Bool.false_and, Bool.and_false, Bool.true_or, Bool.or_true, Bool.false_or, Bool.or_false, Bool.not_true, Bool.not_false, decide_true, decide_false, bI_t, bI_f, Bool.false_eq_true, not_true_eq_false, not_false_eq_true, eq_self, reduceCtorEq, Bool.true_eq_false, and_true, true_and, and_false, false_and, or_true, true_or, or_false, false_or] at c_18; done) | (simp only [c_5, hO.ix i_c0, ixn hN31, c_18, Int32.not_lt.mp c_18, c_23, Int32.not_le.mpr c_23, c_34, ↓reduceIte, Bool.true_and, Bool.and_true, Bool.false_and, Bool.and_false, Bool.true_or, Bool.or_true, Bool.false_or, Bool.or_false, Bool.not_true, Bool.not_false, decide_true, decide_false, bI_t, bI_f, Bool.false_eq_true, not_true_eq_false, not_false_eq_true, eq_self, reduceCtorEq, Bool.true_eq_false, and_true, true_and, and_false, false_and, or_true, true_or, or_false, false_or] at c_14; done) | (simp only [hO.ix i_c0, c_14, ixn hN31, c_18, Int32.not_lt.mp c_18, c_23, Int32.not_le.mpr c_23, c_34, ↓reduceIte, Bool.true_and, Bool.and_true, Bool.false_and, Bool.and_false, Bool.true_or, Bool.or_true, Bool.false_or, Bool.or_false, Bool.not_true, Bool.not_false, decide_true, decide_false, bI_t, bI_f, Bool.false_eq_true, not_true_eq_false, not_false_eq_true, eq_self, reduceCtorEq, Bool.true_eq_false, and_true, true_and, and_false, false_and, or_true, true_or, or_false, false_or] at c_5; done))
      have h_k := lp_in hk_k hN31 c_49_5
      refine lv_iconst (v := 0) hx hb dX2_around_52 ic_0 ?_
      refine lv_istore (lv' := [(6, .int _), (0, .ref _), (1, .int _), (2, .int _), (3, .int _), (4, .int _), (5, .int _)]) hx hb dX2_around_53 hl (Nat.le_of_ble_eq_true rfl) rfl (fun ls hl => ?_)
      refine lv_iconst (v := 0) hx hb dX2_around_55 ic_0 ?_
      refine lv_istore (lv' := [(7, .int _), (6, .int _), (0, .ref _), (1, .int _), (2, .int _), (3, .int _), (4, .int _), (5, .int _)]) hx hb dX2_around_56 hl (Nat.le_of_ble_eq_true rfl) rfl (fun ls hl => ?_)
      refine loopW (N := N) (nL := 8) (lv := fun j => [(0, .ref o), (1, .int (nI c0_)), (2, .int (nI N)), (3, .int i), (4, .int (plF (fun i k => m_ah (σ.pt c0_) (σ.rp i) (σ.rp k) i k) N i k)), (5, .int (nI k)), (6, .int (plA (fun i k => m_ah (σ.pt c0_) (σ.rp i) (σ.rp k) i k) k j)), (7, .int (nI j))]) (fun j hk_j ih_j ls hl => ?_) 0 (Nat.zero_le _) ls (lv_sub hl [2, 3, 4, 5, 6, 7, 1, 0] rfl)
      replace hl : lv_has ls 8 [(0, .ref o), (1, .int (nI c0_)), (2, .int (nI N)), (3, .int i), (4, .int (plF (fun i k => m_ah (σ.pt c0_) (σ.rp i) (σ.rp k) i k) N i k)), (5, .int (nI k)), (6, .int (plA (fun i k => m_ah (σ.pt c0_) (σ.rp i) (σ.rp k) i k) k j)), (7, .int (nI j))] := hl
      refine lv_iload hx hb dX2_around_58 (lv_at hl 7 rfl) ?_
      refine lv_iload_n hx hb dX2_around_60 rfl (lv_at hl 2 rfl) ?_
      refine lv_icmp_ge (tgt := 99) hx hb dX2_around_61 rfl (fun c_61_6 => ?_) (fun c_61_6 => ?_)
      · skip
        have e_j := lp_out hk_j hN31 c_61_6
        subst e_j
        refine cutI (J := 112) (v := if plA (fun i k => m_ah (σ.pt c0_) (σ.rp i) (σ.rp k) i k) k N = i then nI k else plF (fun i k => m_ah (σ.pt c0_) (σ.rp i) (σ.rp k) i k) N i k) ?_ (fun K18 => ?_)
        rotate_left
        · skip
          refine lv_iload hx hb dX2_around_99 (lv_at hl 6 rfl) ?_
          refine lv_iload_n hx hb dX2_around_101 rfl (lv_at hl 3 rfl) ?_
          refine lv_icmp_ne (tgt := 110) hx hb dX2_around_102 rfl (fun c_102_7 => ?_) (fun c_102_7 => ?_)
          · skip
            refine lv_iload hx hb dX2_around_110 (lv_at hl 4 rfl) ?_
            exact K18 _ (by first | with_reducible rfl | (simp only [pubA, inR, c_5, hO.ix i_c0, c_14, ixn hN31, c_18, Int32.not_lt.mp c_18, c_23, Int32.not_le.mpr c_23, c_34, c_102_7, ↓reduceIte, Bool.true_and, Bool.and_true, Bool.false_and, Bool.and_false, Bool.true_or, Bool.or_true, Bool.false_or, Bool.or_false, Bool.not_true, Bool.not_false, decide_true, decide_false, bI_t, bI_f, Bool.false_eq_true, not_true_eq_false, not_false_eq_true, eq_self, reduceCtorEq, Bool.true_eq_false, and_true, true_and, and_false, false_and, or_true, true_or, or_false, false_or]; done) | (simp only [c_5, hO.ix i_c0, c_14, ixn hN31, c_18, Int32.not_lt.mp c_18, c_23, Int32.not_le.mpr c_23, c_34, ↓reduceIte, Bool.true_and, Bool.and_true, Bool.false_and, Bool.and_false, Bool.true_or, Bool.or_true, Bool.false_or, Bool.or_false, Bool.not_true, Bool.not_false, decide_true, decide_false, bI_t, bI_f, Bool.false_eq_true, not_true_eq_false, not_false_eq_true, eq_self, reduceCtorEq, Bool.true_eq_false, and_true, true_and, and_false, false_and, or_true, true_or, or_false, false_or] at c_102_7; done) | (simp only [c_5, hO.ix i_c0, c_14, ixn hN31, c_18, Int32.not_lt.mp c_18, c_23, Int32.not_le.mpr c_23, c_102_7, ↓reduceIte, Bool.true_and, Bool.and_true, Bool.false_and, Bool.and_false, Bool.true_or, Bool.or_true, Bool.false_or, Bool.or_false, Bool.not_true, Bool.not_false, decide_true, decide_false, bI_t, bI_f, Bool.false_eq_true, not_true_eq_false, not_false_eq_true, eq_self, reduceCtorEq, Bool.true_eq_false, and_true, true_and, and_false, false_and, or_true, true_or, or_false, false_or] at c_34; done) | (simp only [c_5, hO.ix i_c0, c_14, ixn hN31, c_18, Int32.not_lt.mp c_18, c_34, c_102_7, ↓reduceIte, Bool.true_and, Bool.and_true, Bool.false_and, Bool.and_false, Bool.true_or, Bool.or_true, Bool.false_or, Bool.or_false, Bool.not_true, Bool.not_false, decide_true, decide_false, bI_t, bI_f, Bool.false_eq_true, not_true_eq_false, not_false_eq_true, eq_self, reduceCtorEq, Bool.true_eq_false, and_true, true_and, and_false, false_and, or_true, true_or, or_false, false_or] at c_23; done) | (simp only [c_5, hO.ix i_c0, c_14, ixn hN31, c_23, Int32.not_le.mpr c_23, c_34, c_102_7, ↓reduceIte, Bool.true_and, Bool.and_true, Bool.false_and, Bool.and_false, Bool.true_or, Bool.or_true, Bool.false_or, Bool.or_false, Bool.not_true, Bool.not_false, decide_true, decide_false, bI_t, bI_f, Bool.false_eq_true, not_true_eq_false, not_false_eq_true, eq_self, reduceCtorEq, Bool.true_eq_false, and_true, true_and, and_false, false_and, or_true, true_or, or_false, false_or] at c_18; done) | (simp only [c_5, hO.ix i_c0, ixn hN31, c_18, Int32.not_lt.mp c_18, c_23, Int32.not_le.mpr c_23, c_34, c_102_7, ↓reduceIte, Bool.true_and, Bool.and_true, Bool.false_and, Bool.and_false, Bool.true_or, Bool.or_true, Bool.false_or, Bool.or_false, Bool.not_true, Bool.not_false, decide_true, decide_false, bI_t, bI_f, Bool.false_eq_true, not_true_eq_false, not_false_eq_true, eq_self, reduceCtorEq, Bool.true_eq_false, and_true, true_and, and_false, false_and, or_true, true_or, or_false, false_or] at c_14; done) | (simp only [hO.ix i_c0, c_14, ixn hN31, c_18, Int32.not_lt.mp c_18, c_23, Int32.not_le.mpr c_23, c_34, c_102_7, ↓reduceIte, Bool.true_and, Bool.and_true, Bool.false_and, Bool.and_false, Bool.true_or, Bool.or_true, Bool.false_or, Bool.or_false, Bool.not_true, Bool.not_false, decide_true, decide_false, bI_t, bI_f, Bool.false_eq_true, not_true_eq_false, not_false_eq_true, eq_self, reduceCtorEq, Bool.true_eq_false, and_true, true_and, and_false, false_and, or_true, true_or, or_false, false_or] at c_5; done))
          refine lv_iload hx hb dX2_around_105 (lv_at hl 5 rfl) ?_
          refine lv_goto (tgt := 112) hx hb dX2_around_107 rfl ?_
          exact K18 _ (by first | with_reducible rfl | (simp only [pubA, inR, c_5, hO.ix i_c0, c_14, ixn hN31, c_18, Int32.not_lt.mp c_18, c_23, Int32.not_le.mpr c_23, c_34, eq_true c_102_7, ↓reduceIte, Bool.true_and, Bool.and_true, Bool.false_and, Bool.and_false, Bool.true_or, Bool.or_true, Bool.false_or, Bool.or_false, Bool.not_true, Bool.not_false, decide_true, decide_false, bI_t, bI_f, Bool.false_eq_true, not_true_eq_false, not_false_eq_true, eq_self, reduceCtorEq, Bool.true_eq_false, and_true, true_and, and_false, false_and, or_true, true_or, or_false, false_or]; done) | (simp only [c_5, hO.ix i_c0, c_14, ixn hN31, c_18, Int32.not_lt.mp c_18, c_23, Int32.not_le.mpr c_23, c_34, ↓reduceIte, Bool.true_and, Bool.and_true, Bool.false_and, Bool.and_false, Bool.true_or, Bool.or_true, Bool.false_or, Bool.or_false, Bool.not_true, Bool.not_false, decide_true, decide_false, bI_t, bI_f, Bool.false_eq_true, not_true_eq_false, not_false_eq_true, eq_self, reduceCtorEq, Bool.true_eq_false, and_true, true_and, and_false, false_and, or_true, true_or, or_false, false_or] at c_102_7; done) | (simp only [c_5, hO.ix i_c0, c_14, ixn hN31, c_18, Int32.not_lt.mp c_18, c_23, Int32.not_le.mpr c_23, eq_true c_102_7, ↓reduceIte, Bool.true_and, Bool.and_true, Bool.false_and, Bool.and_false, Bool.true_or, Bool.or_true, Bool.false_or, Bool.or_false, Bool.not_true, Bool.not_false, decide_true, decide_false, bI_t, bI_f, Bool.false_eq_true, not_true_eq_false, not_false_eq_true, eq_self, reduceCtorEq, Bool.true_eq_false, and_true, true_and, and_false, false_and, or_true, true_or, or_false, false_or] at c_34; done) | (simp only [c_5, hO.ix i_c0, c_14, ixn hN31, c_18, Int32.not_lt.mp c_18, c_34, eq_true c_102_7, ↓reduceIte, Bool.true_and, Bool.and_true, Bool.false_and, Bool.and_false, Bool.true_or, Bool.or_true, Bool.false_or, Bool.or_false, Bool.not_true, Bool.not_false, decide_true, decide_false, bI_t, bI_f, Bool.false_eq_true, not_true_eq_false, not_false_eq_true, eq_self, reduceCtorEq, Bool.true_eq_false, and_true, true_and, and_false, false_and, or_true, true_or, or_false, false_or] at c_23; done) | (simp only [c_5, hO.ix i_c0, c_14, ixn hN31, c_23, Int32.not_le.mpr c_23, c_34, eq_true c_102_7, ↓reduceIte, Bool.true_and, Bool.and_true, Bool.false_and, Bool.and_false, Bool.true_or, Bool.or_true, Bool.false_or, Bool.or_false, Bool.not_true, Bool.not_false, decide_true, decide_false, bI_t, bI_f, Bool.false_eq_true, not_true_eq_false, not_false_eq_true, eq_self, reduceCtorEq, Bool.true_eq_false, and_true, true_and, and_false, false_and, or_true, true_or, or_false, false_or] at c_18; done) | (simp only [c_5, hO.ix i_c0, ixn hN31, c_18, Int32.not_lt.mp c_18, c_23, Int32.not_le.mpr c_23, c_34, eq_true c_102_7, ↓reduceIte, Bool.true_and, Bool.and_true, Bool.false_and, Bool.and_false, Bool.true_or, Bool.or_true, Bool.false_or, Bool.or_false, Bool.not_true, Bool.not_false, decide_true, decide_false, bI_t, bI_f, Bool.false_eq_true, not_true_eq_false, not_false_eq_true, eq_self, reduceCtorEq, Bool.true_eq_false, and_true, true_and, and_false, false_and, or_true, true_or, or_false, false_or] at c_14; done) | (simp only [hO.ix i_c0, c_14, ixn hN31, c_18, Int32.not_lt.mp c_18, c_23, Int32.not_le.mpr c_23, c_34, eq_true c_102_7, ↓reduceIte, Bool.true_and, Bool.and_true, Bool.false_and, Bool.and_false, Bool.true_or, Bool.or_true, Bool.false_or, Bool.or_false, Bool.not_true, Bool.not_false, decide_true, decide_false, bI_t, bI_f, Bool.false_eq_true, not_true_eq_false, not_false_eq_true, eq_self, reduceCtorEq, Bool.true_eq_false, and_true, true_and, and_false, false_and, or_true, true_or, or_false, false_or] at c_5; done))
        refine lv_istore (lv' := [(4, .int _), (0, .ref _), (1, .int _), (2, .int _), (3, .int _), (5, .int _), (6, .int _), (7, .int _)]) hx hb dX2_around_112 hl (Nat.le_of_ble_eq_true rfl) rfl (fun ls hl => ?_)
        refine lv_iinc (v := nI (k + 1)) (k := 5) (lv' := [(5, .int _), (4, .int _), (0, .ref _), (1, .int _), (2, .int _), (3, .int _), (6, .int _), (7, .int _)]) hx hb dX2_around_114 hl rfl (nI_1 _) (Nat.le_of_ble_eq_true rfl) rfl (fun ls hl => ?_)
        refine lv_goto (tgt := 46) hx hb dX2_around_117 rfl ?_
        exact ih_k ls (lv_sub hl [2, 3, 4, 5, 1, 0] rfl) h_k
      have h_j := lp_in hk_j hN31 c_61_6
      refine lv_iload hx hb dX2_around_64 (lv_at hl 6 rfl) ?_
      refine cutI (J := 90) (v := if !decide (j = k) && (fun i k => m_ah (σ.pt c0_) (σ.rp i) (σ.rp k) i k) j k then 1 else 0) ?_ (fun K19 => ?_)
      rotate_left
      · skip
        refine lv_iload hx hb dX2_around_66 (lv_at hl 7 rfl) ?_
        refine lv_iload hx hb dX2_around_68 (lv_at hl 5 rfl) ?_
        refine lv_icmp_eq (tgt := 89) hx hb dX2_around_70 rfl (fun c_70_7 => ?_) (fun c_70_7 => ?_)
        · skip
          refine lv_iconst (v := 0) hx hb dX2_around_89 ic_0 ?_
          exact K19 _ (by first | with_reducible rfl | (simp only [pubA, inR, c_5, hO.ix i_c0, c_14, ixn hN31, c_18, Int32.not_lt.mp c_18, c_23, Int32.not_le.mpr c_23, c_34, eq_true ((nI_eq (by omega) (by omega)).mp c_70_7), ↓reduceIte, Bool.true_and, Bool.and_true, Bool.false_and, Bool.and_false, Bool.true_or, Bool.or_true, Bool.false_or, Bool.or_false, Bool.not_true, Bool.not_false, decide_true, decide_false, bI_t, bI_f, Bool.false_eq_true, not_true_eq_false, not_false_eq_true, eq_self, reduceCtorEq, Bool.true_eq_false, and_true, true_and, and_false, false_and, or_true, true_or, or_false, false_or]; done) | (simp only [c_5, hO.ix i_c0, c_14, ixn hN31, c_18, Int32.not_lt.mp c_18, c_23, Int32.not_le.mpr c_23, c_34, ↓reduceIte, Bool.true_and, Bool.and_true, Bool.false_and, Bool.and_false, Bool.true_or, Bool.or_true, Bool.false_or, Bool.or_false, Bool.not_true, Bool.not_false, decide_true, decide_false, bI_t, bI_f, Bool.false_eq_true, not_true_eq_false, not_false_eq_true, eq_self, reduceCtorEq, Bool.true_eq_false, and_true, true_and, and_false, false_and, or_true, true_or, or_false, false_or] at c_70_7; done) | (simp only [c_5, hO.ix i_c0, c_14, ixn hN31, c_18, Int32.not_lt.mp c_18, c_23, Int32.not_le.mpr c_23, eq_true ((nI_eq (by omega) (by omega)).mp c_70_7), ↓reduceIte, Bool.true_and, Bool.and_true, Bool.false_and, Bool.and_false, Bool.true_or, Bool.or_true, Bool.false_or, Bool.or_false, Bool.not_true, Bool.not_false, decide_true, decide_false, bI_t, bI_f, Bool.false_eq_true, not_true_eq_false, not_false_eq_true, eq_self, reduceCtorEq, Bool.true_eq_false, and_true, true_and, and_false, false_and, or_true, true_or, or_false, false_or] at c_34; done) | (simp only [c_5, hO.ix i_c0, c_14, ixn hN31, c_18, Int32.not_lt.mp c_18, c_34, eq_true ((nI_eq (by omega) (by omega)).mp c_70_7), ↓reduceIte, Bool.true_and, Bool.and_true, Bool.false_and, Bool.and_false, Bool.true_or, Bool.or_true, Bool.false_or, Bool.or_false, Bool.not_true, Bool.not_false, decide_true, decide_false, bI_t, bI_f, Bool.false_eq_true, not_true_eq_false, not_false_eq_true, eq_self, reduceCtorEq, Bool.true_eq_false, and_true, true_and, and_false, false_and, or_true, true_or, or_false, false_or] at c_23; done) | (simp only [c_5, hO.ix i_c0, c_14, ixn hN31, c_23, Int32.not_le.mpr c_23, c_34, eq_true ((nI_eq (by omega) (by omega)).mp c_70_7), ↓reduceIte, Bool.true_and, Bool.and_true, Bool.false_and, Bool.and_false, Bool.true_or, Bool.or_true, Bool.false_or, Bool.or_false, Bool.not_true, Bool.not_false, decide_true, decide_false, bI_t, bI_f, Bool.false_eq_true, not_true_eq_false, not_false_eq_true, eq_self, reduceCtorEq, Bool.true_eq_false, and_true, true_and, and_false, false_and, or_true, true_or, or_false, false_or] at c_18; done) | (simp only [c_5, hO.ix i_c0, ixn hN31, c_18, Int32.not_lt.mp c_18, c_23, Int32.not_le.mpr c_23, c_34, eq_true ((nI_eq (by omega) (by omega)).mp c_70_7), ↓reduceIte, Bool.true_and, Bool.and_true, Bool.false_and, Bool.and_false, Bool.true_or, Bool.or_true, Bool.false_or, Bool.or_false, Bool.not_true, Bool.not_false, decide_true, decide_false, bI_t, bI_f, Bool.false_eq_true, not_true_eq_false, not_false_eq_true, eq_self, reduceCtorEq, Bool.true_eq_false, and_true, true_and, and_false, false_and, or_true, true_or, or_false, false_or] at c_14; done) | (simp only [hO.ix i_c0, c_14, ixn hN31, c_18, Int32.not_lt.mp c_18, c_23, Int32.not_le.mpr c_23, c_34, eq_true ((nI_eq (by omega) (by omega)).mp c_70_7), ↓reduceIte, Bool.true_and, Bool.and_true, Bool.false_and, Bool.and_false, Bool.true_or, Bool.or_true, Bool.false_or, Bool.or_false, Bool.not_true, Bool.not_false, decide_true, decide_false, bI_t, bI_f, Bool.false_eq_true, not_true_eq_false, not_false_eq_true, eq_self, reduceCtorEq, Bool.true_eq_false, and_true, true_and, and_false, false_and, or_true, true_or, or_false, false_or] at c_5; done))
        refine lv_aload_n hx hb dX2_around_73 rfl (lv_at hl 0 rfl) ?_
        refine lv_iload_n hx hb dX2_around_74 rfl (lv_at hl 1 rfl) ?_
        refine lv_iload hx hb dX2_around_75 (lv_at hl 7 rfl) ?_
        refine lv_iload hx hb dX2_around_77 (lv_at hl 5 rfl) ?_
        refine p_callV (As := [.int _, .int _, .int _]) hx hb hml hown hts hK hZ (met_X2_isAhead l G hM hO hN hr_ i_c0 h_j h_k) q880 q882 qs34 q43 q883 hv_X2_isAhead rfl hM.1 rfl (by decide) hl.1 rfl (Nat.le_of_ble_eq_true rfl) dX2_around_79 ⟨Nat.zero_le _, Nat.zero_le _⟩ ?_
        refine b_ifeq (tgt := 89) hx hb dX2_around_82 rfl (fun c_82_8 => ?_) (fun c_82_8 => ?_)
        · skip
          refine lv_iconst (v := 0) hx hb dX2_around_89 ic_0 ?_
          exact K19 _ (by first | with_reducible rfl | (simp only [pubA, inR, c_5, hO.ix i_c0, c_14, ixn hN31, c_18, Int32.not_lt.mp c_18, c_23, Int32.not_le.mpr c_23, c_34, (eq_false (fun h => c_70_7 (congrArg nI h)) : (j = k) = False), c_82_8, ↓reduceIte, Bool.true_and, Bool.and_true, Bool.false_and, Bool.and_false, Bool.true_or, Bool.or_true, Bool.false_or, Bool.or_false, Bool.not_true, Bool.not_false, decide_true, decide_false, bI_t, bI_f, Bool.false_eq_true, not_true_eq_false, not_false_eq_true, eq_self, reduceCtorEq, Bool.true_eq_false, and_true, true_and, and_false, false_and, or_true, true_or, or_false, false_or]; done) | (simp only [c_5, hO.ix i_c0, c_14, ixn hN31, c_18, Int32.not_lt.mp c_18, c_23, Int32.not_le.mpr c_23, c_34, (eq_false (fun h => c_70_7 (congrArg nI h)) : (j = k) = False), ↓reduceIte, Bool.true_and, Bool.and_true, Bool.false_and, Bool.and_false, Bool.true_or, Bool.or_true, Bool.false_or, Bool.or_false, Bool.not_true, Bool.not_false, decide_true, decide_false, bI_t, bI_f, Bool.false_eq_true, not_true_eq_false, not_false_eq_true, eq_self, reduceCtorEq, Bool.true_eq_false, and_true, true_and, and_false, false_and, or_true, true_or, or_false, false_or] at c_82_8; done) | (simp only [c_5, hO.ix i_c0, c_14, ixn hN31, c_18, Int32.not_lt.mp c_18, c_23, Int32.not_le.mpr c_23, c_34, c_82_8, ↓reduceIte, Bool.true_and, Bool.and_true, Bool.false_and, Bool.and_false, Bool.true_or, Bool.or_true, Bool.false_or, Bool.or_false, Bool.not_true, Bool.not_false, decide_true, decide_false, bI_t, bI_f, Bool.false_eq_true, not_true_eq_false, not_false_eq_true, eq_self, reduceCtorEq, Bool.true_eq_false, and_true, true_and, and_false, false_and, or_true, true_or, or_false, false_or] at c_70_7; done) | (simp only [c_5, hO.ix i_c0, c_14, ixn hN31, c_18, Int32.not_lt.mp c_18, c_23, Int32.not_le.mpr c_23, (eq_false (fun h => c_70_7 (congrArg nI h)) : (j = k) = False), c_82_8, ↓reduceIte, Bool.true_and, Bool.and_true, Bool.false_and, Bool.and_false, Bool.true_or, Bool.or_true, Bool.false_or, Bool.or_false, Bool.not_true, Bool.not_false, decide_true, decide_false, bI_t, bI_f, Bool.false_eq_true, not_true_eq_false, not_false_eq_true, eq_self, reduceCtorEq, Bool.true_eq_false, and_true, true_and, and_false, false_and, or_true, true_or, or_false, false_or] at c_34; done) | (simp only [c_5, hO.ix i_c0, c_14, ixn hN31, c_18, Int32.not_lt.mp c_18, c_34, (eq_false (fun h => c_70_7 (congrArg nI h)) : (j = k) = False), c_82_8, ↓reduceIte, Bool.true_and, Bool.and_true, Bool.false_and, Bool.and_false, Bool.true_or, Bool.or_true, Bool.false_or, Bool.or_false, Bool.not_true, Bool.not_false, decide_true, decide_false, bI_t, bI_f, Bool.false_eq_true, not_true_eq_false, not_false_eq_true, eq_self, reduceCtorEq, Bool.true_eq_false, and_true, true_and, and_false, false_and, or_true, true_or, or_false, false_or] at c_23; done) | (simp only [c_5, hO.ix i_c0, c_14, ixn hN31, c_23, Int32.not_le.mpr c_23, c_34, (eq_false (fun h => c_70_7 (congrArg nI h)) : (j = k) = False), c_82_8, ↓reduceIte, Bool.true_and, Bool.and_true, Bool.false_and, Bool.and_false, Bool.true_or, Bool.or_true, Bool.false_or, Bool.or_false, Bool.not_true, Bool.not_false, decide_true, decide_false, bI_t, bI_f, Bool.false_eq_true, not_true_eq_false, not_false_eq_true, eq_self, reduceCtorEq, Bool.true_eq_false, and_true, true_and, and_false, false_and, or_true, true_or, or_false, false_or] at c_18; done) | (simp only [c_5, hO.ix i_c0, ixn hN31, c_18, Int32.not_lt.mp c_18, c_23, Int32.not_le.mpr c_23, c_34, (eq_false (fun h => c_70_7 (congrArg nI h)) : (j = k) = False), c_82_8, ↓reduceIte, Bool.true_and, Bool.and_true, Bool.false_and, Bool.and_false, Bool.true_or, Bool.or_true, Bool.false_or, Bool.or_false, Bool.not_true, Bool.not_false, decide_true, decide_false, bI_t, bI_f, Bool.false_eq_true, not_true_eq_false, not_false_eq_true, eq_self, reduceCtorEq, Bool.true_eq_false, and_true, true_and, and_false, false_and, or_true, true_or, or_false, false_or] at c_14; done) | (simp only [hO.ix i_c0, c_14, ixn hN31, c_18, Int32.not_lt.mp c_18, c_23, Int32.not_le.mpr c_23, c_34, (eq_false (fun h => c_70_7 (congrArg nI h)) : (j = k) = False), c_82_8, ↓reduceIte, Bool.true_and, Bool.and_true, Bool.false_and, Bool.and_false, Bool.true_or, Bool.or_true, Bool.false_or, Bool.or_false, Bool.not_true, Bool.not_false, decide_true, decide_false, bI_t, bI_f, Bool.false_eq_true, not_true_eq_false, not_false_eq_true, eq_self, reduceCtorEq, Bool.true_eq_false, and_true, true_and, and_false, false_and, or_true, true_or, or_false, false_or] at c_5; done))
        refine lv_iconst (v := 1) hx hb dX2_around_85 ic_1 ?_
        refine lv_goto (tgt := 90) hx hb dX2_around_86 rfl ?_
        exact K19 _ (by first | with_reducible rfl | (simp only [pubA, inR, c_5, hO.ix i_c0, c_14, ixn hN31, c_18, Int32.not_lt.mp c_18, c_23, Int32.not_le.mpr c_23, c_34, (eq_false (fun h => c_70_7 (congrArg nI h)) : (j = k) = False), c_82_8, ↓reduceIte, Bool.true_and, Bool.and_true, Bool.false_and, Bool.and_false, Bool.true_or, Bool.or_true, Bool.false_or, Bool.or_false, Bool.not_true, Bool.not_false, decide_true, decide_false, bI_t, bI_f, Bool.false_eq_true, not_true_eq_false, not_false_eq_true, eq_self, reduceCtorEq, Bool.true_eq_false, and_true, true_and, and_false, false_and, or_true, true_or, or_false, false_or]; done) | (simp only [c_5, hO.ix i_c0, c_14, ixn hN31, c_18, Int32.not_lt.mp c_18, c_23, Int32.not_le.mpr c_23, c_34, (eq_false (fun h => c_70_7 (congrArg nI h)) : (j = k) = False), ↓reduceIte, Bool.true_and, Bool.and_true, Bool.false_and, Bool.and_false, Bool.true_or, Bool.or_true, Bool.false_or, Bool.or_false, Bool.not_true, Bool.not_false, decide_true, decide_false, bI_t, bI_f, Bool.false_eq_true, not_true_eq_false, not_false_eq_true, eq_self, reduceCtorEq, Bool.true_eq_false, and_true, true_and, and_false, false_and, or_true, true_or, or_false, false_or] at c_82_8; done) | (simp only [c_5, hO.ix i_c0, c_14, ixn hN31, c_18, Int32.not_lt.mp c_18, c_23, Int32.not_le.mpr c_23, c_34, c_82_8, ↓reduceIte, Bool.true_and, Bool.and_true, Bool.false_and, Bool.and_false, Bool.true_or, Bool.or_true, Bool.false_or, Bool.or_false, Bool.not_true, Bool.not_false, decide_true, decide_false, bI_t, bI_f, Bool.false_eq_true, not_true_eq_false, not_false_eq_true, eq_self, reduceCtorEq, Bool.true_eq_false, and_true, true_and, and_false, false_and, or_true, true_or, or_false, false_or] at c_70_7; done) | (simp only [c_5, hO.ix i_c0, c_14, ixn hN31, c_18, Int32.not_lt.mp c_18, c_23, Int32.not_le.mpr c_23, (eq_false (fun h => c_70_7 (congrArg nI h)) : (j = k) = False), c_82_8, ↓reduceIte, Bool.true_and, Bool.and_true, Bool.false_and, Bool.and_false, Bool.true_or, Bool.or_true, Bool.false_or, Bool.or_false, Bool.not_true, Bool.not_false, decide_true, decide_false, bI_t, bI_f, Bool.false_eq_true, not_true_eq_false, not_false_eq_true, eq_self, reduceCtorEq, Bool.true_eq_false, and_true, true_and, and_false, false_and, or_true, true_or, or_false, false_or] at c_34; done) | (simp only [c_5, hO.ix i_c0, c_14, ixn hN31, c_18, Int32.not_lt.mp c_18, c_34, (eq_false (fun h => c_70_7 (congrArg nI h)) : (j = k) = False), c_82_8, ↓reduceIte, Bool.true_and, Bool.and_true, Bool.false_and, Bool.and_false, Bool.true_or, Bool.or_true, Bool.false_or, Bool.or_false, Bool.not_true, Bool.not_false, decide_true, decide_false, bI_t, bI_f, Bool.false_eq_true, not_true_eq_false, not_false_eq_true, eq_self, reduceCtorEq, Bool.true_eq_false, and_true, true_and, and_false, false_and, or_true, true_or, or_false, false_or] at c_23; done) | (simp only [c_5, hO.ix i_c0, c_14, ixn hN31, c_23, Int32.not_le.mpr c_23, c_34, (eq_false (fun h => c_70_7 (congrArg nI h)) : (j = k) = False), c_82_8, ↓reduceIte, Bool.true_and, Bool.and_true, Bool.false_and, Bool.and_false, Bool.true_or, Bool.or_true, Bool.false_or, Bool.or_false, Bool.not_true, Bool.not_false, decide_true, decide_false, bI_t, bI_f, Bool.false_eq_true, not_true_eq_false, not_false_eq_true, eq_self, reduceCtorEq, Bool.true_eq_false, and_true, true_and, and_false, false_and, or_true, true_or, or_false, false_or] at c_18; done) | (simp only [c_5, hO.ix i_c0, ixn hN31, c_18, Int32.not_lt.mp c_18, c_23, Int32.not_le.mpr c_23, c_34, (eq_false (fun h => c_70_7 (congrArg nI h)) : (j = k) = False), c_82_8, ↓reduceIte, Bool.true_and, Bool.and_true, Bool.false_and, Bool.and_false, Bool.true_or, Bool.or_true, Bool.false_or, Bool.or_false, Bool.not_true, Bool.not_false, decide_true, decide_false, bI_t, bI_f, Bool.false_eq_true, not_true_eq_false, not_false_eq_true, eq_self, reduceCtorEq, Bool.true_eq_false, and_true, true_and, and_false, false_and, or_true, true_or, or_false, false_or] at c_14; done) | (simp only [hO.ix i_c0, c_14, ixn hN31, c_18, Int32.not_lt.mp c_18, c_23, Int32.not_le.mpr c_23, c_34, (eq_false (fun h => c_70_7 (congrArg nI h)) : (j = k) = False), c_82_8, ↓reduceIte, Bool.true_and, Bool.and_true, Bool.false_and, Bool.and_false, Bool.true_or, Bool.or_true, Bool.false_or, Bool.or_false, Bool.not_true, Bool.not_false, decide_true, decide_false, bI_t, bI_f, Bool.false_eq_true, not_true_eq_false, not_false_eq_true, eq_self, reduceCtorEq, Bool.true_eq_false, and_true, true_and, and_false, false_and, or_true, true_or, or_false, false_or] at c_5; done))
      refine lv_iadd hx hb dX2_around_90 ?_
      refine lv_istore (lv' := [(6, .int _), (0, .ref _), (1, .int _), (2, .int _), (3, .int _), (4, .int _), (5, .int _), (7, .int _)]) hx hb dX2_around_91 hl (Nat.le_of_ble_eq_true rfl) rfl (fun ls hl => ?_)
      refine lv_iinc (v := nI (j + 1)) (k := 7) (lv' := [(7, .int _), (6, .int _), (0, .ref _), (1, .int _), (2, .int _), (3, .int _), (4, .int _), (5, .int _)]) hx hb dX2_around_93 hl rfl (nI_1 _) (Nat.le_of_ble_eq_true rfl) rfl (fun ls hl => ?_)
      refine lv_goto (tgt := 58) hx hb dX2_around_96 rfl ?_
      exact ih_j ls (lv_sub hl [2, 3, 4, 5, 6, 7, 1, 0] rfl) h_j
    refine lv_bipush (v := -4) hx hb dX2_around_37 ib_m4 ?_
    exact pm_iret hx hb hr hlk hH dX2_around_39 (by first | with_reducible rfl | (simp only [pubA, inR, c_5, hO.ix i_c0, c_14, ixn hN31, c_18, Int32.not_lt.mp c_18, c_23, Int32.not_le.mpr c_23, c_34, ↓reduceIte, Bool.true_and, Bool.and_true, Bool.false_and, Bool.and_false, Bool.true_or, Bool.or_true, Bool.false_or, Bool.or_false, Bool.not_true, Bool.not_false, decide_true, decide_false, bI_t, bI_f, Bool.false_eq_true, not_true_eq_false, not_false_eq_true, eq_self, reduceCtorEq, Bool.true_eq_false, and_true, true_and, and_false, false_and, or_true, true_or, or_false, false_or]; done) | (simp only [c_5, hO.ix i_c0, c_14, ixn hN31, c_18, Int32.not_lt.mp c_18, c_23, Int32.not_le.mpr c_23, ↓reduceIte, Bool.true_and, Bool.and_true, Bool.false_and, Bool.and_false, Bool.true_or, Bool.or_true, Bool.false_or, Bool.or_false, Bool.not_true, Bool.not_false, decide_true, decide_false, bI_t, bI_f, Bool.false_eq_true, not_true_eq_false, not_false_eq_true, eq_self, reduceCtorEq, Bool.true_eq_false, and_true, true_and, and_false, false_and, or_true, true_or, or_false, false_or] at c_34; done) | (simp only [c_5, hO.ix i_c0, c_14, ixn hN31, c_18, Int32.not_lt.mp c_18, c_34, ↓reduceIte, Bool.true_and, Bool.and_true, Bool.false_and, Bool.and_false, Bool.true_or, Bool.or_true, Bool.false_or, Bool.or_false, Bool.not_true, Bool.not_false, decide_true, decide_false, bI_t, bI_f, Bool.false_eq_true, not_true_eq_false, not_false_eq_true, eq_self, reduceCtorEq, Bool.true_eq_false, and_true, true_and, and_false, false_and, or_true, true_or, or_false, false_or] at c_23; done) | (simp only [c_5, hO.ix i_c0, c_14, ixn hN31, c_23, Int32.not_le.mpr c_23, c_34, ↓reduceIte, Bool.true_and, Bool.and_true, Bool.false_and, Bool.and_false, Bool.true_or, Bool.or_true, Bool.false_or, Bool.or_false, Bool.not_true, Bool.not_false, decide_true, decide_false, bI_t, bI_f, Bool.false_eq_true, not_true_eq_false, not_false_eq_true, eq_self, reduceCtorEq, Bool.true_eq_false, and_true, true_and, and_false, false_and, or_true, true_or, or_false, false_or] at c_18; done) | (simp only [c_5, hO.ix i_c0, ixn hN31, c_18, Int32.not_lt.mp c_18, c_23, Int32.not_le.mpr c_23, c_34, ↓reduceIte, Bool.true_and, Bool.and_true, Bool.false_and, Bool.and_false, Bool.true_or, Bool.or_true, Bool.false_or, Bool.or_false, Bool.not_true, Bool.not_false, decide_true, decide_false, bI_t, bI_f, Bool.false_eq_true, not_true_eq_false, not_false_eq_true, eq_self, reduceCtorEq, Bool.true_eq_false, and_true, true_and, and_false, false_and, or_true, true_or, or_false, false_or] at c_14; done) | (simp only [hO.ix i_c0, c_14, ixn hN31, c_18, Int32.not_lt.mp c_18, c_23, Int32.not_le.mpr c_23, c_34, ↓reduceIte, Bool.true_and, Bool.and_true, Bool.false_and, Bool.and_false, Bool.true_or, Bool.or_true, Bool.false_or, Bool.or_false, Bool.not_true, Bool.not_false, decide_true, decide_false, bI_t, bI_f, Bool.false_eq_true, not_true_eq_false, not_false_eq_true, eq_self, reduceCtorEq, Bool.true_eq_false, and_true, true_and, and_false, false_and, or_true, true_or, or_false, false_or] at c_5; done))
  refine lv_bipush (v := -2) hx hb dX2_around_26 ib_m2 ?_
  exact pm_iret hx hb hr hlk hH dX2_around_28 (by first | with_reducible rfl | (simp only [pubA, inR, c_5, hO.ix i_c0, c_14, ixn hN31, c_18, Int32.not_lt.mp c_18, c_23, Int32.not_lt.mp c_23, ↓reduceIte, Bool.true_and, Bool.and_true, Bool.false_and, Bool.and_false, Bool.true_or, Bool.or_true, Bool.false_or, Bool.or_false, Bool.not_true, Bool.not_false, decide_true, decide_false, bI_t, bI_f, Bool.false_eq_true, not_true_eq_false, not_false_eq_true, eq_self, reduceCtorEq, Bool.true_eq_false, and_true, true_and, and_false, false_and, or_true, true_or, or_false, false_or]; done) | (simp only [c_5, hO.ix i_c0, c_14, ixn hN31, c_18, Int32.not_lt.mp c_18, ↓reduceIte, Bool.true_and, Bool.and_true, Bool.false_and, Bool.and_false, Bool.true_or, Bool.or_true, Bool.false_or, Bool.or_false, Bool.not_true, Bool.not_false, decide_true, decide_false, bI_t, bI_f, Bool.false_eq_true, not_true_eq_false, not_false_eq_true, eq_self, reduceCtorEq, Bool.true_eq_false, and_true, true_and, and_false, false_and, or_true, true_or, or_false, false_or] at c_23; done) | (simp only [c_5, hO.ix i_c0, c_14, ixn hN31, c_23, Int32.not_lt.mp c_23, ↓reduceIte, Bool.true_and, Bool.and_true, Bool.false_and, Bool.and_false, Bool.true_or, Bool.or_true, Bool.false_or, Bool.or_false, Bool.not_true, Bool.not_false, decide_true, decide_false, bI_t, bI_f, Bool.false_eq_true, not_true_eq_false, not_false_eq_true, eq_self, reduceCtorEq, Bool.true_eq_false, and_true, true_and, and_false, false_and, or_true, true_or, or_false, false_or] at c_18; done) | (simp only [c_5, hO.ix i_c0, ixn hN31, c_18, Int32.not_lt.mp c_18, c_23, Int32.not_lt.mp c_23, ↓reduceIte, Bool.true_and, Bool.and_true, Bool.false_and, Bool.and_false, Bool.true_or, Bool.or_true, Bool.false_or, Bool.or_false, Bool.not_true, Bool.not_false, decide_true, decide_false, bI_t, bI_f, Bool.false_eq_true, not_true_eq_false, not_false_eq_true, eq_self, reduceCtorEq, Bool.true_eq_false, and_true, true_and, and_false, false_and, or_true, true_or, or_false, false_or] at c_14; done) | (simp only [hO.ix i_c0, c_14, ixn hN31, c_18, Int32.not_lt.mp c_18, c_23, Int32.not_lt.mp c_23, ↓reduceIte, Bool.true_and, Bool.and_true, Bool.false_and, Bool.and_false, Bool.true_or, Bool.or_true, Bool.false_or, Bool.or_false, Bool.not_true, Bool.not_false, decide_true, decide_false, bI_t, bI_f, Bool.false_eq_true, not_true_eq_false, not_false_eq_true, eq_self, reduceCtorEq, Bool.true_eq_false, and_true, true_and, and_false, false_and, or_true, true_or, or_false, false_or] at c_5; done))
theorem dX2_order_0 : decode cX2_order 0 = .ok (.aload_n 0, 1) := by decide +kernel
theorem dX2_order_1 : decode cX2_order 1 = .ok (.iload_n 1, 1) := by decide +kernel
theorem dX2_order_2 : decode cX2_order 2 = .ok (.iconst 1, 1) := by decide +kernel
theorem dX2_order_3 : decode cX2_order 3 = .ok (.invokevirtual 139, 3) := by decide +kernel
theorem dX2_order_6 : decode cX2_order 6 = .ok (.ifCond .eq 12, 3) := by decide +kernel
theorem dX2_order_9 : decode cX2_order 9 = .ok (.iload_n 2, 1) := by decide +kernel
theorem dX2_order_10 : decode cX2_order 10 = .ok (.ifCond .lt 8, 3) := by decide +kernel
theorem dX2_order_13 : decode cX2_order 13 = .ok (.iload_n 2, 1) := by decide +kernel
theorem dX2_order_14 : decode cX2_order 14 = .ok (.iload_n 1, 1) := by decide +kernel
theorem dX2_order_15 : decode cX2_order 15 = .ok (.if_icmp .lt 6, 3) := by decide +kernel
theorem dX2_order_18 : decode cX2_order 18 = .ok (.bipush (-2), 2) := by decide +kernel
theorem dX2_order_20 : decode cX2_order 20 = .ok (.ireturn, 1) := by decide +kernel
theorem dX2_order_21 : decode cX2_order 21 = .ok (.aload_n 0, 1) := by decide +kernel
theorem dX2_order_22 : decode cX2_order 22 = .ok (.iload_n 1, 1) := by decide +kernel
theorem dX2_order_23 : decode cX2_order 23 = .ok (.invokevirtual 142, 3) := by decide +kernel
theorem dX2_order_26 : decode cX2_order 26 = .ok (.ifCond .ne 6, 3) := by decide +kernel
theorem dX2_order_29 : decode cX2_order 29 = .ok (.bipush (-4), 2) := by decide +kernel
theorem dX2_order_31 : decode cX2_order 31 = .ok (.ireturn, 1) := by decide +kernel
theorem dX2_order_32 : decode cX2_order 32 = .ok (.iconst (-1), 1) := by decide +kernel
theorem dX2_order_33 : decode cX2_order 33 = .ok (.istore_n 3, 1) := by decide +kernel
theorem dX2_order_34 : decode cX2_order 34 = .ok (.iconst 0, 1) := by decide +kernel
theorem dX2_order_35 : decode cX2_order 35 = .ok (.istore 4, 2) := by decide +kernel
theorem dX2_order_37 : decode cX2_order 37 = .ok (.iload 4, 2) := by decide +kernel
theorem dX2_order_39 : decode cX2_order 39 = .ok (.iload_n 1, 1) := by decide +kernel
theorem dX2_order_40 : decode cX2_order 40 = .ok (.if_icmp .ge 68, 3) := by decide +kernel
theorem dX2_order_43 : decode cX2_order 43 = .ok (.iconst 0, 1) := by decide +kernel
theorem dX2_order_44 : decode cX2_order 44 = .ok (.istore 5, 2) := by decide +kernel
theorem dX2_order_46 : decode cX2_order 46 = .ok (.iconst 0, 1) := by decide +kernel
theorem dX2_order_47 : decode cX2_order 47 = .ok (.istore 6, 2) := by decide +kernel
theorem dX2_order_49 : decode cX2_order 49 = .ok (.iload 6, 2) := by decide +kernel
theorem dX2_order_51 : decode cX2_order 51 = .ok (.iload_n 1, 1) := by decide +kernel
theorem dX2_order_52 : decode cX2_order 52 = .ok (.if_icmp .ge 37, 3) := by decide +kernel
theorem dX2_order_55 : decode cX2_order 55 = .ok (.iload 5, 2) := by decide +kernel
theorem dX2_order_57 : decode cX2_order 57 = .ok (.iload 6, 2) := by decide +kernel
theorem dX2_order_59 : decode cX2_order 59 = .ok (.iload 4, 2) := by decide +kernel
theorem dX2_order_61 : decode cX2_order 61 = .ok (.if_icmp .eq 18, 3) := by decide +kernel
theorem dX2_order_64 : decode cX2_order 64 = .ok (.aload_n 0, 1) := by decide +kernel
theorem dX2_order_65 : decode cX2_order 65 = .ok (.iload 6, 2) := by decide +kernel
theorem dX2_order_67 : decode cX2_order 67 = .ok (.iload 4, 2) := by decide +kernel
theorem dX2_order_69 : decode cX2_order 69 = .ok (.invokevirtual 165, 3) := by decide +kernel
theorem dX2_order_72 : decode cX2_order 72 = .ok (.ifCond .eq 7, 3) := by decide +kernel
theorem dX2_order_75 : decode cX2_order 75 = .ok (.iconst 1, 1) := by decide +kernel
theorem dX2_order_76 : decode cX2_order 76 = .ok (.goto 4, 3) := by decide +kernel
theorem dX2_order_79 : decode cX2_order 79 = .ok (.iconst 0, 1) := by decide +kernel
theorem dX2_order_80 : decode cX2_order 80 = .ok (.iadd, 1) := by decide +kernel
theorem dX2_order_81 : decode cX2_order 81 = .ok (.istore 5, 2) := by decide +kernel
theorem dX2_order_83 : decode cX2_order 83 = .ok (.iinc 6 1, 3) := by decide +kernel
theorem dX2_order_86 : decode cX2_order 86 = .ok (.goto (-37), 3) := by decide +kernel
theorem dX2_order_89 : decode cX2_order 89 = .ok (.iload 5, 2) := by decide +kernel
theorem dX2_order_91 : decode cX2_order 91 = .ok (.iload_n 2, 1) := by decide +kernel
theorem dX2_order_92 : decode cX2_order 92 = .ok (.if_icmp .ne 8, 3) := by decide +kernel
theorem dX2_order_95 : decode cX2_order 95 = .ok (.iload 4, 2) := by decide +kernel
theorem dX2_order_97 : decode cX2_order 97 = .ok (.goto 4, 3) := by decide +kernel
theorem dX2_order_100 : decode cX2_order 100 = .ok (.iload_n 3, 1) := by decide +kernel
theorem dX2_order_101 : decode cX2_order 101 = .ok (.istore_n 3, 1) := by decide +kernel
theorem dX2_order_102 : decode cX2_order 102 = .ok (.iinc 4 1, 3) := by decide +kernel
theorem dX2_order_105 : decode cX2_order 105 = .ok (.goto (-68), 3) := by decide +kernel
theorem dX2_order_108 : decode cX2_order 108 = .ok (.iload_n 3, 1) := by decide +kernel
theorem dX2_order_109 : decode cX2_order 109 = .ok (.ireturn, 1) := by decide +kernel
set_option maxHeartbeats 4000000 in
theorem met_X2_order (l : Launch) (G : GG) {H : Heap} {o : Nat} {A : Nat → Nat} {σ : Sg} {th : Int32} {n i : Int32} (hM : MW G H o A σ th) (hO : Ok σ) : PM l yX2_order cX2_order 7 (some .int) 1 24 G H [.ref o, .int n, .int i] (some (.int (pubO σ n i (fun i k => m_less (σ.rp i) (σ.rp k) i k)))) := by
  refine pm_intro pl_X2_order (Nat.le_of_ble_eq_true rfl) ?_
  intro pX eX sX mX belX methX cX ls hE hnm hl
  obtain ⟨hx, hb, hr, hlk, hml, hown, hts, hK, hZ, hH⟩ := hE
  have hl : lv_has ls 7 [(0, .ref o), (1, .int n), (2, .int i)] := hl
  refine lv_aload_n hx hb dX2_order_0 rfl (lv_at hl 0 rfl) ?_
  refine lv_iload_n hx hb dX2_order_1 rfl (lv_at hl 1 rfl) ?_
  refine lv_iconst (v := 1) hx hb dX2_order_2 ic_1 ?_
  refine p_callV (As := [.int _, .int _]) hx hb hml hown hts hK hZ (met_X2_isMany l G hM) q840 q842 qs28 q43 q843 hv_X2_isMany rfl hM.1 rfl (by decide) hl.1 rfl (Nat.le_of_ble_eq_true rfl) dX2_order_3 ⟨Nat.zero_le _, Nat.zero_le _⟩ ?_
  refine b_ifeq (tgt := 18) hx hb dX2_order_6 rfl (fun c_6 => ?_) (fun c_6 => ?_)
  · skip
    refine lv_bipush (v := -2) hx hb dX2_order_18 ib_m2 ?_
    exact pm_iret hx hb hr hlk hH dX2_order_20 (by first | with_reducible rfl | (simp only [pubO, inR, c_6, ↓reduceIte, Bool.true_and, Bool.and_true, Bool.false_and, Bool.and_false, Bool.true_or, Bool.or_true, Bool.false_or, Bool.or_false, Bool.not_true, Bool.not_false, decide_true, decide_false, bI_t, bI_f, Bool.false_eq_true, not_true_eq_false, not_false_eq_true, eq_self, reduceCtorEq, Bool.true_eq_false, and_true, true_and, and_false, false_and, or_true, true_or, or_false, false_or]; done))
  obtain ⟨N, hN, rfl, hge⟩ := many_elim (by decide) hO.rn31 c_6
  have hN31 : N < 2 ^ 31 := Nat.lt_of_le_of_lt hN hO.rn31
  have e1_ : (1 : Int32).toInt = 1 := rfl
  have e3_ : (3 : Int32).toInt = 3 := rfl
  have hpos : 0 < N := by omega
  refine lv_iload_n hx hb dX2_order_9 rfl (lv_at hl 2 rfl) ?_
  refine lv_if_lt (tgt := 18) hx hb dX2_order_10 rfl (fun c_10 => ?_) (fun c_10 => ?_)
  · skip
    refine lv_bipush (v := -2) hx hb dX2_order_18 ib_m2 ?_
    exact pm_iret hx hb hr hlk hH dX2_order_20 (by first | with_reducible rfl | (simp only [pubO, inR, c_6, ixn hN31, c_10, Int32.not_le.mpr c_10, ↓reduceIte, Bool.true_and, Bool.and_true, Bool.false_and, Bool.and_false, Bool.true_or, Bool.or_true, Bool.false_or, Bool.or_false, Bool.not_true, Bool.not_false, decide_true, decide_false, bI_t, bI_f, Bool.false_eq_true, not_true_eq_false, not_false_eq_true, eq_self, reduceCtorEq, Bool.true_eq_false, and_true, true_and, and_false, false_and, or_true, true_or, or_false, false_or]; done) | (simp only [c_6, ixn hN31, ↓reduceIte, Bool.true_and, Bool.and_true, Bool.false_and, Bool.and_false, Bool.true_or, Bool.or_true, Bool.false_or, Bool.or_false, Bool.not_true, Bool.not_false, decide_true, decide_false, bI_t, bI_f, Bool.false_eq_true, not_true_eq_false, not_false_eq_true, eq_self, reduceCtorEq, Bool.true_eq_false, and_true, true_and, and_false, false_and, or_true, true_or, or_false, false_or] at c_10; done) | (simp only [ixn hN31, c_10, Int32.not_le.mpr c_10, ↓reduceIte, Bool.true_and, Bool.and_true, Bool.false_and, Bool.and_false, Bool.true_or, Bool.or_true, Bool.false_or, Bool.or_false, Bool.not_true, Bool.not_false, decide_true, decide_false, bI_t, bI_f, Bool.false_eq_true, not_true_eq_false, not_false_eq_true, eq_self, reduceCtorEq, Bool.true_eq_false, and_true, true_and, and_false, false_and, or_true, true_or, or_false, false_or] at c_6; done))
  refine lv_iload_n hx hb dX2_order_13 rfl (lv_at hl 2 rfl) ?_
  refine lv_iload_n hx hb dX2_order_14 rfl (lv_at hl 1 rfl) ?_
  refine lv_icmp_lt (tgt := 21) hx hb dX2_order_15 rfl (fun c_15 => ?_) (fun c_15 => ?_)
  · skip
    refine lv_aload_n hx hb dX2_order_21 rfl (lv_at hl 0 rfl) ?_
    refine lv_iload_n hx hb dX2_order_22 rfl (lv_at hl 1 rfl) ?_
    refine p_callV (As := [.int _]) hx hb hml hown hts hK hZ (met_X2_isWhole l G hM hO hN) q844 q846 qs29 q43 q847 hv_X2_isWhole rfl hM.1 rfl (by decide) hl.1 rfl (Nat.le_of_ble_eq_true rfl) dX2_order_23 ⟨Nat.zero_le _, Nat.zero_le _⟩ ?_
    refine b_ifne (tgt := 32) hx hb dX2_order_26 rfl (fun c_26 => ?_) (fun c_26 => ?_)
    · skip
      have hr_ := HR.of hO c_26
      refine lv_iconst (v := -1) hx hb dX2_order_32 ic_m1 ?_
      refine lv_istore_n (lv' := [(3, .int _), (0, .ref _), (1, .int _), (2, .int _)]) hx hb dX2_order_33 rfl hl (Nat.le_of_ble_eq_true rfl) rfl (fun ls hl => ?_)
      refine lv_iconst (v := 0) hx hb dX2_order_34 ic_0 ?_
      refine lv_istore (lv' := [(4, .int _), (3, .int _), (0, .ref _), (1, .int _), (2, .int _)]) hx hb dX2_order_35 hl (Nat.le_of_ble_eq_true rfl) rfl (fun ls hl => ?_)
      refine loopW (N := N) (nL := 7) (lv := fun k => [(0, .ref o), (1, .int (nI N)), (2, .int i), (3, .int (plF (fun i k => m_less (σ.rp i) (σ.rp k) i k) N i k)), (4, .int (nI k))]) (fun k hk_k ih_k ls hl => ?_) 0 (Nat.zero_le _) ls (lv_sub hl [2, 3, 4, 1, 0] rfl)
      replace hl : lv_has ls 7 [(0, .ref o), (1, .int (nI N)), (2, .int i), (3, .int (plF (fun i k => m_less (σ.rp i) (σ.rp k) i k) N i k)), (4, .int (nI k))] := hl
      refine lv_iload hx hb dX2_order_37 (lv_at hl 4 rfl) ?_
      refine lv_iload_n hx hb dX2_order_39 rfl (lv_at hl 1 rfl) ?_
      refine lv_icmp_ge (tgt := 108) hx hb dX2_order_40 rfl (fun c_40_4 => ?_) (fun c_40_4 => ?_)
      · skip
        have e_k := lp_out hk_k hN31 c_40_4
        subst e_k
        refine lv_iload_n hx hb dX2_order_108 rfl (lv_at hl 3 rfl) ?_
        exact pm_iret hx hb hr hlk hH dX2_order_109 (by first | with_reducible rfl | (simp only [pubO, inR, c_6, ixn hN31, c_10, Int32.not_lt.mp c_10, c_15, Int32.not_le.mpr c_15, c_26, ↓reduceIte, Bool.true_and, Bool.and_true, Bool.false_and, Bool.and_false, Bool.true_or, Bool.or_true, Bool.false_or, Bool.or_false, Bool.not_true, Bool.not_false, decide_true, decide_false, bI_t, bI_f, Bool.false_eq_true, not_true_eq_false, not_false_eq_true, eq_self, reduceCtorEq, Bool.true_eq_false, and_true, true_and, and_false, false_and, or_true, true_or, or_false, false_or]; done) | (simp only [c_6, ixn hN31, c_10, Int32.not_lt.mp c_10, c_15, Int32.not_le.mpr c_15, ↓reduceIte, Bool.true_and, Bool.and_true, Bool.false_and, Bool.and_false, Bool.true_or, Bool.or_true, Bool.false_or, Bool.or_false, Bool.not_true, Bool.not_false, decide_true, decide_false, bI_t, bI_f, Bool.false_eq_true, not_true_eq_false, not_false_eq_true, eq_self, reduceCtorEq, Bool.true_eq_false, and_true, true_and, and_false, false_and, or_true, true_or, or_false, false_or] at c_26; done) | (simp only [c_6, ixn hN31, c_10, Int32.not_lt.mp c_10, c_26, ↓reduceIte, Bool.true_and, Bool.and_true, Bool.false_and, Bool.and_false, Bool.true_or, Bool.or_true, Bool.false_or, Bool.or_false, Bool.not_true, Bool.not_false, decide_true, decide_false, bI_t, bI_f, Bool.false_eq_true, not_true_eq_false, not_false_eq_true, eq_self, reduceCtorEq, Bool.true_eq_false, and_true, true_and, and_false, false_and, or_true, true_or, or_false, false_or] at c_15; done) | (simp only [c_6, ixn hN31, c_15, Int32.not_le.mpr c_15, c_26, ↓reduceIte, Bool.true_and, Bool.and_true, Bool.false_and, Bool.and_false, Bool.true_or, Bool.or_true, Bool.false_or, Bool.or_false, Bool.not_true, Bool.not_false, decide_true, decide_false, bI_t, bI_f, Bool.false_eq_true, not_true_eq_false, not_false_eq_true, eq_self, reduceCtorEq, Bool.true_eq_false, and_true, true_and, and_false, false_and, or_true, true_or, or_false, false_or] at c_10; done) | (simp only [ixn hN31, c_10, Int32.not_lt.mp c_10, c_15, Int32.not_le.mpr c_15, c_26, ↓reduceIte, Bool.true_and, Bool.and_true, Bool.false_and, Bool.and_false, Bool.true_or, Bool.or_true, Bool.false_or, Bool.or_false, Bool.not_true, Bool.not_false, decide_true, decide_false, bI_t, bI_f, Bool.false_eq_true, not_true_eq_false, not_false_eq_true, eq_self, reduceCtorEq, Bool.true_eq_false, and_true, true_and, and_false, false_and, or_true, true_or, or_false, false_or] at c_6; done))
      have h_k := lp_in hk_k hN31 c_40_4
      refine lv_iconst (v := 0) hx hb dX2_order_43 ic_0 ?_
      refine lv_istore (lv' := [(5, .int _), (0, .ref _), (1, .int _), (2, .int _), (3, .int _), (4, .int _)]) hx hb dX2_order_44 hl (Nat.le_of_ble_eq_true rfl) rfl (fun ls hl => ?_)
      refine lv_iconst (v := 0) hx hb dX2_order_46 ic_0 ?_
      refine lv_istore (lv' := [(6, .int _), (5, .int _), (0, .ref _), (1, .int _), (2, .int _), (3, .int _), (4, .int _)]) hx hb dX2_order_47 hl (Nat.le_of_ble_eq_true rfl) rfl (fun ls hl => ?_)
      refine loopW (N := N) (nL := 7) (lv := fun j => [(0, .ref o), (1, .int (nI N)), (2, .int i), (3, .int (plF (fun i k => m_less (σ.rp i) (σ.rp k) i k) N i k)), (4, .int (nI k)), (5, .int (plA (fun i k => m_less (σ.rp i) (σ.rp k) i k) k j)), (6, .int (nI j))]) (fun j hk_j ih_j ls hl => ?_) 0 (Nat.zero_le _) ls (lv_sub hl [2, 3, 4, 5, 6, 1, 0] rfl)
      replace hl : lv_has ls 7 [(0, .ref o), (1, .int (nI N)), (2, .int i), (3, .int (plF (fun i k => m_less (σ.rp i) (σ.rp k) i k) N i k)), (4, .int (nI k)), (5, .int (plA (fun i k => m_less (σ.rp i) (σ.rp k) i k) k j)), (6, .int (nI j))] := hl
      refine lv_iload hx hb dX2_order_49 (lv_at hl 6 rfl) ?_
      refine lv_iload_n hx hb dX2_order_51 rfl (lv_at hl 1 rfl) ?_
      refine lv_icmp_ge (tgt := 89) hx hb dX2_order_52 rfl (fun c_52_5 => ?_) (fun c_52_5 => ?_)
      · skip
        have e_j := lp_out hk_j hN31 c_52_5
        subst e_j
        refine cutI (J := 101) (v := if plA (fun i k => m_less (σ.rp i) (σ.rp k) i k) k N = i then nI k else plF (fun i k => m_less (σ.rp i) (σ.rp k) i k) N i k) ?_ (fun K20 => ?_)
        rotate_left
        · skip
          refine lv_iload hx hb dX2_order_89 (lv_at hl 5 rfl) ?_
          refine lv_iload_n hx hb dX2_order_91 rfl (lv_at hl 2 rfl) ?_
          refine lv_icmp_ne (tgt := 100) hx hb dX2_order_92 rfl (fun c_92_6 => ?_) (fun c_92_6 => ?_)
          · skip
            refine lv_iload_n hx hb dX2_order_100 rfl (lv_at hl 3 rfl) ?_
            exact K20 _ (by first | with_reducible rfl | (simp only [pubO, inR, c_6, ixn hN31, c_10, Int32.not_lt.mp c_10, c_15, Int32.not_le.mpr c_15, c_26, c_92_6, ↓reduceIte, Bool.true_and, Bool.and_true, Bool.false_and, Bool.and_false, Bool.true_or, Bool.or_true, Bool.false_or, Bool.or_false, Bool.not_true, Bool.not_false, decide_true, decide_false, bI_t, bI_f, Bool.false_eq_true, not_true_eq_false, not_false_eq_true, eq_self, reduceCtorEq, Bool.true_eq_false, and_true, true_and, and_false, false_and, or_true, true_or, or_false, false_or]; done) | (simp only [c_6, ixn hN31, c_10, Int32.not_lt.mp c_10, c_15, Int32.not_le.mpr c_15, c_26, ↓reduceIte, Bool.true_and, Bool.and_true, Bool.false_and, Bool.and_false, Bool.true_or, Bool.or_true, Bool.false_or, Bool.or_false, Bool.not_true, Bool.not_false, decide_true, decide_false, bI_t, bI_f, Bool.false_eq_true, not_true_eq_false, not_false_eq_true, eq_self, reduceCtorEq, Bool.true_eq_false, and_true, true_and, and_false, false_and, or_true, true_or, or_false, false_or] at c_92_6; done) | (simp only [c_6, ixn hN31, c_10, Int32.not_lt.mp c_10, c_15, Int32.not_le.mpr c_15, c_92_6, ↓reduceIte, Bool.true_and, Bool.and_true, Bool.false_and, Bool.and_false, Bool.true_or, Bool.or_true, Bool.false_or, Bool.or_false, Bool.not_true, Bool.not_false, decide_true, decide_false, bI_t, bI_f, Bool.false_eq_true, not_true_eq_false, not_false_eq_true, eq_self, reduceCtorEq, Bool.true_eq_false, and_true, true_and, and_false, false_and, or_true, true_or, or_false, false_or] at c_26; done) | (simp only [c_6, ixn hN31, c_10, Int32.not_lt.mp c_10, c_26, c_92_6, ↓reduceIte, Bool.true_and, Bool.and_true, Bool.false_and, Bool.and_false, Bool.true_or, Bool.or_true, Bool.false_or, Bool.or_false, Bool.not_true, Bool.not_false, decide_true, decide_false, bI_t, bI_f, Bool.false_eq_true, not_true_eq_false, not_false_eq_true, eq_self, reduceCtorEq, Bool.true_eq_false, and_true, true_and, and_false, false_and, or_true, true_or, or_false, false_or] at c_15; done) | (simp only [c_6, ixn hN31, c_15, Int32.not_le.mpr c_15, c_26, c_92_6, ↓reduceIte, Bool.true_and, Bool.and_true, Bool.false_and, Bool.and_false, Bool.true_or, Bool.or_true, Bool.false_or, Bool.or_false, Bool.not_true, Bool.not_false, decide_true, decide_false, bI_t, bI_f, Bool.false_eq_true, not_true_eq_false, not_false_eq_true, eq_self, reduceCtorEq, Bool.true_eq_false, and_true, true_and, and_false, false_and, or_true, true_or, or_false, false_or] at c_10; done) | (simp only [ixn hN31, c_10, Int32.not_lt.mp c_10, c_15, Int32.not_le.mpr c_15, c_26, c_92_6, ↓reduceIte, Bool.true_and, Bool.and_true, Bool.false_and, Bool.and_false, Bool.true_or, Bool.or_true, Bool.false_or, Bool.or_false, Bool.not_true, Bool.not_false, decide_true, decide_false, bI_t, bI_f, Bool.false_eq_true, not_true_eq_false, not_false_eq_true, eq_self, reduceCtorEq, Bool.true_eq_false, and_true, true_and, and_false, false_and, or_true, true_or, or_false, false_or] at c_6; done))
          refine lv_iload hx hb dX2_order_95 (lv_at hl 4 rfl) ?_
          refine lv_goto (tgt := 101) hx hb dX2_order_97 rfl ?_
          exact K20 _ (by first | with_reducible rfl | (simp only [pubO, inR, c_6, ixn hN31, c_10, Int32.not_lt.mp c_10, c_15, Int32.not_le.mpr c_15, c_26, eq_true c_92_6, ↓reduceIte, Bool.true_and, Bool.and_true, Bool.false_and, Bool.and_false, Bool.true_or, Bool.or_true, Bool.false_or, Bool.or_false, Bool.not_true, Bool.not_false, decide_true, decide_false, bI_t, bI_f, Bool.false_eq_true, not_true_eq_false, not_false_eq_true, eq_self, reduceCtorEq, Bool.true_eq_false, and_true, true_and, and_false, false_and, or_true, true_or, or_false, false_or]; done) | (simp only [c_6, ixn hN31, c_10, Int32.not_lt.mp c_10, c_15, Int32.not_le.mpr c_15, c_26, ↓reduceIte, Bool.true_and, Bool.and_true, Bool.false_and, Bool.and_false, Bool.true_or, Bool.or_true, Bool.false_or, Bool.or_false, Bool.not_true, Bool.not_false, decide_true, decide_false, bI_t, bI_f, Bool.false_eq_true, not_true_eq_false, not_false_eq_true, eq_self, reduceCtorEq, Bool.true_eq_false, and_true, true_and, and_false, false_and, or_true, true_or, or_false, false_or] at c_92_6; done) | (simp only [c_6, ixn hN31, c_10, Int32.not_lt.mp c_10, c_15, Int32.not_le.mpr c_15, eq_true c_92_6, ↓reduceIte, Bool.true_and, Bool.and_true, Bool.false_and, Bool.and_false, Bool.true_or, Bool.or_true, Bool.false_or, Bool.or_false, Bool.not_true, Bool.not_false, decide_true, decide_false, bI_t, bI_f, Bool.false_eq_true, not_true_eq_false, not_false_eq_true, eq_self, reduceCtorEq, Bool.true_eq_false, and_true, true_and, and_false, false_and, or_true, true_or, or_false, false_or] at c_26; done) | (simp only [c_6, ixn hN31, c_10, Int32.not_lt.mp c_10, c_26, eq_true c_92_6, ↓reduceIte, Bool.true_and, Bool.and_true, Bool.false_and, Bool.and_false, Bool.true_or, Bool.or_true, Bool.false_or, Bool.or_false, Bool.not_true, Bool.not_false, decide_true, decide_false, bI_t, bI_f, Bool.false_eq_true, not_true_eq_false, not_false_eq_true, eq_self, reduceCtorEq, Bool.true_eq_false, and_true, true_and, and_false, false_and, or_true, true_or, or_false, false_or] at c_15; done) | (simp only [c_6, ixn hN31, c_15, Int32.not_le.mpr c_15, c_26, eq_true c_92_6, ↓reduceIte, Bool.true_and, Bool.and_true, Bool.false_and, Bool.and_false, Bool.true_or, Bool.or_true, Bool.false_or, Bool.or_false, Bool.not_true, Bool.not_false, decide_true, decide_false, bI_t, bI_f, Bool.false_eq_true, not_true_eq_false, not_false_eq_true, eq_self, reduceCtorEq, Bool.true_eq_false, and_true, true_and, and_false, false_and, or_true, true_or, or_false, false_or] at c_10; done) | (simp only [ixn hN31, c_10, Int32.not_lt.mp c_10, c_15, Int32.not_le.mpr c_15, c_26, eq_true c_92_6, ↓reduceIte, Bool.true_and, Bool.and_true, Bool.false_and, Bool.and_false, Bool.true_or, Bool.or_true, Bool.false_or, Bool.or_false, Bool.not_true, Bool.not_false, decide_true, decide_false, bI_t, bI_f, Bool.false_eq_true, not_true_eq_false, not_false_eq_true, eq_self, reduceCtorEq, Bool.true_eq_false, and_true, true_and, and_false, false_and, or_true, true_or, or_false, false_or] at c_6; done))
        refine lv_istore_n (lv' := [(3, .int _), (0, .ref _), (1, .int _), (2, .int _), (4, .int _), (5, .int _), (6, .int _)]) hx hb dX2_order_101 rfl hl (Nat.le_of_ble_eq_true rfl) rfl (fun ls hl => ?_)
        refine lv_iinc (v := nI (k + 1)) (k := 4) (lv' := [(4, .int _), (3, .int _), (0, .ref _), (1, .int _), (2, .int _), (5, .int _), (6, .int _)]) hx hb dX2_order_102 hl rfl (nI_1 _) (Nat.le_of_ble_eq_true rfl) rfl (fun ls hl => ?_)
        refine lv_goto (tgt := 37) hx hb dX2_order_105 rfl ?_
        exact ih_k ls (lv_sub hl [2, 3, 4, 1, 0] rfl) h_k
      have h_j := lp_in hk_j hN31 c_52_5
      refine lv_iload hx hb dX2_order_55 (lv_at hl 5 rfl) ?_
      refine cutI (J := 80) (v := if !decide (j = k) && (fun i k => m_less (σ.rp i) (σ.rp k) i k) j k then 1 else 0) ?_ (fun K21 => ?_)
      rotate_left
      · skip
        refine lv_iload hx hb dX2_order_57 (lv_at hl 6 rfl) ?_
        refine lv_iload hx hb dX2_order_59 (lv_at hl 4 rfl) ?_
        refine lv_icmp_eq (tgt := 79) hx hb dX2_order_61 rfl (fun c_61_6 => ?_) (fun c_61_6 => ?_)
        · skip
          refine lv_iconst (v := 0) hx hb dX2_order_79 ic_0 ?_
          exact K21 _ (by first | with_reducible rfl | (simp only [pubO, inR, c_6, ixn hN31, c_10, Int32.not_lt.mp c_10, c_15, Int32.not_le.mpr c_15, c_26, eq_true ((nI_eq (by omega) (by omega)).mp c_61_6), ↓reduceIte, Bool.true_and, Bool.and_true, Bool.false_and, Bool.and_false, Bool.true_or, Bool.or_true, Bool.false_or, Bool.or_false, Bool.not_true, Bool.not_false, decide_true, decide_false, bI_t, bI_f, Bool.false_eq_true, not_true_eq_false, not_false_eq_true, eq_self, reduceCtorEq, Bool.true_eq_false, and_true, true_and, and_false, false_and, or_true, true_or, or_false, false_or]; done) | (simp only [c_6, ixn hN31, c_10, Int32.not_lt.mp c_10, c_15, Int32.not_le.mpr c_15, c_26, ↓reduceIte, Bool.true_and, Bool.and_true, Bool.false_and, Bool.and_false, Bool.true_or, Bool.or_true, Bool.false_or, Bool.or_false, Bool.not_true, Bool.not_false, decide_true, decide_false, bI_t, bI_f, Bool.false_eq_true, not_true_eq_false, not_false_eq_true, eq_self, reduceCtorEq, Bool.true_eq_false, and_true, true_and, and_false, false_and, or_true, true_or, or_false, false_or] at c_61_6; done) | (simp only [c_6, ixn hN31, c_10, Int32.not_lt.mp c_10, c_15, Int32.not_le.mpr c_15, eq_true ((nI_eq (by omega) (by omega)).mp c_61_6), ↓reduceIte, Bool.true_and, Bool.and_true, Bool.false_and, Bool.and_false, Bool.true_or, Bool.or_true, Bool.false_or, Bool.or_false, Bool.not_true, Bool.not_false, decide_true, decide_false, bI_t, bI_f, Bool.false_eq_true, not_true_eq_false, not_false_eq_true, eq_self, reduceCtorEq, Bool.true_eq_false, and_true, true_and, and_false, false_and, or_true, true_or, or_false, false_or] at c_26; done) | (simp only [c_6, ixn hN31, c_10, Int32.not_lt.mp c_10, c_26, eq_true ((nI_eq (by omega) (by omega)).mp c_61_6), ↓reduceIte, Bool.true_and, Bool.and_true, Bool.false_and, Bool.and_false, Bool.true_or, Bool.or_true, Bool.false_or, Bool.or_false, Bool.not_true, Bool.not_false, decide_true, decide_false, bI_t, bI_f, Bool.false_eq_true, not_true_eq_false, not_false_eq_true, eq_self, reduceCtorEq, Bool.true_eq_false, and_true, true_and, and_false, false_and, or_true, true_or, or_false, false_or] at c_15; done) | (simp only [c_6, ixn hN31, c_15, Int32.not_le.mpr c_15, c_26, eq_true ((nI_eq (by omega) (by omega)).mp c_61_6), ↓reduceIte, Bool.true_and, Bool.and_true, Bool.false_and, Bool.and_false, Bool.true_or, Bool.or_true, Bool.false_or, Bool.or_false, Bool.not_true, Bool.not_false, decide_true, decide_false, bI_t, bI_f, Bool.false_eq_true, not_true_eq_false, not_false_eq_true, eq_self, reduceCtorEq, Bool.true_eq_false, and_true, true_and, and_false, false_and, or_true, true_or, or_false, false_or] at c_10; done) | (simp only [ixn hN31, c_10, Int32.not_lt.mp c_10, c_15, Int32.not_le.mpr c_15, c_26, eq_true ((nI_eq (by omega) (by omega)).mp c_61_6), ↓reduceIte, Bool.true_and, Bool.and_true, Bool.false_and, Bool.and_false, Bool.true_or, Bool.or_true, Bool.false_or, Bool.or_false, Bool.not_true, Bool.not_false, decide_true, decide_false, bI_t, bI_f, Bool.false_eq_true, not_true_eq_false, not_false_eq_true, eq_self, reduceCtorEq, Bool.true_eq_false, and_true, true_and, and_false, false_and, or_true, true_or, or_false, false_or] at c_6; done))
        refine lv_aload_n hx hb dX2_order_64 rfl (lv_at hl 0 rfl) ?_
        refine lv_iload hx hb dX2_order_65 (lv_at hl 6 rfl) ?_
        refine lv_iload hx hb dX2_order_67 (lv_at hl 4 rfl) ?_
        refine p_callV (As := [.int _, .int _]) hx hb hml hown hts hK hZ (met_X2_isLess l G hM hO hN hr_ h_j h_k) q892 q894 qs36 q43 q895 hv_X2_isLess rfl hM.1 rfl (by decide) hl.1 rfl (Nat.le_of_ble_eq_true rfl) dX2_order_69 ⟨Nat.zero_le _, Nat.zero_le _⟩ ?_
        refine b_ifeq (tgt := 79) hx hb dX2_order_72 rfl (fun c_72_7 => ?_) (fun c_72_7 => ?_)
        · skip
          refine lv_iconst (v := 0) hx hb dX2_order_79 ic_0 ?_
          exact K21 _ (by first | with_reducible rfl | (simp only [pubO, inR, c_6, ixn hN31, c_10, Int32.not_lt.mp c_10, c_15, Int32.not_le.mpr c_15, c_26, (eq_false (fun h => c_61_6 (congrArg nI h)) : (j = k) = False), c_72_7, ↓reduceIte, Bool.true_and, Bool.and_true, Bool.false_and, Bool.and_false, Bool.true_or, Bool.or_true, Bool.false_or, Bool.or_false, Bool.not_true, Bool.not_false, decide_true, decide_false, bI_t, bI_f, Bool.false_eq_true, not_true_eq_false, not_false_eq_true, eq_self, reduceCtorEq, Bool.true_eq_false, and_true, true_and, and_false, false_and, or_true, true_or, or_false, false_or]; done) | (simp only [c_6, ixn hN31, c_10, Int32.not_lt.mp c_10, c_15, Int32.not_le.mpr c_15, c_26, (eq_false (fun h => c_61_6 (congrArg nI h)) : (j = k) = False), ↓reduceIte, Bool.true_and, Bool.and_true, Bool.false_and, Bool.and_false, Bool.true_or, Bool.or_true, Bool.false_or, Bool.or_false, Bool.not_true, Bool.not_false, decide_true, decide_false, bI_t, bI_f, Bool.false_eq_true, not_true_eq_false, not_false_eq_true, eq_self, reduceCtorEq, Bool.true_eq_false, and_true, true_and, and_false, false_and, or_true, true_or, or_false, false_or] at c_72_7; done) | (simp only [c_6, ixn hN31, c_10, Int32.not_lt.mp c_10, c_15, Int32.not_le.mpr c_15, c_26, c_72_7, ↓reduceIte, Bool.true_and, Bool.and_true, Bool.false_and, Bool.and_false, Bool.true_or, Bool.or_true, Bool.false_or, Bool.or_false, Bool.not_true, Bool.not_false, decide_true, decide_false, bI_t, bI_f, Bool.false_eq_true, not_true_eq_false, not_false_eq_true, eq_self, reduceCtorEq, Bool.true_eq_false, and_true, true_and, and_false, false_and, or_true, true_or, or_false, false_or] at c_61_6; done) | (simp only [c_6, ixn hN31, c_10, Int32.not_lt.mp c_10, c_15, Int32.not_le.mpr c_15, (eq_false (fun h => c_61_6 (congrArg nI h)) : (j = k) = False), c_72_7, ↓reduceIte, Bool.true_and, Bool.and_true, Bool.false_and, Bool.and_false, Bool.true_or, Bool.or_true, Bool.false_or, Bool.or_false, Bool.not_true, Bool.not_false, decide_true, decide_false, bI_t, bI_f, Bool.false_eq_true, not_true_eq_false, not_false_eq_true, eq_self, reduceCtorEq, Bool.true_eq_false, and_true, true_and, and_false, false_and, or_true, true_or, or_false, false_or] at c_26; done) | (simp only [c_6, ixn hN31, c_10, Int32.not_lt.mp c_10, c_26, (eq_false (fun h => c_61_6 (congrArg nI h)) : (j = k) = False), c_72_7, ↓reduceIte, Bool.true_and, Bool.and_true, Bool.false_and, Bool.and_false, Bool.true_or, Bool.or_true, Bool.false_or, Bool.or_false, Bool.not_true, Bool.not_false, decide_true, decide_false, bI_t, bI_f, Bool.false_eq_true, not_true_eq_false, not_false_eq_true, eq_self, reduceCtorEq, Bool.true_eq_false, and_true, true_and, and_false, false_and, or_true, true_or, or_false, false_or] at c_15; done) | (simp only [c_6, ixn hN31, c_15, Int32.not_le.mpr c_15, c_26, (eq_false (fun h => c_61_6 (congrArg nI h)) : (j = k) = False), c_72_7, ↓reduceIte, Bool.true_and, Bool.and_true, Bool.false_and, Bool.and_false, Bool.true_or, Bool.or_true, Bool.false_or, Bool.or_false, Bool.not_true, Bool.not_false, decide_true, decide_false, bI_t, bI_f, Bool.false_eq_true, not_true_eq_false, not_false_eq_true, eq_self, reduceCtorEq, Bool.true_eq_false, and_true, true_and, and_false, false_and, or_true, true_or, or_false, false_or] at c_10; done) | (simp only [ixn hN31, c_10, Int32.not_lt.mp c_10, c_15, Int32.not_le.mpr c_15, c_26, (eq_false (fun h => c_61_6 (congrArg nI h)) : (j = k) = False), c_72_7, ↓reduceIte, Bool.true_and, Bool.and_true, Bool.false_and, Bool.and_false, Bool.true_or, Bool.or_true, Bool.false_or, Bool.or_false, Bool.not_true, Bool.not_false, decide_true, decide_false, bI_t, bI_f, Bool.false_eq_true, not_true_eq_false, not_false_eq_true, eq_self, reduceCtorEq, Bool.true_eq_false, and_true, true_and, and_false, false_and, or_true, true_or, or_false, false_or] at c_6; done))
        refine lv_iconst (v := 1) hx hb dX2_order_75 ic_1 ?_
        refine lv_goto (tgt := 80) hx hb dX2_order_76 rfl ?_
        exact K21 _ (by first | with_reducible rfl | (simp only [pubO, inR, c_6, ixn hN31, c_10, Int32.not_lt.mp c_10, c_15, Int32.not_le.mpr c_15, c_26, (eq_false (fun h => c_61_6 (congrArg nI h)) : (j = k) = False), c_72_7, ↓reduceIte, Bool.true_and, Bool.and_true, Bool.false_and, Bool.and_false, Bool.true_or, Bool.or_true, Bool.false_or, Bool.or_false, Bool.not_true, Bool.not_false, decide_true, decide_false, bI_t, bI_f, Bool.false_eq_true, not_true_eq_false, not_false_eq_true, eq_self, reduceCtorEq, Bool.true_eq_false, and_true, true_and, and_false, false_and, or_true, true_or, or_false, false_or]; done) | (simp only [c_6, ixn hN31, c_10, Int32.not_lt.mp c_10, c_15, Int32.not_le.mpr c_15, c_26, (eq_false (fun h => c_61_6 (congrArg nI h)) : (j = k) = False), ↓reduceIte, Bool.true_and, Bool.and_true, Bool.false_and, Bool.and_false, Bool.true_or, Bool.or_true, Bool.false_or, Bool.or_false, Bool.not_true, Bool.not_false, decide_true, decide_false, bI_t, bI_f, Bool.false_eq_true, not_true_eq_false, not_false_eq_true, eq_self, reduceCtorEq, Bool.true_eq_false, and_true, true_and, and_false, false_and, or_true, true_or, or_false, false_or] at c_72_7; done) | (simp only [c_6, ixn hN31, c_10, Int32.not_lt.mp c_10, c_15, Int32.not_le.mpr c_15, c_26, c_72_7, ↓reduceIte, Bool.true_and, Bool.and_true, Bool.false_and, Bool.and_false, Bool.true_or, Bool.or_true, Bool.false_or, Bool.or_false, Bool.not_true, Bool.not_false, decide_true, decide_false, bI_t, bI_f, Bool.false_eq_true, not_true_eq_false, not_false_eq_true, eq_self, reduceCtorEq, Bool.true_eq_false, and_true, true_and, and_false, false_and, or_true, true_or, or_false, false_or] at c_61_6; done) | (simp only [c_6, ixn hN31, c_10, Int32.not_lt.mp c_10, c_15, Int32.not_le.mpr c_15, (eq_false (fun h => c_61_6 (congrArg nI h)) : (j = k) = False), c_72_7, ↓reduceIte, Bool.true_and, Bool.and_true, Bool.false_and, Bool.and_false, Bool.true_or, Bool.or_true, Bool.false_or, Bool.or_false, Bool.not_true, Bool.not_false, decide_true, decide_false, bI_t, bI_f, Bool.false_eq_true, not_true_eq_false, not_false_eq_true, eq_self, reduceCtorEq, Bool.true_eq_false, and_true, true_and, and_false, false_and, or_true, true_or, or_false, false_or] at c_26; done) | (simp only [c_6, ixn hN31, c_10, Int32.not_lt.mp c_10, c_26, (eq_false (fun h => c_61_6 (congrArg nI h)) : (j = k) = False), c_72_7, ↓reduceIte, Bool.true_and, Bool.and_true, Bool.false_and, Bool.and_false, Bool.true_or, Bool.or_true, Bool.false_or, Bool.or_false, Bool.not_true, Bool.not_false, decide_true, decide_false, bI_t, bI_f, Bool.false_eq_true, not_true_eq_false, not_false_eq_true, eq_self, reduceCtorEq, Bool.true_eq_false, and_true, true_and, and_false, false_and, or_true, true_or, or_false, false_or] at c_15; done) | (simp only [c_6, ixn hN31, c_15, Int32.not_le.mpr c_15, c_26, (eq_false (fun h => c_61_6 (congrArg nI h)) : (j = k) = False), c_72_7, ↓reduceIte, Bool.true_and, Bool.and_true, Bool.false_and, Bool.and_false, Bool.true_or, Bool.or_true, Bool.false_or, Bool.or_false, Bool.not_true, Bool.not_false, decide_true, decide_false, bI_t, bI_f, Bool.false_eq_true, not_true_eq_false, not_false_eq_true, eq_self, reduceCtorEq, Bool.true_eq_false, and_true, true_and, and_false, false_and, or_true, true_or, or_false, false_or] at c_10; done) | (simp only [ixn hN31, c_10, Int32.not_lt.mp c_10, c_15, Int32.not_le.mpr c_15, c_26, (eq_false (fun h => c_61_6 (congrArg nI h)) : (j = k) = False), c_72_7, ↓reduceIte, Bool.true_and, Bool.and_true, Bool.false_and, Bool.and_false, Bool.true_or, Bool.or_true, Bool.false_or, Bool.or_false, Bool.not_true, Bool.not_false, decide_true, decide_false, bI_t, bI_f, Bool.false_eq_true, not_true_eq_false, not_false_eq_true, eq_self, reduceCtorEq, Bool.true_eq_false, and_true, true_and, and_false, false_and, or_true, true_or, or_false, false_or] at c_6; done))
      refine lv_iadd hx hb dX2_order_80 ?_
      refine lv_istore (lv' := [(5, .int _), (0, .ref _), (1, .int _), (2, .int _), (3, .int _), (4, .int _), (6, .int _)]) hx hb dX2_order_81 hl (Nat.le_of_ble_eq_true rfl) rfl (fun ls hl => ?_)
      refine lv_iinc (v := nI (j + 1)) (k := 6) (lv' := [(6, .int _), (5, .int _), (0, .ref _), (1, .int _), (2, .int _), (3, .int _), (4, .int _)]) hx hb dX2_order_83 hl rfl (nI_1 _) (Nat.le_of_ble_eq_true rfl) rfl (fun ls hl => ?_)
      refine lv_goto (tgt := 49) hx hb dX2_order_86 rfl ?_
      exact ih_j ls (lv_sub hl [2, 3, 4, 5, 6, 1, 0] rfl) h_j
    refine lv_bipush (v := -4) hx hb dX2_order_29 ib_m4 ?_
    exact pm_iret hx hb hr hlk hH dX2_order_31 (by first | with_reducible rfl | (simp only [pubO, inR, c_6, ixn hN31, c_10, Int32.not_lt.mp c_10, c_15, Int32.not_le.mpr c_15, c_26, ↓reduceIte, Bool.true_and, Bool.and_true, Bool.false_and, Bool.and_false, Bool.true_or, Bool.or_true, Bool.false_or, Bool.or_false, Bool.not_true, Bool.not_false, decide_true, decide_false, bI_t, bI_f, Bool.false_eq_true, not_true_eq_false, not_false_eq_true, eq_self, reduceCtorEq, Bool.true_eq_false, and_true, true_and, and_false, false_and, or_true, true_or, or_false, false_or]; done) | (simp only [c_6, ixn hN31, c_10, Int32.not_lt.mp c_10, c_15, Int32.not_le.mpr c_15, ↓reduceIte, Bool.true_and, Bool.and_true, Bool.false_and, Bool.and_false, Bool.true_or, Bool.or_true, Bool.false_or, Bool.or_false, Bool.not_true, Bool.not_false, decide_true, decide_false, bI_t, bI_f, Bool.false_eq_true, not_true_eq_false, not_false_eq_true, eq_self, reduceCtorEq, Bool.true_eq_false, and_true, true_and, and_false, false_and, or_true, true_or, or_false, false_or] at c_26; done) | (simp only [c_6, ixn hN31, c_10, Int32.not_lt.mp c_10, c_26, ↓reduceIte, Bool.true_and, Bool.and_true, Bool.false_and, Bool.and_false, Bool.true_or, Bool.or_true, Bool.false_or, Bool.or_false, Bool.not_true, Bool.not_false, decide_true, decide_false, bI_t, bI_f, Bool.false_eq_true, not_true_eq_false, not_false_eq_true, eq_self, reduceCtorEq, Bool.true_eq_false, and_true, true_and, and_false, false_and, or_true, true_or, or_false, false_or] at c_15; done) | (simp only [c_6, ixn hN31, c_15, Int32.not_le.mpr c_15, c_26, ↓reduceIte, Bool.true_and, Bool.and_true, Bool.false_and, Bool.and_false, Bool.true_or, Bool.or_true, Bool.false_or, Bool.or_false, Bool.not_true, Bool.not_false, decide_true, decide_false, bI_t, bI_f, Bool.false_eq_true, not_true_eq_false, not_false_eq_true, eq_self, reduceCtorEq, Bool.true_eq_false, and_true, true_and, and_false, false_and, or_true, true_or, or_false, false_or] at c_10; done) | (simp only [ixn hN31, c_10, Int32.not_lt.mp c_10, c_15, Int32.not_le.mpr c_15, c_26, ↓reduceIte, Bool.true_and, Bool.and_true, Bool.false_and, Bool.and_false, Bool.true_or, Bool.or_true, Bool.false_or, Bool.or_false, Bool.not_true, Bool.not_false, decide_true, decide_false, bI_t, bI_f, Bool.false_eq_true, not_true_eq_false, not_false_eq_true, eq_self, reduceCtorEq, Bool.true_eq_false, and_true, true_and, and_false, false_and, or_true, true_or, or_false, false_or] at c_6; done))
  refine lv_bipush (v := -2) hx hb dX2_order_18 ib_m2 ?_
  exact pm_iret hx hb hr hlk hH dX2_order_20 (by first | with_reducible rfl | (simp only [pubO, inR, c_6, ixn hN31, c_10, Int32.not_lt.mp c_10, c_15, Int32.not_lt.mp c_15, ↓reduceIte, Bool.true_and, Bool.and_true, Bool.false_and, Bool.and_false, Bool.true_or, Bool.or_true, Bool.false_or, Bool.or_false, Bool.not_true, Bool.not_false, decide_true, decide_false, bI_t, bI_f, Bool.false_eq_true, not_true_eq_false, not_false_eq_true, eq_self, reduceCtorEq, Bool.true_eq_false, and_true, true_and, and_false, false_and, or_true, true_or, or_false, false_or]; done) | (simp only [c_6, ixn hN31, c_10, Int32.not_lt.mp c_10, ↓reduceIte, Bool.true_and, Bool.and_true, Bool.false_and, Bool.and_false, Bool.true_or, Bool.or_true, Bool.false_or, Bool.or_false, Bool.not_true, Bool.not_false, decide_true, decide_false, bI_t, bI_f, Bool.false_eq_true, not_true_eq_false, not_false_eq_true, eq_self, reduceCtorEq, Bool.true_eq_false, and_true, true_and, and_false, false_and, or_true, true_or, or_false, false_or] at c_15; done) | (simp only [c_6, ixn hN31, c_15, Int32.not_lt.mp c_15, ↓reduceIte, Bool.true_and, Bool.and_true, Bool.false_and, Bool.and_false, Bool.true_or, Bool.or_true, Bool.false_or, Bool.or_false, Bool.not_true, Bool.not_false, decide_true, decide_false, bI_t, bI_f, Bool.false_eq_true, not_true_eq_false, not_false_eq_true, eq_self, reduceCtorEq, Bool.true_eq_false, and_true, true_and, and_false, false_and, or_true, true_or, or_false, false_or] at c_10; done) | (simp only [ixn hN31, c_10, Int32.not_lt.mp c_10, c_15, Int32.not_lt.mp c_15, ↓reduceIte, Bool.true_and, Bool.and_true, Bool.false_and, Bool.and_false, Bool.true_or, Bool.or_true, Bool.false_or, Bool.or_false, Bool.not_true, Bool.not_false, decide_true, decide_false, bI_t, bI_f, Bool.false_eq_true, not_true_eq_false, not_false_eq_true, eq_self, reduceCtorEq, Bool.true_eq_false, and_true, true_and, and_false, false_and, or_true, true_or, or_false, false_or] at c_6; done))
theorem dX2_both_0 : decode cX2_both 0 = .ok (.aload_n 0, 1) := by decide +kernel
theorem dX2_both_1 : decode cX2_both 1 = .ok (.getfield 27, 3) := by decide +kernel
theorem dX2_both_4 : decode cX2_both 4 = .ok (.iload_n 1, 1) := by decide +kernel
theorem dX2_both_5 : decode cX2_both 5 = .ok (.laload, 1) := by decide +kernel
theorem dX2_both_6 : decode cX2_both 6 = .ok (.aload_n 0, 1) := by decide +kernel
theorem dX2_both_7 : decode cX2_both 7 = .ok (.getfield 31, 3) := by decide +kernel
theorem dX2_both_10 : decode cX2_both 10 = .ok (.iload_n 2, 1) := by decide +kernel
theorem dX2_both_11 : decode cX2_both 11 = .ok (.laload, 1) := by decide +kernel
theorem dX2_both_12 : decode cX2_both 12 = .ok (.lmul, 1) := by decide +kernel
theorem dX2_both_13 : decode cX2_both 13 = .ok (.aload_n 0, 1) := by decide +kernel
theorem dX2_both_14 : decode cX2_both 14 = .ok (.getfield 27, 3) := by decide +kernel
theorem dX2_both_17 : decode cX2_both 17 = .ok (.iload_n 2, 1) := by decide +kernel
theorem dX2_both_18 : decode cX2_both 18 = .ok (.laload, 1) := by decide +kernel
theorem dX2_both_19 : decode cX2_both 19 = .ok (.aload_n 0, 1) := by decide +kernel
theorem dX2_both_20 : decode cX2_both 20 = .ok (.getfield 31, 3) := by decide +kernel
theorem dX2_both_23 : decode cX2_both 23 = .ok (.iload_n 1, 1) := by decide +kernel
theorem dX2_both_24 : decode cX2_both 24 = .ok (.laload, 1) := by decide +kernel
theorem dX2_both_25 : decode cX2_both 25 = .ok (.lmul, 1) := by decide +kernel
theorem dX2_both_26 : decode cX2_both 26 = .ok (.lsub, 1) := by decide +kernel
theorem dX2_both_27 : decode cX2_both 27 = .ok (.lreturn, 1) := by decide +kernel
set_option maxHeartbeats 4000000 in
theorem met_X2_both (l : Launch) (G : GG) {H : Heap} {o : Nat} {A : Nat → Nat} {σ : Sg} {th : Int32} {a b : Nat} (hM : MW G H o A σ th) (hO : Ok σ) (i_a : a < σ.nl) (i_b : b < σ.nl) : PM l yX2_both cX2_both 3 (some .long) 0 0 G H [.ref o, .int (nI a), .int (nI b)] (some (.long (m_both (σ.ln a) (σ.ln b)))) := by
  refine pm_intro pl_X2_both (Nat.le_of_ble_eq_true rfl) ?_
  intro pX eX sX mX belX methX cX ls hE hnm hl
  obtain ⟨hx, hb, hr, hlk, hml, hown, hts, hK, hZ, hH⟩ := hE
  have hl : lv_has ls 3 [(0, .ref o), (1, .int (nI a)), (2, .int (nI b))] := hl
  refine lv_aload_n hx hb dX2_both_0 rfl (lv_at hl 0 rfl) ?_
  refine gf_X2_27 hx hb hts hown hK hM.1 rfl dX2_both_1 ?_
  refine lv_iload_n hx hb dX2_both_4 rfl (lv_at hl 1 rfl) ?_
  refine r_lald hx hb hK hM.2.2.2.2.1 dX2_both_5 (k := a) (hO.lt12 i_a) (by decide) rfl rfl ?_
  refine lv_aload_n hx hb dX2_both_6 rfl (lv_at hl 0 rfl) ?_
  refine gf_X2_31 hx hb hts hown hK hM.1 rfl dX2_both_7 ?_
  refine lv_iload_n hx hb dX2_both_10 rfl (lv_at hl 2 rfl) ?_
  refine r_lald hx hb hK hM.2.2.2.2.2.1 dX2_both_11 (k := b) (hO.lt12 i_b) (by decide) rfl rfl ?_
  refine lv_lmul hx hb dX2_both_12 ?_
  refine lv_aload_n hx hb dX2_both_13 rfl (lv_at hl 0 rfl) ?_
  refine gf_X2_27 hx hb hts hown hK hM.1 rfl dX2_both_14 ?_
  refine lv_iload_n hx hb dX2_both_17 rfl (lv_at hl 2 rfl) ?_
  refine r_lald hx hb hK hM.2.2.2.2.1 dX2_both_18 (k := b) (hO.lt12 i_b) (by decide) rfl rfl ?_
  refine lv_aload_n hx hb dX2_both_19 rfl (lv_at hl 0 rfl) ?_
  refine gf_X2_31 hx hb hts hown hK hM.1 rfl dX2_both_20 ?_
  refine lv_iload_n hx hb dX2_both_23 rfl (lv_at hl 1 rfl) ?_
  refine r_lald hx hb hK hM.2.2.2.2.2.1 dX2_both_24 (k := a) (hO.lt12 i_a) (by decide) rfl rfl ?_
  refine lv_lmul hx hb dX2_both_25 ?_
  refine lv_lsub hx hb dX2_both_26 ?_
  exact pm_lret hx hb hr hlk hH dX2_both_27 (by first | with_reducible rfl | (simp only [m_both, ↓reduceIte, Bool.true_and, Bool.and_true, Bool.false_and, Bool.and_false, Bool.true_or, Bool.or_true, Bool.false_or, Bool.or_false, Bool.not_true, Bool.not_false, decide_true, decide_false, bI_t, bI_f, Bool.false_eq_true, not_true_eq_false, not_false_eq_true, eq_self, reduceCtorEq, Bool.true_eq_false, and_true, true_and, and_false, false_and, or_true, true_or, or_false, false_or]; done))
theorem dX2_isOne_0 : decode cX2_isOne 0 = .ok (.aload_n 0, 1) := by decide +kernel
theorem dX2_isOne_1 : decode cX2_isOne 1 = .ok (.iload_n 1, 1) := by decide +kernel
theorem dX2_isOne_2 : decode cX2_isOne 2 = .ok (.iload_n 2, 1) := by decide +kernel
theorem dX2_isOne_3 : decode cX2_isOne 3 = .ok (.invokevirtual 171, 3) := by decide +kernel
theorem dX2_isOne_6 : decode cX2_isOne 6 = .ok (.lconst 0, 1) := by decide +kernel
theorem dX2_isOne_7 : decode cX2_isOne 7 = .ok (.lcmp, 1) := by decide +kernel
theorem dX2_isOne_8 : decode cX2_isOne 8 = .ok (.ifCond .ne 67, 3) := by decide +kernel
theorem dX2_isOne_11 : decode cX2_isOne 11 = .ok (.aload_n 0, 1) := by decide +kernel
theorem dX2_isOne_12 : decode cX2_isOne 12 = .ok (.getfield 27, 3) := by decide +kernel
theorem dX2_isOne_15 : decode cX2_isOne 15 = .ok (.iload_n 1, 1) := by decide +kernel
theorem dX2_isOne_16 : decode cX2_isOne 16 = .ok (.laload, 1) := by decide +kernel
theorem dX2_isOne_17 : decode cX2_isOne 17 = .ok (.aload_n 0, 1) := by decide +kernel
theorem dX2_isOne_18 : decode cX2_isOne 18 = .ok (.getfield 34, 3) := by decide +kernel
theorem dX2_isOne_21 : decode cX2_isOne 21 = .ok (.iload_n 2, 1) := by decide +kernel
theorem dX2_isOne_22 : decode cX2_isOne 22 = .ok (.laload, 1) := by decide +kernel
theorem dX2_isOne_23 : decode cX2_isOne 23 = .ok (.lmul, 1) := by decide +kernel
theorem dX2_isOne_24 : decode cX2_isOne 24 = .ok (.aload_n 0, 1) := by decide +kernel
theorem dX2_isOne_25 : decode cX2_isOne 25 = .ok (.getfield 27, 3) := by decide +kernel
theorem dX2_isOne_28 : decode cX2_isOne 28 = .ok (.iload_n 2, 1) := by decide +kernel
theorem dX2_isOne_29 : decode cX2_isOne 29 = .ok (.laload, 1) := by decide +kernel
theorem dX2_isOne_30 : decode cX2_isOne 30 = .ok (.aload_n 0, 1) := by decide +kernel
theorem dX2_isOne_31 : decode cX2_isOne 31 = .ok (.getfield 34, 3) := by decide +kernel
theorem dX2_isOne_34 : decode cX2_isOne 34 = .ok (.iload_n 1, 1) := by decide +kernel
theorem dX2_isOne_35 : decode cX2_isOne 35 = .ok (.laload, 1) := by decide +kernel
theorem dX2_isOne_36 : decode cX2_isOne 36 = .ok (.lmul, 1) := by decide +kernel
theorem dX2_isOne_37 : decode cX2_isOne 37 = .ok (.lcmp, 1) := by decide +kernel
theorem dX2_isOne_38 : decode cX2_isOne 38 = .ok (.ifCond .ne 37, 3) := by decide +kernel
theorem dX2_isOne_41 : decode cX2_isOne 41 = .ok (.aload_n 0, 1) := by decide +kernel
theorem dX2_isOne_42 : decode cX2_isOne 42 = .ok (.getfield 31, 3) := by decide +kernel
theorem dX2_isOne_45 : decode cX2_isOne 45 = .ok (.iload_n 1, 1) := by decide +kernel
theorem dX2_isOne_46 : decode cX2_isOne 46 = .ok (.laload, 1) := by decide +kernel
theorem dX2_isOne_47 : decode cX2_isOne 47 = .ok (.aload_n 0, 1) := by decide +kernel
theorem dX2_isOne_48 : decode cX2_isOne 48 = .ok (.getfield 34, 3) := by decide +kernel
theorem dX2_isOne_51 : decode cX2_isOne 51 = .ok (.iload_n 2, 1) := by decide +kernel
theorem dX2_isOne_52 : decode cX2_isOne 52 = .ok (.laload, 1) := by decide +kernel
theorem dX2_isOne_53 : decode cX2_isOne 53 = .ok (.lmul, 1) := by decide +kernel
theorem dX2_isOne_54 : decode cX2_isOne 54 = .ok (.aload_n 0, 1) := by decide +kernel
theorem dX2_isOne_55 : decode cX2_isOne 55 = .ok (.getfield 31, 3) := by decide +kernel
theorem dX2_isOne_58 : decode cX2_isOne 58 = .ok (.iload_n 2, 1) := by decide +kernel
theorem dX2_isOne_59 : decode cX2_isOne 59 = .ok (.laload, 1) := by decide +kernel
theorem dX2_isOne_60 : decode cX2_isOne 60 = .ok (.aload_n 0, 1) := by decide +kernel
theorem dX2_isOne_61 : decode cX2_isOne 61 = .ok (.getfield 34, 3) := by decide +kernel
theorem dX2_isOne_64 : decode cX2_isOne 64 = .ok (.iload_n 1, 1) := by decide +kernel
theorem dX2_isOne_65 : decode cX2_isOne 65 = .ok (.laload, 1) := by decide +kernel
theorem dX2_isOne_66 : decode cX2_isOne 66 = .ok (.lmul, 1) := by decide +kernel
theorem dX2_isOne_67 : decode cX2_isOne 67 = .ok (.lcmp, 1) := by decide +kernel
theorem dX2_isOne_68 : decode cX2_isOne 68 = .ok (.ifCond .ne 7, 3) := by decide +kernel
theorem dX2_isOne_71 : decode cX2_isOne 71 = .ok (.iconst 1, 1) := by decide +kernel
theorem dX2_isOne_72 : decode cX2_isOne 72 = .ok (.goto 4, 3) := by decide +kernel
theorem dX2_isOne_75 : decode cX2_isOne 75 = .ok (.iconst 0, 1) := by decide +kernel
theorem dX2_isOne_76 : decode cX2_isOne 76 = .ok (.ireturn, 1) := by decide +kernel
set_option maxHeartbeats 4000000 in
theorem met_X2_isOne (l : Launch) (G : GG) {H : Heap} {o : Nat} {A : Nat → Nat} {σ : Sg} {th : Int32} {a b : Nat} (hM : MW G H o A σ th) (hO : Ok σ) (i_a : a < σ.nl) (i_b : b < σ.nl) : PM l yX2_isOne cX2_isOne 3 (some .boolean) 1 22 G H [.ref o, .int (nI a), .int (nI b)] (some (.int (bI (m_isOne (σ.ln a) (σ.ln b))))) := by
  refine pm_intro pl_X2_isOne (Nat.le_of_ble_eq_true rfl) ?_
  intro pX eX sX mX belX methX cX ls hE hnm hl
  obtain ⟨hx, hb, hr, hlk, hml, hown, hts, hK, hZ, hH⟩ := hE
  have hl : lv_has ls 3 [(0, .ref o), (1, .int (nI a)), (2, .int (nI b))] := hl
  refine lv_aload_n hx hb dX2_isOne_0 rfl (lv_at hl 0 rfl) ?_
  refine lv_iload_n hx hb dX2_isOne_1 rfl (lv_at hl 1 rfl) ?_
  refine lv_iload_n hx hb dX2_isOne_2 rfl (lv_at hl 2 rfl) ?_
  refine p_callV (As := [.int _, .int _]) hx hb hml hown hts hK hZ (met_X2_both l G hM hO i_a i_b) q916 q918 qs39 q43 q919 hv_X2_both rfl hM.1 rfl (by decide) hl.1 rfl (Nat.le_of_ble_eq_true rfl) dX2_isOne_3 ⟨Nat.zero_le _, Nat.zero_le _⟩ ?_
  refine lv_lconst (v := 0) hx hb dX2_isOne_6 rfl ?_
  refine lc_ne (tgt := 75) hx hb dX2_isOne_7 dX2_isOne_8 rfl (fun c_7 => ?_) (fun c_7 => ?_)
  · skip
    refine lv_iconst (v := 0) hx hb dX2_isOne_75 ic_0 ?_
    exact pm_zret hx hb hr hlk hH dX2_isOne_76 (by first | with_reducible rfl | (simp only [m_isOne, c_7, ↓reduceIte, Bool.true_and, Bool.and_true, Bool.false_and, Bool.and_false, Bool.true_or, Bool.or_true, Bool.false_or, Bool.or_false, Bool.not_true, Bool.not_false, decide_true, decide_false, bI_t, bI_f, Bool.false_eq_true, not_true_eq_false, not_false_eq_true, eq_self, reduceCtorEq, Bool.true_eq_false, and_true, true_and, and_false, false_and, or_true, true_or, or_false, false_or]; done))
  refine lv_aload_n hx hb dX2_isOne_11 rfl (lv_at hl 0 rfl) ?_
  refine gf_X2_27 hx hb hts hown hK hM.1 rfl dX2_isOne_12 ?_
  refine lv_iload_n hx hb dX2_isOne_15 rfl (lv_at hl 1 rfl) ?_
  refine r_lald hx hb hK hM.2.2.2.2.1 dX2_isOne_16 (k := a) (hO.lt12 i_a) (by decide) rfl rfl ?_
  refine lv_aload_n hx hb dX2_isOne_17 rfl (lv_at hl 0 rfl) ?_
  refine gf_X2_34 hx hb hts hown hK hM.1 rfl dX2_isOne_18 ?_
  refine lv_iload_n hx hb dX2_isOne_21 rfl (lv_at hl 2 rfl) ?_
  refine r_lald hx hb hK hM.2.2.2.2.2.2 dX2_isOne_22 (k := b) (hO.lt12 i_b) (by decide) rfl rfl ?_
  refine lv_lmul hx hb dX2_isOne_23 ?_
  refine lv_aload_n hx hb dX2_isOne_24 rfl (lv_at hl 0 rfl) ?_
  refine gf_X2_27 hx hb hts hown hK hM.1 rfl dX2_isOne_25 ?_
  refine lv_iload_n hx hb dX2_isOne_28 rfl (lv_at hl 2 rfl) ?_
  refine r_lald hx hb hK hM.2.2.2.2.1 dX2_isOne_29 (k := b) (hO.lt12 i_b) (by decide) rfl rfl ?_
  refine lv_aload_n hx hb dX2_isOne_30 rfl (lv_at hl 0 rfl) ?_
  refine gf_X2_34 hx hb hts hown hK hM.1 rfl dX2_isOne_31 ?_
  refine lv_iload_n hx hb dX2_isOne_34 rfl (lv_at hl 1 rfl) ?_
  refine r_lald hx hb hK hM.2.2.2.2.2.2 dX2_isOne_35 (k := a) (hO.lt12 i_a) (by decide) rfl rfl ?_
  refine lv_lmul hx hb dX2_isOne_36 ?_
  refine lc_ne (tgt := 75) hx hb dX2_isOne_37 dX2_isOne_38 rfl (fun c_37 => ?_) (fun c_37 => ?_)
  · skip
    refine lv_iconst (v := 0) hx hb dX2_isOne_75 ic_0 ?_
    exact pm_zret hx hb hr hlk hH dX2_isOne_76 (by first | with_reducible rfl | (simp only [m_isOne, eq_true c_7, c_37, ↓reduceIte, Bool.true_and, Bool.and_true, Bool.false_and, Bool.and_false, Bool.true_or, Bool.or_true, Bool.false_or, Bool.or_false, Bool.not_true, Bool.not_false, decide_true, decide_false, bI_t, bI_f, Bool.false_eq_true, not_true_eq_false, not_false_eq_true, eq_self, reduceCtorEq, Bool.true_eq_false, and_true, true_and, and_false, false_and, or_true, true_or, or_false, false_or]; done) | (simp only [eq_true c_7, ↓reduceIte, Bool.true_and, Bool.and_true, Bool.false_and, Bool.and_false, Bool.true_or, Bool.or_true, Bool.false_or, Bool.or_false, Bool.not_true, Bool.not_false, decide_true, decide_false, bI_t, bI_f, Bool.false_eq_true, not_true_eq_false, not_false_eq_true, eq_self, reduceCtorEq, Bool.true_eq_false, and_true, true_and, and_false, false_and, or_true, true_or, or_false, false_or] at c_37; done) | (simp only [c_37, ↓reduceIte, Bool.true_and, Bool.and_true, Bool.false_and, Bool.and_false, Bool.true_or, Bool.or_true, Bool.false_or, Bool.or_false, Bool.not_true, Bool.not_false, decide_true, decide_false, bI_t, bI_f, Bool.false_eq_true, not_true_eq_false, not_false_eq_true, eq_self, reduceCtorEq, Bool.true_eq_false, and_true, true_and, and_false, false_and, or_true, true_or, or_false, false_or] at c_7; done))
  refine lv_aload_n hx hb dX2_isOne_41 rfl (lv_at hl 0 rfl) ?_
  refine gf_X2_31 hx hb hts hown hK hM.1 rfl dX2_isOne_42 ?_
  refine lv_iload_n hx hb dX2_isOne_45 rfl (lv_at hl 1 rfl) ?_
  refine r_lald hx hb hK hM.2.2.2.2.2.1 dX2_isOne_46 (k := a) (hO.lt12 i_a) (by decide) rfl rfl ?_
  refine lv_aload_n hx hb dX2_isOne_47 rfl (lv_at hl 0 rfl) ?_
  refine gf_X2_34 hx hb hts hown hK hM.1 rfl dX2_isOne_48 ?_
  refine lv_iload_n hx hb dX2_isOne_51 rfl (lv_at hl 2 rfl) ?_
  refine r_lald hx hb hK hM.2.2.2.2.2.2 dX2_isOne_52 (k := b) (hO.lt12 i_b) (by decide) rfl rfl ?_
  refine lv_lmul hx hb dX2_isOne_53 ?_
  refine lv_aload_n hx hb dX2_isOne_54 rfl (lv_at hl 0 rfl) ?_
  refine gf_X2_31 hx hb hts hown hK hM.1 rfl dX2_isOne_55 ?_
  refine lv_iload_n hx hb dX2_isOne_58 rfl (lv_at hl 2 rfl) ?_
  refine r_lald hx hb hK hM.2.2.2.2.2.1 dX2_isOne_59 (k := b) (hO.lt12 i_b) (by decide) rfl rfl ?_
  refine lv_aload_n hx hb dX2_isOne_60 rfl (lv_at hl 0 rfl) ?_
  refine gf_X2_34 hx hb hts hown hK hM.1 rfl dX2_isOne_61 ?_
  refine lv_iload_n hx hb dX2_isOne_64 rfl (lv_at hl 1 rfl) ?_
  refine r_lald hx hb hK hM.2.2.2.2.2.2 dX2_isOne_65 (k := a) (hO.lt12 i_a) (by decide) rfl rfl ?_
  refine lv_lmul hx hb dX2_isOne_66 ?_
  refine lc_ne (tgt := 75) hx hb dX2_isOne_67 dX2_isOne_68 rfl (fun c_67 => ?_) (fun c_67 => ?_)
  · skip
    refine lv_iconst (v := 0) hx hb dX2_isOne_75 ic_0 ?_
    exact pm_zret hx hb hr hlk hH dX2_isOne_76 (by first | with_reducible rfl | (simp only [m_isOne, eq_true c_7, eq_true c_37, c_67, ↓reduceIte, Bool.true_and, Bool.and_true, Bool.false_and, Bool.and_false, Bool.true_or, Bool.or_true, Bool.false_or, Bool.or_false, Bool.not_true, Bool.not_false, decide_true, decide_false, bI_t, bI_f, Bool.false_eq_true, not_true_eq_false, not_false_eq_true, eq_self, reduceCtorEq, Bool.true_eq_false, and_true, true_and, and_false, false_and, or_true, true_or, or_false, false_or]; done) | (simp only [eq_true c_7, eq_true c_37, ↓reduceIte, Bool.true_and, Bool.and_true, Bool.false_and, Bool.and_false, Bool.true_or, Bool.or_true, Bool.false_or, Bool.or_false, Bool.not_true, Bool.not_false, decide_true, decide_false, bI_t, bI_f, Bool.false_eq_true, not_true_eq_false, not_false_eq_true, eq_self, reduceCtorEq, Bool.true_eq_false, and_true, true_and, and_false, false_and, or_true, true_or, or_false, false_or] at c_67; done) | (simp only [eq_true c_7, c_67, ↓reduceIte, Bool.true_and, Bool.and_true, Bool.false_and, Bool.and_false, Bool.true_or, Bool.or_true, Bool.false_or, Bool.or_false, Bool.not_true, Bool.not_false, decide_true, decide_false, bI_t, bI_f, Bool.false_eq_true, not_true_eq_false, not_false_eq_true, eq_self, reduceCtorEq, Bool.true_eq_false, and_true, true_and, and_false, false_and, or_true, true_or, or_false, false_or] at c_37; done) | (simp only [eq_true c_37, c_67, ↓reduceIte, Bool.true_and, Bool.and_true, Bool.false_and, Bool.and_false, Bool.true_or, Bool.or_true, Bool.false_or, Bool.or_false, Bool.not_true, Bool.not_false, decide_true, decide_false, bI_t, bI_f, Bool.false_eq_true, not_true_eq_false, not_false_eq_true, eq_self, reduceCtorEq, Bool.true_eq_false, and_true, true_and, and_false, false_and, or_true, true_or, or_false, false_or] at c_7; done))
  refine lv_iconst (v := 1) hx hb dX2_isOne_71 ic_1 ?_
  refine lv_goto (tgt := 76) hx hb dX2_isOne_72 rfl ?_
  exact pm_zret hx hb hr hlk hH dX2_isOne_76 (by first | with_reducible rfl | (simp only [m_isOne, eq_true c_7, eq_true c_37, eq_true c_67, ↓reduceIte, Bool.true_and, Bool.and_true, Bool.false_and, Bool.and_false, Bool.true_or, Bool.or_true, Bool.false_or, Bool.or_false, Bool.not_true, Bool.not_false, decide_true, decide_false, bI_t, bI_f, Bool.false_eq_true, not_true_eq_false, not_false_eq_true, eq_self, reduceCtorEq, Bool.true_eq_false, and_true, true_and, and_false, false_and, or_true, true_or, or_false, false_or]; done) | (simp only [eq_true c_7, eq_true c_37, ↓reduceIte, Bool.true_and, Bool.and_true, Bool.false_and, Bool.and_false, Bool.true_or, Bool.or_true, Bool.false_or, Bool.or_false, Bool.not_true, Bool.not_false, decide_true, decide_false, bI_t, bI_f, Bool.false_eq_true, not_true_eq_false, not_false_eq_true, eq_self, reduceCtorEq, Bool.true_eq_false, and_true, true_and, and_false, false_and, or_true, true_or, or_false, false_or] at c_67; done) | (simp only [eq_true c_7, eq_true c_67, ↓reduceIte, Bool.true_and, Bool.and_true, Bool.false_and, Bool.and_false, Bool.true_or, Bool.or_true, Bool.false_or, Bool.or_false, Bool.not_true, Bool.not_false, decide_true, decide_false, bI_t, bI_f, Bool.false_eq_true, not_true_eq_false, not_false_eq_true, eq_self, reduceCtorEq, Bool.true_eq_false, and_true, true_and, and_false, false_and, or_true, true_or, or_false, false_or] at c_37; done) | (simp only [eq_true c_37, eq_true c_67, ↓reduceIte, Bool.true_and, Bool.and_true, Bool.false_and, Bool.and_false, Bool.true_or, Bool.or_true, Bool.false_or, Bool.or_false, Bool.not_true, Bool.not_false, decide_true, decide_false, bI_t, bI_f, Bool.false_eq_true, not_true_eq_false, not_false_eq_true, eq_self, reduceCtorEq, Bool.true_eq_false, and_true, true_and, and_false, false_and, or_true, true_or, or_false, false_or] at c_7; done))
theorem dX2_isThrough_0 : decode cX2_isThrough 0 = .ok (.aload_n 0, 1) := by decide +kernel
theorem dX2_isThrough_1 : decode cX2_isThrough 1 = .ok (.getfield 34, 3) := by decide +kernel
theorem dX2_isThrough_4 : decode cX2_isThrough 4 = .ok (.iload_n 1, 1) := by decide +kernel
theorem dX2_isThrough_5 : decode cX2_isThrough 5 = .ok (.laload, 1) := by decide +kernel
theorem dX2_isThrough_6 : decode cX2_isThrough 6 = .ok (.aload_n 0, 1) := by decide +kernel
theorem dX2_isThrough_7 : decode cX2_isThrough 7 = .ok (.getfield 31, 3) := by decide +kernel
theorem dX2_isThrough_10 : decode cX2_isThrough 10 = .ok (.iload_n 2, 1) := by decide +kernel
theorem dX2_isThrough_11 : decode cX2_isThrough 11 = .ok (.laload, 1) := by decide +kernel
theorem dX2_isThrough_12 : decode cX2_isThrough 12 = .ok (.lmul, 1) := by decide +kernel
theorem dX2_isThrough_13 : decode cX2_isThrough 13 = .ok (.aload_n 0, 1) := by decide +kernel
theorem dX2_isThrough_14 : decode cX2_isThrough 14 = .ok (.getfield 34, 3) := by decide +kernel
theorem dX2_isThrough_17 : decode cX2_isThrough 17 = .ok (.iload_n 2, 1) := by decide +kernel
theorem dX2_isThrough_18 : decode cX2_isThrough 18 = .ok (.laload, 1) := by decide +kernel
theorem dX2_isThrough_19 : decode cX2_isThrough 19 = .ok (.aload_n 0, 1) := by decide +kernel
theorem dX2_isThrough_20 : decode cX2_isThrough 20 = .ok (.getfield 31, 3) := by decide +kernel
theorem dX2_isThrough_23 : decode cX2_isThrough 23 = .ok (.iload_n 1, 1) := by decide +kernel
theorem dX2_isThrough_24 : decode cX2_isThrough 24 = .ok (.laload, 1) := by decide +kernel
theorem dX2_isThrough_25 : decode cX2_isThrough 25 = .ok (.lmul, 1) := by decide +kernel
theorem dX2_isThrough_26 : decode cX2_isThrough 26 = .ok (.lsub, 1) := by decide +kernel
theorem dX2_isThrough_27 : decode cX2_isThrough 27 = .ok (.lstore 4, 2) := by decide +kernel
theorem dX2_isThrough_29 : decode cX2_isThrough 29 = .ok (.aload_n 0, 1) := by decide +kernel
theorem dX2_isThrough_30 : decode cX2_isThrough 30 = .ok (.getfield 27, 3) := by decide +kernel
theorem dX2_isThrough_33 : decode cX2_isThrough 33 = .ok (.iload_n 1, 1) := by decide +kernel
theorem dX2_isThrough_34 : decode cX2_isThrough 34 = .ok (.laload, 1) := by decide +kernel
theorem dX2_isThrough_35 : decode cX2_isThrough 35 = .ok (.aload_n 0, 1) := by decide +kernel
theorem dX2_isThrough_36 : decode cX2_isThrough 36 = .ok (.getfield 34, 3) := by decide +kernel
theorem dX2_isThrough_39 : decode cX2_isThrough 39 = .ok (.iload_n 2, 1) := by decide +kernel
theorem dX2_isThrough_40 : decode cX2_isThrough 40 = .ok (.laload, 1) := by decide +kernel
theorem dX2_isThrough_41 : decode cX2_isThrough 41 = .ok (.lmul, 1) := by decide +kernel
theorem dX2_isThrough_42 : decode cX2_isThrough 42 = .ok (.aload_n 0, 1) := by decide +kernel
theorem dX2_isThrough_43 : decode cX2_isThrough 43 = .ok (.getfield 27, 3) := by decide +kernel
theorem dX2_isThrough_46 : decode cX2_isThrough 46 = .ok (.iload_n 2, 1) := by decide +kernel
theorem dX2_isThrough_47 : decode cX2_isThrough 47 = .ok (.laload, 1) := by decide +kernel
theorem dX2_isThrough_48 : decode cX2_isThrough 48 = .ok (.aload_n 0, 1) := by decide +kernel
theorem dX2_isThrough_49 : decode cX2_isThrough 49 = .ok (.getfield 34, 3) := by decide +kernel
theorem dX2_isThrough_52 : decode cX2_isThrough 52 = .ok (.iload_n 1, 1) := by decide +kernel
theorem dX2_isThrough_53 : decode cX2_isThrough 53 = .ok (.laload, 1) := by decide +kernel
theorem dX2_isThrough_54 : decode cX2_isThrough 54 = .ok (.lmul, 1) := by decide +kernel
theorem dX2_isThrough_55 : decode cX2_isThrough 55 = .ok (.lsub, 1) := by decide +kernel
theorem dX2_isThrough_56 : decode cX2_isThrough 56 = .ok (.lstore 6, 2) := by decide +kernel
theorem dX2_isThrough_58 : decode cX2_isThrough 58 = .ok (.aload_n 0, 1) := by decide +kernel
theorem dX2_isThrough_59 : decode cX2_isThrough 59 = .ok (.getfield 27, 3) := by decide +kernel
theorem dX2_isThrough_62 : decode cX2_isThrough 62 = .ok (.iload_n 3, 1) := by decide +kernel
theorem dX2_isThrough_63 : decode cX2_isThrough 63 = .ok (.laload, 1) := by decide +kernel
theorem dX2_isThrough_64 : decode cX2_isThrough 64 = .ok (.lload 4, 2) := by decide +kernel
theorem dX2_isThrough_66 : decode cX2_isThrough 66 = .ok (.lmul, 1) := by decide +kernel
theorem dX2_isThrough_67 : decode cX2_isThrough 67 = .ok (.aload_n 0, 1) := by decide +kernel
theorem dX2_isThrough_68 : decode cX2_isThrough 68 = .ok (.getfield 31, 3) := by decide +kernel
theorem dX2_isThrough_71 : decode cX2_isThrough 71 = .ok (.iload_n 3, 1) := by decide +kernel
theorem dX2_isThrough_72 : decode cX2_isThrough 72 = .ok (.laload, 1) := by decide +kernel
theorem dX2_isThrough_73 : decode cX2_isThrough 73 = .ok (.lload 6, 2) := by decide +kernel
theorem dX2_isThrough_75 : decode cX2_isThrough 75 = .ok (.lmul, 1) := by decide +kernel
theorem dX2_isThrough_76 : decode cX2_isThrough 76 = .ok (.ladd, 1) := by decide +kernel
theorem dX2_isThrough_77 : decode cX2_isThrough 77 = .ok (.aload_n 0, 1) := by decide +kernel
theorem dX2_isThrough_78 : decode cX2_isThrough 78 = .ok (.getfield 34, 3) := by decide +kernel
theorem dX2_isThrough_81 : decode cX2_isThrough 81 = .ok (.iload_n 3, 1) := by decide +kernel
theorem dX2_isThrough_82 : decode cX2_isThrough 82 = .ok (.laload, 1) := by decide +kernel
theorem dX2_isThrough_83 : decode cX2_isThrough 83 = .ok (.aload_n 0, 1) := by decide +kernel
theorem dX2_isThrough_84 : decode cX2_isThrough 84 = .ok (.iload_n 1, 1) := by decide +kernel
theorem dX2_isThrough_85 : decode cX2_isThrough 85 = .ok (.iload_n 2, 1) := by decide +kernel
theorem dX2_isThrough_86 : decode cX2_isThrough 86 = .ok (.invokevirtual 171, 3) := by decide +kernel
theorem dX2_isThrough_89 : decode cX2_isThrough 89 = .ok (.lmul, 1) := by decide +kernel
theorem dX2_isThrough_90 : decode cX2_isThrough 90 = .ok (.lcmp, 1) := by decide +kernel
theorem dX2_isThrough_91 : decode cX2_isThrough 91 = .ok (.ifCond .ne 7, 3) := by decide +kernel
theorem dX2_isThrough_94 : decode cX2_isThrough 94 = .ok (.iconst 1, 1) := by decide +kernel
theorem dX2_isThrough_95 : decode cX2_isThrough 95 = .ok (.goto 4, 3) := by decide +kernel
theorem dX2_isThrough_98 : decode cX2_isThrough 98 = .ok (.iconst 0, 1) := by decide +kernel
theorem dX2_isThrough_99 : decode cX2_isThrough 99 = .ok (.ireturn, 1) := by decide +kernel
set_option maxHeartbeats 4000000 in
theorem met_X2_isThrough (l : Launch) (G : GG) {H : Heap} {o : Nat} {A : Nat → Nat} {σ : Sg} {th : Int32} {a b d : Nat} (hM : MW G H o A σ th) (hO : Ok σ) (i_a : a < σ.nl) (i_b : b < σ.nl) (i_d : d < σ.nl) : PM l yX2_isThrough cX2_isThrough 8 (some .boolean) 1 22 G H [.ref o, .int (nI a), .int (nI b), .int (nI d)] (some (.int (bI (m_thr (σ.ln a) (σ.ln b) (σ.ln d))))) := by
  refine pm_intro pl_X2_isThrough (Nat.le_of_ble_eq_true rfl) ?_
  intro pX eX sX mX belX methX cX ls hE hnm hl
  obtain ⟨hx, hb, hr, hlk, hml, hown, hts, hK, hZ, hH⟩ := hE
  have hl : lv_has ls 8 [(0, .ref o), (1, .int (nI a)), (2, .int (nI b)), (3, .int (nI d))] := hl
  refine lv_aload_n hx hb dX2_isThrough_0 rfl (lv_at hl 0 rfl) ?_
  refine gf_X2_34 hx hb hts hown hK hM.1 rfl dX2_isThrough_1 ?_
  refine lv_iload_n hx hb dX2_isThrough_4 rfl (lv_at hl 1 rfl) ?_
  refine r_lald hx hb hK hM.2.2.2.2.2.2 dX2_isThrough_5 (k := a) (hO.lt12 i_a) (by decide) rfl rfl ?_
  refine lv_aload_n hx hb dX2_isThrough_6 rfl (lv_at hl 0 rfl) ?_
  refine gf_X2_31 hx hb hts hown hK hM.1 rfl dX2_isThrough_7 ?_
  refine lv_iload_n hx hb dX2_isThrough_10 rfl (lv_at hl 2 rfl) ?_
  refine r_lald hx hb hK hM.2.2.2.2.2.1 dX2_isThrough_11 (k := b) (hO.lt12 i_b) (by decide) rfl rfl ?_
  refine lv_lmul hx hb dX2_isThrough_12 ?_
  refine lv_aload_n hx hb dX2_isThrough_13 rfl (lv_at hl 0 rfl) ?_
  refine gf_X2_34 hx hb hts hown hK hM.1 rfl dX2_isThrough_14 ?_
  refine lv_iload_n hx hb dX2_isThrough_17 rfl (lv_at hl 2 rfl) ?_
  refine r_lald hx hb hK hM.2.2.2.2.2.2 dX2_isThrough_18 (k := b) (hO.lt12 i_b) (by decide) rfl rfl ?_
  refine lv_aload_n hx hb dX2_isThrough_19 rfl (lv_at hl 0 rfl) ?_
  refine gf_X2_31 hx hb hts hown hK hM.1 rfl dX2_isThrough_20 ?_
  refine lv_iload_n hx hb dX2_isThrough_23 rfl (lv_at hl 1 rfl) ?_
  refine r_lald hx hb hK hM.2.2.2.2.2.1 dX2_isThrough_24 (k := a) (hO.lt12 i_a) (by decide) rfl rfl ?_
  refine lv_lmul hx hb dX2_isThrough_25 ?_
  refine lv_lsub hx hb dX2_isThrough_26 ?_
  refine lv_lstore (lv' := [(4, .long _), (0, .ref _), (1, .int _), (2, .int _), (3, .int _)]) hx hb dX2_isThrough_27 hl (Nat.le_of_ble_eq_true rfl) rfl (fun ls hl => ?_)
  refine lv_aload_n hx hb dX2_isThrough_29 rfl (lv_at hl 1 rfl) ?_
  refine gf_X2_27 hx hb hts hown hK hM.1 rfl dX2_isThrough_30 ?_
  refine lv_iload_n hx hb dX2_isThrough_33 rfl (lv_at hl 2 rfl) ?_
  refine r_lald hx hb hK hM.2.2.2.2.1 dX2_isThrough_34 (k := a) (hO.lt12 i_a) (by decide) rfl rfl ?_
  refine lv_aload_n hx hb dX2_isThrough_35 rfl (lv_at hl 1 rfl) ?_
  refine gf_X2_34 hx hb hts hown hK hM.1 rfl dX2_isThrough_36 ?_
  refine lv_iload_n hx hb dX2_isThrough_39 rfl (lv_at hl 3 rfl) ?_
  refine r_lald hx hb hK hM.2.2.2.2.2.2 dX2_isThrough_40 (k := b) (hO.lt12 i_b) (by decide) rfl rfl ?_
  refine lv_lmul hx hb dX2_isThrough_41 ?_
  refine lv_aload_n hx hb dX2_isThrough_42 rfl (lv_at hl 1 rfl) ?_
  refine gf_X2_27 hx hb hts hown hK hM.1 rfl dX2_isThrough_43 ?_
  refine lv_iload_n hx hb dX2_isThrough_46 rfl (lv_at hl 3 rfl) ?_
  refine r_lald hx hb hK hM.2.2.2.2.1 dX2_isThrough_47 (k := b) (hO.lt12 i_b) (by decide) rfl rfl ?_
  refine lv_aload_n hx hb dX2_isThrough_48 rfl (lv_at hl 1 rfl) ?_
  refine gf_X2_34 hx hb hts hown hK hM.1 rfl dX2_isThrough_49 ?_
  refine lv_iload_n hx hb dX2_isThrough_52 rfl (lv_at hl 2 rfl) ?_
  refine r_lald hx hb hK hM.2.2.2.2.2.2 dX2_isThrough_53 (k := a) (hO.lt12 i_a) (by decide) rfl rfl ?_
  refine lv_lmul hx hb dX2_isThrough_54 ?_
  refine lv_lsub hx hb dX2_isThrough_55 ?_
  refine lv_lstore (lv' := [(6, .long _), (4, .long _), (0, .ref _), (1, .int _), (2, .int _), (3, .int _)]) hx hb dX2_isThrough_56 hl (Nat.le_of_ble_eq_true rfl) rfl (fun ls hl => ?_)
  refine lv_aload_n hx hb dX2_isThrough_58 rfl (lv_at hl 2 rfl) ?_
  refine gf_X2_27 hx hb hts hown hK hM.1 rfl dX2_isThrough_59 ?_
  refine lv_iload_n hx hb dX2_isThrough_62 rfl (lv_at hl 5 rfl) ?_
  refine r_lald hx hb hK hM.2.2.2.2.1 dX2_isThrough_63 (k := d) (hO.lt12 i_d) (by decide) rfl rfl ?_
  refine lv_lload hx hb dX2_isThrough_64 (lv_at hl 1 rfl) ?_
  refine lv_lmul hx hb dX2_isThrough_66 ?_
  refine lv_aload_n hx hb dX2_isThrough_67 rfl (lv_at hl 2 rfl) ?_
  refine gf_X2_31 hx hb hts hown hK hM.1 rfl dX2_isThrough_68 ?_
  refine lv_iload_n hx hb dX2_isThrough_71 rfl (lv_at hl 5 rfl) ?_
  refine r_lald hx hb hK hM.2.2.2.2.2.1 dX2_isThrough_72 (k := d) (hO.lt12 i_d) (by decide) rfl rfl ?_
  refine lv_lload hx hb dX2_isThrough_73 (lv_at hl 0 rfl) ?_
  refine lv_lmul hx hb dX2_isThrough_75 ?_
  refine lv_ladd hx hb dX2_isThrough_76 ?_
  refine lv_aload_n hx hb dX2_isThrough_77 rfl (lv_at hl 2 rfl) ?_
  refine gf_X2_34 hx hb hts hown hK hM.1 rfl dX2_isThrough_78 ?_
  refine lv_iload_n hx hb dX2_isThrough_81 rfl (lv_at hl 5 rfl) ?_
  refine r_lald hx hb hK hM.2.2.2.2.2.2 dX2_isThrough_82 (k := d) (hO.lt12 i_d) (by decide) rfl rfl ?_
  refine lv_aload_n hx hb dX2_isThrough_83 rfl (lv_at hl 2 rfl) ?_
  refine lv_iload_n hx hb dX2_isThrough_84 rfl (lv_at hl 3 rfl) ?_
  refine lv_iload_n hx hb dX2_isThrough_85 rfl (lv_at hl 4 rfl) ?_
  refine p_callV (As := [.int _, .int _]) hx hb hml hown hts hK hZ (met_X2_both l G hM hO i_a i_b) q916 q918 qs39 q43 q919 hv_X2_both rfl hM.1 rfl (by decide) hl.1 rfl (Nat.le_of_ble_eq_true rfl) dX2_isThrough_86 ⟨Nat.zero_le _, Nat.zero_le _⟩ ?_
  refine lv_lmul hx hb dX2_isThrough_89 ?_
  refine lc_ne (tgt := 98) hx hb dX2_isThrough_90 dX2_isThrough_91 rfl (fun c_90 => ?_) (fun c_90 => ?_)
  · skip
    refine lv_iconst (v := 0) hx hb dX2_isThrough_98 ic_0 ?_
    exact pm_zret hx hb hr hlk hH dX2_isThrough_99 (by first | with_reducible rfl | (simp only [m_thr, c_90, ↓reduceIte, Bool.true_and, Bool.and_true, Bool.false_and, Bool.and_false, Bool.true_or, Bool.or_true, Bool.false_or, Bool.or_false, Bool.not_true, Bool.not_false, decide_true, decide_false, bI_t, bI_f, Bool.false_eq_true, not_true_eq_false, not_false_eq_true, eq_self, reduceCtorEq, Bool.true_eq_false, and_true, true_and, and_false, false_and, or_true, true_or, or_false, false_or]; done))
  refine lv_iconst (v := 1) hx hb dX2_isThrough_94 ic_1 ?_
  refine lv_goto (tgt := 99) hx hb dX2_isThrough_95 rfl ?_
  exact pm_zret hx hb hr hlk hH dX2_isThrough_99 (by first | with_reducible rfl | (simp only [m_thr, eq_true c_90, ↓reduceIte, Bool.true_and, Bool.and_true, Bool.false_and, Bool.and_false, Bool.true_or, Bool.or_true, Bool.false_or, Bool.or_false, Bool.not_true, Bool.not_false, decide_true, decide_false, bI_t, bI_f, Bool.false_eq_true, not_true_eq_false, not_false_eq_true, eq_self, reduceCtorEq, Bool.true_eq_false, and_true, true_and, and_false, false_and, or_true, true_or, or_false, false_or]; done))
theorem dX2_isNew_0 : decode cX2_isNew 0 = .ok (.iconst 1, 1) := by decide +kernel
theorem dX2_isNew_1 : decode cX2_isNew 1 = .ok (.istore_n 2, 1) := by decide +kernel
theorem dX2_isNew_2 : decode cX2_isNew 2 = .ok (.iconst 0, 1) := by decide +kernel
theorem dX2_isNew_3 : decode cX2_isNew 3 = .ok (.istore_n 3, 1) := by decide +kernel
theorem dX2_isNew_4 : decode cX2_isNew 4 = .ok (.iload_n 3, 1) := by decide +kernel
theorem dX2_isNew_5 : decode cX2_isNew 5 = .ok (.iload_n 1, 1) := by decide +kernel
theorem dX2_isNew_6 : decode cX2_isNew 6 = .ok (.if_icmp .ge 28, 3) := by decide +kernel
theorem dX2_isNew_9 : decode cX2_isNew 9 = .ok (.iload_n 2, 1) := by decide +kernel
theorem dX2_isNew_10 : decode cX2_isNew 10 = .ok (.ifCond .eq 16, 3) := by decide +kernel
theorem dX2_isNew_13 : decode cX2_isNew 13 = .ok (.aload_n 0, 1) := by decide +kernel
theorem dX2_isNew_14 : decode cX2_isNew 14 = .ok (.iload_n 1, 1) := by decide +kernel
theorem dX2_isNew_15 : decode cX2_isNew 15 = .ok (.iload_n 3, 1) := by decide +kernel
theorem dX2_isNew_16 : decode cX2_isNew 16 = .ok (.invokevirtual 174, 3) := by decide +kernel
theorem dX2_isNew_19 : decode cX2_isNew 19 = .ok (.ifCond .ne 7, 3) := by decide +kernel
theorem dX2_isNew_22 : decode cX2_isNew 22 = .ok (.iconst 1, 1) := by decide +kernel
theorem dX2_isNew_23 : decode cX2_isNew 23 = .ok (.goto 4, 3) := by decide +kernel
theorem dX2_isNew_26 : decode cX2_isNew 26 = .ok (.iconst 0, 1) := by decide +kernel
theorem dX2_isNew_27 : decode cX2_isNew 27 = .ok (.istore_n 2, 1) := by decide +kernel
theorem dX2_isNew_28 : decode cX2_isNew 28 = .ok (.iinc 3 1, 3) := by decide +kernel
theorem dX2_isNew_31 : decode cX2_isNew 31 = .ok (.goto (-27), 3) := by decide +kernel
theorem dX2_isNew_34 : decode cX2_isNew 34 = .ok (.iload_n 2, 1) := by decide +kernel
theorem dX2_isNew_35 : decode cX2_isNew 35 = .ok (.ireturn, 1) := by decide +kernel
set_option maxHeartbeats 4000000 in
theorem met_X2_isNew (l : Launch) (G : GG) {H : Heap} {o : Nat} {A : Nat → Nat} {σ : Sg} {th : Int32} {a : Nat} (hM : MW G H o A σ th) (hO : Ok σ) (i_a : a < σ.nl) : PM l yX2_isNew cX2_isNew 4 (some .boolean) 2 44 G H [.ref o, .int (nI a)] (some (.int (bI (m_isNew σ.ln a)))) := by
  refine pm_intro pl_X2_isNew (Nat.le_of_ble_eq_true rfl) ?_
  intro pX eX sX mX belX methX cX ls hE hnm hl
  obtain ⟨hx, hb, hr, hlk, hml, hown, hts, hK, hZ, hH⟩ := hE
  have hl : lv_has ls 4 [(0, .ref o), (1, .int (nI a))] := hl
  have ha31 : a < 2 ^ 31 := by have := hO.lt12 i_a; omega
  refine lv_iconst (v := 1) hx hb dX2_isNew_0 ic_1 ?_
  refine lv_istore_n (lv' := [(2, .int _), (0, .ref _), (1, .int _)]) hx hb dX2_isNew_1 rfl hl (Nat.le_of_ble_eq_true rfl) rfl (fun ls hl => ?_)
  refine lv_iconst (v := 0) hx hb dX2_isNew_2 ic_0 ?_
  refine lv_istore_n (lv' := [(3, .int _), (2, .int _), (0, .ref _), (1, .int _)]) hx hb dX2_isNew_3 rfl hl (Nat.le_of_ble_eq_true rfl) rfl (fun ls hl => ?_)
  refine loopW (N := a) (nL := 4) (lv := fun k => [(0, .ref o), (1, .int (nI a)), (2, .int (bI (m_new σ.ln a k))), (3, .int (nI k))]) (fun k hk_k ih_k ls hl => ?_) 0 (Nat.zero_le _) ls (lv_sub hl [2, 3, 1, 0] rfl)
  replace hl : lv_has ls 4 [(0, .ref o), (1, .int (nI a)), (2, .int (bI (m_new σ.ln a k))), (3, .int (nI k))] := hl
  refine lv_iload_n hx hb dX2_isNew_4 rfl (lv_at hl 3 rfl) ?_
  refine lv_iload_n hx hb dX2_isNew_5 rfl (lv_at hl 1 rfl) ?_
  refine lv_icmp_ge (tgt := 34) hx hb dX2_isNew_6 rfl (fun c_6_0 => ?_) (fun c_6_0 => ?_)
  · skip
    have e_k := lp_out hk_k ha31 c_6_0
    subst e_k
    refine lv_iload_n hx hb dX2_isNew_34 rfl (lv_at hl 2 rfl) ?_
    exact pm_zret hx hb hr hlk hH dX2_isNew_35 (by first | with_reducible rfl | (simp only [m_isNew, ↓reduceIte, Bool.true_and, Bool.and_true, Bool.false_and, Bool.and_false, Bool.true_or, Bool.or_true, Bool.false_or, Bool.or_false, Bool.not_true, Bool.not_false, decide_true, decide_false, bI_t, bI_f, Bool.false_eq_true, not_true_eq_false, not_false_eq_true, eq_self, reduceCtorEq, Bool.true_eq_false, and_true, true_and, and_false, false_and, or_true, true_or, or_false, false_or]; done))
  have h_k := lp_in hk_k ha31 c_6_0
  refine cutI (J := 27) (v := bI (m_new σ.ln a k && !m_isOne (σ.ln a) (σ.ln k))) ?_ (fun K22 => ?_)
  rotate_left
  · skip
    refine lv_iload_n hx hb dX2_isNew_9 rfl (lv_at hl 2 rfl) ?_
    refine b_ifeq (tgt := 26) hx hb dX2_isNew_10 rfl (fun c_10_1 => ?_) (fun c_10_1 => ?_)
    · skip
      refine lv_iconst (v := 0) hx hb dX2_isNew_26 ic_0 ?_
      exact K22 _ (by first | with_reducible rfl | (simp only [m_isNew, c_10_1, ↓reduceIte, Bool.true_and, Bool.and_true, Bool.false_and, Bool.and_false, Bool.true_or, Bool.or_true, Bool.false_or, Bool.or_false, Bool.not_true, Bool.not_false, decide_true, decide_false, bI_t, bI_f, Bool.false_eq_true, not_true_eq_false, not_false_eq_true, eq_self, reduceCtorEq, Bool.true_eq_false, and_true, true_and, and_false, false_and, or_true, true_or, or_false, false_or]; done))
    refine lv_aload_n hx hb dX2_isNew_13 rfl (lv_at hl 0 rfl) ?_
    refine lv_iload_n hx hb dX2_isNew_14 rfl (lv_at hl 1 rfl) ?_
    refine lv_iload_n hx hb dX2_isNew_15 rfl (lv_at hl 3 rfl) ?_
    refine p_callV (As := [.int _, .int _]) hx hb hml hown hts hK hZ (met_X2_isOne l G hM hO i_a (Nat.lt_trans h_k i_a)) q912 q914 qs38 q43 q915 hv_X2_isOne rfl hM.1 rfl (by decide) hl.1 rfl (Nat.le_of_ble_eq_true rfl) dX2_isNew_16 ⟨Nat.zero_le _, Nat.zero_le _⟩ ?_
    refine b_ifne (tgt := 26) hx hb dX2_isNew_19 rfl (fun c_19_2 => ?_) (fun c_19_2 => ?_)
    · skip
      refine lv_iconst (v := 0) hx hb dX2_isNew_26 ic_0 ?_
      exact K22 _ (by first | with_reducible rfl | (simp only [m_isNew, c_10_1, c_19_2, ↓reduceIte, Bool.true_and, Bool.and_true, Bool.false_and, Bool.and_false, Bool.true_or, Bool.or_true, Bool.false_or, Bool.or_false, Bool.not_true, Bool.not_false, decide_true, decide_false, bI_t, bI_f, Bool.false_eq_true, not_true_eq_false, not_false_eq_true, eq_self, reduceCtorEq, Bool.true_eq_false, and_true, true_and, and_false, false_and, or_true, true_or, or_false, false_or]; done) | (simp only [c_10_1, ↓reduceIte, Bool.true_and, Bool.and_true, Bool.false_and, Bool.and_false, Bool.true_or, Bool.or_true, Bool.false_or, Bool.or_false, Bool.not_true, Bool.not_false, decide_true, decide_false, bI_t, bI_f, Bool.false_eq_true, not_true_eq_false, not_false_eq_true, eq_self, reduceCtorEq, Bool.true_eq_false, and_true, true_and, and_false, false_and, or_true, true_or, or_false, false_or] at c_19_2; done) | (simp only [c_19_2, ↓reduceIte, Bool.true_and, Bool.and_true, Bool.false_and, Bool.and_false, Bool.true_or, Bool.or_true, Bool.false_or, Bool.or_false, Bool.not_true, Bool.not_false, decide_true, decide_false, bI_t, bI_f, Bool.false_eq_true, not_true_eq_false, not_false_eq_true, eq_self, reduceCtorEq, Bool.true_eq_false, and_true, true_and, and_false, false_and, or_true, true_or, or_false, false_or] at c_10_1; done))
    refine lv_iconst (v := 1) hx hb dX2_isNew_22 ic_1 ?_
    refine lv_goto (tgt := 27) hx hb dX2_isNew_23 rfl ?_
    exact K22 _ (by first | with_reducible rfl | (simp only [m_isNew, c_10_1, c_19_2, ↓reduceIte, Bool.true_and, Bool.and_true, Bool.false_and, Bool.and_false, Bool.true_or, Bool.or_true, Bool.false_or, Bool.or_false, Bool.not_true, Bool.not_false, decide_true, decide_false, bI_t, bI_f, Bool.false_eq_true, not_true_eq_false, not_false_eq_true, eq_self, reduceCtorEq, Bool.true_eq_false, and_true, true_and, and_false, false_and, or_true, true_or, or_false, false_or]; done) | (simp only [c_10_1, ↓reduceIte, Bool.true_and, Bool.and_true, Bool.false_and, Bool.and_false, Bool.true_or, Bool.or_true, Bool.false_or, Bool.or_false, Bool.not_true, Bool.not_false, decide_true, decide_false, bI_t, bI_f, Bool.false_eq_true, not_true_eq_false, not_false_eq_true, eq_self, reduceCtorEq, Bool.true_eq_false, and_true, true_and, and_false, false_and, or_true, true_or, or_false, false_or] at c_19_2; done) | (simp only [c_19_2, ↓reduceIte, Bool.true_and, Bool.and_true, Bool.false_and, Bool.and_false, Bool.true_or, Bool.or_true, Bool.false_or, Bool.or_false, Bool.not_true, Bool.not_false, decide_true, decide_false, bI_t, bI_f, Bool.false_eq_true, not_true_eq_false, not_false_eq_true, eq_self, reduceCtorEq, Bool.true_eq_false, and_true, true_and, and_false, false_and, or_true, true_or, or_false, false_or] at c_10_1; done))
  refine lv_istore_n (lv' := [(2, .int _), (0, .ref _), (1, .int _), (3, .int _)]) hx hb dX2_isNew_27 rfl hl (Nat.le_of_ble_eq_true rfl) rfl (fun ls hl => ?_)
  refine lv_iinc (v := nI (k + 1)) (k := 3) (lv' := [(3, .int _), (2, .int _), (0, .ref _), (1, .int _)]) hx hb dX2_isNew_28 hl rfl (nI_1 _) (Nat.le_of_ble_eq_true rfl) rfl (fun ls hl => ?_)
  refine lv_goto (tgt := 4) hx hb dX2_isNew_31 rfl ?_
  exact ih_k ls (lv_sub hl [2, 3, 1, 0] rfl) h_k
