/-! walks of NamesWeatherModel, written by genm.py -/
set_option maxRecDepth 100000
set_option maxHeartbeats 4000000 in
noncomputable def fm_heapOf (x1 : Int32) (μ : nwM) : Option (Int32) := (fm_thereAt x1 (nI 0) μ).bind fun v2 => (fm_onesOf v2 μ).bind fun v4 => some v4
set_option maxHeartbeats 4000000 in
theorem dm_heapOf : yX2_heapOf.cls = RX2 ∧ yX2_heapOf.cls ≠ "java/lang/invoke/MethodHandle" ∧ yX2_heapOf.cls ≠ "java/lang/invoke/VarHandle" ∧ (parseMethodDescriptor yX2_heapOf.desc).map (fun d => d.parameters.length) = some 1 := ⟨rfl, by decide +kernel, by decide +kernel, by decide +kernel⟩
set_option maxHeartbeats 4000000 in
theorem tm_heapOf (l : Launch) (D : va_G) (dT : Nat → ClassId) (h : Nat) (x1 : Int32) (μ : nwM) (res : Int32) (hf : fm_heapOf x1 μ = some res) : Met l yX2_heapOf (ws_ yX2_heapOf cX2_heapOf 2 (some .int)) (rmd 1) (mPc D dT h μ [.int x1]) (mQi D dT h μ res) 0 0 (mA h) := by
  refine m_met (by decide) rfl (Nat.le_of_ble_eq_true rfl) ?_
  intro p e s m below meth c ls E hK hr hlk hl hP
  have hS : va_S (mA h) s.heap s.heap [] := va_S.rf
  obtain ⟨hx, hb, -, hown, hts⟩ := id E
  have hl : lv_has ls 2 [(0, .ref h), (1, .int x1)] := hl
  unfold fm_heapOf at hf
  refine lv_aload_n hx hb dX2_heapOf_0 rfl (lv_at hl 0 rfl) ?_
  refine lv_aload_n hx hb dX2_heapOf_1 rfl (lv_at hl 0 rfl) ?_
  refine lv_iload_n hx hb dX2_heapOf_2 rfl (lv_at hl 1 rfl) ?_
  refine lv_iconst (v := nI 0) hx hb dX2_heapOf_3 rfl ?_
  obtain ⟨v2, hc1, hf⟩ := ob hf
  refine m_calli E hK hP hS (As := [.int x1, .int (nI 0)]) (tm_thereAt l D dT h x1 (nI 0) μ _ hc1) (lw_V q1813 q1815 qs111 q166 q1816) dm_thereAt rfl (by decide) (by decide) hl rfl (Nat.le_of_ble_eq_true rfl) dX2_heapOf_4 (fun H locs hP hS => ?_)
  obtain ⟨v4, hc3, hf⟩ := ob hf
  refine m_calli E hK hP hS (As := [.int v2]) (tm_onesOf l D dT h v2 μ _ hc3) (lw_V q1817 q1819 qs112 q166 q1820) dm_onesOf rfl (by decide) (by decide) hl rfl (Nat.le_of_ble_eq_true rfl) dX2_heapOf_7 (fun H locs hP hS => ?_)
  cases hf
  exact m_iret E hr hlk hP hS rfl dX2_heapOf_10
set_option maxHeartbeats 4000000 in
noncomputable def fm_game_L21 (x1 : Int32) (μ : nwM) : (Int32 × Int32) → Option ((Int32 × Int32) ⊕ (Int32)) := fun st => (if (nI 8) ≤ st.2 then some (.inr st.1) else (fm_heapOf st.2 μ).bind fun v7 => some (.inl (st.1 ^^^ v7, st.2 + nI 1)))
set_option maxHeartbeats 4000000 in
noncomputable def fm_game_L43 (x1 : Int32) (x2 : Int32) (μ : nwM) : Int32 → Option ((Int32) ⊕ (Int32 × nwM)) := fun st => (if (nI 8) ≤ st then some (.inr ((-1), μ)) else (fm_heapOf st μ).bind fun v11 => (fm_heapOf st μ).bind fun v13 => (if v13 ≤ (v11 ^^^ x2) then some (.inl (st + nI 1)) else (if x1 = 0 then some (.inr (st, μ)) else (fm_heapOf st μ).bind fun v17 => some (.inr (v17 ^^^ x2, μ)))))
set_option maxHeartbeats 4000000 in
noncomputable def fm_game (x1 : Int32) (μ : nwM) : Option (Int32 × nwM) := (wf_ μ 0 (nI 0)).bind fun μ1 => (fm_isIn x1 (nI 0) (nI 1) μ1).bind fun v3 => (if v3 = 0 then some ((-1), μ1) else (wh_ (fm_game_L21 x1 μ1) (nI 0, nI 0)).bind fun x8 => wh_ (fm_game_L43 x1 x8 μ1) (nI 0))
set_option maxHeartbeats 4000000 in
theorem fm_game_L21_w {p : Program} {l : Launch} {e : Env} {s : State} {m : MethodId} {args : Array Value} {below : List Frame} {meth : Method} {c : Code} {Q : State → Prop} {D : va_G} {dT : Nat → ClassId} {h : Nat} (E : CallFix p m c cX2_game 4 s args lw_all RX2) (hK : va_K D nwCl (nwT dT) s) (x1 : Int32) (μ : nwM) {st : Int32 × Int32} {x : Int32} (hw : wh_ (fm_game_L21 x1 μ) st = some x) (hk : (fun x : Int32 => ∀ (ls : Array Slot) (H : Heap) (locs : List Loc), lv_has ls 4 [(0, .ref h), (1, .int x1), (2, .int x)] → PM D dT h μ H → va_S (mA h) s.heap H locs → W p l e (rmd 2) s m args below meth c H locs 0 0 Q (F0 m 41 ls [])) x) : (fun st : Int32 × Int32 => ∀ (ls : Array Slot) (H : Heap) (locs : List Loc), lv_has ls 4 [(0, .ref h), (1, .int x1), (2, .int st.1), (3, .int st.2)] → PM D dT h μ H → va_S (mA h) s.heap H locs → W p l e (rmd 2) s m args below meth c H locs 0 0 Q (F0 m 21 ls [])) st := by
  obtain ⟨hx, hb, -, hown, hts⟩ := id E
  refine wh_run (P := (fun st : Int32 × Int32 => ∀ (ls : Array Slot) (H : Heap) (locs : List Loc), lv_has ls 4 [(0, .ref h), (1, .int x1), (2, .int st.1), (3, .int st.2)] → PM D dT h μ H → va_S (mA h) s.heap H locs → W p l e (rmd 2) s m args below meth c H locs 0 0 Q (F0 m 21 ls []))) (PE := (fun x : Int32 => ∀ (ls : Array Slot) (H : Heap) (locs : List Loc), lv_has ls 4 [(0, .ref h), (1, .int x1), (2, .int x)] → PM D dT h μ H → va_S (mA h) s.heap H locs → W p l e (rmd 2) s m args below meth c H locs 0 0 Q (F0 m 41 ls []))) ?_ hw hk
  clear hw hk
  intro st x hf hk ls H locs hl hP hS
  refine lv_iload_n hx hb dX2_game_21 rfl (lv_at hl 3 rfl) ?_
  refine lv_bipush (v := nI 8) hx hb dX2_game_22 rfl ?_
  refine lv_icmp_ge (tgt := 41) hx hb dX2_game_24 (by decide) (fun kc5 => ?_) (fun kc5 => ?_)
  · have hf := ite_t kc5 hf
    cases hf
    exact hk _ _ _ (lv_sub hl [0, 1, 2] rfl) hP hS
  · have hf := ite_f kc5 hf
    refine lv_iload_n hx hb dX2_game_27 rfl (lv_at hl 2 rfl) ?_
    refine lv_aload_n hx hb dX2_game_28 rfl (lv_at hl 0 rfl) ?_
    refine lv_iload_n hx hb dX2_game_29 rfl (lv_at hl 3 rfl) ?_
    obtain ⟨v7, hc6, hf⟩ := ob hf
    refine m_calli E hK hP hS (As := [.int st.2]) (tm_heapOf l D dT h st.2 μ _ hc6) (lw_V q2076 q2078 qs155 q166 q2079) dm_heapOf rfl (by decide) (by decide) hl rfl (Nat.le_of_ble_eq_true rfl) dX2_game_30 (fun H locs hP hS => ?_)
    refine lv_ixor hx hb dX2_game_33 ?_
    refine lv_istore_n (lv' := [(2, .int (st.1 ^^^ v7)), (0, .ref h), (1, .int x1), (3, .int st.2)]) hx hb dX2_game_34 rfl hl (by decide) rfl (fun ls hl => ?_)
    refine lv_iinc (v := st.2 + nI 1) (lv' := [(3, .int (st.2 + nI 1)), (2, .int (st.1 ^^^ v7)), (0, .ref h), (1, .int x1)]) hx hb dX2_game_35 hl (k := 3) rfl rfl (by decide) rfl (fun ls hl => ?_)
    refine lv_goto (tgt := 21) hx hb dX2_game_38 (by decide) ?_
    cases hf
    exact hk _ _ _ (lv_sub hl [2, 3, 1, 0] rfl) hP hS
set_option maxHeartbeats 4000000 in
theorem fm_game_L43_w {p : Program} {l : Launch} {e : Env} {s : State} {m : MethodId} {args : Array Value} {below : List Frame} {meth : Method} {c : Code} {D : va_G} {dT : Nat → ClassId} {h : Nat} (E : CallFix p m c cX2_game 4 s args lw_all RX2) (hK : va_K D nwCl (nwT dT) s) (hr : meth.sig.returnType = (some .int)) (hlk : meth.locks = false) (x1 : Int32) (x2 : Int32) (μ : nwM) {res : Int32 × nwM} {st : Int32} {x : Int32 × nwM} (hw : wh_ (fm_game_L43 x1 x2 μ) st = some x) (hk : (fun r : Int32 × nwM => r = res) x) : (fun st : Int32 => ∀ (ls : Array Slot) (H : Heap) (locs : List Loc), lv_has ls 4 [(0, .ref h), (1, .int x1), (2, .int x2), (3, .int st)] → PM D dT h μ H → va_S (mA h) s.heap H locs → W p l e (rmd 2) s m args below meth c H locs 0 0 (MQ below (mQi D dT h res.2 res.1) args s 0 0 (mA h)) (F0 m 43 ls [])) st := by
  obtain ⟨hx, hb, -, hown, hts⟩ := id E
  refine wh_run (P := (fun st : Int32 => ∀ (ls : Array Slot) (H : Heap) (locs : List Loc), lv_has ls 4 [(0, .ref h), (1, .int x1), (2, .int x2), (3, .int st)] → PM D dT h μ H → va_S (mA h) s.heap H locs → W p l e (rmd 2) s m args below meth c H locs 0 0 (MQ below (mQi D dT h res.2 res.1) args s 0 0 (mA h)) (F0 m 43 ls []))) (PE := (fun r : Int32 × nwM => r = res)) ?_ hw hk
  clear hw hk
  intro st x hf hk ls H locs hl hP hS
  refine lv_iload_n hx hb dX2_game_43 rfl (lv_at hl 3 rfl) ?_
  refine lv_bipush (v := nI 8) hx hb dX2_game_44 rfl ?_
  refine lv_icmp_ge (tgt := 86) hx hb dX2_game_46 (by decide) (fun kc9 => ?_) (fun kc9 => ?_)
  · have hf := ite_t kc9 hf
    refine lv_iconst (v := (-1)) hx hb dX2_game_86 rfl ?_
    cases hf
    have hk : ((-1), μ) = res := hk
    subst hk
    exact m_iret E hr hlk hP hS rfl dX2_game_87
  · have hf := ite_f kc9 hf
    refine lv_aload_n hx hb dX2_game_49 rfl (lv_at hl 0 rfl) ?_
    refine lv_iload_n hx hb dX2_game_50 rfl (lv_at hl 3 rfl) ?_
    obtain ⟨v11, hc10, hf⟩ := ob hf
    refine m_calli E hK hP hS (As := [.int st]) (tm_heapOf l D dT h st μ _ hc10) (lw_V q2076 q2078 qs155 q166 q2079) dm_heapOf rfl (by decide) (by decide) hl rfl (Nat.le_of_ble_eq_true rfl) dX2_game_51 (fun H locs hP hS => ?_)
    refine lv_iload_n hx hb dX2_game_54 rfl (lv_at hl 2 rfl) ?_
    refine lv_ixor hx hb dX2_game_55 ?_
    refine lv_aload_n hx hb dX2_game_56 rfl (lv_at hl 0 rfl) ?_
    refine lv_iload_n hx hb dX2_game_57 rfl (lv_at hl 3 rfl) ?_
    obtain ⟨v13, hc12, hf⟩ := ob hf
    refine m_calli E hK hP hS (As := [.int st]) (tm_heapOf l D dT h st μ _ hc12) (lw_V q2076 q2078 qs155 q166 q2079) dm_heapOf rfl (by decide) (by decide) hl rfl (Nat.le_of_ble_eq_true rfl) dX2_game_58 (fun H locs hP hS => ?_)
    refine lv_icmp_ge (tgt := 80) hx hb dX2_game_61 (by decide) (fun kc14 => ?_) (fun kc14 => ?_)
    · have hf := ite_t kc14 hf
      refine lv_iinc (v := st + nI 1) (lv' := [(3, .int (st + nI 1)), (0, .ref h), (1, .int x1), (2, .int x2)]) hx hb dX2_game_80 hl (k := 3) rfl rfl (by decide) rfl (fun ls hl => ?_)
      refine lv_goto (tgt := 43) hx hb dX2_game_83 (by decide) ?_
      cases hf
      exact hk _ _ _ (lv_sub hl [1, 2, 3, 0] rfl) hP hS
    · have hf := ite_f kc14 hf
      refine lv_iload_n hx hb dX2_game_64 rfl (lv_at hl 1 rfl) ?_
      refine lv_if_ne (tgt := 72) hx hb dX2_game_65 (by decide) (fun kc15 => ?_) (fun kc15 => ?_)
      · have hf := ite_f kc15 hf
        refine lv_aload_n hx hb dX2_game_72 rfl (lv_at hl 0 rfl) ?_
        refine lv_iload_n hx hb dX2_game_73 rfl (lv_at hl 3 rfl) ?_
        obtain ⟨v17, hc16, hf⟩ := ob hf
        refine m_calli E hK hP hS (As := [.int st]) (tm_heapOf l D dT h st μ _ hc16) (lw_V q2076 q2078 qs155 q166 q2079) dm_heapOf rfl (by decide) (by decide) hl rfl (Nat.le_of_ble_eq_true rfl) dX2_game_74 (fun H locs hP hS => ?_)
        refine lv_iload_n hx hb dX2_game_77 rfl (lv_at hl 2 rfl) ?_
        refine lv_ixor hx hb dX2_game_78 ?_
        cases hf
        have hk : (v17 ^^^ x2, μ) = res := hk
        subst hk
        exact m_iret E hr hlk hP hS rfl dX2_game_79
      · have hf := ite_t kc15 hf
        refine lv_iload_n hx hb dX2_game_68 rfl (lv_at hl 3 rfl) ?_
        refine lv_goto (tgt := 79) hx hb dX2_game_69 (by decide) ?_
        cases hf
        have hk : (st, μ) = res := hk
        subst hk
        exact m_iret E hr hlk hP hS rfl dX2_game_79
set_option maxHeartbeats 4000000 in
theorem dm_game : yX2_game.cls = RX2 ∧ yX2_game.cls ≠ "java/lang/invoke/MethodHandle" ∧ yX2_game.cls ≠ "java/lang/invoke/VarHandle" ∧ (parseMethodDescriptor yX2_game.desc).map (fun d => d.parameters.length) = some 1 := ⟨rfl, by decide +kernel, by decide +kernel, by decide +kernel⟩
set_option maxHeartbeats 4000000 in
theorem tm_game (l : Launch) (D : va_G) (dT : Nat → ClassId) (h : Nat) (x1 : Int32) (μ : nwM) (res : Int32 × nwM) (hf : fm_game x1 μ = some res) : Met l yX2_game (ws_ yX2_game cX2_game 4 (some .int)) (rmd 2) (mPc D dT h μ [.int x1]) (mQi D dT h res.2 res.1) 0 0 (mA h) := by
  refine m_met (by decide) rfl (Nat.le_of_ble_eq_true rfl) ?_
  intro p e s m below meth c ls E hK hr hlk hl hP
  have hS : va_S (mA h) s.heap s.heap [] := va_S.rf
  obtain ⟨hx, hb, -, hown, hts⟩ := id E
  have hl : lv_has ls 4 [(0, .ref h), (1, .int x1)] := hl
  unfold fm_game at hf
  refine lv_aload_n hx hb dX2_game_0 rfl (lv_at hl 0 rfl) ?_
  refine lv_iconst (v := nI 0) hx hb dX2_game_1 rfl ?_
  obtain ⟨μ1, hμ1, hf⟩ := ob hf
  refine m_put E hK hP hS 0 (by decide) rfl q1413 rfl rfl rfl hμ1 dX2_game_2 (fun H locs hP hS => ?_)
  refine lv_aload_n hx hb dX2_game_5 rfl (lv_at hl 0 rfl) ?_
  refine lv_iload_n hx hb dX2_game_6 rfl (lv_at hl 1 rfl) ?_
  refine lv_iconst (v := nI 0) hx hb dX2_game_7 rfl ?_
  refine lv_iconst (v := nI 1) hx hb dX2_game_8 rfl ?_
  obtain ⟨v3, hc2, hf⟩ := ob hf
  refine m_calli E hK hP hS (As := [.int x1, .int (nI 0), .int (nI 1)]) (tm_isIn l D dT h x1 (nI 0) (nI 1) μ1 _ hc2) (lw_V q1573 q1575 qs59 q166 q1576) dm_isIn rfl (by decide) (by decide) hl rfl (Nat.le_of_ble_eq_true rfl) dX2_game_9 (fun H locs hP hS => ?_)
  refine lv_if_ne (tgt := 17) hx hb dX2_game_12 (by decide) (fun kc4 => ?_) (fun kc4 => ?_)
  · have hf := ite_f kc4 hf
    refine lv_iconst (v := nI 0) hx hb dX2_game_17 rfl ?_
    refine lv_istore_n (lv' := [(2, .int (nI 0)), (0, .ref h), (1, .int x1)]) hx hb dX2_game_18 rfl hl (by decide) rfl (fun ls hl => ?_)
    refine lv_iconst (v := nI 0) hx hb dX2_game_19 rfl ?_
    refine lv_istore_n (lv' := [(3, .int (nI 0)), (2, .int (nI 0)), (0, .ref h), (1, .int x1)]) hx hb dX2_game_20 rfl hl (by decide) rfl (fun ls hl => ?_)
    obtain ⟨x8, hx8, hf⟩ := ob hf
    refine fm_game_L21_w E hK x1 μ1 hx8 (fun ls H locs hl hP hS => ?_) _ _ _ (lv_sub hl [2, 3, 1, 0] rfl) hP hS
    refine lv_iconst (v := nI 0) hx hb dX2_game_41 rfl ?_
    refine lv_istore_n (lv' := [(3, .int (nI 0)), (0, .ref h), (1, .int x1), (2, .int x8)]) hx hb dX2_game_42 rfl hl (by decide) rfl (fun ls hl => ?_)
    exact fm_game_L43_w E hK hr hlk x1 x8 μ1 hf rfl _ _ _ (lv_sub hl [1, 2, 3, 0] rfl) hP hS
  · have hf := ite_t kc4 hf
    refine lv_iconst (v := (-1)) hx hb dX2_game_15 rfl ?_
    cases hf
    exact m_iret E hr hlk hP hS rfl dX2_game_16
set_option maxHeartbeats 4000000 in
def fm_keeps (x1 : Int32) (μ : nwM) : Option (Int32 × nwM) := (wf_ μ 47 ((μ 47 0) + (nI 1))).bind fun μ1 => (if (μ1 45 0) = 0 then (rd_ μ1 48 2000 ((μ1 47 0) - (nI 1))).bind fun v4 => some (v4, μ1) else (wr_ μ1 48 2000 ((μ1 47 0) - (nI 1)) x1).bind fun μ3 => some (x1, μ3))
set_option maxHeartbeats 4000000 in
theorem dm_keeps : yX2_keeps.cls = RX2 ∧ yX2_keeps.cls ≠ "java/lang/invoke/MethodHandle" ∧ yX2_keeps.cls ≠ "java/lang/invoke/VarHandle" ∧ (parseMethodDescriptor yX2_keeps.desc).map (fun d => d.parameters.length) = some 1 := ⟨rfl, by decide +kernel, by decide +kernel, by decide +kernel⟩
set_option maxHeartbeats 4000000 in
theorem tm_keeps (l : Launch) (D : va_G) (dT : Nat → ClassId) (h : Nat) (x1 : Int32) (μ : nwM) (res : Int32 × nwM) (hf : fm_keeps x1 μ = some res) : Met l yX2_keeps (ws_ yX2_keeps cX2_keeps 2 (some .int)) (rmd 0) (mPc D dT h μ [.int x1]) (mQi D dT h res.2 res.1) 0 0 (mA h) := by
  refine m_met (by decide) rfl (Nat.le_of_ble_eq_true rfl) ?_
  intro p e s m below meth c ls E hK hr hlk hl hP
  have hS : va_S (mA h) s.heap s.heap [] := va_S.rf
  obtain ⟨hx, hb, -, hown, hts⟩ := id E
  have hl : lv_has ls 2 [(0, .ref h), (1, .int x1)] := hl
  unfold fm_keeps at hf
  refine lv_aload_n hx hb dX2_keeps_0 rfl (lv_at hl 0 rfl) ?_
  refine lv_aload_n hx hb dX2_keeps_1 rfl (lv_at hl 0 rfl) ?_
  refine m_get E hK hP 47 (by decide) rfl q1460 rfl dX2_keeps_2 ?_
  refine lv_iconst (v := nI 1) hx hb dX2_keeps_5 rfl ?_
  refine lv_iadd hx hb dX2_keeps_6 ?_
  obtain ⟨μ1, hμ1, hf⟩ := ob hf
  refine m_put E hK hP hS 47 (by decide) rfl q1460 rfl rfl rfl hμ1 dX2_keeps_7 (fun H locs hP hS => ?_)
  refine lv_aload_n hx hb dX2_keeps_10 rfl (lv_at hl 0 rfl) ?_
  refine m_get E hK hP 45 (by decide) rfl q1458 rfl dX2_keeps_11 ?_
  refine lv_if_ne (tgt := 29) hx hb dX2_keeps_14 (by decide) (fun kc2 => ?_) (fun kc2 => ?_)
  · have hf := ite_f kc2 hf
    refine lv_aload_n hx hb dX2_keeps_29 rfl (lv_at hl 0 rfl) ?_
    refine m_ga E hK hP 48 (by decide) rfl q1461 rfl dX2_keeps_30 ?_
    refine lv_aload_n hx hb dX2_keeps_33 rfl (lv_at hl 0 rfl) ?_
    refine m_get E hK hP 47 (by decide) rfl q1460 rfl dX2_keeps_34 ?_
    refine lv_iconst (v := nI 1) hx hb dX2_keeps_37 rfl ?_
    refine lv_isub hx hb dX2_keeps_38 ?_
    refine lv_iload_n hx hb dX2_keeps_39 rfl (lv_at hl 1 rfl) ?_
    obtain ⟨μ3, hμ3, hf⟩ := ob hf
    refine m_ast E hK hP hS (by decide) rfl rfl hμ3 dX2_keeps_40 (fun H locs hP hS => ?_)
    refine lv_iload_n hx hb dX2_keeps_41 rfl (lv_at hl 1 rfl) ?_
    cases hf
    exact m_iret E hr hlk hP hS rfl dX2_keeps_42
  · have hf := ite_t kc2 hf
    refine lv_aload_n hx hb dX2_keeps_17 rfl (lv_at hl 0 rfl) ?_
    refine m_ga E hK hP 48 (by decide) rfl q1461 rfl dX2_keeps_18 ?_
    refine lv_aload_n hx hb dX2_keeps_21 rfl (lv_at hl 0 rfl) ?_
    refine m_get E hK hP 47 (by decide) rfl q1460 rfl dX2_keeps_22 ?_
    refine lv_iconst (v := nI 1) hx hb dX2_keeps_25 rfl ?_
    refine lv_isub hx hb dX2_keeps_26 ?_
    obtain ⟨v4, hv4, hf⟩ := ob hf
    refine m_ald E hK hP (by decide) rfl rfl hv4 dX2_keeps_27 ?_
    cases hf
    exact m_iret E hr hlk hP hS rfl dX2_keeps_28
set_option maxHeartbeats 4000000 in
def fm_keepsLaw_L18 : (Int32 × nwM) → Option ((Int32 × nwM) ⊕ (nwM)) := fun st => (if (nI 16) ≤ st.1 then some (.inr st.2) else (rd_ st.2 17 48 st.1).bind fun v7 => bd2 (fm_keeps v7 st.2) fun v9 μ10 => (wr_ μ10 17 48 st.1 v9).bind fun μ11 => (rd_ μ11 18 48 st.1).bind fun v12 => bd2 (fm_keeps v12 μ11) fun v14 μ15 => (wr_ μ15 18 48 st.1 v14).bind fun μ16 => (rd_ μ16 19 48 st.1).bind fun v17 => bd2 (fm_keeps v17 μ16) fun v19 μ20 => (wr_ μ20 19 48 st.1 v19).bind fun μ21 => (rd_ μ21 20 48 st.1).bind fun v22 => bd2 (fm_keeps v22 μ21) fun v24 μ25 => (wr_ μ25 20 48 st.1 v24).bind fun μ26 => some (.inl (st.1 + nI 1, μ26)))
set_option maxHeartbeats 4000000 in
def fm_keepsLaw_L96 : (Int32 × nwM) → Option ((Int32 × nwM) ⊕ (nwM)) := fun st => (if (nI 400) ≤ st.1 then some (.inr st.2) else (rd_ st.2 21 1200 st.1).bind fun v29 => bd2 (fm_keeps v29 st.2) fun v31 μ32 => (wr_ μ32 21 1200 st.1 v31).bind fun μ33 => (rd_ μ33 22 1200 st.1).bind fun v34 => bd2 (fm_keeps v34 μ33) fun v36 μ37 => (wr_ μ37 22 1200 st.1 v36).bind fun μ38 => some (.inl (st.1 + nI 1, μ38)))
set_option maxHeartbeats 4000000 in
noncomputable def fm_keepsLaw (μ : nwM) : Option (nwM) := (rd_ μ 16 2 (nI 0)).bind fun v1 => bd2 (fm_keeps v1 μ) fun v3 μ4 => (wr_ μ4 16 2 (nI 0) v3).bind fun μ5 => (wh_ (fm_keepsLaw_L18) (nI 0, μ5)).bind fun x27 => (wh_ (fm_keepsLaw_L96) (nI 0, x27)).bind fun x39 => some x39
set_option maxHeartbeats 4000000 in
theorem fm_keepsLaw_L18_w {p : Program} {l : Launch} {e : Env} {s : State} {m : MethodId} {args : Array Value} {below : List Frame} {meth : Method} {c : Code} {Q : State → Prop} {D : va_G} {dT : Nat → ClassId} {h : Nat} (E : CallFix p m c cX2_keepsLaw 2 s args lw_all RX2) (hK : va_K D nwCl (nwT dT) s) {st : Int32 × nwM} {x : nwM} (hw : wh_ (fm_keepsLaw_L18) st = some x) (hk : (fun x : nwM => ∀ (ls : Array Slot) (H : Heap) (locs : List Loc), lv_has ls 2 [(0, .ref h)] → PM D dT h x H → va_S (mA h) s.heap H locs → W p l e (rmd 1) s m args below meth c H locs 0 0 Q (F0 m 94 ls [])) x) : (fun st : Int32 × nwM => ∀ (ls : Array Slot) (H : Heap) (locs : List Loc), lv_has ls 2 [(0, .ref h), (1, .int st.1)] → PM D dT h st.2 H → va_S (mA h) s.heap H locs → W p l e (rmd 1) s m args below meth c H locs 0 0 Q (F0 m 18 ls [])) st := by
  obtain ⟨hx, hb, -, hown, hts⟩ := id E
  refine wh_run (P := (fun st : Int32 × nwM => ∀ (ls : Array Slot) (H : Heap) (locs : List Loc), lv_has ls 2 [(0, .ref h), (1, .int st.1)] → PM D dT h st.2 H → va_S (mA h) s.heap H locs → W p l e (rmd 1) s m args below meth c H locs 0 0 Q (F0 m 18 ls []))) (PE := (fun x : nwM => ∀ (ls : Array Slot) (H : Heap) (locs : List Loc), lv_has ls 2 [(0, .ref h)] → PM D dT h x H → va_S (mA h) s.heap H locs → W p l e (rmd 1) s m args below meth c H locs 0 0 Q (F0 m 94 ls []))) ?_ hw hk
  clear hw hk
  intro st x hf hk ls H locs hl hP hS
  refine lv_iload_n hx hb dX2_keepsLaw_18 rfl (lv_at hl 1 rfl) ?_
  refine lv_bipush (v := nI 16) hx hb dX2_keepsLaw_19 rfl ?_
  refine lv_icmp_ge (tgt := 94) hx hb dX2_keepsLaw_21 (by decide) (fun kc6 => ?_) (fun kc6 => ?_)
  · have hf := ite_t kc6 hf
    cases hf
    exact hk _ _ _ (lv_sub hl [0] rfl) hP hS
  · have hf := ite_f kc6 hf
    refine lv_aload_n hx hb dX2_keepsLaw_24 rfl (lv_at hl 0 rfl) ?_
    refine m_ga E hK hP 17 (by decide) rfl q1430 rfl dX2_keepsLaw_25 ?_
    refine lv_iload_n hx hb dX2_keepsLaw_28 rfl (lv_at hl 1 rfl) ?_
    refine lv_aload_n hx hb dX2_keepsLaw_29 rfl (lv_at hl 0 rfl) ?_
    refine lv_aload_n hx hb dX2_keepsLaw_30 rfl (lv_at hl 0 rfl) ?_
    refine m_ga E hK hP 17 (by decide) rfl q1430 rfl dX2_keepsLaw_31 ?_
    refine lv_iload_n hx hb dX2_keepsLaw_34 rfl (lv_at hl 1 rfl) ?_
    obtain ⟨v7, hv7, hf⟩ := ob hf
    refine m_ald E hK hP (by decide) rfl rfl hv7 dX2_keepsLaw_35 ?_
    obtain ⟨v9, μ10, hc8, hf⟩ := ob2 hf
    refine m_calli E hK hP hS (As := [.int v7]) (tm_keeps l D dT h v7 st.2 _ hc8) (lw_V q2084 q2086 qs156 q166 q2087) dm_keeps rfl (by decide) (by decide) hl rfl (Nat.le_of_ble_eq_true rfl) dX2_keepsLaw_36 (fun H locs hP hS => ?_)
    obtain ⟨μ11, hμ11, hf⟩ := ob hf
    refine m_ast E hK hP hS (by decide) rfl rfl hμ11 dX2_keepsLaw_39 (fun H locs hP hS => ?_)
    refine lv_aload_n hx hb dX2_keepsLaw_40 rfl (lv_at hl 0 rfl) ?_
    refine m_ga E hK hP 18 (by decide) rfl q1431 rfl dX2_keepsLaw_41 ?_
    refine lv_iload_n hx hb dX2_keepsLaw_44 rfl (lv_at hl 1 rfl) ?_
    refine lv_aload_n hx hb dX2_keepsLaw_45 rfl (lv_at hl 0 rfl) ?_
    refine lv_aload_n hx hb dX2_keepsLaw_46 rfl (lv_at hl 0 rfl) ?_
    refine m_ga E hK hP 18 (by decide) rfl q1431 rfl dX2_keepsLaw_47 ?_
    refine lv_iload_n hx hb dX2_keepsLaw_50 rfl (lv_at hl 1 rfl) ?_
    obtain ⟨v12, hv12, hf⟩ := ob hf
    refine m_ald E hK hP (by decide) rfl rfl hv12 dX2_keepsLaw_51 ?_
    obtain ⟨v14, μ15, hc13, hf⟩ := ob2 hf
    refine m_calli E hK hP hS (As := [.int v12]) (tm_keeps l D dT h v12 μ11 _ hc13) (lw_V q2084 q2086 qs156 q166 q2087) dm_keeps rfl (by decide) (by decide) hl rfl (Nat.le_of_ble_eq_true rfl) dX2_keepsLaw_52 (fun H locs hP hS => ?_)
    obtain ⟨μ16, hμ16, hf⟩ := ob hf
    refine m_ast E hK hP hS (by decide) rfl rfl hμ16 dX2_keepsLaw_55 (fun H locs hP hS => ?_)
    refine lv_aload_n hx hb dX2_keepsLaw_56 rfl (lv_at hl 0 rfl) ?_
    refine m_ga E hK hP 19 (by decide) rfl q1432 rfl dX2_keepsLaw_57 ?_
    refine lv_iload_n hx hb dX2_keepsLaw_60 rfl (lv_at hl 1 rfl) ?_
    refine lv_aload_n hx hb dX2_keepsLaw_61 rfl (lv_at hl 0 rfl) ?_
    refine lv_aload_n hx hb dX2_keepsLaw_62 rfl (lv_at hl 0 rfl) ?_
    refine m_ga E hK hP 19 (by decide) rfl q1432 rfl dX2_keepsLaw_63 ?_
    refine lv_iload_n hx hb dX2_keepsLaw_66 rfl (lv_at hl 1 rfl) ?_
    obtain ⟨v17, hv17, hf⟩ := ob hf
    refine m_ald E hK hP (by decide) rfl rfl hv17 dX2_keepsLaw_67 ?_
    obtain ⟨v19, μ20, hc18, hf⟩ := ob2 hf
    refine m_calli E hK hP hS (As := [.int v17]) (tm_keeps l D dT h v17 μ16 _ hc18) (lw_V q2084 q2086 qs156 q166 q2087) dm_keeps rfl (by decide) (by decide) hl rfl (Nat.le_of_ble_eq_true rfl) dX2_keepsLaw_68 (fun H locs hP hS => ?_)
    obtain ⟨μ21, hμ21, hf⟩ := ob hf
    refine m_ast E hK hP hS (by decide) rfl rfl hμ21 dX2_keepsLaw_71 (fun H locs hP hS => ?_)
    refine lv_aload_n hx hb dX2_keepsLaw_72 rfl (lv_at hl 0 rfl) ?_
    refine m_ga E hK hP 20 (by decide) rfl q1433 rfl dX2_keepsLaw_73 ?_
    refine lv_iload_n hx hb dX2_keepsLaw_76 rfl (lv_at hl 1 rfl) ?_
    refine lv_aload_n hx hb dX2_keepsLaw_77 rfl (lv_at hl 0 rfl) ?_
    refine lv_aload_n hx hb dX2_keepsLaw_78 rfl (lv_at hl 0 rfl) ?_
    refine m_ga E hK hP 20 (by decide) rfl q1433 rfl dX2_keepsLaw_79 ?_
    refine lv_iload_n hx hb dX2_keepsLaw_82 rfl (lv_at hl 1 rfl) ?_
    obtain ⟨v22, hv22, hf⟩ := ob hf
    refine m_ald E hK hP (by decide) rfl rfl hv22 dX2_keepsLaw_83 ?_
    obtain ⟨v24, μ25, hc23, hf⟩ := ob2 hf
    refine m_calli E hK hP hS (As := [.int v22]) (tm_keeps l D dT h v22 μ21 _ hc23) (lw_V q2084 q2086 qs156 q166 q2087) dm_keeps rfl (by decide) (by decide) hl rfl (Nat.le_of_ble_eq_true rfl) dX2_keepsLaw_84 (fun H locs hP hS => ?_)
    obtain ⟨μ26, hμ26, hf⟩ := ob hf
    refine m_ast E hK hP hS (by decide) rfl rfl hμ26 dX2_keepsLaw_87 (fun H locs hP hS => ?_)
    refine lv_iinc (v := st.1 + nI 1) (lv' := [(1, .int (st.1 + nI 1)), (0, .ref h)]) hx hb dX2_keepsLaw_88 hl (k := 1) rfl rfl (by decide) rfl (fun ls hl => ?_)
    refine lv_goto (tgt := 18) hx hb dX2_keepsLaw_91 (by decide) ?_
    cases hf
    exact hk _ _ _ (lv_sub hl [1, 0] rfl) hP hS
set_option maxHeartbeats 4000000 in
theorem fm_keepsLaw_L96_w {p : Program} {l : Launch} {e : Env} {s : State} {m : MethodId} {args : Array Value} {below : List Frame} {meth : Method} {c : Code} {Q : State → Prop} {D : va_G} {dT : Nat → ClassId} {h : Nat} (E : CallFix p m c cX2_keepsLaw 2 s args lw_all RX2) (hK : va_K D nwCl (nwT dT) s) {st : Int32 × nwM} {x : nwM} (hw : wh_ (fm_keepsLaw_L96) st = some x) (hk : (fun x : nwM => ∀ (ls : Array Slot) (H : Heap) (locs : List Loc), lv_has ls 2 [] → PM D dT h x H → va_S (mA h) s.heap H locs → W p l e (rmd 1) s m args below meth c H locs 0 0 Q (F0 m 141 ls [])) x) : (fun st : Int32 × nwM => ∀ (ls : Array Slot) (H : Heap) (locs : List Loc), lv_has ls 2 [(0, .ref h), (1, .int st.1)] → PM D dT h st.2 H → va_S (mA h) s.heap H locs → W p l e (rmd 1) s m args below meth c H locs 0 0 Q (F0 m 96 ls [])) st := by
  obtain ⟨hx, hb, -, hown, hts⟩ := id E
  refine wh_run (P := (fun st : Int32 × nwM => ∀ (ls : Array Slot) (H : Heap) (locs : List Loc), lv_has ls 2 [(0, .ref h), (1, .int st.1)] → PM D dT h st.2 H → va_S (mA h) s.heap H locs → W p l e (rmd 1) s m args below meth c H locs 0 0 Q (F0 m 96 ls []))) (PE := (fun x : nwM => ∀ (ls : Array Slot) (H : Heap) (locs : List Loc), lv_has ls 2 [] → PM D dT h x H → va_S (mA h) s.heap H locs → W p l e (rmd 1) s m args below meth c H locs 0 0 Q (F0 m 141 ls []))) ?_ hw hk
  clear hw hk
  intro st x hf hk ls H locs hl hP hS
  refine lv_iload_n hx hb dX2_keepsLaw_96 rfl (lv_at hl 1 rfl) ?_
  refine lv_sipush (v := nI 400) hx hb dX2_keepsLaw_97 rfl ?_
  refine lv_icmp_ge (tgt := 141) hx hb dX2_keepsLaw_100 (by decide) (fun kc28 => ?_) (fun kc28 => ?_)
  · have hf := ite_t kc28 hf
    cases hf
    exact hk _ _ _ (lv_sub hl [] rfl) hP hS
  · have hf := ite_f kc28 hf
    refine lv_aload_n hx hb dX2_keepsLaw_103 rfl (lv_at hl 0 rfl) ?_
    refine m_ga E hK hP 21 (by decide) rfl q1434 rfl dX2_keepsLaw_104 ?_
    refine lv_iload_n hx hb dX2_keepsLaw_107 rfl (lv_at hl 1 rfl) ?_
    refine lv_aload_n hx hb dX2_keepsLaw_108 rfl (lv_at hl 0 rfl) ?_
    refine lv_aload_n hx hb dX2_keepsLaw_109 rfl (lv_at hl 0 rfl) ?_
    refine m_ga E hK hP 21 (by decide) rfl q1434 rfl dX2_keepsLaw_110 ?_
    refine lv_iload_n hx hb dX2_keepsLaw_113 rfl (lv_at hl 1 rfl) ?_
    obtain ⟨v29, hv29, hf⟩ := ob hf
    refine m_ald E hK hP (by decide) rfl rfl hv29 dX2_keepsLaw_114 ?_
    obtain ⟨v31, μ32, hc30, hf⟩ := ob2 hf
    refine m_calli E hK hP hS (As := [.int v29]) (tm_keeps l D dT h v29 st.2 _ hc30) (lw_V q2084 q2086 qs156 q166 q2087) dm_keeps rfl (by decide) (by decide) hl rfl (Nat.le_of_ble_eq_true rfl) dX2_keepsLaw_115 (fun H locs hP hS => ?_)
    obtain ⟨μ33, hμ33, hf⟩ := ob hf
    refine m_ast E hK hP hS (by decide) rfl rfl hμ33 dX2_keepsLaw_118 (fun H locs hP hS => ?_)
    refine lv_aload_n hx hb dX2_keepsLaw_119 rfl (lv_at hl 0 rfl) ?_
    refine m_ga E hK hP 22 (by decide) rfl q1435 rfl dX2_keepsLaw_120 ?_
    refine lv_iload_n hx hb dX2_keepsLaw_123 rfl (lv_at hl 1 rfl) ?_
    refine lv_aload_n hx hb dX2_keepsLaw_124 rfl (lv_at hl 0 rfl) ?_
    refine lv_aload_n hx hb dX2_keepsLaw_125 rfl (lv_at hl 0 rfl) ?_
    refine m_ga E hK hP 22 (by decide) rfl q1435 rfl dX2_keepsLaw_126 ?_
    refine lv_iload_n hx hb dX2_keepsLaw_129 rfl (lv_at hl 1 rfl) ?_
    obtain ⟨v34, hv34, hf⟩ := ob hf
    refine m_ald E hK hP (by decide) rfl rfl hv34 dX2_keepsLaw_130 ?_
    obtain ⟨v36, μ37, hc35, hf⟩ := ob2 hf
    refine m_calli E hK hP hS (As := [.int v34]) (tm_keeps l D dT h v34 μ33 _ hc35) (lw_V q2084 q2086 qs156 q166 q2087) dm_keeps rfl (by decide) (by decide) hl rfl (Nat.le_of_ble_eq_true rfl) dX2_keepsLaw_131 (fun H locs hP hS => ?_)
    obtain ⟨μ38, hμ38, hf⟩ := ob hf
    refine m_ast E hK hP hS (by decide) rfl rfl hμ38 dX2_keepsLaw_134 (fun H locs hP hS => ?_)
    refine lv_iinc (v := st.1 + nI 1) (lv' := [(1, .int (st.1 + nI 1)), (0, .ref h)]) hx hb dX2_keepsLaw_135 hl (k := 1) rfl rfl (by decide) rfl (fun ls hl => ?_)
    refine lv_goto (tgt := 96) hx hb dX2_keepsLaw_138 (by decide) ?_
    cases hf
    exact hk _ _ _ (lv_sub hl [1, 0] rfl) hP hS
set_option maxHeartbeats 4000000 in
theorem dm_keepsLaw : yX2_keepsLaw.cls = RX2 ∧ yX2_keepsLaw.cls ≠ "java/lang/invoke/MethodHandle" ∧ yX2_keepsLaw.cls ≠ "java/lang/invoke/VarHandle" ∧ (parseMethodDescriptor yX2_keepsLaw.desc).map (fun d => d.parameters.length) = some 0 := ⟨rfl, by decide +kernel, by decide +kernel, by decide +kernel⟩
set_option maxHeartbeats 4000000 in
theorem tm_keepsLaw (l : Launch) (D : va_G) (dT : Nat → ClassId) (h : Nat) (μ : nwM) (res : nwM) (hf : fm_keepsLaw μ = some res) : Met l yX2_keepsLaw (ws_ yX2_keepsLaw cX2_keepsLaw 2 none) (rmd 1) (mPc D dT h μ []) (mQv D dT h res) 0 0 (mA h) := by
  refine m_met (by decide) rfl (Nat.le_of_ble_eq_true rfl) ?_
  intro p e s m below meth c ls E hK hr hlk hl hP
  have hS : va_S (mA h) s.heap s.heap [] := va_S.rf
  obtain ⟨hx, hb, -, hown, hts⟩ := id E
  have hl : lv_has ls 2 [(0, .ref h)] := hl
  unfold fm_keepsLaw at hf
  refine lv_aload_n hx hb dX2_keepsLaw_0 rfl (lv_at hl 0 rfl) ?_
  refine m_ga E hK hP 16 (by decide) rfl q1429 rfl dX2_keepsLaw_1 ?_
  refine lv_iconst (v := nI 0) hx hb dX2_keepsLaw_4 rfl ?_
  refine lv_aload_n hx hb dX2_keepsLaw_5 rfl (lv_at hl 0 rfl) ?_
  refine lv_aload_n hx hb dX2_keepsLaw_6 rfl (lv_at hl 0 rfl) ?_
  refine m_ga E hK hP 16 (by decide) rfl q1429 rfl dX2_keepsLaw_7 ?_
  refine lv_iconst (v := nI 0) hx hb dX2_keepsLaw_10 rfl ?_
  obtain ⟨v1, hv1, hf⟩ := ob hf
  refine m_ald E hK hP (by decide) rfl rfl hv1 dX2_keepsLaw_11 ?_
  obtain ⟨v3, μ4, hc2, hf⟩ := ob2 hf
  refine m_calli E hK hP hS (As := [.int v1]) (tm_keeps l D dT h v1 μ _ hc2) (lw_V q2084 q2086 qs156 q166 q2087) dm_keeps rfl (by decide) (by decide) hl rfl (Nat.le_of_ble_eq_true rfl) dX2_keepsLaw_12 (fun H locs hP hS => ?_)
  obtain ⟨μ5, hμ5, hf⟩ := ob hf
  refine m_ast E hK hP hS (by decide) rfl rfl hμ5 dX2_keepsLaw_15 (fun H locs hP hS => ?_)
  refine lv_iconst (v := nI 0) hx hb dX2_keepsLaw_16 rfl ?_
  refine lv_istore_n (lv' := [(1, .int (nI 0)), (0, .ref h)]) hx hb dX2_keepsLaw_17 rfl hl (by decide) rfl (fun ls hl => ?_)
  obtain ⟨x27, hx27, hf⟩ := ob hf
  refine fm_keepsLaw_L18_w E hK hx27 (fun ls H locs hl hP hS => ?_) _ _ _ (lv_sub hl [1, 0] rfl) hP hS
  refine lv_iconst (v := nI 0) hx hb dX2_keepsLaw_94 rfl ?_
  refine lv_istore_n (lv' := [(1, .int (nI 0)), (0, .ref h)]) hx hb dX2_keepsLaw_95 rfl hl (by decide) rfl (fun ls hl => ?_)
  obtain ⟨x39, hx39, hf⟩ := ob hf
  refine fm_keepsLaw_L96_w E hK hx39 (fun ls H locs hl hP hS => ?_) _ _ _ (lv_sub hl [1, 0] rfl) hP hS
  cases hf
  exact m_vret E hr hlk hP hS dX2_keepsLaw_141
set_option maxHeartbeats 4000000 in
def fm_keepsTold_L50 : (Int32 × nwM) → Option ((Int32 × nwM) ⊕ (nwM)) := fun st => (if (nI 8) ≤ st.1 then some (.inr st.2) else (rd_ st.2 7 8 st.1).bind fun v18 => bd2 (fm_keeps v18 st.2) fun v20 μ21 => (wr_ μ21 7 8 st.1 v20).bind fun μ22 => some (.inl (st.1 + nI 1, μ22)))
set_option maxHeartbeats 4000000 in
def fm_keepsTold_L80 : (Int32 × nwM) → Option ((Int32 × nwM) ⊕ (nwM)) := fun st => (if (nI 48) ≤ st.1 then some (.inr st.2) else (rd_ st.2 33 96 st.1).bind fun v25 => bd2 (fm_keeps v25 st.2) fun v27 μ28 => (wr_ μ28 33 96 st.1 v27).bind fun μ29 => some (.inl (st.1 + nI 1, μ29)))
set_option maxHeartbeats 4000000 in
def fm_keepsTold_L110 : (Int32 × nwM) → Option ((Int32 × nwM) ⊕ (nwM)) := fun st => (if (nI 50) ≤ st.1 then some (.inr st.2) else (rd_ st.2 35 100 st.1).bind fun v32 => bd2 (fm_keeps v32 st.2) fun v34 μ35 => (wr_ μ35 35 100 st.1 v34).bind fun μ36 => some (.inl (st.1 + nI 1, μ36)))
set_option maxHeartbeats 4000000 in
def fm_keepsTold_L140 : (Int32 × nwM) → Option ((Int32 × nwM) ⊕ (nwM)) := fun st => (if (nI 64) ≤ st.1 then some (.inr st.2) else (rd_ st.2 37 128 st.1).bind fun v39 => bd2 (fm_keeps v39 st.2) fun v41 μ42 => (wr_ μ42 37 128 st.1 v41).bind fun μ43 => some (.inl (st.1 + nI 1, μ43)))
set_option maxHeartbeats 4000000 in
noncomputable def fm_keepsTold (μ : nwM) : Option (nwM) := bd2 (fm_keeps (μ 6 0) μ) fun v2 μ3 => (wf_ μ3 6 v2).bind fun μ4 => bd2 (fm_keeps (μ4 32 0) μ4) fun v6 μ7 => (wf_ μ7 32 v6).bind fun μ8 => bd2 (fm_keeps (μ8 34 0) μ8) fun v10 μ11 => (wf_ μ11 34 v10).bind fun μ12 => bd2 (fm_keeps (μ12 36 0) μ12) fun v14 μ15 => (wf_ μ15 36 v14).bind fun μ16 => (wh_ (fm_keepsTold_L50) (nI 0, μ16)).bind fun x23 => (wh_ (fm_keepsTold_L80) (nI 0, x23)).bind fun x30 => (wh_ (fm_keepsTold_L110) (nI 0, x30)).bind fun x37 => (wh_ (fm_keepsTold_L140) (nI 0, x37)).bind fun x44 => some x44
set_option maxHeartbeats 4000000 in
theorem fm_keepsTold_L50_w {p : Program} {l : Launch} {e : Env} {s : State} {m : MethodId} {args : Array Value} {below : List Frame} {meth : Method} {c : Code} {Q : State → Prop} {D : va_G} {dT : Nat → ClassId} {h : Nat} (E : CallFix p m c cX2_keepsTold 2 s args lw_all RX2) (hK : va_K D nwCl (nwT dT) s) {st : Int32 × nwM} {x : nwM} (hw : wh_ (fm_keepsTold_L50) st = some x) (hk : (fun x : nwM => ∀ (ls : Array Slot) (H : Heap) (locs : List Loc), lv_has ls 2 [(0, .ref h)] → PM D dT h x H → va_S (mA h) s.heap H locs → W p l e (rmd 1) s m args below meth c H locs 0 0 Q (F0 m 78 ls [])) x) : (fun st : Int32 × nwM => ∀ (ls : Array Slot) (H : Heap) (locs : List Loc), lv_has ls 2 [(0, .ref h), (1, .int st.1)] → PM D dT h st.2 H → va_S (mA h) s.heap H locs → W p l e (rmd 1) s m args below meth c H locs 0 0 Q (F0 m 50 ls [])) st := by
  obtain ⟨hx, hb, -, hown, hts⟩ := id E
  refine wh_run (P := (fun st : Int32 × nwM => ∀ (ls : Array Slot) (H : Heap) (locs : List Loc), lv_has ls 2 [(0, .ref h), (1, .int st.1)] → PM D dT h st.2 H → va_S (mA h) s.heap H locs → W p l e (rmd 1) s m args below meth c H locs 0 0 Q (F0 m 50 ls []))) (PE := (fun x : nwM => ∀ (ls : Array Slot) (H : Heap) (locs : List Loc), lv_has ls 2 [(0, .ref h)] → PM D dT h x H → va_S (mA h) s.heap H locs → W p l e (rmd 1) s m args below meth c H locs 0 0 Q (F0 m 78 ls []))) ?_ hw hk
  clear hw hk
  intro st x hf hk ls H locs hl hP hS
  refine lv_iload_n hx hb dX2_keepsTold_50 rfl (lv_at hl 1 rfl) ?_
  refine lv_bipush (v := nI 8) hx hb dX2_keepsTold_51 rfl ?_
  refine lv_icmp_ge (tgt := 78) hx hb dX2_keepsTold_53 (by decide) (fun kc17 => ?_) (fun kc17 => ?_)
  · have hf := ite_t kc17 hf
    cases hf
    exact hk _ _ _ (lv_sub hl [0] rfl) hP hS
  · have hf := ite_f kc17 hf
    refine lv_aload_n hx hb dX2_keepsTold_56 rfl (lv_at hl 0 rfl) ?_
    refine m_ga E hK hP 7 (by decide) rfl q1420 rfl dX2_keepsTold_57 ?_
    refine lv_iload_n hx hb dX2_keepsTold_60 rfl (lv_at hl 1 rfl) ?_
    refine lv_aload_n hx hb dX2_keepsTold_61 rfl (lv_at hl 0 rfl) ?_
    refine lv_aload_n hx hb dX2_keepsTold_62 rfl (lv_at hl 0 rfl) ?_
    refine m_ga E hK hP 7 (by decide) rfl q1420 rfl dX2_keepsTold_63 ?_
    refine lv_iload_n hx hb dX2_keepsTold_66 rfl (lv_at hl 1 rfl) ?_
    obtain ⟨v18, hv18, hf⟩ := ob hf
    refine m_ald E hK hP (by decide) rfl rfl hv18 dX2_keepsTold_67 ?_
    obtain ⟨v20, μ21, hc19, hf⟩ := ob2 hf
    refine m_calli E hK hP hS (As := [.int v18]) (tm_keeps l D dT h v18 st.2 _ hc19) (lw_V q2084 q2086 qs156 q166 q2087) dm_keeps rfl (by decide) (by decide) hl rfl (Nat.le_of_ble_eq_true rfl) dX2_keepsTold_68 (fun H locs hP hS => ?_)
    obtain ⟨μ22, hμ22, hf⟩ := ob hf
    refine m_ast E hK hP hS (by decide) rfl rfl hμ22 dX2_keepsTold_71 (fun H locs hP hS => ?_)
    refine lv_iinc (v := st.1 + nI 1) (lv' := [(1, .int (st.1 + nI 1)), (0, .ref h)]) hx hb dX2_keepsTold_72 hl (k := 1) rfl rfl (by decide) rfl (fun ls hl => ?_)
    refine lv_goto (tgt := 50) hx hb dX2_keepsTold_75 (by decide) ?_
    cases hf
    exact hk _ _ _ (lv_sub hl [1, 0] rfl) hP hS
set_option maxHeartbeats 4000000 in
theorem fm_keepsTold_L80_w {p : Program} {l : Launch} {e : Env} {s : State} {m : MethodId} {args : Array Value} {below : List Frame} {meth : Method} {c : Code} {Q : State → Prop} {D : va_G} {dT : Nat → ClassId} {h : Nat} (E : CallFix p m c cX2_keepsTold 2 s args lw_all RX2) (hK : va_K D nwCl (nwT dT) s) {st : Int32 × nwM} {x : nwM} (hw : wh_ (fm_keepsTold_L80) st = some x) (hk : (fun x : nwM => ∀ (ls : Array Slot) (H : Heap) (locs : List Loc), lv_has ls 2 [(0, .ref h)] → PM D dT h x H → va_S (mA h) s.heap H locs → W p l e (rmd 1) s m args below meth c H locs 0 0 Q (F0 m 108 ls [])) x) : (fun st : Int32 × nwM => ∀ (ls : Array Slot) (H : Heap) (locs : List Loc), lv_has ls 2 [(0, .ref h), (1, .int st.1)] → PM D dT h st.2 H → va_S (mA h) s.heap H locs → W p l e (rmd 1) s m args below meth c H locs 0 0 Q (F0 m 80 ls [])) st := by
  obtain ⟨hx, hb, -, hown, hts⟩ := id E
  refine wh_run (P := (fun st : Int32 × nwM => ∀ (ls : Array Slot) (H : Heap) (locs : List Loc), lv_has ls 2 [(0, .ref h), (1, .int st.1)] → PM D dT h st.2 H → va_S (mA h) s.heap H locs → W p l e (rmd 1) s m args below meth c H locs 0 0 Q (F0 m 80 ls []))) (PE := (fun x : nwM => ∀ (ls : Array Slot) (H : Heap) (locs : List Loc), lv_has ls 2 [(0, .ref h)] → PM D dT h x H → va_S (mA h) s.heap H locs → W p l e (rmd 1) s m args below meth c H locs 0 0 Q (F0 m 108 ls []))) ?_ hw hk
  clear hw hk
  intro st x hf hk ls H locs hl hP hS
  refine lv_iload_n hx hb dX2_keepsTold_80 rfl (lv_at hl 1 rfl) ?_
  refine lv_bipush (v := nI 48) hx hb dX2_keepsTold_81 rfl ?_
  refine lv_icmp_ge (tgt := 108) hx hb dX2_keepsTold_83 (by decide) (fun kc24 => ?_) (fun kc24 => ?_)
  · have hf := ite_t kc24 hf
    cases hf
    exact hk _ _ _ (lv_sub hl [0] rfl) hP hS
  · have hf := ite_f kc24 hf
    refine lv_aload_n hx hb dX2_keepsTold_86 rfl (lv_at hl 0 rfl) ?_
    refine m_ga E hK hP 33 (by decide) rfl q1446 rfl dX2_keepsTold_87 ?_
    refine lv_iload_n hx hb dX2_keepsTold_90 rfl (lv_at hl 1 rfl) ?_
    refine lv_aload_n hx hb dX2_keepsTold_91 rfl (lv_at hl 0 rfl) ?_
    refine lv_aload_n hx hb dX2_keepsTold_92 rfl (lv_at hl 0 rfl) ?_
    refine m_ga E hK hP 33 (by decide) rfl q1446 rfl dX2_keepsTold_93 ?_
    refine lv_iload_n hx hb dX2_keepsTold_96 rfl (lv_at hl 1 rfl) ?_
    obtain ⟨v25, hv25, hf⟩ := ob hf
    refine m_ald E hK hP (by decide) rfl rfl hv25 dX2_keepsTold_97 ?_
    obtain ⟨v27, μ28, hc26, hf⟩ := ob2 hf
    refine m_calli E hK hP hS (As := [.int v25]) (tm_keeps l D dT h v25 st.2 _ hc26) (lw_V q2084 q2086 qs156 q166 q2087) dm_keeps rfl (by decide) (by decide) hl rfl (Nat.le_of_ble_eq_true rfl) dX2_keepsTold_98 (fun H locs hP hS => ?_)
    obtain ⟨μ29, hμ29, hf⟩ := ob hf
    refine m_ast E hK hP hS (by decide) rfl rfl hμ29 dX2_keepsTold_101 (fun H locs hP hS => ?_)
    refine lv_iinc (v := st.1 + nI 1) (lv' := [(1, .int (st.1 + nI 1)), (0, .ref h)]) hx hb dX2_keepsTold_102 hl (k := 1) rfl rfl (by decide) rfl (fun ls hl => ?_)
    refine lv_goto (tgt := 80) hx hb dX2_keepsTold_105 (by decide) ?_
    cases hf
    exact hk _ _ _ (lv_sub hl [1, 0] rfl) hP hS
set_option maxHeartbeats 4000000 in
theorem fm_keepsTold_L110_w {p : Program} {l : Launch} {e : Env} {s : State} {m : MethodId} {args : Array Value} {below : List Frame} {meth : Method} {c : Code} {Q : State → Prop} {D : va_G} {dT : Nat → ClassId} {h : Nat} (E : CallFix p m c cX2_keepsTold 2 s args lw_all RX2) (hK : va_K D nwCl (nwT dT) s) {st : Int32 × nwM} {x : nwM} (hw : wh_ (fm_keepsTold_L110) st = some x) (hk : (fun x : nwM => ∀ (ls : Array Slot) (H : Heap) (locs : List Loc), lv_has ls 2 [(0, .ref h)] → PM D dT h x H → va_S (mA h) s.heap H locs → W p l e (rmd 1) s m args below meth c H locs 0 0 Q (F0 m 138 ls [])) x) : (fun st : Int32 × nwM => ∀ (ls : Array Slot) (H : Heap) (locs : List Loc), lv_has ls 2 [(0, .ref h), (1, .int st.1)] → PM D dT h st.2 H → va_S (mA h) s.heap H locs → W p l e (rmd 1) s m args below meth c H locs 0 0 Q (F0 m 110 ls [])) st := by
  obtain ⟨hx, hb, -, hown, hts⟩ := id E
  refine wh_run (P := (fun st : Int32 × nwM => ∀ (ls : Array Slot) (H : Heap) (locs : List Loc), lv_has ls 2 [(0, .ref h), (1, .int st.1)] → PM D dT h st.2 H → va_S (mA h) s.heap H locs → W p l e (rmd 1) s m args below meth c H locs 0 0 Q (F0 m 110 ls []))) (PE := (fun x : nwM => ∀ (ls : Array Slot) (H : Heap) (locs : List Loc), lv_has ls 2 [(0, .ref h)] → PM D dT h x H → va_S (mA h) s.heap H locs → W p l e (rmd 1) s m args below meth c H locs 0 0 Q (F0 m 138 ls []))) ?_ hw hk
  clear hw hk
  intro st x hf hk ls H locs hl hP hS
  refine lv_iload_n hx hb dX2_keepsTold_110 rfl (lv_at hl 1 rfl) ?_
  refine lv_bipush (v := nI 50) hx hb dX2_keepsTold_111 rfl ?_
  refine lv_icmp_ge (tgt := 138) hx hb dX2_keepsTold_113 (by decide) (fun kc31 => ?_) (fun kc31 => ?_)
  · have hf := ite_t kc31 hf
    cases hf
    exact hk _ _ _ (lv_sub hl [0] rfl) hP hS
  · have hf := ite_f kc31 hf
    refine lv_aload_n hx hb dX2_keepsTold_116 rfl (lv_at hl 0 rfl) ?_
    refine m_ga E hK hP 35 (by decide) rfl q1448 rfl dX2_keepsTold_117 ?_
    refine lv_iload_n hx hb dX2_keepsTold_120 rfl (lv_at hl 1 rfl) ?_
    refine lv_aload_n hx hb dX2_keepsTold_121 rfl (lv_at hl 0 rfl) ?_
    refine lv_aload_n hx hb dX2_keepsTold_122 rfl (lv_at hl 0 rfl) ?_
    refine m_ga E hK hP 35 (by decide) rfl q1448 rfl dX2_keepsTold_123 ?_
    refine lv_iload_n hx hb dX2_keepsTold_126 rfl (lv_at hl 1 rfl) ?_
    obtain ⟨v32, hv32, hf⟩ := ob hf
    refine m_ald E hK hP (by decide) rfl rfl hv32 dX2_keepsTold_127 ?_
    obtain ⟨v34, μ35, hc33, hf⟩ := ob2 hf
    refine m_calli E hK hP hS (As := [.int v32]) (tm_keeps l D dT h v32 st.2 _ hc33) (lw_V q2084 q2086 qs156 q166 q2087) dm_keeps rfl (by decide) (by decide) hl rfl (Nat.le_of_ble_eq_true rfl) dX2_keepsTold_128 (fun H locs hP hS => ?_)
    obtain ⟨μ36, hμ36, hf⟩ := ob hf
    refine m_ast E hK hP hS (by decide) rfl rfl hμ36 dX2_keepsTold_131 (fun H locs hP hS => ?_)
    refine lv_iinc (v := st.1 + nI 1) (lv' := [(1, .int (st.1 + nI 1)), (0, .ref h)]) hx hb dX2_keepsTold_132 hl (k := 1) rfl rfl (by decide) rfl (fun ls hl => ?_)
    refine lv_goto (tgt := 110) hx hb dX2_keepsTold_135 (by decide) ?_
    cases hf
    exact hk _ _ _ (lv_sub hl [1, 0] rfl) hP hS
set_option maxHeartbeats 4000000 in
theorem fm_keepsTold_L140_w {p : Program} {l : Launch} {e : Env} {s : State} {m : MethodId} {args : Array Value} {below : List Frame} {meth : Method} {c : Code} {Q : State → Prop} {D : va_G} {dT : Nat → ClassId} {h : Nat} (E : CallFix p m c cX2_keepsTold 2 s args lw_all RX2) (hK : va_K D nwCl (nwT dT) s) {st : Int32 × nwM} {x : nwM} (hw : wh_ (fm_keepsTold_L140) st = some x) (hk : (fun x : nwM => ∀ (ls : Array Slot) (H : Heap) (locs : List Loc), lv_has ls 2 [] → PM D dT h x H → va_S (mA h) s.heap H locs → W p l e (rmd 1) s m args below meth c H locs 0 0 Q (F0 m 168 ls [])) x) : (fun st : Int32 × nwM => ∀ (ls : Array Slot) (H : Heap) (locs : List Loc), lv_has ls 2 [(0, .ref h), (1, .int st.1)] → PM D dT h st.2 H → va_S (mA h) s.heap H locs → W p l e (rmd 1) s m args below meth c H locs 0 0 Q (F0 m 140 ls [])) st := by
  obtain ⟨hx, hb, -, hown, hts⟩ := id E
  refine wh_run (P := (fun st : Int32 × nwM => ∀ (ls : Array Slot) (H : Heap) (locs : List Loc), lv_has ls 2 [(0, .ref h), (1, .int st.1)] → PM D dT h st.2 H → va_S (mA h) s.heap H locs → W p l e (rmd 1) s m args below meth c H locs 0 0 Q (F0 m 140 ls []))) (PE := (fun x : nwM => ∀ (ls : Array Slot) (H : Heap) (locs : List Loc), lv_has ls 2 [] → PM D dT h x H → va_S (mA h) s.heap H locs → W p l e (rmd 1) s m args below meth c H locs 0 0 Q (F0 m 168 ls []))) ?_ hw hk
  clear hw hk
  intro st x hf hk ls H locs hl hP hS
  refine lv_iload_n hx hb dX2_keepsTold_140 rfl (lv_at hl 1 rfl) ?_
  refine lv_bipush (v := nI 64) hx hb dX2_keepsTold_141 rfl ?_
  refine lv_icmp_ge (tgt := 168) hx hb dX2_keepsTold_143 (by decide) (fun kc38 => ?_) (fun kc38 => ?_)
  · have hf := ite_t kc38 hf
    cases hf
    exact hk _ _ _ (lv_sub hl [] rfl) hP hS
  · have hf := ite_f kc38 hf
    refine lv_aload_n hx hb dX2_keepsTold_146 rfl (lv_at hl 0 rfl) ?_
    refine m_ga E hK hP 37 (by decide) rfl q1450 rfl dX2_keepsTold_147 ?_
    refine lv_iload_n hx hb dX2_keepsTold_150 rfl (lv_at hl 1 rfl) ?_
    refine lv_aload_n hx hb dX2_keepsTold_151 rfl (lv_at hl 0 rfl) ?_
    refine lv_aload_n hx hb dX2_keepsTold_152 rfl (lv_at hl 0 rfl) ?_
    refine m_ga E hK hP 37 (by decide) rfl q1450 rfl dX2_keepsTold_153 ?_
    refine lv_iload_n hx hb dX2_keepsTold_156 rfl (lv_at hl 1 rfl) ?_
    obtain ⟨v39, hv39, hf⟩ := ob hf
    refine m_ald E hK hP (by decide) rfl rfl hv39 dX2_keepsTold_157 ?_
    obtain ⟨v41, μ42, hc40, hf⟩ := ob2 hf
    refine m_calli E hK hP hS (As := [.int v39]) (tm_keeps l D dT h v39 st.2 _ hc40) (lw_V q2084 q2086 qs156 q166 q2087) dm_keeps rfl (by decide) (by decide) hl rfl (Nat.le_of_ble_eq_true rfl) dX2_keepsTold_158 (fun H locs hP hS => ?_)
    obtain ⟨μ43, hμ43, hf⟩ := ob hf
    refine m_ast E hK hP hS (by decide) rfl rfl hμ43 dX2_keepsTold_161 (fun H locs hP hS => ?_)
    refine lv_iinc (v := st.1 + nI 1) (lv' := [(1, .int (st.1 + nI 1)), (0, .ref h)]) hx hb dX2_keepsTold_162 hl (k := 1) rfl rfl (by decide) rfl (fun ls hl => ?_)
    refine lv_goto (tgt := 140) hx hb dX2_keepsTold_165 (by decide) ?_
    cases hf
    exact hk _ _ _ (lv_sub hl [1, 0] rfl) hP hS
set_option maxHeartbeats 4000000 in
theorem dm_keepsTold : yX2_keepsTold.cls = RX2 ∧ yX2_keepsTold.cls ≠ "java/lang/invoke/MethodHandle" ∧ yX2_keepsTold.cls ≠ "java/lang/invoke/VarHandle" ∧ (parseMethodDescriptor yX2_keepsTold.desc).map (fun d => d.parameters.length) = some 0 := ⟨rfl, by decide +kernel, by decide +kernel, by decide +kernel⟩
set_option maxHeartbeats 4000000 in
theorem tm_keepsTold (l : Launch) (D : va_G) (dT : Nat → ClassId) (h : Nat) (μ : nwM) (res : nwM) (hf : fm_keepsTold μ = some res) : Met l yX2_keepsTold (ws_ yX2_keepsTold cX2_keepsTold 2 none) (rmd 1) (mPc D dT h μ []) (mQv D dT h res) 0 0 (mA h) := by
  refine m_met (by decide) rfl (Nat.le_of_ble_eq_true rfl) ?_
  intro p e s m below meth c ls E hK hr hlk hl hP
  have hS : va_S (mA h) s.heap s.heap [] := va_S.rf
  obtain ⟨hx, hb, -, hown, hts⟩ := id E
  have hl : lv_has ls 2 [(0, .ref h)] := hl
  unfold fm_keepsTold at hf
  refine lv_aload_n hx hb dX2_keepsTold_0 rfl (lv_at hl 0 rfl) ?_
  refine lv_aload_n hx hb dX2_keepsTold_1 rfl (lv_at hl 0 rfl) ?_
  refine lv_aload_n hx hb dX2_keepsTold_2 rfl (lv_at hl 0 rfl) ?_
  refine m_get E hK hP 6 (by decide) rfl q1419 rfl dX2_keepsTold_3 ?_
  obtain ⟨v2, μ3, hc1, hf⟩ := ob2 hf
  refine m_calli E hK hP hS (As := [.int (μ 6 0)]) (tm_keeps l D dT h (μ 6 0) μ _ hc1) (lw_V q2084 q2086 qs156 q166 q2087) dm_keeps rfl (by decide) (by decide) hl rfl (Nat.le_of_ble_eq_true rfl) dX2_keepsTold_6 (fun H locs hP hS => ?_)
  obtain ⟨μ4, hμ4, hf⟩ := ob hf
  refine m_put E hK hP hS 6 (by decide) rfl q1419 rfl rfl rfl hμ4 dX2_keepsTold_9 (fun H locs hP hS => ?_)
  refine lv_aload_n hx hb dX2_keepsTold_12 rfl (lv_at hl 0 rfl) ?_
  refine lv_aload_n hx hb dX2_keepsTold_13 rfl (lv_at hl 0 rfl) ?_
  refine lv_aload_n hx hb dX2_keepsTold_14 rfl (lv_at hl 0 rfl) ?_
  refine m_get E hK hP 32 (by decide) rfl q1445 rfl dX2_keepsTold_15 ?_
  obtain ⟨v6, μ7, hc5, hf⟩ := ob2 hf
  refine m_calli E hK hP hS (As := [.int (μ4 32 0)]) (tm_keeps l D dT h (μ4 32 0) μ4 _ hc5) (lw_V q2084 q2086 qs156 q166 q2087) dm_keeps rfl (by decide) (by decide) hl rfl (Nat.le_of_ble_eq_true rfl) dX2_keepsTold_18 (fun H locs hP hS => ?_)
  obtain ⟨μ8, hμ8, hf⟩ := ob hf
  refine m_put E hK hP hS 32 (by decide) rfl q1445 rfl rfl rfl hμ8 dX2_keepsTold_21 (fun H locs hP hS => ?_)
  refine lv_aload_n hx hb dX2_keepsTold_24 rfl (lv_at hl 0 rfl) ?_
  refine lv_aload_n hx hb dX2_keepsTold_25 rfl (lv_at hl 0 rfl) ?_
  refine lv_aload_n hx hb dX2_keepsTold_26 rfl (lv_at hl 0 rfl) ?_
  refine m_get E hK hP 34 (by decide) rfl q1447 rfl dX2_keepsTold_27 ?_
  obtain ⟨v10, μ11, hc9, hf⟩ := ob2 hf
  refine m_calli E hK hP hS (As := [.int (μ8 34 0)]) (tm_keeps l D dT h (μ8 34 0) μ8 _ hc9) (lw_V q2084 q2086 qs156 q166 q2087) dm_keeps rfl (by decide) (by decide) hl rfl (Nat.le_of_ble_eq_true rfl) dX2_keepsTold_30 (fun H locs hP hS => ?_)
  obtain ⟨μ12, hμ12, hf⟩ := ob hf
  refine m_put E hK hP hS 34 (by decide) rfl q1447 rfl rfl rfl hμ12 dX2_keepsTold_33 (fun H locs hP hS => ?_)
  refine lv_aload_n hx hb dX2_keepsTold_36 rfl (lv_at hl 0 rfl) ?_
  refine lv_aload_n hx hb dX2_keepsTold_37 rfl (lv_at hl 0 rfl) ?_
  refine lv_aload_n hx hb dX2_keepsTold_38 rfl (lv_at hl 0 rfl) ?_
  refine m_get E hK hP 36 (by decide) rfl q1449 rfl dX2_keepsTold_39 ?_
  obtain ⟨v14, μ15, hc13, hf⟩ := ob2 hf
  refine m_calli E hK hP hS (As := [.int (μ12 36 0)]) (tm_keeps l D dT h (μ12 36 0) μ12 _ hc13) (lw_V q2084 q2086 qs156 q166 q2087) dm_keeps rfl (by decide) (by decide) hl rfl (Nat.le_of_ble_eq_true rfl) dX2_keepsTold_42 (fun H locs hP hS => ?_)
  obtain ⟨μ16, hμ16, hf⟩ := ob hf
  refine m_put E hK hP hS 36 (by decide) rfl q1449 rfl rfl rfl hμ16 dX2_keepsTold_45 (fun H locs hP hS => ?_)
  refine lv_iconst (v := nI 0) hx hb dX2_keepsTold_48 rfl ?_
  refine lv_istore_n (lv' := [(1, .int (nI 0)), (0, .ref h)]) hx hb dX2_keepsTold_49 rfl hl (by decide) rfl (fun ls hl => ?_)
  obtain ⟨x23, hx23, hf⟩ := ob hf
  refine fm_keepsTold_L50_w E hK hx23 (fun ls H locs hl hP hS => ?_) _ _ _ (lv_sub hl [1, 0] rfl) hP hS
  refine lv_iconst (v := nI 0) hx hb dX2_keepsTold_78 rfl ?_
  refine lv_istore_n (lv' := [(1, .int (nI 0)), (0, .ref h)]) hx hb dX2_keepsTold_79 rfl hl (by decide) rfl (fun ls hl => ?_)
  obtain ⟨x30, hx30, hf⟩ := ob hf
  refine fm_keepsTold_L80_w E hK hx30 (fun ls H locs hl hP hS => ?_) _ _ _ (lv_sub hl [1, 0] rfl) hP hS
  refine lv_iconst (v := nI 0) hx hb dX2_keepsTold_108 rfl ?_
  refine lv_istore_n (lv' := [(1, .int (nI 0)), (0, .ref h)]) hx hb dX2_keepsTold_109 rfl hl (by decide) rfl (fun ls hl => ?_)
  obtain ⟨x37, hx37, hf⟩ := ob hf
  refine fm_keepsTold_L110_w E hK hx37 (fun ls H locs hl hP hS => ?_) _ _ _ (lv_sub hl [1, 0] rfl) hP hS
  refine lv_iconst (v := nI 0) hx hb dX2_keepsTold_138 rfl ?_
  refine lv_istore_n (lv' := [(1, .int (nI 0)), (0, .ref h)]) hx hb dX2_keepsTold_139 rfl hl (by decide) rfl (fun ls hl => ?_)
  obtain ⟨x44, hx44, hf⟩ := ob hf
  refine fm_keepsTold_L140_w E hK hx44 (fun ls H locs hl hP hS => ?_) _ _ _ (lv_sub hl [1, 0] rfl) hP hS
  cases hf
  exact m_vret E hr hlk hP hS dX2_keepsTold_168
set_option maxHeartbeats 4000000 in
def fm_image_L35 (x1 : Int32) : (Int32 × nwM) → Option ((Int32 × nwM) ⊕ (nwM)) := fun st => (if (nI 105) ≤ st.1 then some (.inr st.2) else (rd_ st.2 1 105 st.1).bind fun v7 => bd2 (fm_keeps v7 st.2) fun v9 μ10 => (wr_ μ10 1 105 st.1 v9).bind fun μ11 => some (.inl (st.1 + nI 1, μ11)))
set_option maxHeartbeats 4000000 in
def fm_image_L69 (x1 : Int32) : (Int32 × nwM) → Option ((Int32 × nwM) ⊕ (nwM)) := fun st => (if (nI 750) ≤ st.1 then some (.inr st.2) else (rd_ st.2 8 750 st.1).bind fun v16 => bd2 (fm_keeps v16 st.2) fun v18 μ19 => (wr_ μ19 8 750 st.1 v18).bind fun μ20 => some (.inl (st.1 + nI 1, μ20)))
set_option maxHeartbeats 4000000 in
noncomputable def fm_image (x1 : Int32) (μ : nwM) : Option (Int32 × nwM) := (wf_ μ 0 (nI 0)).bind fun μ1 => (if x1 = 0 then (if (μ1 46 0) = 0 then some (nI 0, μ1) else (wz_ μ1 45 x1).bind fun μ27 => (wz_ μ27 46 (nI 1)).bind fun μ28 => (wf_ μ28 47 (nI 0)).bind fun μ29 => (wh_ (fm_image_L35 x1) (nI 0, μ29)).bind fun x30 => (fm_keepsTold x30).bind fun μ32 => (wh_ (fm_image_L69 x1) (nI 0, μ32)).bind fun x33 => (fm_keepsLaw x33).bind fun μ35 => (if x1 = 0 then (wf_ μ35 3 (nI 0)).bind fun μ37 => some (nI 1, μ37) else some (nI 1, μ35))) else (wz_ μ1 45 x1).bind fun μ3 => (wz_ μ3 46 (nI 1)).bind fun μ4 => (wf_ μ4 47 (nI 0)).bind fun μ5 => (wh_ (fm_image_L35 x1) (nI 0, μ5)).bind fun x12 => (fm_keepsTold x12).bind fun μ14 => (wh_ (fm_image_L69 x1) (nI 0, μ14)).bind fun x21 => (fm_keepsLaw x21).bind fun μ23 => (if x1 = 0 then (wf_ μ23 3 (nI 0)).bind fun μ25 => some (nI 1, μ25) else some (nI 1, μ23)))
set_option maxHeartbeats 4000000 in
theorem fm_image_L35_w {p : Program} {l : Launch} {e : Env} {s : State} {m : MethodId} {args : Array Value} {below : List Frame} {meth : Method} {c : Code} {Q : State → Prop} {D : va_G} {dT : Nat → ClassId} {h : Nat} (E : CallFix p m c cX2_image 3 s args lw_all RX2) (hK : va_K D nwCl (nwT dT) s) (x1 : Int32) {st : Int32 × nwM} {x : nwM} (hw : wh_ (fm_image_L35 x1) st = some x) (hk : (fun x : nwM => ∀ (ls : Array Slot) (H : Heap) (locs : List Loc), lv_has ls 3 [(0, .ref h), (1, .int x1)] → PM D dT h x H → va_S (mA h) s.heap H locs → W p l e (rmd 2) s m args below meth c H locs 0 0 Q (F0 m 63 ls [])) x) : (fun st : Int32 × nwM => ∀ (ls : Array Slot) (H : Heap) (locs : List Loc), lv_has ls 3 [(0, .ref h), (1, .int x1), (2, .int st.1)] → PM D dT h st.2 H → va_S (mA h) s.heap H locs → W p l e (rmd 2) s m args below meth c H locs 0 0 Q (F0 m 35 ls [])) st := by
  obtain ⟨hx, hb, -, hown, hts⟩ := id E
  refine wh_run (P := (fun st : Int32 × nwM => ∀ (ls : Array Slot) (H : Heap) (locs : List Loc), lv_has ls 3 [(0, .ref h), (1, .int x1), (2, .int st.1)] → PM D dT h st.2 H → va_S (mA h) s.heap H locs → W p l e (rmd 2) s m args below meth c H locs 0 0 Q (F0 m 35 ls []))) (PE := (fun x : nwM => ∀ (ls : Array Slot) (H : Heap) (locs : List Loc), lv_has ls 3 [(0, .ref h), (1, .int x1)] → PM D dT h x H → va_S (mA h) s.heap H locs → W p l e (rmd 2) s m args below meth c H locs 0 0 Q (F0 m 63 ls []))) ?_ hw hk
  clear hw hk
  intro st x hf hk ls H locs hl hP hS
  refine lv_iload_n hx hb dX2_image_35 rfl (lv_at hl 2 rfl) ?_
  refine lv_bipush (v := nI 105) hx hb dX2_image_36 rfl ?_
  refine lv_icmp_ge (tgt := 63) hx hb dX2_image_38 (by decide) (fun kc6 => ?_) (fun kc6 => ?_)
  · have hf := ite_t kc6 hf
    cases hf
    exact hk _ _ _ (lv_sub hl [0, 1] rfl) hP hS
  · have hf := ite_f kc6 hf
    refine lv_aload_n hx hb dX2_image_41 rfl (lv_at hl 0 rfl) ?_
    refine m_ga E hK hP 1 (by decide) rfl q1414 rfl dX2_image_42 ?_
    refine lv_iload_n hx hb dX2_image_45 rfl (lv_at hl 2 rfl) ?_
    refine lv_aload_n hx hb dX2_image_46 rfl (lv_at hl 0 rfl) ?_
    refine lv_aload_n hx hb dX2_image_47 rfl (lv_at hl 0 rfl) ?_
    refine m_ga E hK hP 1 (by decide) rfl q1414 rfl dX2_image_48 ?_
    refine lv_iload_n hx hb dX2_image_51 rfl (lv_at hl 2 rfl) ?_
    obtain ⟨v7, hv7, hf⟩ := ob hf
    refine m_ald E hK hP (by decide) rfl rfl hv7 dX2_image_52 ?_
    obtain ⟨v9, μ10, hc8, hf⟩ := ob2 hf
    refine m_calli E hK hP hS (As := [.int v7]) (tm_keeps l D dT h v7 st.2 _ hc8) (lw_V q2084 q2086 qs156 q166 q2087) dm_keeps rfl (by decide) (by decide) hl rfl (Nat.le_of_ble_eq_true rfl) dX2_image_53 (fun H locs hP hS => ?_)
    obtain ⟨μ11, hμ11, hf⟩ := ob hf
    refine m_ast E hK hP hS (by decide) rfl rfl hμ11 dX2_image_56 (fun H locs hP hS => ?_)
    refine lv_iinc (v := st.1 + nI 1) (lv' := [(2, .int (st.1 + nI 1)), (0, .ref h), (1, .int x1)]) hx hb dX2_image_57 hl (k := 2) rfl rfl (by decide) rfl (fun ls hl => ?_)
    refine lv_goto (tgt := 35) hx hb dX2_image_60 (by decide) ?_
    cases hf
    exact hk _ _ _ (lv_sub hl [1, 2, 0] rfl) hP hS
set_option maxHeartbeats 4000000 in
theorem fm_image_L69_w {p : Program} {l : Launch} {e : Env} {s : State} {m : MethodId} {args : Array Value} {below : List Frame} {meth : Method} {c : Code} {Q : State → Prop} {D : va_G} {dT : Nat → ClassId} {h : Nat} (E : CallFix p m c cX2_image 3 s args lw_all RX2) (hK : va_K D nwCl (nwT dT) s) (x1 : Int32) {st : Int32 × nwM} {x : nwM} (hw : wh_ (fm_image_L69 x1) st = some x) (hk : (fun x : nwM => ∀ (ls : Array Slot) (H : Heap) (locs : List Loc), lv_has ls 3 [(0, .ref h), (1, .int x1)] → PM D dT h x H → va_S (mA h) s.heap H locs → W p l e (rmd 2) s m args below meth c H locs 0 0 Q (F0 m 98 ls [])) x) : (fun st : Int32 × nwM => ∀ (ls : Array Slot) (H : Heap) (locs : List Loc), lv_has ls 3 [(0, .ref h), (1, .int x1), (2, .int st.1)] → PM D dT h st.2 H → va_S (mA h) s.heap H locs → W p l e (rmd 2) s m args below meth c H locs 0 0 Q (F0 m 69 ls [])) st := by
  obtain ⟨hx, hb, -, hown, hts⟩ := id E
  refine wh_run (P := (fun st : Int32 × nwM => ∀ (ls : Array Slot) (H : Heap) (locs : List Loc), lv_has ls 3 [(0, .ref h), (1, .int x1), (2, .int st.1)] → PM D dT h st.2 H → va_S (mA h) s.heap H locs → W p l e (rmd 2) s m args below meth c H locs 0 0 Q (F0 m 69 ls []))) (PE := (fun x : nwM => ∀ (ls : Array Slot) (H : Heap) (locs : List Loc), lv_has ls 3 [(0, .ref h), (1, .int x1)] → PM D dT h x H → va_S (mA h) s.heap H locs → W p l e (rmd 2) s m args below meth c H locs 0 0 Q (F0 m 98 ls []))) ?_ hw hk
  clear hw hk
  intro st x hf hk ls H locs hl hP hS
  refine lv_iload_n hx hb dX2_image_69 rfl (lv_at hl 2 rfl) ?_
  refine lv_sipush (v := nI 750) hx hb dX2_image_70 rfl ?_
  refine lv_icmp_ge (tgt := 98) hx hb dX2_image_73 (by decide) (fun kc15 => ?_) (fun kc15 => ?_)
  · have hf := ite_t kc15 hf
    cases hf
    exact hk _ _ _ (lv_sub hl [0, 1] rfl) hP hS
  · have hf := ite_f kc15 hf
    refine lv_aload_n hx hb dX2_image_76 rfl (lv_at hl 0 rfl) ?_
    refine m_ga E hK hP 8 (by decide) rfl q1421 rfl dX2_image_77 ?_
    refine lv_iload_n hx hb dX2_image_80 rfl (lv_at hl 2 rfl) ?_
    refine lv_aload_n hx hb dX2_image_81 rfl (lv_at hl 0 rfl) ?_
    refine lv_aload_n hx hb dX2_image_82 rfl (lv_at hl 0 rfl) ?_
    refine m_ga E hK hP 8 (by decide) rfl q1421 rfl dX2_image_83 ?_
    refine lv_iload_n hx hb dX2_image_86 rfl (lv_at hl 2 rfl) ?_
    obtain ⟨v16, hv16, hf⟩ := ob hf
    refine m_ald E hK hP (by decide) rfl rfl hv16 dX2_image_87 ?_
    obtain ⟨v18, μ19, hc17, hf⟩ := ob2 hf
    refine m_calli E hK hP hS (As := [.int v16]) (tm_keeps l D dT h v16 st.2 _ hc17) (lw_V q2084 q2086 qs156 q166 q2087) dm_keeps rfl (by decide) (by decide) hl rfl (Nat.le_of_ble_eq_true rfl) dX2_image_88 (fun H locs hP hS => ?_)
    obtain ⟨μ20, hμ20, hf⟩ := ob hf
    refine m_ast E hK hP hS (by decide) rfl rfl hμ20 dX2_image_91 (fun H locs hP hS => ?_)
    refine lv_iinc (v := st.1 + nI 1) (lv' := [(2, .int (st.1 + nI 1)), (0, .ref h), (1, .int x1)]) hx hb dX2_image_92 hl (k := 2) rfl rfl (by decide) rfl (fun ls hl => ?_)
    refine lv_goto (tgt := 69) hx hb dX2_image_95 (by decide) ?_
    cases hf
    exact hk _ _ _ (lv_sub hl [1, 2, 0] rfl) hP hS
set_option maxHeartbeats 4000000 in
theorem dm_image : yX2_image.cls = RX2 ∧ yX2_image.cls ≠ "java/lang/invoke/MethodHandle" ∧ yX2_image.cls ≠ "java/lang/invoke/VarHandle" ∧ (parseMethodDescriptor yX2_image.desc).map (fun d => d.parameters.length) = some 1 := ⟨rfl, by decide +kernel, by decide +kernel, by decide +kernel⟩
set_option maxHeartbeats 4000000 in
theorem tm_image (l : Launch) (D : va_G) (dT : Nat → ClassId) (h : Nat) (x1 : Int32) (μ : nwM) (res : Int32 × nwM) (hf : fm_image x1 μ = some res) : Met l yX2_image (ws_ yX2_image cX2_image 3 (some .boolean)) (rmd 2) (mPc D dT h μ [.int x1]) (mQi D dT h res.2 res.1) 0 0 (mA h) := by
  refine m_met (by decide) rfl (Nat.le_of_ble_eq_true rfl) ?_
  intro p e s m below meth c ls E hK hr hlk hl hP
  have hS : va_S (mA h) s.heap s.heap [] := va_S.rf
  obtain ⟨hx, hb, -, hown, hts⟩ := id E
  have hl : lv_has ls 3 [(0, .ref h), (1, .int x1)] := hl
  unfold fm_image at hf
  refine lv_aload_n hx hb dX2_image_0 rfl (lv_at hl 0 rfl) ?_
  refine lv_iconst (v := nI 0) hx hb dX2_image_1 rfl ?_
  obtain ⟨μ1, hμ1, hf⟩ := ob hf
  refine m_put E hK hP hS 0 (by decide) rfl q1413 rfl rfl rfl hμ1 dX2_image_2 (fun H locs hP hS => ?_)
  refine lv_iload_n hx hb dX2_image_5 rfl (lv_at hl 1 rfl) ?_
  refine lv_if_ne (tgt := 18) hx hb dX2_image_6 (by decide) (fun kc2 => ?_) (fun kc2 => ?_)
  · have hf := ite_f kc2 hf
    refine lv_aload_n hx hb dX2_image_18 rfl (lv_at hl 0 rfl) ?_
    refine lv_iload_n hx hb dX2_image_19 rfl (lv_at hl 1 rfl) ?_
    obtain ⟨μ3, hμ3, hf⟩ := ob hf
    refine m_putz E hK hP hS 45 (by decide) rfl q1458 rfl rfl rfl hμ3 dX2_image_20 (fun H locs hP hS => ?_)
    refine lv_aload_n hx hb dX2_image_23 rfl (lv_at hl 0 rfl) ?_
    refine lv_iconst (v := nI 1) hx hb dX2_image_24 rfl ?_
    obtain ⟨μ4, hμ4, hf⟩ := ob hf
    refine m_putz E hK hP hS 46 (by decide) rfl q1459 rfl rfl rfl hμ4 dX2_image_25 (fun H locs hP hS => ?_)
    refine lv_aload_n hx hb dX2_image_28 rfl (lv_at hl 0 rfl) ?_
    refine lv_iconst (v := nI 0) hx hb dX2_image_29 rfl ?_
    obtain ⟨μ5, hμ5, hf⟩ := ob hf
    refine m_put E hK hP hS 47 (by decide) rfl q1460 rfl rfl rfl hμ5 dX2_image_30 (fun H locs hP hS => ?_)
    refine lv_iconst (v := nI 0) hx hb dX2_image_33 rfl ?_
    refine lv_istore_n (lv' := [(2, .int (nI 0)), (0, .ref h), (1, .int x1)]) hx hb dX2_image_34 rfl hl (by decide) rfl (fun ls hl => ?_)
    obtain ⟨x12, hx12, hf⟩ := ob hf
    refine fm_image_L35_w E hK x1 hx12 (fun ls H locs hl hP hS => ?_) _ _ _ (lv_sub hl [1, 2, 0] rfl) hP hS
    refine lv_aload_n hx hb dX2_image_63 rfl (lv_at hl 0 rfl) ?_
    obtain ⟨μ14, hc13, hf⟩ := ob hf
    refine m_callv E hK hP hS (As := []) (tm_keepsTold l D dT h x12 _ hc13) (lw_V q2088 q2090 qs157 q166 q2091) dm_keepsTold rfl (by decide) (by decide) hl rfl (Nat.le_of_ble_eq_true rfl) dX2_image_64 (fun H locs hP hS => ?_)
    refine lv_iconst (v := nI 0) hx hb dX2_image_67 rfl ?_
    refine lv_istore_n (lv' := [(2, .int (nI 0)), (0, .ref h), (1, .int x1)]) hx hb dX2_image_68 rfl hl (by decide) rfl (fun ls hl => ?_)
    obtain ⟨x21, hx21, hf⟩ := ob hf
    refine fm_image_L69_w E hK x1 hx21 (fun ls H locs hl hP hS => ?_) _ _ _ (lv_sub hl [1, 2, 0] rfl) hP hS
    refine lv_aload_n hx hb dX2_image_98 rfl (lv_at hl 0 rfl) ?_
    obtain ⟨μ23, hc22, hf⟩ := ob hf
    refine m_callv E hK hP hS (As := []) (tm_keepsLaw l D dT h x21 _ hc22) (lw_V q2092 q2094 qs158 q166 q2095) dm_keepsLaw rfl (by decide) (by decide) hl rfl (Nat.le_of_ble_eq_true rfl) dX2_image_99 (fun H locs hP hS => ?_)
    refine lv_iload_n hx hb dX2_image_102 rfl (lv_at hl 1 rfl) ?_
    refine lv_if_ne (tgt := 111) hx hb dX2_image_103 (by decide) (fun kc24 => ?_) (fun kc24 => ?_)
    · have hf := ite_f kc24 hf
      refine lv_iconst (v := nI 1) hx hb dX2_image_111 rfl ?_
      cases hf
      exact m_zret E hr hlk hP hS rfl dX2_image_112
    · have hf := ite_t kc24 hf
      refine lv_aload_n hx hb dX2_image_106 rfl (lv_at hl 0 rfl) ?_
      refine lv_iconst (v := nI 0) hx hb dX2_image_107 rfl ?_
      obtain ⟨μ25, hμ25, hf⟩ := ob hf
      refine m_put E hK hP hS 3 (by decide) rfl q1416 rfl rfl rfl hμ25 dX2_image_108 (fun H locs hP hS => ?_)
      refine lv_iconst (v := nI 1) hx hb dX2_image_111 rfl ?_
      cases hf
      exact m_zret E hr hlk hP hS rfl dX2_image_112
  · have hf := ite_t kc2 hf
    refine lv_aload_n hx hb dX2_image_9 rfl (lv_at hl 0 rfl) ?_
    refine m_get E hK hP 46 (by decide) rfl q1459 rfl dX2_image_10 ?_
    refine lv_if_ne (tgt := 18) hx hb dX2_image_13 (by decide) (fun kc26 => ?_) (fun kc26 => ?_)
    · have hf := ite_f kc26 hf
      refine lv_aload_n hx hb dX2_image_18 rfl (lv_at hl 0 rfl) ?_
      refine lv_iload_n hx hb dX2_image_19 rfl (lv_at hl 1 rfl) ?_
      obtain ⟨μ27, hμ27, hf⟩ := ob hf
      refine m_putz E hK hP hS 45 (by decide) rfl q1458 rfl rfl rfl hμ27 dX2_image_20 (fun H locs hP hS => ?_)
      refine lv_aload_n hx hb dX2_image_23 rfl (lv_at hl 0 rfl) ?_
      refine lv_iconst (v := nI 1) hx hb dX2_image_24 rfl ?_
      obtain ⟨μ28, hμ28, hf⟩ := ob hf
      refine m_putz E hK hP hS 46 (by decide) rfl q1459 rfl rfl rfl hμ28 dX2_image_25 (fun H locs hP hS => ?_)
      refine lv_aload_n hx hb dX2_image_28 rfl (lv_at hl 0 rfl) ?_
      refine lv_iconst (v := nI 0) hx hb dX2_image_29 rfl ?_
      obtain ⟨μ29, hμ29, hf⟩ := ob hf
      refine m_put E hK hP hS 47 (by decide) rfl q1460 rfl rfl rfl hμ29 dX2_image_30 (fun H locs hP hS => ?_)
      refine lv_iconst (v := nI 0) hx hb dX2_image_33 rfl ?_
      refine lv_istore_n (lv' := [(2, .int (nI 0)), (0, .ref h), (1, .int x1)]) hx hb dX2_image_34 rfl hl (by decide) rfl (fun ls hl => ?_)
      obtain ⟨x30, hx30, hf⟩ := ob hf
      refine fm_image_L35_w E hK x1 hx30 (fun ls H locs hl hP hS => ?_) _ _ _ (lv_sub hl [1, 2, 0] rfl) hP hS
      refine lv_aload_n hx hb dX2_image_63 rfl (lv_at hl 0 rfl) ?_
      obtain ⟨μ32, hc31, hf⟩ := ob hf
      refine m_callv E hK hP hS (As := []) (tm_keepsTold l D dT h x30 _ hc31) (lw_V q2088 q2090 qs157 q166 q2091) dm_keepsTold rfl (by decide) (by decide) hl rfl (Nat.le_of_ble_eq_true rfl) dX2_image_64 (fun H locs hP hS => ?_)
      refine lv_iconst (v := nI 0) hx hb dX2_image_67 rfl ?_
      refine lv_istore_n (lv' := [(2, .int (nI 0)), (0, .ref h), (1, .int x1)]) hx hb dX2_image_68 rfl hl (by decide) rfl (fun ls hl => ?_)
      obtain ⟨x33, hx33, hf⟩ := ob hf
      refine fm_image_L69_w E hK x1 hx33 (fun ls H locs hl hP hS => ?_) _ _ _ (lv_sub hl [1, 2, 0] rfl) hP hS
      refine lv_aload_n hx hb dX2_image_98 rfl (lv_at hl 0 rfl) ?_
      obtain ⟨μ35, hc34, hf⟩ := ob hf
      refine m_callv E hK hP hS (As := []) (tm_keepsLaw l D dT h x33 _ hc34) (lw_V q2092 q2094 qs158 q166 q2095) dm_keepsLaw rfl (by decide) (by decide) hl rfl (Nat.le_of_ble_eq_true rfl) dX2_image_99 (fun H locs hP hS => ?_)
      refine lv_iload_n hx hb dX2_image_102 rfl (lv_at hl 1 rfl) ?_
      refine lv_if_ne (tgt := 111) hx hb dX2_image_103 (by decide) (fun kc36 => ?_) (fun kc36 => ?_)
      · have hf := ite_f kc36 hf
        refine lv_iconst (v := nI 1) hx hb dX2_image_111 rfl ?_
        cases hf
        exact m_zret E hr hlk hP hS rfl dX2_image_112
      · have hf := ite_t kc36 hf
        refine lv_aload_n hx hb dX2_image_106 rfl (lv_at hl 0 rfl) ?_
        refine lv_iconst (v := nI 0) hx hb dX2_image_107 rfl ?_
        obtain ⟨μ37, hμ37, hf⟩ := ob hf
        refine m_put E hK hP hS 3 (by decide) rfl q1416 rfl rfl rfl hμ37 dX2_image_108 (fun H locs hP hS => ?_)
        refine lv_iconst (v := nI 1) hx hb dX2_image_111 rfl ?_
        cases hf
        exact m_zret E hr hlk hP hS rfl dX2_image_112
    · have hf := ite_t kc26 hf
      refine lv_iconst (v := nI 0) hx hb dX2_image_16 rfl ?_
      cases hf
      exact m_zret E hr hlk hP hS rfl dX2_image_17
set_option maxHeartbeats 4000000 in
def fm_graves_L4 (μ : nwM) : (Int32 × Int32) → Option ((Int32 × Int32) ⊕ (Int32)) := fun st => (rd_ μ 1 105 (nI 4)).bind fun v1 => (if v1 ≤ st.2 then some (.inr st.1) else (fm_isDead st.2 μ).bind fun v4 => (if v4 = 0 then some (.inl (st.1, st.2 + nI 1)) else some (.inl (st.1 ||| ((nI 1) <<< (st.2 &&& 31)), st.2 + nI 1))))
set_option maxHeartbeats 4000000 in
noncomputable def fm_graves (μ : nwM) : Option (Int32) := (wh_ (fm_graves_L4 μ) (nI 0, nI 0)).bind fun x6 => some x6
set_option maxHeartbeats 4000000 in
theorem fm_graves_L4_w {p : Program} {l : Launch} {e : Env} {s : State} {m : MethodId} {args : Array Value} {below : List Frame} {meth : Method} {c : Code} {Q : State → Prop} {D : va_G} {dT : Nat → ClassId} {h : Nat} (E : CallFix p m c cX2_graves 3 s args lw_all RX2) (hK : va_K D nwCl (nwT dT) s) (μ : nwM) {st : Int32 × Int32} {x : Int32} (hw : wh_ (fm_graves_L4 μ) st = some x) (hk : (fun x : Int32 => ∀ (ls : Array Slot) (H : Heap) (locs : List Loc), lv_has ls 3 [(1, .int x)] → PM D dT h μ H → va_S (mA h) s.heap H locs → W p l e (rmd 1) s m args below meth c H locs 0 0 Q (F0 m 34 ls [])) x) : (fun st : Int32 × Int32 => ∀ (ls : Array Slot) (H : Heap) (locs : List Loc), lv_has ls 3 [(0, .ref h), (1, .int st.1), (2, .int st.2)] → PM D dT h μ H → va_S (mA h) s.heap H locs → W p l e (rmd 1) s m args below meth c H locs 0 0 Q (F0 m 4 ls [])) st := by
  obtain ⟨hx, hb, -, hown, hts⟩ := id E
  refine wh_run (P := (fun st : Int32 × Int32 => ∀ (ls : Array Slot) (H : Heap) (locs : List Loc), lv_has ls 3 [(0, .ref h), (1, .int st.1), (2, .int st.2)] → PM D dT h μ H → va_S (mA h) s.heap H locs → W p l e (rmd 1) s m args below meth c H locs 0 0 Q (F0 m 4 ls []))) (PE := (fun x : Int32 => ∀ (ls : Array Slot) (H : Heap) (locs : List Loc), lv_has ls 3 [(1, .int x)] → PM D dT h μ H → va_S (mA h) s.heap H locs → W p l e (rmd 1) s m args below meth c H locs 0 0 Q (F0 m 34 ls []))) ?_ hw hk
  clear hw hk
  intro st x hf hk ls H locs hl hP hS
  refine lv_iload_n hx hb dX2_graves_4 rfl (lv_at hl 2 rfl) ?_
  refine lv_aload_n hx hb dX2_graves_5 rfl (lv_at hl 0 rfl) ?_
  refine m_ga E hK hP 1 (by decide) rfl q1414 rfl dX2_graves_6 ?_
  refine lv_iconst (v := nI 4) hx hb dX2_graves_9 rfl ?_
  obtain ⟨v1, hv1, hf⟩ := ob hf
  refine m_ald E hK hP (by decide) rfl rfl hv1 dX2_graves_10 ?_
  refine lv_icmp_ge (tgt := 34) hx hb dX2_graves_11 (by decide) (fun kc2 => ?_) (fun kc2 => ?_)
  · have hf := ite_t kc2 hf
    cases hf
    exact hk _ _ _ (lv_sub hl [1] rfl) hP hS
  · have hf := ite_f kc2 hf
    refine lv_aload_n hx hb dX2_graves_14 rfl (lv_at hl 0 rfl) ?_
    refine lv_iload_n hx hb dX2_graves_15 rfl (lv_at hl 2 rfl) ?_
    obtain ⟨v4, hc3, hf⟩ := ob hf
    refine m_calli E hK hP hS (As := [.int st.2]) (tm_isDead l D dT h st.2 μ _ hc3) (lw_V q1781 q1783 qs103 q166 q1784) dm_isDead rfl (by decide) (by decide) hl rfl (Nat.le_of_ble_eq_true rfl) dX2_graves_16 (fun H locs hP hS => ?_)
    refine lv_if_eq (tgt := 28) hx hb dX2_graves_19 (by decide) (fun kc5 => ?_) (fun kc5 => ?_)
    · have hf := ite_t kc5 hf
      refine lv_iinc (v := st.2 + nI 1) (lv' := [(2, .int (st.2 + nI 1)), (0, .ref h), (1, .int st.1)]) hx hb dX2_graves_28 hl (k := 2) rfl rfl (by decide) rfl (fun ls hl => ?_)
      refine lv_goto (tgt := 4) hx hb dX2_graves_31 (by decide) ?_
      cases hf
      exact hk _ _ _ (lv_sub hl [1, 2, 0] rfl) hP hS
    · have hf := ite_f kc5 hf
      refine lv_iload_n hx hb dX2_graves_22 rfl (lv_at hl 1 rfl) ?_
      refine lv_iconst (v := nI 1) hx hb dX2_graves_23 rfl ?_
      refine lv_iload_n hx hb dX2_graves_24 rfl (lv_at hl 2 rfl) ?_
      refine lv_ishl hx hb dX2_graves_25 ?_
      refine lv_ior hx hb dX2_graves_26 ?_
      refine lv_istore_n (lv' := [(1, .int (st.1 ||| ((nI 1) <<< (st.2 &&& 31)))), (0, .ref h), (2, .int st.2)]) hx hb dX2_graves_27 rfl hl (by decide) rfl (fun ls hl => ?_)
      refine lv_iinc (v := st.2 + nI 1) (lv' := [(2, .int (st.2 + nI 1)), (1, .int (st.1 ||| ((nI 1) <<< (st.2 &&& 31)))), (0, .ref h)]) hx hb dX2_graves_28 hl (k := 2) rfl rfl (by decide) rfl (fun ls hl => ?_)
      refine lv_goto (tgt := 4) hx hb dX2_graves_31 (by decide) ?_
      cases hf
      exact hk _ _ _ (lv_sub hl [2, 1, 0] rfl) hP hS
set_option maxHeartbeats 4000000 in
theorem dm_graves : yX2_graves.cls = RX2 ∧ yX2_graves.cls ≠ "java/lang/invoke/MethodHandle" ∧ yX2_graves.cls ≠ "java/lang/invoke/VarHandle" ∧ (parseMethodDescriptor yX2_graves.desc).map (fun d => d.parameters.length) = some 0 := ⟨rfl, by decide +kernel, by decide +kernel, by decide +kernel⟩
set_option maxHeartbeats 4000000 in
theorem tm_graves (l : Launch) (D : va_G) (dT : Nat → ClassId) (h : Nat) (μ : nwM) (res : Int32) (hf : fm_graves μ = some res) : Met l yX2_graves (ws_ yX2_graves cX2_graves 3 (some .int)) (rmd 1) (mPc D dT h μ []) (mQi D dT h μ res) 0 0 (mA h) := by
  refine m_met (by decide) rfl (Nat.le_of_ble_eq_true rfl) ?_
  intro p e s m below meth c ls E hK hr hlk hl hP
  have hS : va_S (mA h) s.heap s.heap [] := va_S.rf
  obtain ⟨hx, hb, -, hown, hts⟩ := id E
  have hl : lv_has ls 3 [(0, .ref h)] := hl
  unfold fm_graves at hf
  refine lv_iconst (v := nI 0) hx hb dX2_graves_0 rfl ?_
  refine lv_istore_n (lv' := [(1, .int (nI 0)), (0, .ref h)]) hx hb dX2_graves_1 rfl hl (by decide) rfl (fun ls hl => ?_)
  refine lv_iconst (v := nI 0) hx hb dX2_graves_2 rfl ?_
  refine lv_istore_n (lv' := [(2, .int (nI 0)), (1, .int (nI 0)), (0, .ref h)]) hx hb dX2_graves_3 rfl hl (by decide) rfl (fun ls hl => ?_)
  obtain ⟨x6, hx6, hf⟩ := ob hf
  refine fm_graves_L4_w E hK μ hx6 (fun ls H locs hl hP hS => ?_) _ _ _ (lv_sub hl [2, 1, 0] rfl) hP hS
  refine lv_iload_n hx hb dX2_graves_34 rfl (lv_at hl 0 rfl) ?_
  cases hf
  exact m_iret E hr hlk hP hS rfl dX2_graves_35
set_option maxHeartbeats 4000000 in
noncomputable def fm_look (x1 : Int32) (μ : nwM) : Option (Int32 × nwM) := (wf_ μ 0 (nI 0)).bind fun μ1 => (if x1 = 0 then (rd_ μ1 1 105 (nI 4)).bind fun v21 => some (v21, μ1) else (if x1 = (nI 1) then (rd_ μ1 1 105 (nI 0)).bind fun v20 => some (v20, μ1) else (if x1 = (nI 2) then (rd_ μ1 1 105 (nI 3)).bind fun v19 => some (v19, μ1) else (if x1 = (nI 3) then some (μ1 6 0, μ1) else (if x1 = (nI 4) then (rd_ μ1 1 105 (nI 2)).bind fun v18 => some (v18, μ1) else (if x1 = (nI 5) then (rd_ μ1 1 105 (nI 1)).bind fun v17 => some (v17, μ1) else (if x1 = (nI 6) then (rd_ μ1 16 2 (nI 0)).bind fun v16 => some (v16, μ1) else (if x1 = (nI 7) then some (μ1 32 0, μ1) else (if x1 = (nI 8) then some (μ1 34 0, μ1) else (if x1 = (nI 9) then some (μ1 36 0, μ1) else (if x1 = (nI 10) then some (μ1 3 0, μ1) else (if x1 = (nI 11) then (fm_graves μ1).bind fun v15 => some (v15, μ1) else some ((-1), μ1)))))))))))))
set_option maxHeartbeats 4000000 in
theorem dm_look : yX2_look.cls = RX2 ∧ yX2_look.cls ≠ "java/lang/invoke/MethodHandle" ∧ yX2_look.cls ≠ "java/lang/invoke/VarHandle" ∧ (parseMethodDescriptor yX2_look.desc).map (fun d => d.parameters.length) = some 1 := ⟨rfl, by decide +kernel, by decide +kernel, by decide +kernel⟩
set_option maxHeartbeats 4000000 in
theorem tm_look (l : Launch) (D : va_G) (dT : Nat → ClassId) (h : Nat) (x1 : Int32) (μ : nwM) (res : Int32 × nwM) (hf : fm_look x1 μ = some res) : Met l yX2_look (ws_ yX2_look cX2_look 2 (some .int)) (rmd 2) (mPc D dT h μ [.int x1]) (mQi D dT h res.2 res.1) 0 0 (mA h) := by
  refine m_met (by decide) rfl (Nat.le_of_ble_eq_true rfl) ?_
  intro p e s m below meth c ls E hK hr hlk hl hP
  have hS : va_S (mA h) s.heap s.heap [] := va_S.rf
  obtain ⟨hx, hb, -, hown, hts⟩ := id E
  have hl : lv_has ls 2 [(0, .ref h), (1, .int x1)] := hl
  unfold fm_look at hf
  refine lv_aload_n hx hb dX2_look_0 rfl (lv_at hl 0 rfl) ?_
  refine lv_iconst (v := nI 0) hx hb dX2_look_1 rfl ?_
  obtain ⟨μ1, hμ1, hf⟩ := ob hf
  refine m_put E hK hP hS 0 (by decide) rfl q1413 rfl rfl rfl hμ1 dX2_look_2 (fun H locs hP hS => ?_)
  refine lv_iload_n hx hb dX2_look_5 rfl (lv_at hl 1 rfl) ?_
  refine lv_if_ne (tgt := 16) hx hb dX2_look_6 (by decide) (fun kc2 => ?_) (fun kc2 => ?_)
  · have hf := ite_f kc2 hf
    refine lv_iload_n hx hb dX2_look_16 rfl (lv_at hl 1 rfl) ?_
    refine lv_iconst (v := nI 1) hx hb dX2_look_17 rfl ?_
    refine lv_icmp_ne (tgt := 28) hx hb dX2_look_18 (by decide) (fun kc3 => ?_) (fun kc3 => ?_)
    · have hf := ite_f kc3 hf
      refine lv_iload_n hx hb dX2_look_28 rfl (lv_at hl 1 rfl) ?_
      refine lv_iconst (v := nI 2) hx hb dX2_look_29 rfl ?_
      refine lv_icmp_ne (tgt := 40) hx hb dX2_look_30 (by decide) (fun kc4 => ?_) (fun kc4 => ?_)
      · have hf := ite_f kc4 hf
        refine lv_iload_n hx hb dX2_look_40 rfl (lv_at hl 1 rfl) ?_
        refine lv_iconst (v := nI 3) hx hb dX2_look_41 rfl ?_
        refine lv_icmp_ne (tgt := 50) hx hb dX2_look_42 (by decide) (fun kc5 => ?_) (fun kc5 => ?_)
        · have hf := ite_f kc5 hf
          refine lv_iload_n hx hb dX2_look_50 rfl (lv_at hl 1 rfl) ?_
          refine lv_iconst (v := nI 4) hx hb dX2_look_51 rfl ?_
          refine lv_icmp_ne (tgt := 62) hx hb dX2_look_52 (by decide) (fun kc6 => ?_) (fun kc6 => ?_)
          · have hf := ite_f kc6 hf
            refine lv_iload_n hx hb dX2_look_62 rfl (lv_at hl 1 rfl) ?_
            refine lv_iconst (v := nI 5) hx hb dX2_look_63 rfl ?_
            refine lv_icmp_ne (tgt := 74) hx hb dX2_look_64 (by decide) (fun kc7 => ?_) (fun kc7 => ?_)
            · have hf := ite_f kc7 hf
              refine lv_iload_n hx hb dX2_look_74 rfl (lv_at hl 1 rfl) ?_
              refine lv_bipush (v := nI 6) hx hb dX2_look_75 rfl ?_
              refine lv_icmp_ne (tgt := 87) hx hb dX2_look_77 (by decide) (fun kc8 => ?_) (fun kc8 => ?_)
              · have hf := ite_f kc8 hf
                refine lv_iload_n hx hb dX2_look_87 rfl (lv_at hl 1 rfl) ?_
                refine lv_bipush (v := nI 7) hx hb dX2_look_88 rfl ?_
                refine lv_icmp_ne (tgt := 98) hx hb dX2_look_90 (by decide) (fun kc9 => ?_) (fun kc9 => ?_)
                · have hf := ite_f kc9 hf
                  refine lv_iload_n hx hb dX2_look_98 rfl (lv_at hl 1 rfl) ?_
                  refine lv_bipush (v := nI 8) hx hb dX2_look_99 rfl ?_
                  refine lv_icmp_ne (tgt := 109) hx hb dX2_look_101 (by decide) (fun kc10 => ?_) (fun kc10 => ?_)
                  · have hf := ite_f kc10 hf
                    refine lv_iload_n hx hb dX2_look_109 rfl (lv_at hl 1 rfl) ?_
                    refine lv_bipush (v := nI 9) hx hb dX2_look_110 rfl ?_
                    refine lv_icmp_ne (tgt := 120) hx hb dX2_look_112 (by decide) (fun kc11 => ?_) (fun kc11 => ?_)
                    · have hf := ite_f kc11 hf
                      refine lv_iload_n hx hb dX2_look_120 rfl (lv_at hl 1 rfl) ?_
                      refine lv_bipush (v := nI 10) hx hb dX2_look_121 rfl ?_
                      refine lv_icmp_ne (tgt := 133) hx hb dX2_look_123 (by decide) (fun kc12 => ?_) (fun kc12 => ?_)
                      · have hf := ite_f kc12 hf
                        refine lv_iload_n hx hb dX2_look_133 rfl (lv_at hl 1 rfl) ?_
                        refine lv_bipush (v := nI 11) hx hb dX2_look_134 rfl ?_
                        refine lv_icmp_ne (tgt := 146) hx hb dX2_look_136 (by decide) (fun kc13 => ?_) (fun kc13 => ?_)
                        · have hf := ite_f kc13 hf
                          refine lv_iconst (v := (-1)) hx hb dX2_look_146 rfl ?_
                          cases hf
                          exact m_iret E hr hlk hP hS rfl dX2_look_147
                        · have hf := ite_t kc13 hf
                          refine lv_aload_n hx hb dX2_look_139 rfl (lv_at hl 0 rfl) ?_
                          obtain ⟨v15, hc14, hf⟩ := ob hf
                          refine m_calli E hK hP hS (As := []) (tm_graves l D dT h μ1 _ hc14) (lw_V q2100 q2102 qs159 q166 q2103) dm_graves rfl (by decide) (by decide) hl rfl (Nat.le_of_ble_eq_true rfl) dX2_look_140 (fun H locs hP hS => ?_)
                          refine lv_goto (tgt := 147) hx hb dX2_look_143 (by decide) ?_
                          cases hf
                          exact m_iret E hr hlk hP hS rfl dX2_look_147
                      · have hf := ite_t kc12 hf
                        refine lv_aload_n hx hb dX2_look_126 rfl (lv_at hl 0 rfl) ?_
                        refine m_get E hK hP 3 (by decide) rfl q1416 rfl dX2_look_127 ?_
                        refine lv_goto (tgt := 147) hx hb dX2_look_130 (by decide) ?_
                        cases hf
                        exact m_iret E hr hlk hP hS rfl dX2_look_147
                    · have hf := ite_t kc11 hf
                      refine lv_aload_n hx hb dX2_look_115 rfl (lv_at hl 0 rfl) ?_
                      refine m_get E hK hP 36 (by decide) rfl q1449 rfl dX2_look_116 ?_
                      cases hf
                      exact m_iret E hr hlk hP hS rfl dX2_look_119
                  · have hf := ite_t kc10 hf
                    refine lv_aload_n hx hb dX2_look_104 rfl (lv_at hl 0 rfl) ?_
                    refine m_get E hK hP 34 (by decide) rfl q1447 rfl dX2_look_105 ?_
                    cases hf
                    exact m_iret E hr hlk hP hS rfl dX2_look_108
                · have hf := ite_t kc9 hf
                  refine lv_aload_n hx hb dX2_look_93 rfl (lv_at hl 0 rfl) ?_
                  refine m_get E hK hP 32 (by decide) rfl q1445 rfl dX2_look_94 ?_
                  cases hf
                  exact m_iret E hr hlk hP hS rfl dX2_look_97
              · have hf := ite_t kc8 hf
                refine lv_aload_n hx hb dX2_look_80 rfl (lv_at hl 0 rfl) ?_
                refine m_ga E hK hP 16 (by decide) rfl q1429 rfl dX2_look_81 ?_
                refine lv_iconst (v := nI 0) hx hb dX2_look_84 rfl ?_
                obtain ⟨v16, hv16, hf⟩ := ob hf
                refine m_ald E hK hP (by decide) rfl rfl hv16 dX2_look_85 ?_
                cases hf
                exact m_iret E hr hlk hP hS rfl dX2_look_86
            · have hf := ite_t kc7 hf
              refine lv_aload_n hx hb dX2_look_67 rfl (lv_at hl 0 rfl) ?_
              refine m_ga E hK hP 1 (by decide) rfl q1414 rfl dX2_look_68 ?_
              refine lv_iconst (v := nI 1) hx hb dX2_look_71 rfl ?_
              obtain ⟨v17, hv17, hf⟩ := ob hf
              refine m_ald E hK hP (by decide) rfl rfl hv17 dX2_look_72 ?_
              cases hf
              exact m_iret E hr hlk hP hS rfl dX2_look_73
          · have hf := ite_t kc6 hf
            refine lv_aload_n hx hb dX2_look_55 rfl (lv_at hl 0 rfl) ?_
            refine m_ga E hK hP 1 (by decide) rfl q1414 rfl dX2_look_56 ?_
            refine lv_iconst (v := nI 2) hx hb dX2_look_59 rfl ?_
            obtain ⟨v18, hv18, hf⟩ := ob hf
            refine m_ald E hK hP (by decide) rfl rfl hv18 dX2_look_60 ?_
            cases hf
            exact m_iret E hr hlk hP hS rfl dX2_look_61
        · have hf := ite_t kc5 hf
          refine lv_aload_n hx hb dX2_look_45 rfl (lv_at hl 0 rfl) ?_
          refine m_get E hK hP 6 (by decide) rfl q1419 rfl dX2_look_46 ?_
          cases hf
          exact m_iret E hr hlk hP hS rfl dX2_look_49
      · have hf := ite_t kc4 hf
        refine lv_aload_n hx hb dX2_look_33 rfl (lv_at hl 0 rfl) ?_
        refine m_ga E hK hP 1 (by decide) rfl q1414 rfl dX2_look_34 ?_
        refine lv_iconst (v := nI 3) hx hb dX2_look_37 rfl ?_
        obtain ⟨v19, hv19, hf⟩ := ob hf
        refine m_ald E hK hP (by decide) rfl rfl hv19 dX2_look_38 ?_
        cases hf
        exact m_iret E hr hlk hP hS rfl dX2_look_39
    · have hf := ite_t kc3 hf
      refine lv_aload_n hx hb dX2_look_21 rfl (lv_at hl 0 rfl) ?_
      refine m_ga E hK hP 1 (by decide) rfl q1414 rfl dX2_look_22 ?_
      refine lv_iconst (v := nI 0) hx hb dX2_look_25 rfl ?_
      obtain ⟨v20, hv20, hf⟩ := ob hf
      refine m_ald E hK hP (by decide) rfl rfl hv20 dX2_look_26 ?_
      cases hf
      exact m_iret E hr hlk hP hS rfl dX2_look_27
  · have hf := ite_t kc2 hf
    refine lv_aload_n hx hb dX2_look_9 rfl (lv_at hl 0 rfl) ?_
    refine m_ga E hK hP 1 (by decide) rfl q1414 rfl dX2_look_10 ?_
    refine lv_iconst (v := nI 4) hx hb dX2_look_13 rfl ?_
    obtain ⟨v21, hv21, hf⟩ := ob hf
    refine m_ald E hK hP (by decide) rfl rfl hv21 dX2_look_14 ?_
    cases hf
    exact m_iret E hr hlk hP hS rfl dX2_look_15
