/-! walks of NamesWeatherModel, written by genm.py -/
set_option maxRecDepth 100000
set_option maxHeartbeats 4000000 in
def fm_living_L4 (μ : nwM) : (Int32 × Int32) → Option ((Int32 × Int32) ⊕ (Int32)) := fun st => (rd_ μ 1 105 (nI 4)).bind fun v1 => (if v1 ≤ st.2 then some (.inr st.1) else (fm_isDead st.2 μ).bind fun v4 => (if v4 = 0 then some (.inl (st.1 ||| ((nI 1) <<< (st.2 &&& 31)), st.2 + nI 1)) else some (.inl (st.1, st.2 + nI 1))))
set_option maxHeartbeats 4000000 in
noncomputable def fm_living (μ : nwM) : Option (Int32) := (wh_ (fm_living_L4 μ) (nI 0, nI 0)).bind fun x6 => some x6
set_option maxHeartbeats 4000000 in
theorem fm_living_L4_w {p : Program} {l : Launch} {e : Env} {s : State} {m : MethodId} {args : Array Value} {below : List Frame} {meth : Method} {c : Code} {Q : State → Prop} {D : va_G} {dT : Nat → ClassId} {h : Nat} (E : CallFix p m c cX2_living 3 s args lw_all RX2) (hK : va_K D nwCl (nwT dT) s) (μ : nwM) {st : Int32 × Int32} {x : Int32} (hw : wh_ (fm_living_L4 μ) st = some x) (hk : (fun x : Int32 => ∀ (ls : Array Slot) (H : Heap) (locs : List Loc), lv_has ls 3 [(1, .int x)] → PM D dT h μ H → va_S (mA h) s.heap H locs → W p l e (rmd 1) s m args below meth c H locs 0 0 Q (F0 m 34 ls [])) x) : (fun st : Int32 × Int32 => ∀ (ls : Array Slot) (H : Heap) (locs : List Loc), lv_has ls 3 [(0, .ref h), (1, .int st.1), (2, .int st.2)] → PM D dT h μ H → va_S (mA h) s.heap H locs → W p l e (rmd 1) s m args below meth c H locs 0 0 Q (F0 m 4 ls [])) st := by
  obtain ⟨hx, hb, -, hown, hts⟩ := id E
  refine wh_run (P := (fun st : Int32 × Int32 => ∀ (ls : Array Slot) (H : Heap) (locs : List Loc), lv_has ls 3 [(0, .ref h), (1, .int st.1), (2, .int st.2)] → PM D dT h μ H → va_S (mA h) s.heap H locs → W p l e (rmd 1) s m args below meth c H locs 0 0 Q (F0 m 4 ls []))) (PE := (fun x : Int32 => ∀ (ls : Array Slot) (H : Heap) (locs : List Loc), lv_has ls 3 [(1, .int x)] → PM D dT h μ H → va_S (mA h) s.heap H locs → W p l e (rmd 1) s m args below meth c H locs 0 0 Q (F0 m 34 ls []))) ?_ hw hk
  clear hw hk
  intro st x hf hk ls H locs hl hP hS
  refine lv_iload_n hx hb dX2_living_4 rfl (lv_at hl 2 rfl) ?_
  refine lv_aload_n hx hb dX2_living_5 rfl (lv_at hl 0 rfl) ?_
  refine m_ga E hK hP 1 (by decide) rfl q1414 rfl dX2_living_6 ?_
  refine lv_iconst (v := nI 4) hx hb dX2_living_9 rfl ?_
  obtain ⟨v1, hv1, hf⟩ := ob hf
  refine m_ald E hK hP (by decide) rfl rfl hv1 dX2_living_10 ?_
  refine lv_icmp_ge (tgt := 34) hx hb dX2_living_11 (by decide) (fun kc2 => ?_) (fun kc2 => ?_)
  · have hf := ite_t kc2 hf
    cases hf
    exact hk _ _ _ (lv_sub hl [1] rfl) hP hS
  · have hf := ite_f kc2 hf
    refine lv_aload_n hx hb dX2_living_14 rfl (lv_at hl 0 rfl) ?_
    refine lv_iload_n hx hb dX2_living_15 rfl (lv_at hl 2 rfl) ?_
    obtain ⟨v4, hc3, hf⟩ := ob hf
    refine m_calli E hK hP hS (As := [.int st.2]) (tm_isDead l D dT h st.2 μ _ hc3) (lw_V q1781 q1783 qs103 q166 q1784) dm_isDead rfl (by decide) (by decide) hl rfl (Nat.le_of_ble_eq_true rfl) dX2_living_16 (fun H locs hP hS => ?_)
    refine lv_if_ne (tgt := 28) hx hb dX2_living_19 (by decide) (fun kc5 => ?_) (fun kc5 => ?_)
    · have hf := ite_f kc5 hf
      refine lv_iinc (v := st.2 + nI 1) (lv' := [(2, .int (st.2 + nI 1)), (0, .ref h), (1, .int st.1)]) hx hb dX2_living_28 hl (k := 2) rfl rfl (by decide) rfl (fun ls hl => ?_)
      refine lv_goto (tgt := 4) hx hb dX2_living_31 (by decide) ?_
      cases hf
      exact hk _ _ _ (lv_sub hl [1, 2, 0] rfl) hP hS
    · have hf := ite_t kc5 hf
      refine lv_iload_n hx hb dX2_living_22 rfl (lv_at hl 1 rfl) ?_
      refine lv_iconst (v := nI 1) hx hb dX2_living_23 rfl ?_
      refine lv_iload_n hx hb dX2_living_24 rfl (lv_at hl 2 rfl) ?_
      refine lv_ishl hx hb dX2_living_25 ?_
      refine lv_ior hx hb dX2_living_26 ?_
      refine lv_istore_n (lv' := [(1, .int (st.1 ||| ((nI 1) <<< (st.2 &&& 31)))), (0, .ref h), (2, .int st.2)]) hx hb dX2_living_27 rfl hl (by decide) rfl (fun ls hl => ?_)
      refine lv_iinc (v := st.2 + nI 1) (lv' := [(2, .int (st.2 + nI 1)), (1, .int (st.1 ||| ((nI 1) <<< (st.2 &&& 31)))), (0, .ref h)]) hx hb dX2_living_28 hl (k := 2) rfl rfl (by decide) rfl (fun ls hl => ?_)
      refine lv_goto (tgt := 4) hx hb dX2_living_31 (by decide) ?_
      cases hf
      exact hk _ _ _ (lv_sub hl [2, 1, 0] rfl) hP hS
set_option maxHeartbeats 4000000 in
theorem dm_living : yX2_living.cls = RX2 ∧ yX2_living.cls ≠ "java/lang/invoke/MethodHandle" ∧ yX2_living.cls ≠ "java/lang/invoke/VarHandle" ∧ (parseMethodDescriptor yX2_living.desc).map (fun d => d.parameters.length) = some 0 := ⟨rfl, by decide +kernel, by decide +kernel, by decide +kernel⟩
set_option maxHeartbeats 4000000 in
theorem tm_living (l : Launch) (D : va_G) (dT : Nat → ClassId) (h : Nat) (μ : nwM) (res : Int32) (hf : fm_living μ = some res) : Met l yX2_living (ws_ yX2_living cX2_living 3 (some .int)) (rmd 1) (mPc D dT h μ []) (mQi D dT h μ res) 0 0 (mA h) := by
  refine m_met (by decide) rfl (Nat.le_of_ble_eq_true rfl) ?_
  intro p e s m below meth c ls E hK hr hlk hl hP
  have hS : va_S (mA h) s.heap s.heap [] := va_S.rf
  obtain ⟨hx, hb, -, hown, hts⟩ := id E
  have hl : lv_has ls 3 [(0, .ref h)] := hl
  unfold fm_living at hf
  refine lv_iconst (v := nI 0) hx hb dX2_living_0 rfl ?_
  refine lv_istore_n (lv' := [(1, .int (nI 0)), (0, .ref h)]) hx hb dX2_living_1 rfl hl (by decide) rfl (fun ls hl => ?_)
  refine lv_iconst (v := nI 0) hx hb dX2_living_2 rfl ?_
  refine lv_istore_n (lv' := [(2, .int (nI 0)), (1, .int (nI 0)), (0, .ref h)]) hx hb dX2_living_3 rfl hl (by decide) rfl (fun ls hl => ?_)
  obtain ⟨x6, hx6, hf⟩ := ob hf
  refine fm_living_L4_w E hK μ hx6 (fun ls H locs hl hP hS => ?_) _ _ _ (lv_sub hl [2, 1, 0] rfl) hP hS
  refine lv_iload_n hx hb dX2_living_34 rfl (lv_at hl 0 rfl) ?_
  cases hf
  exact m_iret E hr hlk hP hS rfl dX2_living_35
set_option maxHeartbeats 4000000 in
def fm_livingFrom_L2 (μ : nwM) : Int32 → Option ((Int32) ⊕ (Int32)) := fun st => (rd_ μ 1 105 (nI 4)).bind fun v1 => (if v1 ≤ st then some (.inr st) else (fm_isDead st μ).bind fun v4 => (if v4 = 0 then some (.inr st) else some (.inl (st + (nI 1)))))
set_option maxHeartbeats 4000000 in
noncomputable def fm_livingFrom (x1 : Int32) (μ : nwM) : Option (Int32) := (wh_ (fm_livingFrom_L2 μ) x1).bind fun x6 => some x6
set_option maxHeartbeats 4000000 in
theorem fm_livingFrom_L2_w {p : Program} {l : Launch} {e : Env} {s : State} {m : MethodId} {args : Array Value} {below : List Frame} {meth : Method} {c : Code} {Q : State → Prop} {D : va_G} {dT : Nat → ClassId} {h : Nat} (E : CallFix p m c cX2_livingFrom 3 s args lw_all RX2) (hK : va_K D nwCl (nwT dT) s) (μ : nwM) {st : Int32} {x : Int32} (hw : wh_ (fm_livingFrom_L2 μ) st = some x) (hk : (fun x : Int32 => ∀ (ls : Array Slot) (H : Heap) (locs : List Loc), lv_has ls 3 [(2, .int x)] → PM D dT h μ H → va_S (mA h) s.heap H locs → W p l e (rmd 1) s m args below meth c H locs 0 0 Q (F0 m 27 ls [])) x) : (fun st : Int32 => ∀ (ls : Array Slot) (H : Heap) (locs : List Loc), lv_has ls 3 [(0, .ref h), (2, .int st)] → PM D dT h μ H → va_S (mA h) s.heap H locs → W p l e (rmd 1) s m args below meth c H locs 0 0 Q (F0 m 2 ls [])) st := by
  obtain ⟨hx, hb, -, hown, hts⟩ := id E
  refine wh_run (P := (fun st : Int32 => ∀ (ls : Array Slot) (H : Heap) (locs : List Loc), lv_has ls 3 [(0, .ref h), (2, .int st)] → PM D dT h μ H → va_S (mA h) s.heap H locs → W p l e (rmd 1) s m args below meth c H locs 0 0 Q (F0 m 2 ls []))) (PE := (fun x : Int32 => ∀ (ls : Array Slot) (H : Heap) (locs : List Loc), lv_has ls 3 [(2, .int x)] → PM D dT h μ H → va_S (mA h) s.heap H locs → W p l e (rmd 1) s m args below meth c H locs 0 0 Q (F0 m 27 ls []))) ?_ hw hk
  clear hw hk
  intro st x hf hk ls H locs hl hP hS
  refine lv_iload_n hx hb dX2_livingFrom_2 rfl (lv_at hl 1 rfl) ?_
  refine lv_aload_n hx hb dX2_livingFrom_3 rfl (lv_at hl 0 rfl) ?_
  refine m_ga E hK hP 1 (by decide) rfl q1414 rfl dX2_livingFrom_4 ?_
  refine lv_iconst (v := nI 4) hx hb dX2_livingFrom_7 rfl ?_
  obtain ⟨v1, hv1, hf⟩ := ob hf
  refine m_ald E hK hP (by decide) rfl rfl hv1 dX2_livingFrom_8 ?_
  refine lv_icmp_ge (tgt := 27) hx hb dX2_livingFrom_9 (by decide) (fun kc2 => ?_) (fun kc2 => ?_)
  · have hf := ite_t kc2 hf
    cases hf
    exact hk _ _ _ (lv_sub hl [1] rfl) hP hS
  · have hf := ite_f kc2 hf
    refine lv_aload_n hx hb dX2_livingFrom_12 rfl (lv_at hl 0 rfl) ?_
    refine lv_iload_n hx hb dX2_livingFrom_13 rfl (lv_at hl 1 rfl) ?_
    obtain ⟨v4, hc3, hf⟩ := ob hf
    refine m_calli E hK hP hS (As := [.int st]) (tm_isDead l D dT h st μ _ hc3) (lw_V q1781 q1783 qs103 q166 q1784) dm_isDead rfl (by decide) (by decide) hl rfl (Nat.le_of_ble_eq_true rfl) dX2_livingFrom_14 (fun H locs hP hS => ?_)
    refine lv_if_eq (tgt := 27) hx hb dX2_livingFrom_17 (by decide) (fun kc5 => ?_) (fun kc5 => ?_)
    · have hf := ite_t kc5 hf
      cases hf
      exact hk _ _ _ (lv_sub hl [1] rfl) hP hS
    · have hf := ite_f kc5 hf
      refine lv_iload_n hx hb dX2_livingFrom_20 rfl (lv_at hl 1 rfl) ?_
      refine lv_iconst (v := nI 1) hx hb dX2_livingFrom_21 rfl ?_
      refine lv_iadd hx hb dX2_livingFrom_22 ?_
      refine lv_istore_n (lv' := [(2, .int (st + (nI 1))), (0, .ref h)]) hx hb dX2_livingFrom_23 rfl hl (by decide) rfl (fun ls hl => ?_)
      refine lv_goto (tgt := 2) hx hb dX2_livingFrom_24 (by decide) ?_
      cases hf
      exact hk _ _ _ (lv_sub hl [1, 0] rfl) hP hS
set_option maxHeartbeats 4000000 in
theorem dm_livingFrom : yX2_livingFrom.cls = RX2 ∧ yX2_livingFrom.cls ≠ "java/lang/invoke/MethodHandle" ∧ yX2_livingFrom.cls ≠ "java/lang/invoke/VarHandle" ∧ (parseMethodDescriptor yX2_livingFrom.desc).map (fun d => d.parameters.length) = some 1 := ⟨rfl, by decide +kernel, by decide +kernel, by decide +kernel⟩
set_option maxHeartbeats 4000000 in
theorem tm_livingFrom (l : Launch) (D : va_G) (dT : Nat → ClassId) (h : Nat) (x1 : Int32) (μ : nwM) (res : Int32) (hf : fm_livingFrom x1 μ = some res) : Met l yX2_livingFrom (ws_ yX2_livingFrom cX2_livingFrom 3 (some .int)) (rmd 1) (mPc D dT h μ [.int x1]) (mQi D dT h μ res) 0 0 (mA h) := by
  refine m_met (by decide) rfl (Nat.le_of_ble_eq_true rfl) ?_
  intro p e s m below meth c ls E hK hr hlk hl hP
  have hS : va_S (mA h) s.heap s.heap [] := va_S.rf
  obtain ⟨hx, hb, -, hown, hts⟩ := id E
  have hl : lv_has ls 3 [(0, .ref h), (1, .int x1)] := hl
  unfold fm_livingFrom at hf
  refine lv_iload_n hx hb dX2_livingFrom_0 rfl (lv_at hl 1 rfl) ?_
  refine lv_istore_n (lv' := [(2, .int x1), (0, .ref h), (1, .int x1)]) hx hb dX2_livingFrom_1 rfl hl (by decide) rfl (fun ls hl => ?_)
  obtain ⟨x6, hx6, hf⟩ := ob hf
  refine fm_livingFrom_L2_w E hK μ hx6 (fun ls H locs hl hP hS => ?_) _ _ _ (lv_sub hl [1, 0] rfl) hP hS
  refine lv_iload_n hx hb dX2_livingFrom_27 rfl (lv_at hl 0 rfl) ?_
  cases hf
  exact m_iret E hr hlk hP hS rfl dX2_livingFrom_28
set_option maxHeartbeats 4000000 in
def fm_livingAhead_L4 (μ : nwM) : Int32 → Option ((Int32) ⊕ (Int32)) := fun st => (if st < 0 then some (.inr st) else (fm_isDead st μ).bind fun v3 => (if v3 = 0 then some (.inr st) else some (.inl (st - (nI 1)))))
set_option maxHeartbeats 4000000 in
noncomputable def fm_livingAhead (x1 : Int32) (μ : nwM) : Option (Int32) := (wh_ (fm_livingAhead_L4 μ) (x1 - (nI 1))).bind fun x5 => some x5
set_option maxHeartbeats 4000000 in
theorem fm_livingAhead_L4_w {p : Program} {l : Launch} {e : Env} {s : State} {m : MethodId} {args : Array Value} {below : List Frame} {meth : Method} {c : Code} {Q : State → Prop} {D : va_G} {dT : Nat → ClassId} {h : Nat} (E : CallFix p m c cX2_livingAhead 3 s args lw_all RX2) (hK : va_K D nwCl (nwT dT) s) (μ : nwM) {st : Int32} {x : Int32} (hw : wh_ (fm_livingAhead_L4 μ) st = some x) (hk : (fun x : Int32 => ∀ (ls : Array Slot) (H : Heap) (locs : List Loc), lv_has ls 3 [(2, .int x)] → PM D dT h μ H → va_S (mA h) s.heap H locs → W p l e (rmd 1) s m args below meth c H locs 0 0 Q (F0 m 23 ls [])) x) : (fun st : Int32 => ∀ (ls : Array Slot) (H : Heap) (locs : List Loc), lv_has ls 3 [(0, .ref h), (2, .int st)] → PM D dT h μ H → va_S (mA h) s.heap H locs → W p l e (rmd 1) s m args below meth c H locs 0 0 Q (F0 m 4 ls [])) st := by
  obtain ⟨hx, hb, -, hown, hts⟩ := id E
  refine wh_run (P := (fun st : Int32 => ∀ (ls : Array Slot) (H : Heap) (locs : List Loc), lv_has ls 3 [(0, .ref h), (2, .int st)] → PM D dT h μ H → va_S (mA h) s.heap H locs → W p l e (rmd 1) s m args below meth c H locs 0 0 Q (F0 m 4 ls []))) (PE := (fun x : Int32 => ∀ (ls : Array Slot) (H : Heap) (locs : List Loc), lv_has ls 3 [(2, .int x)] → PM D dT h μ H → va_S (mA h) s.heap H locs → W p l e (rmd 1) s m args below meth c H locs 0 0 Q (F0 m 23 ls []))) ?_ hw hk
  clear hw hk
  intro st x hf hk ls H locs hl hP hS
  refine lv_iload_n hx hb dX2_livingAhead_4 rfl (lv_at hl 1 rfl) ?_
  refine lv_if_lt (tgt := 23) hx hb dX2_livingAhead_5 (by decide) (fun kc1 => ?_) (fun kc1 => ?_)
  · have hf := ite_t kc1 hf
    cases hf
    exact hk _ _ _ (lv_sub hl [1] rfl) hP hS
  · have hf := ite_f kc1 hf
    refine lv_aload_n hx hb dX2_livingAhead_8 rfl (lv_at hl 0 rfl) ?_
    refine lv_iload_n hx hb dX2_livingAhead_9 rfl (lv_at hl 1 rfl) ?_
    obtain ⟨v3, hc2, hf⟩ := ob hf
    refine m_calli E hK hP hS (As := [.int st]) (tm_isDead l D dT h st μ _ hc2) (lw_V q1781 q1783 qs103 q166 q1784) dm_isDead rfl (by decide) (by decide) hl rfl (Nat.le_of_ble_eq_true rfl) dX2_livingAhead_10 (fun H locs hP hS => ?_)
    refine lv_if_eq (tgt := 23) hx hb dX2_livingAhead_13 (by decide) (fun kc4 => ?_) (fun kc4 => ?_)
    · have hf := ite_t kc4 hf
      cases hf
      exact hk _ _ _ (lv_sub hl [1] rfl) hP hS
    · have hf := ite_f kc4 hf
      refine lv_iload_n hx hb dX2_livingAhead_16 rfl (lv_at hl 1 rfl) ?_
      refine lv_iconst (v := nI 1) hx hb dX2_livingAhead_17 rfl ?_
      refine lv_isub hx hb dX2_livingAhead_18 ?_
      refine lv_istore_n (lv' := [(2, .int (st - (nI 1))), (0, .ref h)]) hx hb dX2_livingAhead_19 rfl hl (by decide) rfl (fun ls hl => ?_)
      refine lv_goto (tgt := 4) hx hb dX2_livingAhead_20 (by decide) ?_
      cases hf
      exact hk _ _ _ (lv_sub hl [1, 0] rfl) hP hS
set_option maxHeartbeats 4000000 in
theorem dm_livingAhead : yX2_livingAhead.cls = RX2 ∧ yX2_livingAhead.cls ≠ "java/lang/invoke/MethodHandle" ∧ yX2_livingAhead.cls ≠ "java/lang/invoke/VarHandle" ∧ (parseMethodDescriptor yX2_livingAhead.desc).map (fun d => d.parameters.length) = some 1 := ⟨rfl, by decide +kernel, by decide +kernel, by decide +kernel⟩
set_option maxHeartbeats 4000000 in
theorem tm_livingAhead (l : Launch) (D : va_G) (dT : Nat → ClassId) (h : Nat) (x1 : Int32) (μ : nwM) (res : Int32) (hf : fm_livingAhead x1 μ = some res) : Met l yX2_livingAhead (ws_ yX2_livingAhead cX2_livingAhead 3 (some .int)) (rmd 1) (mPc D dT h μ [.int x1]) (mQi D dT h μ res) 0 0 (mA h) := by
  refine m_met (by decide) rfl (Nat.le_of_ble_eq_true rfl) ?_
  intro p e s m below meth c ls E hK hr hlk hl hP
  have hS : va_S (mA h) s.heap s.heap [] := va_S.rf
  obtain ⟨hx, hb, -, hown, hts⟩ := id E
  have hl : lv_has ls 3 [(0, .ref h), (1, .int x1)] := hl
  unfold fm_livingAhead at hf
  refine lv_iload_n hx hb dX2_livingAhead_0 rfl (lv_at hl 1 rfl) ?_
  refine lv_iconst (v := nI 1) hx hb dX2_livingAhead_1 rfl ?_
  refine lv_isub hx hb dX2_livingAhead_2 ?_
  refine lv_istore_n (lv' := [(2, .int (x1 - (nI 1))), (0, .ref h), (1, .int x1)]) hx hb dX2_livingAhead_3 rfl hl (by decide) rfl (fun ls hl => ?_)
  obtain ⟨x5, hx5, hf⟩ := ob hf
  refine fm_livingAhead_L4_w E hK μ hx5 (fun ls H locs hl hP hS => ?_) _ _ _ (lv_sub hl [1, 0] rfl) hP hS
  refine lv_iload_n hx hb dX2_livingAhead_23 rfl (lv_at hl 0 rfl) ?_
  cases hf
  exact m_iret E hr hlk hP hS rfl dX2_livingAhead_24
set_option maxHeartbeats 4000000 in
def fm_boatsAhead_L4 (x1 : Int32) (μ : nwM) : (Int32 × Int32) → Option ((Int32 × Int32) ⊕ (Int32)) := fun st => (if x1 ≤ st.2 then some (.inr st.1) else (fm_isDead st.2 μ).bind fun v3 => (if v3 = 0 then (rd_ μ 42 12 st.2).bind fun v5 => (fm_greater st.1 (v5 + (nI 1)) μ).bind fun v7 => some (.inl (v7, st.2 + nI 1)) else some (.inl (st.1, st.2 + nI 1))))
set_option maxHeartbeats 4000000 in
noncomputable def fm_boatsAhead (x1 : Int32) (μ : nwM) : Option (Int32) := (wh_ (fm_boatsAhead_L4 x1 μ) (nI 0, nI 0)).bind fun x8 => some x8
set_option maxHeartbeats 4000000 in
theorem fm_boatsAhead_L4_w {p : Program} {l : Launch} {e : Env} {s : State} {m : MethodId} {args : Array Value} {below : List Frame} {meth : Method} {c : Code} {Q : State → Prop} {D : va_G} {dT : Nat → ClassId} {h : Nat} (E : CallFix p m c cX2_boatsAhead 4 s args lw_all RX2) (hK : va_K D nwCl (nwT dT) s) (x1 : Int32) (μ : nwM) {st : Int32 × Int32} {x : Int32} (hw : wh_ (fm_boatsAhead_L4 x1 μ) st = some x) (hk : (fun x : Int32 => ∀ (ls : Array Slot) (H : Heap) (locs : List Loc), lv_has ls 4 [(2, .int x)] → PM D dT h μ H → va_S (mA h) s.heap H locs → W p l e (rmd 1) s m args below meth c H locs 0 0 Q (F0 m 37 ls [])) x) : (fun st : Int32 × Int32 => ∀ (ls : Array Slot) (H : Heap) (locs : List Loc), lv_has ls 4 [(0, .ref h), (1, .int x1), (2, .int st.1), (3, .int st.2)] → PM D dT h μ H → va_S (mA h) s.heap H locs → W p l e (rmd 1) s m args below meth c H locs 0 0 Q (F0 m 4 ls [])) st := by
  obtain ⟨hx, hb, -, hown, hts⟩ := id E
  refine wh_run (P := (fun st : Int32 × Int32 => ∀ (ls : Array Slot) (H : Heap) (locs : List Loc), lv_has ls 4 [(0, .ref h), (1, .int x1), (2, .int st.1), (3, .int st.2)] → PM D dT h μ H → va_S (mA h) s.heap H locs → W p l e (rmd 1) s m args below meth c H locs 0 0 Q (F0 m 4 ls []))) (PE := (fun x : Int32 => ∀ (ls : Array Slot) (H : Heap) (locs : List Loc), lv_has ls 4 [(2, .int x)] → PM D dT h μ H → va_S (mA h) s.heap H locs → W p l e (rmd 1) s m args below meth c H locs 0 0 Q (F0 m 37 ls []))) ?_ hw hk
  clear hw hk
  intro st x hf hk ls H locs hl hP hS
  refine lv_iload_n hx hb dX2_boatsAhead_4 rfl (lv_at hl 3 rfl) ?_
  refine lv_iload_n hx hb dX2_boatsAhead_5 rfl (lv_at hl 1 rfl) ?_
  refine lv_icmp_ge (tgt := 37) hx hb dX2_boatsAhead_6 (by decide) (fun kc1 => ?_) (fun kc1 => ?_)
  · have hf := ite_t kc1 hf
    cases hf
    exact hk _ _ _ (lv_sub hl [2] rfl) hP hS
  · have hf := ite_f kc1 hf
    refine lv_aload_n hx hb dX2_boatsAhead_9 rfl (lv_at hl 0 rfl) ?_
    refine lv_iload_n hx hb dX2_boatsAhead_10 rfl (lv_at hl 3 rfl) ?_
    obtain ⟨v3, hc2, hf⟩ := ob hf
    refine m_calli E hK hP hS (As := [.int st.2]) (tm_isDead l D dT h st.2 μ _ hc2) (lw_V q1781 q1783 qs103 q166 q1784) dm_isDead rfl (by decide) (by decide) hl rfl (Nat.le_of_ble_eq_true rfl) dX2_boatsAhead_11 (fun H locs hP hS => ?_)
    refine lv_if_ne (tgt := 31) hx hb dX2_boatsAhead_14 (by decide) (fun kc4 => ?_) (fun kc4 => ?_)
    · have hf := ite_f kc4 hf
      refine lv_iinc (v := st.2 + nI 1) (lv' := [(3, .int (st.2 + nI 1)), (0, .ref h), (1, .int x1), (2, .int st.1)]) hx hb dX2_boatsAhead_31 hl (k := 3) rfl rfl (by decide) rfl (fun ls hl => ?_)
      refine lv_goto (tgt := 4) hx hb dX2_boatsAhead_34 (by decide) ?_
      cases hf
      exact hk _ _ _ (lv_sub hl [1, 2, 3, 0] rfl) hP hS
    · have hf := ite_t kc4 hf
      refine lv_aload_n hx hb dX2_boatsAhead_17 rfl (lv_at hl 0 rfl) ?_
      refine lv_iload_n hx hb dX2_boatsAhead_18 rfl (lv_at hl 2 rfl) ?_
      refine lv_aload_n hx hb dX2_boatsAhead_19 rfl (lv_at hl 0 rfl) ?_
      refine m_ga E hK hP 42 (by decide) rfl q1455 rfl dX2_boatsAhead_20 ?_
      refine lv_iload_n hx hb dX2_boatsAhead_23 rfl (lv_at hl 3 rfl) ?_
      obtain ⟨v5, hv5, hf⟩ := ob hf
      refine m_ald E hK hP (by decide) rfl rfl hv5 dX2_boatsAhead_24 ?_
      refine lv_iconst (v := nI 1) hx hb dX2_boatsAhead_25 rfl ?_
      refine lv_iadd hx hb dX2_boatsAhead_26 ?_
      obtain ⟨v7, hc6, hf⟩ := ob hf
      refine m_calli E hK hP hS (As := [.int st.1, .int (v5 + (nI 1))]) (tm_greater l D dT h st.1 (v5 + (nI 1)) μ _ hc6) (lw_V q1975 q1977 qs141 q166 q1978) dm_greater rfl (by decide) (by decide) hl rfl (Nat.le_of_ble_eq_true rfl) dX2_boatsAhead_27 (fun H locs hP hS => ?_)
      refine lv_istore_n (lv' := [(2, .int v7), (0, .ref h), (1, .int x1), (3, .int st.2)]) hx hb dX2_boatsAhead_30 rfl hl (by decide) rfl (fun ls hl => ?_)
      refine lv_iinc (v := st.2 + nI 1) (lv' := [(3, .int (st.2 + nI 1)), (2, .int v7), (0, .ref h), (1, .int x1)]) hx hb dX2_boatsAhead_31 hl (k := 3) rfl rfl (by decide) rfl (fun ls hl => ?_)
      refine lv_goto (tgt := 4) hx hb dX2_boatsAhead_34 (by decide) ?_
      cases hf
      exact hk _ _ _ (lv_sub hl [2, 3, 1, 0] rfl) hP hS
set_option maxHeartbeats 4000000 in
theorem dm_boatsAhead : yX2_boatsAhead.cls = RX2 ∧ yX2_boatsAhead.cls ≠ "java/lang/invoke/MethodHandle" ∧ yX2_boatsAhead.cls ≠ "java/lang/invoke/VarHandle" ∧ (parseMethodDescriptor yX2_boatsAhead.desc).map (fun d => d.parameters.length) = some 1 := ⟨rfl, by decide +kernel, by decide +kernel, by decide +kernel⟩
set_option maxHeartbeats 4000000 in
theorem tm_boatsAhead (l : Launch) (D : va_G) (dT : Nat → ClassId) (h : Nat) (x1 : Int32) (μ : nwM) (res : Int32) (hf : fm_boatsAhead x1 μ = some res) : Met l yX2_boatsAhead (ws_ yX2_boatsAhead cX2_boatsAhead 4 (some .int)) (rmd 1) (mPc D dT h μ [.int x1]) (mQi D dT h μ res) 0 0 (mA h) := by
  refine m_met (by decide) rfl (Nat.le_of_ble_eq_true rfl) ?_
  intro p e s m below meth c ls E hK hr hlk hl hP
  have hS : va_S (mA h) s.heap s.heap [] := va_S.rf
  obtain ⟨hx, hb, -, hown, hts⟩ := id E
  have hl : lv_has ls 4 [(0, .ref h), (1, .int x1)] := hl
  unfold fm_boatsAhead at hf
  refine lv_iconst (v := nI 0) hx hb dX2_boatsAhead_0 rfl ?_
  refine lv_istore_n (lv' := [(2, .int (nI 0)), (0, .ref h), (1, .int x1)]) hx hb dX2_boatsAhead_1 rfl hl (by decide) rfl (fun ls hl => ?_)
  refine lv_iconst (v := nI 0) hx hb dX2_boatsAhead_2 rfl ?_
  refine lv_istore_n (lv' := [(3, .int (nI 0)), (2, .int (nI 0)), (0, .ref h), (1, .int x1)]) hx hb dX2_boatsAhead_3 rfl hl (by decide) rfl (fun ls hl => ?_)
  obtain ⟨x8, hx8, hf⟩ := ob hf
  refine fm_boatsAhead_L4_w E hK x1 μ hx8 (fun ls H locs hl hP hS => ?_) _ _ _ (lv_sub hl [2, 3, 1, 0] rfl) hP hS
  refine lv_iload_n hx hb dX2_boatsAhead_37 rfl (lv_at hl 0 rfl) ?_
  cases hf
  exact m_iret E hr hlk hP hS rfl dX2_boatsAhead_38
set_option maxHeartbeats 4000000 in
noncomputable def fm_canSail_L6 (x1 : Int32) (x2 : Int32) (x3 : Int32) (μ : nwM) : (Int32 × Int32) → Option ((Int32 × Int32) ⊕ (Int32)) := fun st => (if x1 ≤ st.2 then (if x3 ≤ st.1 then some (.inr (nI 0)) else some (.inr (nI 1))) else (fm_isDead st.2 μ).bind fun v4 => (if v4 = 0 then (rd_ μ 42 12 st.2).bind fun v6 => (if v6 = x2 then (rd_ μ 1 105 ((nI 45) + st.2)).bind fun v8 => (rd_ μ 1 105 ((nI 45) + x1)).bind fun v9 => (fm_doClash v8 v9 μ).bind fun v11 => (if v11 = 0 then some (.inl (st.1 + (nI 1), st.2 + nI 1)) else some (.inr (nI 0))) else some (.inl (st.1, st.2 + nI 1))) else some (.inl (st.1, st.2 + nI 1))))
set_option maxHeartbeats 4000000 in
noncomputable def fm_canSail (x1 : Int32) (x2 : Int32) (x3 : Int32) (μ : nwM) : Option (Int32) := wh_ (fm_canSail_L6 x1 x2 x3 μ) (nI 0, nI 0)
set_option maxHeartbeats 4000000 in
theorem fm_canSail_L6_w {p : Program} {l : Launch} {e : Env} {s : State} {m : MethodId} {args : Array Value} {below : List Frame} {meth : Method} {c : Code} {D : va_G} {dT : Nat → ClassId} {h : Nat} (E : CallFix p m c cX2_canSail 6 s args lw_all RX2) (hK : va_K D nwCl (nwT dT) s) (hr : meth.sig.returnType = (some .boolean)) (hlk : meth.locks = false) (x1 : Int32) (x2 : Int32) (x3 : Int32) (μ : nwM) {res : Int32} {st : Int32 × Int32} {x : Int32} (hw : wh_ (fm_canSail_L6 x1 x2 x3 μ) st = some x) (hk : (fun r : Int32 => r = res) x) : (fun st : Int32 × Int32 => ∀ (ls : Array Slot) (H : Heap) (locs : List Loc), lv_has ls 6 [(0, .ref h), (1, .int x1), (2, .int x2), (3, .int x3), (4, .int st.1), (5, .int st.2)] → PM D dT h μ H → va_S (mA h) s.heap H locs → W p l e (rmd 1) s m args below meth c H locs 0 0 (MQ below (mQi D dT h μ res) args s 0 0 (mA h)) (F0 m 6 ls [])) st := by
  obtain ⟨hx, hb, -, hown, hts⟩ := id E
  refine wh_run (P := (fun st : Int32 × Int32 => ∀ (ls : Array Slot) (H : Heap) (locs : List Loc), lv_has ls 6 [(0, .ref h), (1, .int x1), (2, .int x2), (3, .int x3), (4, .int st.1), (5, .int st.2)] → PM D dT h μ H → va_S (mA h) s.heap H locs → W p l e (rmd 1) s m args below meth c H locs 0 0 (MQ below (mQi D dT h μ res) args s 0 0 (mA h)) (F0 m 6 ls []))) (PE := (fun r : Int32 => r = res)) ?_ hw hk
  clear hw hk
  intro st x hf hk ls H locs hl hP hS
  refine lv_iload hx hb dX2_canSail_6 (lv_at hl 5 rfl) ?_
  refine lv_iload_n hx hb dX2_canSail_8 rfl (lv_at hl 1 rfl) ?_
  refine lv_icmp_ge (tgt := 75) hx hb dX2_canSail_9 (by decide) (fun kc1 => ?_) (fun kc1 => ?_)
  · have hf := ite_t kc1 hf
    refine lv_iload hx hb dX2_canSail_75 (lv_at hl 4 rfl) ?_
    refine lv_iload_n hx hb dX2_canSail_77 rfl (lv_at hl 3 rfl) ?_
    refine lv_icmp_ge (tgt := 85) hx hb dX2_canSail_78 (by decide) (fun kc2 => ?_) (fun kc2 => ?_)
    · have hf := ite_t kc2 hf
      refine lv_iconst (v := nI 0) hx hb dX2_canSail_85 rfl ?_
      cases hf
      have hk : nI 0 = res := hk
      subst hk
      exact m_zret E hr hlk hP hS rfl dX2_canSail_86
    · have hf := ite_f kc2 hf
      refine lv_iconst (v := nI 1) hx hb dX2_canSail_81 rfl ?_
      refine lv_goto (tgt := 86) hx hb dX2_canSail_82 (by decide) ?_
      cases hf
      have hk : nI 1 = res := hk
      subst hk
      exact m_zret E hr hlk hP hS rfl dX2_canSail_86
  · have hf := ite_f kc1 hf
    refine lv_aload_n hx hb dX2_canSail_12 rfl (lv_at hl 0 rfl) ?_
    refine lv_iload hx hb dX2_canSail_13 (lv_at hl 5 rfl) ?_
    obtain ⟨v4, hc3, hf⟩ := ob hf
    refine m_calli E hK hP hS (As := [.int st.2]) (tm_isDead l D dT h st.2 μ _ hc3) (lw_V q1781 q1783 qs103 q166 q1784) dm_isDead rfl (by decide) (by decide) hl rfl (Nat.le_of_ble_eq_true rfl) dX2_canSail_15 (fun H locs hP hS => ?_)
    refine lv_if_ne (tgt := 69) hx hb dX2_canSail_18 (by decide) (fun kc5 => ?_) (fun kc5 => ?_)
    · have hf := ite_f kc5 hf
      refine lv_iinc (v := st.2 + nI 1) (lv' := [(5, .int (st.2 + nI 1)), (0, .ref h), (1, .int x1), (2, .int x2), (3, .int x3), (4, .int st.1)]) hx hb dX2_canSail_69 hl (k := 5) rfl rfl (by decide) rfl (fun ls hl => ?_)
      refine lv_goto (tgt := 6) hx hb dX2_canSail_72 (by decide) ?_
      cases hf
      exact hk _ _ _ (lv_sub hl [1, 2, 3, 4, 5, 0] rfl) hP hS
    · have hf := ite_t kc5 hf
      refine lv_aload_n hx hb dX2_canSail_21 rfl (lv_at hl 0 rfl) ?_
      refine m_ga E hK hP 42 (by decide) rfl q1455 rfl dX2_canSail_22 ?_
      refine lv_iload hx hb dX2_canSail_25 (lv_at hl 5 rfl) ?_
      obtain ⟨v6, hv6, hf⟩ := ob hf
      refine m_ald E hK hP (by decide) rfl rfl hv6 dX2_canSail_27 ?_
      refine lv_iload_n hx hb dX2_canSail_28 rfl (lv_at hl 2 rfl) ?_
      refine lv_icmp_eq (tgt := 35) hx hb dX2_canSail_29 (by decide) (fun kc7 => ?_) (fun kc7 => ?_)
      · have hf := ite_t kc7 hf
        refine lv_aload_n hx hb dX2_canSail_35 rfl (lv_at hl 0 rfl) ?_
        refine lv_aload_n hx hb dX2_canSail_36 rfl (lv_at hl 0 rfl) ?_
        refine m_ga E hK hP 1 (by decide) rfl q1414 rfl dX2_canSail_37 ?_
        refine lv_bipush (v := nI 45) hx hb dX2_canSail_40 rfl ?_
        refine lv_iload hx hb dX2_canSail_42 (lv_at hl 5 rfl) ?_
        refine lv_iadd hx hb dX2_canSail_44 ?_
        obtain ⟨v8, hv8, hf⟩ := ob hf
        refine m_ald E hK hP (by decide) rfl rfl hv8 dX2_canSail_45 ?_
        refine lv_aload_n hx hb dX2_canSail_46 rfl (lv_at hl 0 rfl) ?_
        refine m_ga E hK hP 1 (by decide) rfl q1414 rfl dX2_canSail_47 ?_
        refine lv_bipush (v := nI 45) hx hb dX2_canSail_50 rfl ?_
        refine lv_iload_n hx hb dX2_canSail_52 rfl (lv_at hl 1 rfl) ?_
        refine lv_iadd hx hb dX2_canSail_53 ?_
        obtain ⟨v9, hv9, hf⟩ := ob hf
        refine m_ald E hK hP (by decide) rfl rfl hv9 dX2_canSail_54 ?_
        obtain ⟨v11, hc10, hf⟩ := ob hf
        refine m_calli E hK hP hS (As := [.int v8, .int v9]) (tm_doClash l D dT h v8 v9 μ _ hc10) (lw_V q1955 q1957 qs138 q166 q1958) dm_doClash rfl (by decide) (by decide) hl rfl (Nat.le_of_ble_eq_true rfl) dX2_canSail_55 (fun H locs hP hS => ?_)
        refine lv_if_eq (tgt := 63) hx hb dX2_canSail_58 (by decide) (fun kc12 => ?_) (fun kc12 => ?_)
        · have hf := ite_t kc12 hf
          refine lv_iload hx hb dX2_canSail_63 (lv_at hl 4 rfl) ?_
          refine lv_iconst (v := nI 1) hx hb dX2_canSail_65 rfl ?_
          refine lv_iadd hx hb dX2_canSail_66 ?_
          refine lv_istore (lv' := [(4, .int (st.1 + (nI 1))), (0, .ref h), (1, .int x1), (2, .int x2), (3, .int x3), (5, .int st.2)]) hx hb dX2_canSail_67 hl (by decide) rfl (fun ls hl => ?_)
          refine lv_iinc (v := st.2 + nI 1) (lv' := [(5, .int (st.2 + nI 1)), (4, .int (st.1 + (nI 1))), (0, .ref h), (1, .int x1), (2, .int x2), (3, .int x3)]) hx hb dX2_canSail_69 hl (k := 5) rfl rfl (by decide) rfl (fun ls hl => ?_)
          refine lv_goto (tgt := 6) hx hb dX2_canSail_72 (by decide) ?_
          cases hf
          exact hk _ _ _ (lv_sub hl [2, 3, 4, 5, 1, 0] rfl) hP hS
        · have hf := ite_f kc12 hf
          refine lv_iconst (v := nI 0) hx hb dX2_canSail_61 rfl ?_
          cases hf
          have hk : nI 0 = res := hk
          subst hk
          exact m_zret E hr hlk hP hS rfl dX2_canSail_62
      · have hf := ite_f kc7 hf
        refine lv_goto (tgt := 69) hx hb dX2_canSail_32 (by decide) ?_
        refine lv_iinc (v := st.2 + nI 1) (lv' := [(5, .int (st.2 + nI 1)), (0, .ref h), (1, .int x1), (2, .int x2), (3, .int x3), (4, .int st.1)]) hx hb dX2_canSail_69 hl (k := 5) rfl rfl (by decide) rfl (fun ls hl => ?_)
        refine lv_goto (tgt := 6) hx hb dX2_canSail_72 (by decide) ?_
        cases hf
        exact hk _ _ _ (lv_sub hl [1, 2, 3, 4, 5, 0] rfl) hP hS
set_option maxHeartbeats 4000000 in
theorem dm_canSail : yX2_canSail.cls = RX2 ∧ yX2_canSail.cls ≠ "java/lang/invoke/MethodHandle" ∧ yX2_canSail.cls ≠ "java/lang/invoke/VarHandle" ∧ (parseMethodDescriptor yX2_canSail.desc).map (fun d => d.parameters.length) = some 3 := ⟨rfl, by decide +kernel, by decide +kernel, by decide +kernel⟩
set_option maxHeartbeats 4000000 in
theorem tm_canSail (l : Launch) (D : va_G) (dT : Nat → ClassId) (h : Nat) (x1 : Int32) (x2 : Int32) (x3 : Int32) (μ : nwM) (res : Int32) (hf : fm_canSail x1 x2 x3 μ = some res) : Met l yX2_canSail (ws_ yX2_canSail cX2_canSail 6 (some .boolean)) (rmd 1) (mPc D dT h μ [.int x1, .int x2, .int x3]) (mQi D dT h μ res) 0 0 (mA h) := by
  refine m_met (by decide) rfl (Nat.le_of_ble_eq_true rfl) ?_
  intro p e s m below meth c ls E hK hr hlk hl hP
  have hS : va_S (mA h) s.heap s.heap [] := va_S.rf
  obtain ⟨hx, hb, -, hown, hts⟩ := id E
  have hl : lv_has ls 6 [(0, .ref h), (1, .int x1), (2, .int x2), (3, .int x3)] := hl
  unfold fm_canSail at hf
  refine lv_iconst (v := nI 0) hx hb dX2_canSail_0 rfl ?_
  refine lv_istore (lv' := [(4, .int (nI 0)), (0, .ref h), (1, .int x1), (2, .int x2), (3, .int x3)]) hx hb dX2_canSail_1 hl (by decide) rfl (fun ls hl => ?_)
  refine lv_iconst (v := nI 0) hx hb dX2_canSail_3 rfl ?_
  refine lv_istore (lv' := [(5, .int (nI 0)), (4, .int (nI 0)), (0, .ref h), (1, .int x1), (2, .int x2), (3, .int x3)]) hx hb dX2_canSail_4 hl (by decide) rfl (fun ls hl => ?_)
  exact fm_canSail_L6_w E hK hr hlk x1 x2 x3 μ hf rfl _ _ _ (lv_sub hl [2, 3, 4, 5, 1, 0] rfl) hP hS
set_option maxHeartbeats 4000000 in
noncomputable def fm_sailIn_L71 (x1 : Int32) (x2 : Int32) (x3 : Int32) (x4 : Int32) (μ : nwM) : Int32 → Option ((Int32) ⊕ (Int32)) := fun st => (if x4 < st then some (.inr st) else (fm_canSail x3 st x2 μ).bind fun v14 => (if v14 = 0 then some (.inl (st + (nI 1))) else some (.inr st)))
set_option maxHeartbeats 4000000 in
noncomputable def fm_sailIn_L23 (x1 : Int32) (x2 : Int32) : (Int32 × nwM) → Option ((Int32 × nwM) ⊕ (Int32 × nwM)) := fun st => (if st.1 < 0 then some (.inr (st.1, st.2)) else (rd_ st.2 1 105 (nI 4)).bind fun v6 => (if v6 ≤ st.1 then some (.inr (st.1, st.2)) else (fm_boatsAhead st.1 st.2).bind fun v9 => (if (x1 - (nI 1)) ≤ v9 then (rd_ st.2 42 12 st.1).bind fun v11 => (wh_ (fm_sailIn_L71 x1 x2 st.1 (x1 - (nI 1)) st.2) (v11 + (nI 1))).bind fun x16 => (if x16 ≤ (x1 - (nI 1)) then (wr_ st.2 42 12 st.1 x16).bind fun μ18 => (fm_livingFrom (st.1 + (nI 1)) μ18).bind fun v20 => (rd_ μ18 1 105 (nI 4)).bind fun v21 => (if v21 ≤ v20 then some (.inl (v20, μ18)) else (wr_ μ18 42 12 v20 (-1)).bind fun μ23 => some (.inl (v20, μ23))) else (fm_livingAhead st.1 st.2).bind fun v25 => some (.inl (v25, st.2))) else (fm_boatsAhead st.1 st.2).bind fun v27 => (rd_ st.2 42 12 st.1).bind fun v28 => (wh_ (fm_sailIn_L71 x1 x2 st.1 v27 st.2) (v28 + (nI 1))).bind fun x29 => (if x29 ≤ v27 then (wr_ st.2 42 12 st.1 x29).bind fun μ31 => (fm_livingFrom (st.1 + (nI 1)) μ31).bind fun v33 => (rd_ μ31 1 105 (nI 4)).bind fun v34 => (if v34 ≤ v33 then some (.inl (v33, μ31)) else (wr_ μ31 42 12 v33 (-1)).bind fun μ36 => some (.inl (v33, μ36))) else (fm_livingAhead st.1 st.2).bind fun v38 => some (.inl (v38, st.2))))))
set_option maxHeartbeats 4000000 in
noncomputable def fm_sailIn (x1 : Int32) (x2 : Int32) (μ : nwM) : Option (Int32 × nwM) := (fm_livingFrom (nI 0) μ).bind fun v2 => (rd_ μ 1 105 (nI 4)).bind fun v3 => (if v3 ≤ v2 then (wh_ (fm_sailIn_L23 x1 x2) (v2, μ)).bind fun x39 => (if x39.1 < 0 then some (nI 0, x39.2) else some (nI 1, x39.2)) else (wr_ μ 42 12 v2 (-1)).bind fun μ41 => (wh_ (fm_sailIn_L23 x1 x2) (v2, μ41)).bind fun x42 => (if x42.1 < 0 then some (nI 0, x42.2) else some (nI 1, x42.2)))
set_option maxHeartbeats 4000000 in
theorem fm_sailIn_L71_w {p : Program} {l : Launch} {e : Env} {s : State} {m : MethodId} {args : Array Value} {below : List Frame} {meth : Method} {c : Code} {Q : State → Prop} {D : va_G} {dT : Nat → ClassId} {h : Nat} (E : CallFix p m c cX2_sailIn 6 s args lw_all RX2) (hK : va_K D nwCl (nwT dT) s) (x1 : Int32) (x2 : Int32) (x3 : Int32) (x4 : Int32) (μ : nwM) {st : Int32} {x : Int32} (hw : wh_ (fm_sailIn_L71 x1 x2 x3 x4 μ) st = some x) (hk : (fun x : Int32 => ∀ (ls : Array Slot) (H : Heap) (locs : List Loc), lv_has ls 6 [(0, .ref h), (1, .int x1), (2, .int x2), (3, .int x3), (4, .int x4), (5, .int x)] → PM D dT h μ H → va_S (mA h) s.heap H locs → W p l e (rmd 2) s m args below meth c H locs 0 0 Q (F0 m 98 ls [])) x) : (fun st : Int32 => ∀ (ls : Array Slot) (H : Heap) (locs : List Loc), lv_has ls 6 [(0, .ref h), (1, .int x1), (2, .int x2), (3, .int x3), (4, .int x4), (5, .int st)] → PM D dT h μ H → va_S (mA h) s.heap H locs → W p l e (rmd 2) s m args below meth c H locs 0 0 Q (F0 m 71 ls [])) st := by
  obtain ⟨hx, hb, -, hown, hts⟩ := id E
  refine wh_run (P := (fun st : Int32 => ∀ (ls : Array Slot) (H : Heap) (locs : List Loc), lv_has ls 6 [(0, .ref h), (1, .int x1), (2, .int x2), (3, .int x3), (4, .int x4), (5, .int st)] → PM D dT h μ H → va_S (mA h) s.heap H locs → W p l e (rmd 2) s m args below meth c H locs 0 0 Q (F0 m 71 ls []))) (PE := (fun x : Int32 => ∀ (ls : Array Slot) (H : Heap) (locs : List Loc), lv_has ls 6 [(0, .ref h), (1, .int x1), (2, .int x2), (3, .int x3), (4, .int x4), (5, .int x)] → PM D dT h μ H → va_S (mA h) s.heap H locs → W p l e (rmd 2) s m args below meth c H locs 0 0 Q (F0 m 98 ls []))) ?_ hw hk
  clear hw hk
  intro st x hf hk ls H locs hl hP hS
  refine lv_iload hx hb dX2_sailIn_71 (lv_at hl 5 rfl) ?_
  refine lv_iload hx hb dX2_sailIn_73 (lv_at hl 4 rfl) ?_
  refine lv_icmp_gt (tgt := 98) hx hb dX2_sailIn_75 (by decide) (fun kc12 => ?_) (fun kc12 => ?_)
  · have hf := ite_t kc12 hf
    cases hf
    exact hk _ _ _ (lv_sub hl [0, 1, 2, 3, 4, 5] rfl) hP hS
  · have hf := ite_f kc12 hf
    refine lv_aload_n hx hb dX2_sailIn_78 rfl (lv_at hl 0 rfl) ?_
    refine lv_iload_n hx hb dX2_sailIn_79 rfl (lv_at hl 3 rfl) ?_
    refine lv_iload hx hb dX2_sailIn_80 (lv_at hl 5 rfl) ?_
    refine lv_iload_n hx hb dX2_sailIn_82 rfl (lv_at hl 2 rfl) ?_
    obtain ⟨v14, hc13, hf⟩ := ob hf
    refine m_calli E hK hP hS (As := [.int x3, .int st, .int x2]) (tm_canSail l D dT h x3 st x2 μ _ hc13) (lw_V q2015 q2017 qs149 q166 q2018) dm_canSail rfl (by decide) (by decide) hl rfl (Nat.le_of_ble_eq_true rfl) dX2_sailIn_83 (fun H locs hP hS => ?_)
    refine lv_if_ne (tgt := 98) hx hb dX2_sailIn_86 (by decide) (fun kc15 => ?_) (fun kc15 => ?_)
    · have hf := ite_f kc15 hf
      cases hf
      exact hk _ _ _ (lv_sub hl [0, 1, 2, 3, 4, 5] rfl) hP hS
    · have hf := ite_t kc15 hf
      refine lv_iload hx hb dX2_sailIn_89 (lv_at hl 5 rfl) ?_
      refine lv_iconst (v := nI 1) hx hb dX2_sailIn_91 rfl ?_
      refine lv_iadd hx hb dX2_sailIn_92 ?_
      refine lv_istore (lv' := [(5, .int (st + (nI 1))), (0, .ref h), (1, .int x1), (2, .int x2), (3, .int x3), (4, .int x4)]) hx hb dX2_sailIn_93 hl (by decide) rfl (fun ls hl => ?_)
      refine lv_goto (tgt := 71) hx hb dX2_sailIn_95 (by decide) ?_
      cases hf
      exact hk _ _ _ (lv_sub hl [1, 2, 3, 4, 5, 0] rfl) hP hS
set_option maxHeartbeats 4000000 in
theorem fm_sailIn_L23_w {p : Program} {l : Launch} {e : Env} {s : State} {m : MethodId} {args : Array Value} {below : List Frame} {meth : Method} {c : Code} {Q : State → Prop} {D : va_G} {dT : Nat → ClassId} {h : Nat} (E : CallFix p m c cX2_sailIn 6 s args lw_all RX2) (hK : va_K D nwCl (nwT dT) s) (x1 : Int32) (x2 : Int32) {st : Int32 × nwM} {x : Int32 × nwM} (hw : wh_ (fm_sailIn_L23 x1 x2) st = some x) (hk : (fun x : Int32 × nwM => ∀ (ls : Array Slot) (H : Heap) (locs : List Loc), lv_has ls 6 [(3, .int x.1)] → PM D dT h x.2 H → va_S (mA h) s.heap H locs → W p l e (rmd 2) s m args below meth c H locs 0 0 Q (F0 m 150 ls [])) x) : (fun st : Int32 × nwM => ∀ (ls : Array Slot) (H : Heap) (locs : List Loc), lv_has ls 6 [(0, .ref h), (1, .int x1), (2, .int x2), (3, .int st.1)] → PM D dT h st.2 H → va_S (mA h) s.heap H locs → W p l e (rmd 2) s m args below meth c H locs 0 0 Q (F0 m 23 ls [])) st := by
  obtain ⟨hx, hb, -, hown, hts⟩ := id E
  refine wh_run (P := (fun st : Int32 × nwM => ∀ (ls : Array Slot) (H : Heap) (locs : List Loc), lv_has ls 6 [(0, .ref h), (1, .int x1), (2, .int x2), (3, .int st.1)] → PM D dT h st.2 H → va_S (mA h) s.heap H locs → W p l e (rmd 2) s m args below meth c H locs 0 0 Q (F0 m 23 ls []))) (PE := (fun x : Int32 × nwM => ∀ (ls : Array Slot) (H : Heap) (locs : List Loc), lv_has ls 6 [(3, .int x.1)] → PM D dT h x.2 H → va_S (mA h) s.heap H locs → W p l e (rmd 2) s m args below meth c H locs 0 0 Q (F0 m 150 ls []))) ?_ hw hk
  clear hw hk
  intro st x hf hk ls H locs hl hP hS
  refine lv_iload_n hx hb dX2_sailIn_23 rfl (lv_at hl 3 rfl) ?_
  refine lv_if_lt (tgt := 150) hx hb dX2_sailIn_24 (by decide) (fun kc5 => ?_) (fun kc5 => ?_)
  · have hf := ite_t kc5 hf
    cases hf
    exact hk _ _ _ (lv_sub hl [3] rfl) hP hS
  · have hf := ite_f kc5 hf
    refine lv_iload_n hx hb dX2_sailIn_27 rfl (lv_at hl 3 rfl) ?_
    refine lv_aload_n hx hb dX2_sailIn_28 rfl (lv_at hl 0 rfl) ?_
    refine m_ga E hK hP 1 (by decide) rfl q1414 rfl dX2_sailIn_29 ?_
    refine lv_iconst (v := nI 4) hx hb dX2_sailIn_32 rfl ?_
    obtain ⟨v6, hv6, hf⟩ := ob hf
    refine m_ald E hK hP (by decide) rfl rfl hv6 dX2_sailIn_33 ?_
    refine lv_icmp_ge (tgt := 150) hx hb dX2_sailIn_34 (by decide) (fun kc7 => ?_) (fun kc7 => ?_)
    · have hf := ite_t kc7 hf
      cases hf
      exact hk _ _ _ (lv_sub hl [3] rfl) hP hS
    · have hf := ite_f kc7 hf
      refine lv_aload_n hx hb dX2_sailIn_37 rfl (lv_at hl 0 rfl) ?_
      refine lv_iload_n hx hb dX2_sailIn_38 rfl (lv_at hl 3 rfl) ?_
      obtain ⟨v9, hc8, hf⟩ := ob hf
      refine m_calli E hK hP hS (As := [.int st.1]) (tm_boatsAhead l D dT h st.1 st.2 _ hc8) (lw_V q2011 q2013 qs148 q166 q2014) dm_boatsAhead rfl (by decide) (by decide) hl rfl (Nat.le_of_ble_eq_true rfl) dX2_sailIn_39 (fun H locs hP hS => ?_)
      refine lv_iload_n hx hb dX2_sailIn_42 rfl (lv_at hl 1 rfl) ?_
      refine lv_iconst (v := nI 1) hx hb dX2_sailIn_43 rfl ?_
      refine lv_isub hx hb dX2_sailIn_44 ?_
      refine lv_icmp_ge (tgt := 56) hx hb dX2_sailIn_45 (by decide) (fun kc10 => ?_) (fun kc10 => ?_)
      · have hf := ite_t kc10 hf
        refine lv_iload_n hx hb dX2_sailIn_56 rfl (lv_at hl 1 rfl) ?_
        refine lv_iconst (v := nI 1) hx hb dX2_sailIn_57 rfl ?_
        refine lv_isub hx hb dX2_sailIn_58 ?_
        refine lv_istore (lv' := [(4, .int (x1 - (nI 1))), (0, .ref h), (1, .int x1), (2, .int x2), (3, .int st.1)]) hx hb dX2_sailIn_59 hl (by decide) rfl (fun ls hl => ?_)
        refine lv_aload_n hx hb dX2_sailIn_61 rfl (lv_at hl 1 rfl) ?_
        refine m_ga E hK hP 42 (by decide) rfl q1455 rfl dX2_sailIn_62 ?_
        refine lv_iload_n hx hb dX2_sailIn_65 rfl (lv_at hl 4 rfl) ?_
        obtain ⟨v11, hv11, hf⟩ := ob hf
        refine m_ald E hK hP (by decide) rfl rfl hv11 dX2_sailIn_66 ?_
        refine lv_iconst (v := nI 1) hx hb dX2_sailIn_67 rfl ?_
        refine lv_iadd hx hb dX2_sailIn_68 ?_
        refine lv_istore (lv' := [(5, .int (v11 + (nI 1))), (4, .int (x1 - (nI 1))), (0, .ref h), (1, .int x1), (2, .int x2), (3, .int st.1)]) hx hb dX2_sailIn_69 hl (by decide) rfl (fun ls hl => ?_)
        obtain ⟨x16, hx16, hf⟩ := ob hf
        refine fm_sailIn_L71_w E hK x1 x2 st.1 (x1 - (nI 1)) st.2 hx16 (fun ls H locs hl hP hS => ?_) _ _ _ (lv_sub hl [2, 3, 4, 5, 1, 0] rfl) hP hS
        refine lv_iload hx hb dX2_sailIn_98 (lv_at hl 5 rfl) ?_
        refine lv_iload hx hb dX2_sailIn_100 (lv_at hl 4 rfl) ?_
        refine lv_icmp_le (tgt := 114) hx hb dX2_sailIn_102 (by decide) (fun kc17 => ?_) (fun kc17 => ?_)
        · have hf := ite_t kc17 hf
          refine lv_aload_n hx hb dX2_sailIn_114 rfl (lv_at hl 0 rfl) ?_
          refine m_ga E hK hP 42 (by decide) rfl q1455 rfl dX2_sailIn_115 ?_
          refine lv_iload_n hx hb dX2_sailIn_118 rfl (lv_at hl 3 rfl) ?_
          refine lv_iload hx hb dX2_sailIn_119 (lv_at hl 5 rfl) ?_
          obtain ⟨μ18, hμ18, hf⟩ := ob hf
          refine m_ast E hK hP hS (by decide) rfl rfl hμ18 dX2_sailIn_121 (fun H locs hP hS => ?_)
          refine lv_aload_n hx hb dX2_sailIn_122 rfl (lv_at hl 0 rfl) ?_
          refine lv_iload_n hx hb dX2_sailIn_123 rfl (lv_at hl 3 rfl) ?_
          refine lv_iconst (v := nI 1) hx hb dX2_sailIn_124 rfl ?_
          refine lv_iadd hx hb dX2_sailIn_125 ?_
          obtain ⟨v20, hc19, hf⟩ := ob hf
          refine m_calli E hK hP hS (As := [.int (st.1 + (nI 1))]) (tm_livingFrom l D dT h (st.1 + (nI 1)) μ18 _ hc19) (lw_V q2007 q2009 qs147 q166 q2010) dm_livingFrom rfl (by decide) (by decide) hl rfl (Nat.le_of_ble_eq_true rfl) dX2_sailIn_126 (fun H locs hP hS => ?_)
          refine lv_istore_n (lv' := [(3, .int v20), (0, .ref h), (1, .int x1), (2, .int x2), (4, .int (x1 - (nI 1))), (5, .int x16)]) hx hb dX2_sailIn_129 rfl hl (by decide) rfl (fun ls hl => ?_)
          refine lv_iload_n hx hb dX2_sailIn_130 rfl (lv_at hl 0 rfl) ?_
          refine lv_aload_n hx hb dX2_sailIn_131 rfl (lv_at hl 1 rfl) ?_
          refine m_ga E hK hP 1 (by decide) rfl q1414 rfl dX2_sailIn_132 ?_
          refine lv_iconst (v := nI 4) hx hb dX2_sailIn_135 rfl ?_
          obtain ⟨v21, hv21, hf⟩ := ob hf
          refine m_ald E hK hP (by decide) rfl rfl hv21 dX2_sailIn_136 ?_
          refine lv_icmp_ge (tgt := 147) hx hb dX2_sailIn_137 (by decide) (fun kc22 => ?_) (fun kc22 => ?_)
          · have hf := ite_t kc22 hf
            refine lv_goto (tgt := 23) hx hb dX2_sailIn_147 (by decide) ?_
            cases hf
            exact hk _ _ _ (lv_sub hl [1, 2, 3, 0] rfl) hP hS
          · have hf := ite_f kc22 hf
            refine lv_aload_n hx hb dX2_sailIn_140 rfl (lv_at hl 1 rfl) ?_
            refine m_ga E hK hP 42 (by decide) rfl q1455 rfl dX2_sailIn_141 ?_
            refine lv_iload_n hx hb dX2_sailIn_144 rfl (lv_at hl 0 rfl) ?_
            refine lv_iconst (v := (-1)) hx hb dX2_sailIn_145 rfl ?_
            obtain ⟨μ23, hμ23, hf⟩ := ob hf
            refine m_ast E hK hP hS (by decide) rfl rfl hμ23 dX2_sailIn_146 (fun H locs hP hS => ?_)
            refine lv_goto (tgt := 23) hx hb dX2_sailIn_147 (by decide) ?_
            cases hf
            exact hk _ _ _ (lv_sub hl [1, 2, 3, 0] rfl) hP hS
        · have hf := ite_f kc17 hf
          refine lv_aload_n hx hb dX2_sailIn_105 rfl (lv_at hl 0 rfl) ?_
          refine lv_iload_n hx hb dX2_sailIn_106 rfl (lv_at hl 3 rfl) ?_
          obtain ⟨v25, hc24, hf⟩ := ob hf
          refine m_calli E hK hP hS (As := [.int st.1]) (tm_livingAhead l D dT h st.1 st.2 _ hc24) (lw_V q2019 q2021 qs150 q166 q2022) dm_livingAhead rfl (by decide) (by decide) hl rfl (Nat.le_of_ble_eq_true rfl) dX2_sailIn_107 (fun H locs hP hS => ?_)
          refine lv_istore_n (lv' := [(3, .int v25), (0, .ref h), (1, .int x1), (2, .int x2), (4, .int (x1 - (nI 1))), (5, .int x16)]) hx hb dX2_sailIn_110 rfl hl (by decide) rfl (fun ls hl => ?_)
          refine lv_goto (tgt := 147) hx hb dX2_sailIn_111 (by decide) ?_
          refine lv_goto (tgt := 23) hx hb dX2_sailIn_147 (by decide) ?_
          cases hf
          exact hk _ _ _ (lv_sub hl [1, 2, 3, 0] rfl) hP hS
      · have hf := ite_f kc10 hf
        refine lv_aload_n hx hb dX2_sailIn_48 rfl (lv_at hl 0 rfl) ?_
        refine lv_iload_n hx hb dX2_sailIn_49 rfl (lv_at hl 3 rfl) ?_
        obtain ⟨v27, hc26, hf⟩ := ob hf
        refine m_calli E hK hP hS (As := [.int st.1]) (tm_boatsAhead l D dT h st.1 st.2 _ hc26) (lw_V q2011 q2013 qs148 q166 q2014) dm_boatsAhead rfl (by decide) (by decide) hl rfl (Nat.le_of_ble_eq_true rfl) dX2_sailIn_50 (fun H locs hP hS => ?_)
        refine lv_goto (tgt := 59) hx hb dX2_sailIn_53 (by decide) ?_
        refine lv_istore (lv' := [(4, .int v27), (0, .ref h), (1, .int x1), (2, .int x2), (3, .int st.1)]) hx hb dX2_sailIn_59 hl (by decide) rfl (fun ls hl => ?_)
        refine lv_aload_n hx hb dX2_sailIn_61 rfl (lv_at hl 1 rfl) ?_
        refine m_ga E hK hP 42 (by decide) rfl q1455 rfl dX2_sailIn_62 ?_
        refine lv_iload_n hx hb dX2_sailIn_65 rfl (lv_at hl 4 rfl) ?_
        obtain ⟨v28, hv28, hf⟩ := ob hf
        refine m_ald E hK hP (by decide) rfl rfl hv28 dX2_sailIn_66 ?_
        refine lv_iconst (v := nI 1) hx hb dX2_sailIn_67 rfl ?_
        refine lv_iadd hx hb dX2_sailIn_68 ?_
        refine lv_istore (lv' := [(5, .int (v28 + (nI 1))), (4, .int v27), (0, .ref h), (1, .int x1), (2, .int x2), (3, .int st.1)]) hx hb dX2_sailIn_69 hl (by decide) rfl (fun ls hl => ?_)
        obtain ⟨x29, hx29, hf⟩ := ob hf
        refine fm_sailIn_L71_w E hK x1 x2 st.1 v27 st.2 hx29 (fun ls H locs hl hP hS => ?_) _ _ _ (lv_sub hl [2, 3, 4, 5, 1, 0] rfl) hP hS
        refine lv_iload hx hb dX2_sailIn_98 (lv_at hl 5 rfl) ?_
        refine lv_iload hx hb dX2_sailIn_100 (lv_at hl 4 rfl) ?_
        refine lv_icmp_le (tgt := 114) hx hb dX2_sailIn_102 (by decide) (fun kc30 => ?_) (fun kc30 => ?_)
        · have hf := ite_t kc30 hf
          refine lv_aload_n hx hb dX2_sailIn_114 rfl (lv_at hl 0 rfl) ?_
          refine m_ga E hK hP 42 (by decide) rfl q1455 rfl dX2_sailIn_115 ?_
          refine lv_iload_n hx hb dX2_sailIn_118 rfl (lv_at hl 3 rfl) ?_
          refine lv_iload hx hb dX2_sailIn_119 (lv_at hl 5 rfl) ?_
          obtain ⟨μ31, hμ31, hf⟩ := ob hf
          refine m_ast E hK hP hS (by decide) rfl rfl hμ31 dX2_sailIn_121 (fun H locs hP hS => ?_)
          refine lv_aload_n hx hb dX2_sailIn_122 rfl (lv_at hl 0 rfl) ?_
          refine lv_iload_n hx hb dX2_sailIn_123 rfl (lv_at hl 3 rfl) ?_
          refine lv_iconst (v := nI 1) hx hb dX2_sailIn_124 rfl ?_
          refine lv_iadd hx hb dX2_sailIn_125 ?_
          obtain ⟨v33, hc32, hf⟩ := ob hf
          refine m_calli E hK hP hS (As := [.int (st.1 + (nI 1))]) (tm_livingFrom l D dT h (st.1 + (nI 1)) μ31 _ hc32) (lw_V q2007 q2009 qs147 q166 q2010) dm_livingFrom rfl (by decide) (by decide) hl rfl (Nat.le_of_ble_eq_true rfl) dX2_sailIn_126 (fun H locs hP hS => ?_)
          refine lv_istore_n (lv' := [(3, .int v33), (0, .ref h), (1, .int x1), (2, .int x2), (4, .int v27), (5, .int x29)]) hx hb dX2_sailIn_129 rfl hl (by decide) rfl (fun ls hl => ?_)
          refine lv_iload_n hx hb dX2_sailIn_130 rfl (lv_at hl 0 rfl) ?_
          refine lv_aload_n hx hb dX2_sailIn_131 rfl (lv_at hl 1 rfl) ?_
          refine m_ga E hK hP 1 (by decide) rfl q1414 rfl dX2_sailIn_132 ?_
          refine lv_iconst (v := nI 4) hx hb dX2_sailIn_135 rfl ?_
          obtain ⟨v34, hv34, hf⟩ := ob hf
          refine m_ald E hK hP (by decide) rfl rfl hv34 dX2_sailIn_136 ?_
          refine lv_icmp_ge (tgt := 147) hx hb dX2_sailIn_137 (by decide) (fun kc35 => ?_) (fun kc35 => ?_)
          · have hf := ite_t kc35 hf
            refine lv_goto (tgt := 23) hx hb dX2_sailIn_147 (by decide) ?_
            cases hf
            exact hk _ _ _ (lv_sub hl [1, 2, 3, 0] rfl) hP hS
          · have hf := ite_f kc35 hf
            refine lv_aload_n hx hb dX2_sailIn_140 rfl (lv_at hl 1 rfl) ?_
            refine m_ga E hK hP 42 (by decide) rfl q1455 rfl dX2_sailIn_141 ?_
            refine lv_iload_n hx hb dX2_sailIn_144 rfl (lv_at hl 0 rfl) ?_
            refine lv_iconst (v := (-1)) hx hb dX2_sailIn_145 rfl ?_
            obtain ⟨μ36, hμ36, hf⟩ := ob hf
            refine m_ast E hK hP hS (by decide) rfl rfl hμ36 dX2_sailIn_146 (fun H locs hP hS => ?_)
            refine lv_goto (tgt := 23) hx hb dX2_sailIn_147 (by decide) ?_
            cases hf
            exact hk _ _ _ (lv_sub hl [1, 2, 3, 0] rfl) hP hS
        · have hf := ite_f kc30 hf
          refine lv_aload_n hx hb dX2_sailIn_105 rfl (lv_at hl 0 rfl) ?_
          refine lv_iload_n hx hb dX2_sailIn_106 rfl (lv_at hl 3 rfl) ?_
          obtain ⟨v38, hc37, hf⟩ := ob hf
          refine m_calli E hK hP hS (As := [.int st.1]) (tm_livingAhead l D dT h st.1 st.2 _ hc37) (lw_V q2019 q2021 qs150 q166 q2022) dm_livingAhead rfl (by decide) (by decide) hl rfl (Nat.le_of_ble_eq_true rfl) dX2_sailIn_107 (fun H locs hP hS => ?_)
          refine lv_istore_n (lv' := [(3, .int v38), (0, .ref h), (1, .int x1), (2, .int x2), (4, .int v27), (5, .int x29)]) hx hb dX2_sailIn_110 rfl hl (by decide) rfl (fun ls hl => ?_)
          refine lv_goto (tgt := 147) hx hb dX2_sailIn_111 (by decide) ?_
          refine lv_goto (tgt := 23) hx hb dX2_sailIn_147 (by decide) ?_
          cases hf
          exact hk _ _ _ (lv_sub hl [1, 2, 3, 0] rfl) hP hS
set_option maxHeartbeats 4000000 in
theorem dm_sailIn : yX2_sailIn.cls = RX2 ∧ yX2_sailIn.cls ≠ "java/lang/invoke/MethodHandle" ∧ yX2_sailIn.cls ≠ "java/lang/invoke/VarHandle" ∧ (parseMethodDescriptor yX2_sailIn.desc).map (fun d => d.parameters.length) = some 2 := ⟨rfl, by decide +kernel, by decide +kernel, by decide +kernel⟩
set_option maxHeartbeats 4000000 in
theorem tm_sailIn (l : Launch) (D : va_G) (dT : Nat → ClassId) (h : Nat) (x1 : Int32) (x2 : Int32) (μ : nwM) (res : Int32 × nwM) (hf : fm_sailIn x1 x2 μ = some res) : Met l yX2_sailIn (ws_ yX2_sailIn cX2_sailIn 6 (some .boolean)) (rmd 2) (mPc D dT h μ [.int x1, .int x2]) (mQi D dT h res.2 res.1) 0 0 (mA h) := by
  refine m_met (by decide) rfl (Nat.le_of_ble_eq_true rfl) ?_
  intro p e s m below meth c ls E hK hr hlk hl hP
  have hS : va_S (mA h) s.heap s.heap [] := va_S.rf
  obtain ⟨hx, hb, -, hown, hts⟩ := id E
  have hl : lv_has ls 6 [(0, .ref h), (1, .int x1), (2, .int x2)] := hl
  unfold fm_sailIn at hf
  refine lv_aload_n hx hb dX2_sailIn_0 rfl (lv_at hl 0 rfl) ?_
  refine lv_iconst (v := nI 0) hx hb dX2_sailIn_1 rfl ?_
  obtain ⟨v2, hc1, hf⟩ := ob hf
  refine m_calli E hK hP hS (As := [.int (nI 0)]) (tm_livingFrom l D dT h (nI 0) μ _ hc1) (lw_V q2007 q2009 qs147 q166 q2010) dm_livingFrom rfl (by decide) (by decide) hl rfl (Nat.le_of_ble_eq_true rfl) dX2_sailIn_2 (fun H locs hP hS => ?_)
  refine lv_istore_n (lv' := [(3, .int v2), (0, .ref h), (1, .int x1), (2, .int x2)]) hx hb dX2_sailIn_5 rfl hl (by decide) rfl (fun ls hl => ?_)
  refine lv_iload_n hx hb dX2_sailIn_6 rfl (lv_at hl 0 rfl) ?_
  refine lv_aload_n hx hb dX2_sailIn_7 rfl (lv_at hl 1 rfl) ?_
  refine m_ga E hK hP 1 (by decide) rfl q1414 rfl dX2_sailIn_8 ?_
  refine lv_iconst (v := nI 4) hx hb dX2_sailIn_11 rfl ?_
  obtain ⟨v3, hv3, hf⟩ := ob hf
  refine m_ald E hK hP (by decide) rfl rfl hv3 dX2_sailIn_12 ?_
  refine lv_icmp_ge (tgt := 23) hx hb dX2_sailIn_13 (by decide) (fun kc4 => ?_) (fun kc4 => ?_)
  · have hf := ite_t kc4 hf
    obtain ⟨x39, hx39, hf⟩ := ob hf
    refine fm_sailIn_L23_w E hK x1 x2 hx39 (fun ls H locs hl hP hS => ?_) _ _ _ (lv_sub hl [1, 2, 3, 0] rfl) hP hS
    refine lv_iload_n hx hb dX2_sailIn_150 rfl (lv_at hl 0 rfl) ?_
    refine lv_if_lt (tgt := 158) hx hb dX2_sailIn_151 (by decide) (fun kc40 => ?_) (fun kc40 => ?_)
    · have hf := ite_t kc40 hf
      refine lv_iconst (v := nI 0) hx hb dX2_sailIn_158 rfl ?_
      cases hf
      exact m_zret E hr hlk hP hS rfl dX2_sailIn_159
    · have hf := ite_f kc40 hf
      refine lv_iconst (v := nI 1) hx hb dX2_sailIn_154 rfl ?_
      refine lv_goto (tgt := 159) hx hb dX2_sailIn_155 (by decide) ?_
      cases hf
      exact m_zret E hr hlk hP hS rfl dX2_sailIn_159
  · have hf := ite_f kc4 hf
    refine lv_aload_n hx hb dX2_sailIn_16 rfl (lv_at hl 1 rfl) ?_
    refine m_ga E hK hP 42 (by decide) rfl q1455 rfl dX2_sailIn_17 ?_
    refine lv_iload_n hx hb dX2_sailIn_20 rfl (lv_at hl 0 rfl) ?_
    refine lv_iconst (v := (-1)) hx hb dX2_sailIn_21 rfl ?_
    obtain ⟨μ41, hμ41, hf⟩ := ob hf
    refine m_ast E hK hP hS (by decide) rfl rfl hμ41 dX2_sailIn_22 (fun H locs hP hS => ?_)
    obtain ⟨x42, hx42, hf⟩ := ob hf
    refine fm_sailIn_L23_w E hK x1 x2 hx42 (fun ls H locs hl hP hS => ?_) _ _ _ (lv_sub hl [1, 2, 3, 0] rfl) hP hS
    refine lv_iload_n hx hb dX2_sailIn_150 rfl (lv_at hl 0 rfl) ?_
    refine lv_if_lt (tgt := 158) hx hb dX2_sailIn_151 (by decide) (fun kc43 => ?_) (fun kc43 => ?_)
    · have hf := ite_t kc43 hf
      refine lv_iconst (v := nI 0) hx hb dX2_sailIn_158 rfl ?_
      cases hf
      exact m_zret E hr hlk hP hS rfl dX2_sailIn_159
    · have hf := ite_f kc43 hf
      refine lv_iconst (v := nI 1) hx hb dX2_sailIn_154 rfl ?_
      refine lv_goto (tgt := 159) hx hb dX2_sailIn_155 (by decide) ?_
      cases hf
      exact m_zret E hr hlk hP hS rfl dX2_sailIn_159
set_option maxHeartbeats 4000000 in
noncomputable def fm_boats_L56 (x1 : Int32) (x2 : Int32) : (Int32 × nwM) → Option ((Int32 × nwM) ⊕ (Int32 × nwM)) := fun st => bd2 (fm_sailIn st.1 x1 st.2) fun v12 μ13 => (if v12 = 0 then some (.inl (st.1 + (nI 1), μ13)) else some (.inr (st.1, μ13)))
set_option maxHeartbeats 4000000 in
noncomputable def fm_boats (x1 : Int32) (x2 : Int32) (μ : nwM) : Option (Int32 × nwM) := (wf_ μ 0 (nI 0)).bind fun μ1 => (fm_isIn x1 (nI 1) (nI 6) μ1).bind fun v3 => (if v3 = 0 then some ((-1), μ1) else (if x2 = 0 then (fm_living μ1).bind fun v7 => (fm_onesOf v7 μ1).bind fun v9 => (dv_ ((v9 + x1) - (nI 1)) x1).bind fun v10 => (wh_ (fm_boats_L56 x1 x2) (v10, μ1)).bind fun x15 => (if x2 = 0 then some (x15.1, x15.2) else (fm_isDead (x2 - (nI 10)) x15.2).bind fun v18 => (if v18 = 0 then (rd_ x15.2 42 12 (x2 - (nI 10))).bind fun v20 => some (v20, x15.2) else some ((-1), x15.2))) else (rd_ μ1 1 105 (nI 4)).bind fun v21 => (fm_isIn x2 (nI 10) ((nI 9) + v21) μ1).bind fun v23 => (if v23 = 0 then some ((-1), μ1) else (fm_living μ1).bind fun v26 => (fm_onesOf v26 μ1).bind fun v28 => (dv_ ((v28 + x1) - (nI 1)) x1).bind fun v29 => (wh_ (fm_boats_L56 x1 x2) (v29, μ1)).bind fun x30 => (if x2 = 0 then some (x30.1, x30.2) else (fm_isDead (x2 - (nI 10)) x30.2).bind fun v33 => (if v33 = 0 then (rd_ x30.2 42 12 (x2 - (nI 10))).bind fun v35 => some (v35, x30.2) else some ((-1), x30.2))))))
set_option maxHeartbeats 4000000 in
theorem fm_boats_L56_w {p : Program} {l : Launch} {e : Env} {s : State} {m : MethodId} {args : Array Value} {below : List Frame} {meth : Method} {c : Code} {Q : State → Prop} {D : va_G} {dT : Nat → ClassId} {h : Nat} (E : CallFix p m c cX2_boats 4 s args lw_all RX2) (hK : va_K D nwCl (nwT dT) s) (x1 : Int32) (x2 : Int32) {st : Int32 × nwM} {x : Int32 × nwM} (hw : wh_ (fm_boats_L56 x1 x2) st = some x) (hk : (fun x : Int32 × nwM => ∀ (ls : Array Slot) (H : Heap) (locs : List Loc), lv_has ls 4 [(0, .ref h), (2, .int x2), (3, .int x.1)] → PM D dT h x.2 H → va_S (mA h) s.heap H locs → W p l e (rmd 3) s m args below meth c H locs 0 0 Q (F0 m 72 ls [])) x) : (fun st : Int32 × nwM => ∀ (ls : Array Slot) (H : Heap) (locs : List Loc), lv_has ls 4 [(0, .ref h), (1, .int x1), (2, .int x2), (3, .int st.1)] → PM D dT h st.2 H → va_S (mA h) s.heap H locs → W p l e (rmd 3) s m args below meth c H locs 0 0 Q (F0 m 56 ls [])) st := by
  obtain ⟨hx, hb, -, hown, hts⟩ := id E
  refine wh_run (P := (fun st : Int32 × nwM => ∀ (ls : Array Slot) (H : Heap) (locs : List Loc), lv_has ls 4 [(0, .ref h), (1, .int x1), (2, .int x2), (3, .int st.1)] → PM D dT h st.2 H → va_S (mA h) s.heap H locs → W p l e (rmd 3) s m args below meth c H locs 0 0 Q (F0 m 56 ls []))) (PE := (fun x : Int32 × nwM => ∀ (ls : Array Slot) (H : Heap) (locs : List Loc), lv_has ls 4 [(0, .ref h), (2, .int x2), (3, .int x.1)] → PM D dT h x.2 H → va_S (mA h) s.heap H locs → W p l e (rmd 3) s m args below meth c H locs 0 0 Q (F0 m 72 ls []))) ?_ hw hk
  clear hw hk
  intro st x hf hk ls H locs hl hP hS
  refine lv_aload_n hx hb dX2_boats_56 rfl (lv_at hl 0 rfl) ?_
  refine lv_iload_n hx hb dX2_boats_57 rfl (lv_at hl 3 rfl) ?_
  refine lv_iload_n hx hb dX2_boats_58 rfl (lv_at hl 1 rfl) ?_
  obtain ⟨v12, μ13, hc11, hf⟩ := ob2 hf
  refine m_calli E hK hP hS (As := [.int st.1, .int x1]) (tm_sailIn l D dT h st.1 x1 st.2 _ hc11) (lw_V q2003 q2005 qs146 q166 q2006) dm_sailIn rfl (by decide) (by decide) hl rfl (Nat.le_of_ble_eq_true rfl) dX2_boats_59 (fun H locs hP hS => ?_)
  refine lv_if_ne (tgt := 72) hx hb dX2_boats_62 (by decide) (fun kc14 => ?_) (fun kc14 => ?_)
  · have hf := ite_f kc14 hf
    cases hf
    exact hk _ _ _ (lv_sub hl [0, 2, 3] rfl) hP hS
  · have hf := ite_t kc14 hf
    refine lv_iload_n hx hb dX2_boats_65 rfl (lv_at hl 3 rfl) ?_
    refine lv_iconst (v := nI 1) hx hb dX2_boats_66 rfl ?_
    refine lv_iadd hx hb dX2_boats_67 ?_
    refine lv_istore_n (lv' := [(3, .int (st.1 + (nI 1))), (0, .ref h), (1, .int x1), (2, .int x2)]) hx hb dX2_boats_68 rfl hl (by decide) rfl (fun ls hl => ?_)
    refine lv_goto (tgt := 56) hx hb dX2_boats_69 (by decide) ?_
    cases hf
    exact hk _ _ _ (lv_sub hl [1, 2, 3, 0] rfl) hP hS
set_option maxHeartbeats 4000000 in
theorem dm_boats : yX2_boats.cls = RX2 ∧ yX2_boats.cls ≠ "java/lang/invoke/MethodHandle" ∧ yX2_boats.cls ≠ "java/lang/invoke/VarHandle" ∧ (parseMethodDescriptor yX2_boats.desc).map (fun d => d.parameters.length) = some 2 := ⟨rfl, by decide +kernel, by decide +kernel, by decide +kernel⟩
set_option maxHeartbeats 4000000 in
theorem tm_boats (l : Launch) (D : va_G) (dT : Nat → ClassId) (h : Nat) (x1 : Int32) (x2 : Int32) (μ : nwM) (res : Int32 × nwM) (hf : fm_boats x1 x2 μ = some res) : Met l yX2_boats (ws_ yX2_boats cX2_boats 4 (some .int)) (rmd 3) (mPc D dT h μ [.int x1, .int x2]) (mQi D dT h res.2 res.1) 0 0 (mA h) := by
  refine m_met (by decide) rfl (Nat.le_of_ble_eq_true rfl) ?_
  intro p e s m below meth c ls E hK hr hlk hl hP
  have hS : va_S (mA h) s.heap s.heap [] := va_S.rf
  obtain ⟨hx, hb, -, hown, hts⟩ := id E
  have hl : lv_has ls 4 [(0, .ref h), (1, .int x1), (2, .int x2)] := hl
  unfold fm_boats at hf
  refine lv_aload_n hx hb dX2_boats_0 rfl (lv_at hl 0 rfl) ?_
  refine lv_iconst (v := nI 0) hx hb dX2_boats_1 rfl ?_
  obtain ⟨μ1, hμ1, hf⟩ := ob hf
  refine m_put E hK hP hS 0 (by decide) rfl q1413 rfl rfl rfl hμ1 dX2_boats_2 (fun H locs hP hS => ?_)
  refine lv_aload_n hx hb dX2_boats_5 rfl (lv_at hl 0 rfl) ?_
  refine lv_iload_n hx hb dX2_boats_6 rfl (lv_at hl 1 rfl) ?_
  refine lv_iconst (v := nI 1) hx hb dX2_boats_7 rfl ?_
  refine lv_bipush (v := nI 6) hx hb dX2_boats_8 rfl ?_
  obtain ⟨v3, hc2, hf⟩ := ob hf
  refine m_calli E hK hP hS (As := [.int x1, .int (nI 1), .int (nI 6)]) (tm_isIn l D dT h x1 (nI 1) (nI 6) μ1 _ hc2) (lw_V q1573 q1575 qs59 q166 q1576) dm_isIn rfl (by decide) (by decide) hl rfl (Nat.le_of_ble_eq_true rfl) dX2_boats_10 (fun H locs hP hS => ?_)
  refine lv_if_eq (tgt := 39) hx hb dX2_boats_13 (by decide) (fun kc4 => ?_) (fun kc4 => ?_)
  · have hf := ite_t kc4 hf
    refine lv_iconst (v := (-1)) hx hb dX2_boats_39 rfl ?_
    cases hf
    exact m_iret E hr hlk hP hS rfl dX2_boats_40
  · have hf := ite_f kc4 hf
    refine lv_iload_n hx hb dX2_boats_16 rfl (lv_at hl 2 rfl) ?_
    refine lv_if_eq (tgt := 41) hx hb dX2_boats_17 (by decide) (fun kc5 => ?_) (fun kc5 => ?_)
    · have hf := ite_t kc5 hf
      refine lv_aload_n hx hb dX2_boats_41 rfl (lv_at hl 0 rfl) ?_
      refine lv_aload_n hx hb dX2_boats_42 rfl (lv_at hl 0 rfl) ?_
      obtain ⟨v7, hc6, hf⟩ := ob hf
      refine m_calli E hK hP hS (As := []) (tm_living l D dT h μ1 _ hc6) (lw_V q1999 q2001 qs145 q166 q2002) dm_living rfl (by decide) (by decide) hl rfl (Nat.le_of_ble_eq_true rfl) dX2_boats_43 (fun H locs hP hS => ?_)
      obtain ⟨v9, hc8, hf⟩ := ob hf
      refine m_calli E hK hP hS (As := [.int v7]) (tm_onesOf l D dT h v7 μ1 _ hc8) (lw_V q1817 q1819 qs112 q166 q1820) dm_onesOf rfl (by decide) (by decide) hl rfl (Nat.le_of_ble_eq_true rfl) dX2_boats_46 (fun H locs hP hS => ?_)
      refine lv_iload_n hx hb dX2_boats_49 rfl (lv_at hl 1 rfl) ?_
      refine lv_iadd hx hb dX2_boats_50 ?_
      refine lv_iconst (v := nI 1) hx hb dX2_boats_51 rfl ?_
      refine lv_isub hx hb dX2_boats_52 ?_
      refine lv_iload_n hx hb dX2_boats_53 rfl (lv_at hl 1 rfl) ?_
      obtain ⟨v10, hv10, hf⟩ := ob hf
      refine lv_idiv hx hb dX2_boats_54 (dv_in hv10).1 ?_
      refine lv_nm (dv_in hv10).2 ?_
      refine lv_istore_n (lv' := [(3, .int v10), (0, .ref h), (1, .int x1), (2, .int x2)]) hx hb dX2_boats_55 rfl hl (by decide) rfl (fun ls hl => ?_)
      obtain ⟨x15, hx15, hf⟩ := ob hf
      refine fm_boats_L56_w E hK x1 x2 hx15 (fun ls H locs hl hP hS => ?_) _ _ _ (lv_sub hl [1, 2, 3, 0] rfl) hP hS
      refine lv_iload_n hx hb dX2_boats_72 rfl (lv_at hl 1 rfl) ?_
      refine lv_if_ne (tgt := 78) hx hb dX2_boats_73 (by decide) (fun kc16 => ?_) (fun kc16 => ?_)
      · have hf := ite_f kc16 hf
        refine lv_aload_n hx hb dX2_boats_78 rfl (lv_at hl 0 rfl) ?_
        refine lv_iload_n hx hb dX2_boats_79 rfl (lv_at hl 1 rfl) ?_
        refine lv_bipush (v := nI 10) hx hb dX2_boats_80 rfl ?_
        refine lv_isub hx hb dX2_boats_82 ?_
        obtain ⟨v18, hc17, hf⟩ := ob hf
        refine m_calli E hK hP hS (As := [.int (x2 - (nI 10))]) (tm_isDead l D dT h (x2 - (nI 10)) x15.2 _ hc17) (lw_V q1781 q1783 qs103 q166 q1784) dm_isDead rfl (by decide) (by decide) hl rfl (Nat.le_of_ble_eq_true rfl) dX2_boats_83 (fun H locs hP hS => ?_)
        refine lv_if_eq (tgt := 93) hx hb dX2_boats_86 (by decide) (fun kc19 => ?_) (fun kc19 => ?_)
        · have hf := ite_t kc19 hf
          refine lv_aload_n hx hb dX2_boats_93 rfl (lv_at hl 0 rfl) ?_
          refine m_ga E hK hP 42 (by decide) rfl q1455 rfl dX2_boats_94 ?_
          refine lv_iload_n hx hb dX2_boats_97 rfl (lv_at hl 1 rfl) ?_
          refine lv_bipush (v := nI 10) hx hb dX2_boats_98 rfl ?_
          refine lv_isub hx hb dX2_boats_100 ?_
          obtain ⟨v20, hv20, hf⟩ := ob hf
          refine m_ald E hK hP (by decide) rfl rfl hv20 dX2_boats_101 ?_
          cases hf
          exact m_iret E hr hlk hP hS rfl dX2_boats_102
        · have hf := ite_f kc19 hf
          refine lv_iconst (v := (-1)) hx hb dX2_boats_89 rfl ?_
          refine lv_goto (tgt := 102) hx hb dX2_boats_90 (by decide) ?_
          cases hf
          exact m_iret E hr hlk hP hS rfl dX2_boats_102
      · have hf := ite_t kc16 hf
        refine lv_iload_n hx hb dX2_boats_76 rfl (lv_at hl 2 rfl) ?_
        cases hf
        exact m_iret E hr hlk hP hS rfl dX2_boats_77
    · have hf := ite_f kc5 hf
      refine lv_aload_n hx hb dX2_boats_20 rfl (lv_at hl 0 rfl) ?_
      refine lv_iload_n hx hb dX2_boats_21 rfl (lv_at hl 2 rfl) ?_
      refine lv_bipush (v := nI 10) hx hb dX2_boats_22 rfl ?_
      refine lv_bipush (v := nI 9) hx hb dX2_boats_24 rfl ?_
      refine lv_aload_n hx hb dX2_boats_26 rfl (lv_at hl 0 rfl) ?_
      refine m_ga E hK hP 1 (by decide) rfl q1414 rfl dX2_boats_27 ?_
      refine lv_iconst (v := nI 4) hx hb dX2_boats_30 rfl ?_
      obtain ⟨v21, hv21, hf⟩ := ob hf
      refine m_ald E hK hP (by decide) rfl rfl hv21 dX2_boats_31 ?_
      refine lv_iadd hx hb dX2_boats_32 ?_
      obtain ⟨v23, hc22, hf⟩ := ob hf
      refine m_calli E hK hP hS (As := [.int x2, .int (nI 10), .int ((nI 9) + v21)]) (tm_isIn l D dT h x2 (nI 10) ((nI 9) + v21) μ1 _ hc22) (lw_V q1573 q1575 qs59 q166 q1576) dm_isIn rfl (by decide) (by decide) hl rfl (Nat.le_of_ble_eq_true rfl) dX2_boats_33 (fun H locs hP hS => ?_)
      refine lv_if_ne (tgt := 41) hx hb dX2_boats_36 (by decide) (fun kc24 => ?_) (fun kc24 => ?_)
      · have hf := ite_f kc24 hf
        refine lv_aload_n hx hb dX2_boats_41 rfl (lv_at hl 0 rfl) ?_
        refine lv_aload_n hx hb dX2_boats_42 rfl (lv_at hl 0 rfl) ?_
        obtain ⟨v26, hc25, hf⟩ := ob hf
        refine m_calli E hK hP hS (As := []) (tm_living l D dT h μ1 _ hc25) (lw_V q1999 q2001 qs145 q166 q2002) dm_living rfl (by decide) (by decide) hl rfl (Nat.le_of_ble_eq_true rfl) dX2_boats_43 (fun H locs hP hS => ?_)
        obtain ⟨v28, hc27, hf⟩ := ob hf
        refine m_calli E hK hP hS (As := [.int v26]) (tm_onesOf l D dT h v26 μ1 _ hc27) (lw_V q1817 q1819 qs112 q166 q1820) dm_onesOf rfl (by decide) (by decide) hl rfl (Nat.le_of_ble_eq_true rfl) dX2_boats_46 (fun H locs hP hS => ?_)
        refine lv_iload_n hx hb dX2_boats_49 rfl (lv_at hl 1 rfl) ?_
        refine lv_iadd hx hb dX2_boats_50 ?_
        refine lv_iconst (v := nI 1) hx hb dX2_boats_51 rfl ?_
        refine lv_isub hx hb dX2_boats_52 ?_
        refine lv_iload_n hx hb dX2_boats_53 rfl (lv_at hl 1 rfl) ?_
        obtain ⟨v29, hv29, hf⟩ := ob hf
        refine lv_idiv hx hb dX2_boats_54 (dv_in hv29).1 ?_
        refine lv_nm (dv_in hv29).2 ?_
        refine lv_istore_n (lv' := [(3, .int v29), (0, .ref h), (1, .int x1), (2, .int x2)]) hx hb dX2_boats_55 rfl hl (by decide) rfl (fun ls hl => ?_)
        obtain ⟨x30, hx30, hf⟩ := ob hf
        refine fm_boats_L56_w E hK x1 x2 hx30 (fun ls H locs hl hP hS => ?_) _ _ _ (lv_sub hl [1, 2, 3, 0] rfl) hP hS
        refine lv_iload_n hx hb dX2_boats_72 rfl (lv_at hl 1 rfl) ?_
        refine lv_if_ne (tgt := 78) hx hb dX2_boats_73 (by decide) (fun kc31 => ?_) (fun kc31 => ?_)
        · have hf := ite_f kc31 hf
          refine lv_aload_n hx hb dX2_boats_78 rfl (lv_at hl 0 rfl) ?_
          refine lv_iload_n hx hb dX2_boats_79 rfl (lv_at hl 1 rfl) ?_
          refine lv_bipush (v := nI 10) hx hb dX2_boats_80 rfl ?_
          refine lv_isub hx hb dX2_boats_82 ?_
          obtain ⟨v33, hc32, hf⟩ := ob hf
          refine m_calli E hK hP hS (As := [.int (x2 - (nI 10))]) (tm_isDead l D dT h (x2 - (nI 10)) x30.2 _ hc32) (lw_V q1781 q1783 qs103 q166 q1784) dm_isDead rfl (by decide) (by decide) hl rfl (Nat.le_of_ble_eq_true rfl) dX2_boats_83 (fun H locs hP hS => ?_)
          refine lv_if_eq (tgt := 93) hx hb dX2_boats_86 (by decide) (fun kc34 => ?_) (fun kc34 => ?_)
          · have hf := ite_t kc34 hf
            refine lv_aload_n hx hb dX2_boats_93 rfl (lv_at hl 0 rfl) ?_
            refine m_ga E hK hP 42 (by decide) rfl q1455 rfl dX2_boats_94 ?_
            refine lv_iload_n hx hb dX2_boats_97 rfl (lv_at hl 1 rfl) ?_
            refine lv_bipush (v := nI 10) hx hb dX2_boats_98 rfl ?_
            refine lv_isub hx hb dX2_boats_100 ?_
            obtain ⟨v35, hv35, hf⟩ := ob hf
            refine m_ald E hK hP (by decide) rfl rfl hv35 dX2_boats_101 ?_
            cases hf
            exact m_iret E hr hlk hP hS rfl dX2_boats_102
          · have hf := ite_f kc34 hf
            refine lv_iconst (v := (-1)) hx hb dX2_boats_89 rfl ?_
            refine lv_goto (tgt := 102) hx hb dX2_boats_90 (by decide) ?_
            cases hf
            exact m_iret E hr hlk hP hS rfl dX2_boats_102
        · have hf := ite_t kc31 hf
          refine lv_iload_n hx hb dX2_boats_76 rfl (lv_at hl 2 rfl) ?_
          cases hf
          exact m_iret E hr hlk hP hS rfl dX2_boats_77
      · have hf := ite_t kc24 hf
        refine lv_iconst (v := (-1)) hx hb dX2_boats_39 rfl ?_
        cases hf
        exact m_iret E hr hlk hP hS rfl dX2_boats_40
set_option maxHeartbeats 4000000 in
noncomputable def fm_findsSets_L13 (x1 : Int32) (x2 : Int32) (x3 : Int32) : (Int32 × nwM) → Option ((Int32 × nwM) ⊕ (nwM)) := fun st => (rd_ st.2 1 105 (nI 4)).bind fun v3 => (if ((nI 1) <<< (v3 &&& 31)) ≤ st.1 then some (.inr st.2) else (if (st.1 &&& (x1 ^^^ (-1))) = 0 then (if (st.1 &&& x3) = x3 then (fm_sumOf st.1 st.2).bind fun v8 => (if v8 = x2 then (if (st.2 43 0) = 0 then (wf_ st.2 44 st.1).bind fun μ12 => (wf_ μ12 43 ((μ12 43 0) + (nI 1))).bind fun μ13 => some (.inl (st.1 + nI 1, μ13)) else (wf_ st.2 43 ((st.2 43 0) + (nI 1))).bind fun μ11 => some (.inl (st.1 + nI 1, μ11))) else some (.inl (st.1 + nI 1, st.2))) else some (.inl (st.1 + nI 1, st.2))) else some (.inl (st.1 + nI 1, st.2))))
set_option maxHeartbeats 4000000 in
noncomputable def fm_findsSets (x1 : Int32) (x2 : Int32) (x3 : Int32) (μ : nwM) : Option (nwM) := (wf_ μ 43 (nI 0)).bind fun μ1 => (wf_ μ1 44 (-1)).bind fun μ2 => (wh_ (fm_findsSets_L13 x1 x2 x3) (nI 0, μ2)).bind fun x14 => some x14
set_option maxHeartbeats 4000000 in
theorem fm_findsSets_L13_w {p : Program} {l : Launch} {e : Env} {s : State} {m : MethodId} {args : Array Value} {below : List Frame} {meth : Method} {c : Code} {Q : State → Prop} {D : va_G} {dT : Nat → ClassId} {h : Nat} (E : CallFix p m c cX2_findsSets 5 s args lw_all RX2) (hK : va_K D nwCl (nwT dT) s) (x1 : Int32) (x2 : Int32) (x3 : Int32) {st : Int32 × nwM} {x : nwM} (hw : wh_ (fm_findsSets_L13 x1 x2 x3) st = some x) (hk : (fun x : nwM => ∀ (ls : Array Slot) (H : Heap) (locs : List Loc), lv_has ls 5 [] → PM D dT h x H → va_S (mA h) s.heap H locs → W p l e (rmd 1) s m args below meth c H locs 0 0 Q (F0 m 85 ls [])) x) : (fun st : Int32 × nwM => ∀ (ls : Array Slot) (H : Heap) (locs : List Loc), lv_has ls 5 [(0, .ref h), (1, .int x1), (2, .int x2), (3, .int x3), (4, .int st.1)] → PM D dT h st.2 H → va_S (mA h) s.heap H locs → W p l e (rmd 1) s m args below meth c H locs 0 0 Q (F0 m 13 ls [])) st := by
  obtain ⟨hx, hb, -, hown, hts⟩ := id E
  refine wh_run (P := (fun st : Int32 × nwM => ∀ (ls : Array Slot) (H : Heap) (locs : List Loc), lv_has ls 5 [(0, .ref h), (1, .int x1), (2, .int x2), (3, .int x3), (4, .int st.1)] → PM D dT h st.2 H → va_S (mA h) s.heap H locs → W p l e (rmd 1) s m args below meth c H locs 0 0 Q (F0 m 13 ls []))) (PE := (fun x : nwM => ∀ (ls : Array Slot) (H : Heap) (locs : List Loc), lv_has ls 5 [] → PM D dT h x H → va_S (mA h) s.heap H locs → W p l e (rmd 1) s m args below meth c H locs 0 0 Q (F0 m 85 ls []))) ?_ hw hk
  clear hw hk
  intro st x hf hk ls H locs hl hP hS
  refine lv_iload hx hb dX2_findsSets_13 (lv_at hl 4 rfl) ?_
  refine lv_iconst (v := nI 1) hx hb dX2_findsSets_15 rfl ?_
  refine lv_aload_n hx hb dX2_findsSets_16 rfl (lv_at hl 0 rfl) ?_
  refine m_ga E hK hP 1 (by decide) rfl q1414 rfl dX2_findsSets_17 ?_
  refine lv_iconst (v := nI 4) hx hb dX2_findsSets_20 rfl ?_
  obtain ⟨v3, hv3, hf⟩ := ob hf
  refine m_ald E hK hP (by decide) rfl rfl hv3 dX2_findsSets_21 ?_
  refine lv_ishl hx hb dX2_findsSets_22 ?_
  refine lv_icmp_ge (tgt := 85) hx hb dX2_findsSets_23 (by decide) (fun kc4 => ?_) (fun kc4 => ?_)
  · have hf := ite_t kc4 hf
    cases hf
    exact hk _ _ _ (lv_sub hl [] rfl) hP hS
  · have hf := ite_f kc4 hf
    refine lv_iload hx hb dX2_findsSets_26 (lv_at hl 4 rfl) ?_
    refine lv_iload_n hx hb dX2_findsSets_28 rfl (lv_at hl 1 rfl) ?_
    refine lv_iconst (v := (-1)) hx hb dX2_findsSets_29 rfl ?_
    refine lv_ixor hx hb dX2_findsSets_30 ?_
    refine lv_iand hx hb dX2_findsSets_31 ?_
    refine lv_if_ne (tgt := 79) hx hb dX2_findsSets_32 (by decide) (fun kc5 => ?_) (fun kc5 => ?_)
    · have hf := ite_f kc5 hf
      refine lv_iinc (v := st.1 + nI 1) (lv' := [(4, .int (st.1 + nI 1)), (0, .ref h), (1, .int x1), (2, .int x2), (3, .int x3)]) hx hb dX2_findsSets_79 hl (k := 4) rfl rfl (by decide) rfl (fun ls hl => ?_)
      refine lv_goto (tgt := 13) hx hb dX2_findsSets_82 (by decide) ?_
      cases hf
      exact hk _ _ _ (lv_sub hl [1, 2, 3, 4, 0] rfl) hP hS
    · have hf := ite_t kc5 hf
      refine lv_iload hx hb dX2_findsSets_35 (lv_at hl 4 rfl) ?_
      refine lv_iload_n hx hb dX2_findsSets_37 rfl (lv_at hl 3 rfl) ?_
      refine lv_iand hx hb dX2_findsSets_38 ?_
      refine lv_iload_n hx hb dX2_findsSets_39 rfl (lv_at hl 3 rfl) ?_
      refine lv_icmp_ne (tgt := 79) hx hb dX2_findsSets_40 (by decide) (fun kc6 => ?_) (fun kc6 => ?_)
      · have hf := ite_f kc6 hf
        refine lv_iinc (v := st.1 + nI 1) (lv' := [(4, .int (st.1 + nI 1)), (0, .ref h), (1, .int x1), (2, .int x2), (3, .int x3)]) hx hb dX2_findsSets_79 hl (k := 4) rfl rfl (by decide) rfl (fun ls hl => ?_)
        refine lv_goto (tgt := 13) hx hb dX2_findsSets_82 (by decide) ?_
        cases hf
        exact hk _ _ _ (lv_sub hl [1, 2, 3, 4, 0] rfl) hP hS
      · have hf := ite_t kc6 hf
        refine lv_aload_n hx hb dX2_findsSets_43 rfl (lv_at hl 0 rfl) ?_
        refine lv_iload hx hb dX2_findsSets_44 (lv_at hl 4 rfl) ?_
        obtain ⟨v8, hc7, hf⟩ := ob hf
        refine m_calli E hK hP hS (As := [.int st.1]) (tm_sumOf l D dT h st.1 st.2 _ hc7) (lw_V q1991 q1993 qs144 q166 q1994) dm_sumOf rfl (by decide) (by decide) hl rfl (Nat.le_of_ble_eq_true rfl) dX2_findsSets_46 (fun H locs hP hS => ?_)
        refine lv_iload_n hx hb dX2_findsSets_49 rfl (lv_at hl 2 rfl) ?_
        refine lv_icmp_eq (tgt := 56) hx hb dX2_findsSets_50 (by decide) (fun kc9 => ?_) (fun kc9 => ?_)
        · have hf := ite_t kc9 hf
          refine lv_aload_n hx hb dX2_findsSets_56 rfl (lv_at hl 0 rfl) ?_
          refine m_get E hK hP 43 (by decide) rfl q1456 rfl dX2_findsSets_57 ?_
          refine lv_if_ne (tgt := 69) hx hb dX2_findsSets_60 (by decide) (fun kc10 => ?_) (fun kc10 => ?_)
          · have hf := ite_f kc10 hf
            refine lv_aload_n hx hb dX2_findsSets_69 rfl (lv_at hl 0 rfl) ?_
            refine lv_aload_n hx hb dX2_findsSets_70 rfl (lv_at hl 0 rfl) ?_
            refine m_get E hK hP 43 (by decide) rfl q1456 rfl dX2_findsSets_71 ?_
            refine lv_iconst (v := nI 1) hx hb dX2_findsSets_74 rfl ?_
            refine lv_iadd hx hb dX2_findsSets_75 ?_
            obtain ⟨μ11, hμ11, hf⟩ := ob hf
            refine m_put E hK hP hS 43 (by decide) rfl q1456 rfl rfl rfl hμ11 dX2_findsSets_76 (fun H locs hP hS => ?_)
            refine lv_iinc (v := st.1 + nI 1) (lv' := [(4, .int (st.1 + nI 1)), (0, .ref h), (1, .int x1), (2, .int x2), (3, .int x3)]) hx hb dX2_findsSets_79 hl (k := 4) rfl rfl (by decide) rfl (fun ls hl => ?_)
            refine lv_goto (tgt := 13) hx hb dX2_findsSets_82 (by decide) ?_
            cases hf
            exact hk _ _ _ (lv_sub hl [1, 2, 3, 4, 0] rfl) hP hS
          · have hf := ite_t kc10 hf
            refine lv_aload_n hx hb dX2_findsSets_63 rfl (lv_at hl 0 rfl) ?_
            refine lv_iload hx hb dX2_findsSets_64 (lv_at hl 4 rfl) ?_
            obtain ⟨μ12, hμ12, hf⟩ := ob hf
            refine m_put E hK hP hS 44 (by decide) rfl q1457 rfl rfl rfl hμ12 dX2_findsSets_66 (fun H locs hP hS => ?_)
            refine lv_aload_n hx hb dX2_findsSets_69 rfl (lv_at hl 0 rfl) ?_
            refine lv_aload_n hx hb dX2_findsSets_70 rfl (lv_at hl 0 rfl) ?_
            refine m_get E hK hP 43 (by decide) rfl q1456 rfl dX2_findsSets_71 ?_
            refine lv_iconst (v := nI 1) hx hb dX2_findsSets_74 rfl ?_
            refine lv_iadd hx hb dX2_findsSets_75 ?_
            obtain ⟨μ13, hμ13, hf⟩ := ob hf
            refine m_put E hK hP hS 43 (by decide) rfl q1456 rfl rfl rfl hμ13 dX2_findsSets_76 (fun H locs hP hS => ?_)
            refine lv_iinc (v := st.1 + nI 1) (lv' := [(4, .int (st.1 + nI 1)), (0, .ref h), (1, .int x1), (2, .int x2), (3, .int x3)]) hx hb dX2_findsSets_79 hl (k := 4) rfl rfl (by decide) rfl (fun ls hl => ?_)
            refine lv_goto (tgt := 13) hx hb dX2_findsSets_82 (by decide) ?_
            cases hf
            exact hk _ _ _ (lv_sub hl [1, 2, 3, 4, 0] rfl) hP hS
        · have hf := ite_f kc9 hf
          refine lv_goto (tgt := 79) hx hb dX2_findsSets_53 (by decide) ?_
          refine lv_iinc (v := st.1 + nI 1) (lv' := [(4, .int (st.1 + nI 1)), (0, .ref h), (1, .int x1), (2, .int x2), (3, .int x3)]) hx hb dX2_findsSets_79 hl (k := 4) rfl rfl (by decide) rfl (fun ls hl => ?_)
          refine lv_goto (tgt := 13) hx hb dX2_findsSets_82 (by decide) ?_
          cases hf
          exact hk _ _ _ (lv_sub hl [1, 2, 3, 4, 0] rfl) hP hS
set_option maxHeartbeats 4000000 in
theorem dm_findsSets : yX2_findsSets.cls = RX2 ∧ yX2_findsSets.cls ≠ "java/lang/invoke/MethodHandle" ∧ yX2_findsSets.cls ≠ "java/lang/invoke/VarHandle" ∧ (parseMethodDescriptor yX2_findsSets.desc).map (fun d => d.parameters.length) = some 3 := ⟨rfl, by decide +kernel, by decide +kernel, by decide +kernel⟩
set_option maxHeartbeats 4000000 in
theorem tm_findsSets (l : Launch) (D : va_G) (dT : Nat → ClassId) (h : Nat) (x1 : Int32) (x2 : Int32) (x3 : Int32) (μ : nwM) (res : nwM) (hf : fm_findsSets x1 x2 x3 μ = some res) : Met l yX2_findsSets (ws_ yX2_findsSets cX2_findsSets 5 none) (rmd 1) (mPc D dT h μ [.int x1, .int x2, .int x3]) (mQv D dT h res) 0 0 (mA h) := by
  refine m_met (by decide) rfl (Nat.le_of_ble_eq_true rfl) ?_
  intro p e s m below meth c ls E hK hr hlk hl hP
  have hS : va_S (mA h) s.heap s.heap [] := va_S.rf
  obtain ⟨hx, hb, -, hown, hts⟩ := id E
  have hl : lv_has ls 5 [(0, .ref h), (1, .int x1), (2, .int x2), (3, .int x3)] := hl
  unfold fm_findsSets at hf
  refine lv_aload_n hx hb dX2_findsSets_0 rfl (lv_at hl 0 rfl) ?_
  refine lv_iconst (v := nI 0) hx hb dX2_findsSets_1 rfl ?_
  obtain ⟨μ1, hμ1, hf⟩ := ob hf
  refine m_put E hK hP hS 43 (by decide) rfl q1456 rfl rfl rfl hμ1 dX2_findsSets_2 (fun H locs hP hS => ?_)
  refine lv_aload_n hx hb dX2_findsSets_5 rfl (lv_at hl 0 rfl) ?_
  refine lv_iconst (v := (-1)) hx hb dX2_findsSets_6 rfl ?_
  obtain ⟨μ2, hμ2, hf⟩ := ob hf
  refine m_put E hK hP hS 44 (by decide) rfl q1457 rfl rfl rfl hμ2 dX2_findsSets_7 (fun H locs hP hS => ?_)
  refine lv_iconst (v := nI 0) hx hb dX2_findsSets_10 rfl ?_
  refine lv_istore (lv' := [(4, .int (nI 0)), (0, .ref h), (1, .int x1), (2, .int x2), (3, .int x3)]) hx hb dX2_findsSets_11 hl (by decide) rfl (fun ls hl => ?_)
  obtain ⟨x14, hx14, hf⟩ := ob hf
  refine fm_findsSets_L13_w E hK x1 x2 x3 hx14 (fun ls H locs hl hP hS => ?_) _ _ _ (lv_sub hl [1, 2, 3, 4, 0] rfl) hP hS
  cases hf
  exact m_vret E hr hlk hP hS dX2_findsSets_85
set_option maxHeartbeats 4000000 in
noncomputable def fm_called (x1 : Int32) (x2 : Int32) (x3 : Int32) (x4 : Int32) (μ : nwM) : Option (Int32 × nwM) := (wf_ μ 0 (nI 0)).bind fun μ1 => (fm_isSky x1 x2 μ1).bind fun v3 => (if v3 = 0 then some ((-1), μ1) else (fm_isIn x3 (nI 1) (nI 999) μ1).bind fun v6 => (if v6 = 0 then some ((-1), μ1) else (fm_isIn x4 (nI 0) (nI 1) μ1).bind fun v9 => (if v9 = 0 then some ((-1), μ1) else bd2 (fm_callersAt x1 x2 μ1) fun v12 μ13 => (fm_findsSets v12 x3 (nI 0) μ13).bind fun μ15 => (if x4 = 0 then some (μ15 43 0, μ15) else some (μ15 44 0, μ15)))))
set_option maxHeartbeats 4000000 in
theorem dm_called : yX2_called.cls = RX2 ∧ yX2_called.cls ≠ "java/lang/invoke/MethodHandle" ∧ yX2_called.cls ≠ "java/lang/invoke/VarHandle" ∧ (parseMethodDescriptor yX2_called.desc).map (fun d => d.parameters.length) = some 4 := ⟨rfl, by decide +kernel, by decide +kernel, by decide +kernel⟩
set_option maxHeartbeats 4000000 in
theorem tm_called (l : Launch) (D : va_G) (dT : Nat → ClassId) (h : Nat) (x1 : Int32) (x2 : Int32) (x3 : Int32) (x4 : Int32) (μ : nwM) (res : Int32 × nwM) (hf : fm_called x1 x2 x3 x4 μ = some res) : Met l yX2_called (ws_ yX2_called cX2_called 5 (some .int)) (rmd 6) (mPc D dT h μ [.int x1, .int x2, .int x3, .int x4]) (mQi D dT h res.2 res.1) 0 0 (mA h) := by
  refine m_met (by decide) rfl (Nat.le_of_ble_eq_true rfl) ?_
  intro p e s m below meth c ls E hK hr hlk hl hP
  have hS : va_S (mA h) s.heap s.heap [] := va_S.rf
  obtain ⟨hx, hb, -, hown, hts⟩ := id E
  have hl : lv_has ls 5 [(0, .ref h), (1, .int x1), (2, .int x2), (3, .int x3), (4, .int x4)] := hl
  unfold fm_called at hf
  refine lv_aload_n hx hb dX2_called_0 rfl (lv_at hl 0 rfl) ?_
  refine lv_iconst (v := nI 0) hx hb dX2_called_1 rfl ?_
  obtain ⟨μ1, hμ1, hf⟩ := ob hf
  refine m_put E hK hP hS 0 (by decide) rfl q1413 rfl rfl rfl hμ1 dX2_called_2 (fun H locs hP hS => ?_)
  refine lv_aload_n hx hb dX2_called_5 rfl (lv_at hl 0 rfl) ?_
  refine lv_iload_n hx hb dX2_called_6 rfl (lv_at hl 1 rfl) ?_
  refine lv_iload_n hx hb dX2_called_7 rfl (lv_at hl 2 rfl) ?_
  obtain ⟨v3, hc2, hf⟩ := ob hf
  refine m_calli E hK hP hS (As := [.int x1, .int x2]) (tm_isSky l D dT h x1 x2 μ1 _ hc2) (lw_V q1931 q1933 qs134 q166 q1934) dm_isSky rfl (by decide) (by decide) hl rfl (Nat.le_of_ble_eq_true rfl) dX2_called_8 (fun H locs hP hS => ?_)
  refine lv_if_eq (tgt := 37) hx hb dX2_called_11 (by decide) (fun kc4 => ?_) (fun kc4 => ?_)
  · have hf := ite_t kc4 hf
    refine lv_iconst (v := (-1)) hx hb dX2_called_37 rfl ?_
    cases hf
    exact m_iret E hr hlk hP hS rfl dX2_called_38
  · have hf := ite_f kc4 hf
    refine lv_aload_n hx hb dX2_called_14 rfl (lv_at hl 0 rfl) ?_
    refine lv_iload_n hx hb dX2_called_15 rfl (lv_at hl 3 rfl) ?_
    refine lv_iconst (v := nI 1) hx hb dX2_called_16 rfl ?_
    refine lv_sipush (v := nI 999) hx hb dX2_called_17 rfl ?_
    obtain ⟨v6, hc5, hf⟩ := ob hf
    refine m_calli E hK hP hS (As := [.int x3, .int (nI 1), .int (nI 999)]) (tm_isIn l D dT h x3 (nI 1) (nI 999) μ1 _ hc5) (lw_V q1573 q1575 qs59 q166 q1576) dm_isIn rfl (by decide) (by decide) hl rfl (Nat.le_of_ble_eq_true rfl) dX2_called_20 (fun H locs hP hS => ?_)
    refine lv_if_eq (tgt := 37) hx hb dX2_called_23 (by decide) (fun kc7 => ?_) (fun kc7 => ?_)
    · have hf := ite_t kc7 hf
      refine lv_iconst (v := (-1)) hx hb dX2_called_37 rfl ?_
      cases hf
      exact m_iret E hr hlk hP hS rfl dX2_called_38
    · have hf := ite_f kc7 hf
      refine lv_aload_n hx hb dX2_called_26 rfl (lv_at hl 0 rfl) ?_
      refine lv_iload hx hb dX2_called_27 (lv_at hl 4 rfl) ?_
      refine lv_iconst (v := nI 0) hx hb dX2_called_29 rfl ?_
      refine lv_iconst (v := nI 1) hx hb dX2_called_30 rfl ?_
      obtain ⟨v9, hc8, hf⟩ := ob hf
      refine m_calli E hK hP hS (As := [.int x4, .int (nI 0), .int (nI 1)]) (tm_isIn l D dT h x4 (nI 0) (nI 1) μ1 _ hc8) (lw_V q1573 q1575 qs59 q166 q1576) dm_isIn rfl (by decide) (by decide) hl rfl (Nat.le_of_ble_eq_true rfl) dX2_called_31 (fun H locs hP hS => ?_)
      refine lv_if_ne (tgt := 39) hx hb dX2_called_34 (by decide) (fun kc10 => ?_) (fun kc10 => ?_)
      · have hf := ite_f kc10 hf
        refine lv_aload_n hx hb dX2_called_39 rfl (lv_at hl 0 rfl) ?_
        refine lv_aload_n hx hb dX2_called_40 rfl (lv_at hl 0 rfl) ?_
        refine lv_iload_n hx hb dX2_called_41 rfl (lv_at hl 1 rfl) ?_
        refine lv_iload_n hx hb dX2_called_42 rfl (lv_at hl 2 rfl) ?_
        obtain ⟨v12, μ13, hc11, hf⟩ := ob2 hf
        refine m_calli E hK hP hS (As := [.int x1, .int x2]) (tm_callersAt l D dT h x1 x2 μ1 _ hc11) (lw_V q1987 q1989 qs143 q166 q1990) dm_callersAt rfl (by decide) (by decide) hl rfl (Nat.le_of_ble_eq_true rfl) dX2_called_43 (fun H locs hP hS => ?_)
        refine lv_iload_n hx hb dX2_called_46 rfl (lv_at hl 3 rfl) ?_
        refine lv_iconst (v := nI 0) hx hb dX2_called_47 rfl ?_
        obtain ⟨μ15, hc14, hf⟩ := ob hf
        refine m_callv E hK hP hS (As := [.int v12, .int x3, .int (nI 0)]) (tm_findsSets l D dT h v12 x3 (nI 0) μ13 _ hc14) (lw_V q2027 q2029 qs151 q166 q2030) dm_findsSets rfl (by decide) (by decide) hl rfl (Nat.le_of_ble_eq_true rfl) dX2_called_48 (fun H locs hP hS => ?_)
        refine lv_iload hx hb dX2_called_51 (lv_at hl 4 rfl) ?_
        refine lv_if_ne (tgt := 63) hx hb dX2_called_53 (by decide) (fun kc16 => ?_) (fun kc16 => ?_)
        · have hf := ite_f kc16 hf
          refine lv_aload_n hx hb dX2_called_63 rfl (lv_at hl 0 rfl) ?_
          refine m_get E hK hP 44 (by decide) rfl q1457 rfl dX2_called_64 ?_
          cases hf
          exact m_iret E hr hlk hP hS rfl dX2_called_67
        · have hf := ite_t kc16 hf
          refine lv_aload_n hx hb dX2_called_56 rfl (lv_at hl 0 rfl) ?_
          refine m_get E hK hP 43 (by decide) rfl q1456 rfl dX2_called_57 ?_
          refine lv_goto (tgt := 67) hx hb dX2_called_60 (by decide) ?_
          cases hf
          exact m_iret E hr hlk hP hS rfl dX2_called_67
      · have hf := ite_t kc10 hf
        refine lv_iconst (v := (-1)) hx hb dX2_called_37 rfl ?_
        cases hf
        exact m_iret E hr hlk hP hS rfl dX2_called_38
set_option maxHeartbeats 4000000 in
noncomputable def fm_ask_L69 (x3 : Int32) (x4 : Int32) (x5 : Int32) : (Int32 × Int32 × Int32 × nwM) → Option ((Int32 × Int32 × Int32 × nwM) ⊕ (Int32 × nwM)) := fun st => (rd_ st.2.2.2 1 105 (nI 4)).bind fun v14 => (if v14 ≤ st.2.2.1 then some (.inr (st.1, st.2.2.2)) else (fm_findsSets x4 x3 ((nI 1) <<< (st.2.2.1 &&& 31)) st.2.2.2).bind fun μ17 => (fm_greater (μ17 43 0) (x5 - (μ17 43 0)) μ17).bind fun v19 => (if st.2.1 ≤ v19 then (if st.2.1 ≤ v19 then some (.inl (st.1, st.2.1, st.2.2.1 + nI 1, μ17)) else some (.inl (st.1, v19, st.2.2.1 + nI 1, μ17))) else (if st.2.1 ≤ v19 then some (.inl (st.2.2.1, st.2.1, st.2.2.1 + nI 1, μ17)) else some (.inl (st.2.2.1, v19, st.2.2.1 + nI 1, μ17)))))
set_option maxHeartbeats 4000000 in
noncomputable def fm_ask (x1 : Int32) (x2 : Int32) (x3 : Int32) (μ : nwM) : Option (Int32 × nwM) := (wf_ μ 0 (nI 0)).bind fun μ1 => (fm_isSky x1 x2 μ1).bind fun v3 => (if v3 = 0 then some ((-1), μ1) else (fm_isIn x3 (nI 1) (nI 999) μ1).bind fun v6 => (if v6 = 0 then some ((-1), μ1) else bd2 (fm_callersAt x1 x2 μ1) fun v9 μ10 => (fm_findsSets v9 x3 (nI 0) μ10).bind fun μ12 => (if (nI 2) ≤ (μ12 43 0) then (wh_ (fm_ask_L69 x3 v9 (μ12 43 0)) ((-1), (100000), nI 0, μ12)).bind fun x23 => some (x23.1, x23.2) else some ((-1), μ12))))
set_option maxHeartbeats 4000000 in
theorem fm_ask_L69_w {p : Program} {l : Launch} {e : Env} {s : State} {m : MethodId} {args : Array Value} {below : List Frame} {meth : Method} {c : Code} {Q : State → Prop} {D : va_G} {dT : Nat → ClassId} {h : Nat} (E : CallFix p m c cX2_ask 10 s args lw_all RX2) (hK : va_K D nwCl (nwT dT) s) (x3 : Int32) (x4 : Int32) (x5 : Int32) {st : Int32 × Int32 × Int32 × nwM} {x : Int32 × nwM} (hw : wh_ (fm_ask_L69 x3 x4 x5) st = some x) (hk : (fun x : Int32 × nwM => ∀ (ls : Array Slot) (H : Heap) (locs : List Loc), lv_has ls 10 [(6, .int x.1)] → PM D dT h x.2 H → va_S (mA h) s.heap H locs → W p l e (rmd 6) s m args below meth c H locs 0 0 Q (F0 m 146 ls [])) x) : (fun st : Int32 × Int32 × Int32 × nwM => ∀ (ls : Array Slot) (H : Heap) (locs : List Loc), lv_has ls 10 [(0, .ref h), (3, .int x3), (4, .int x4), (5, .int x5), (6, .int st.1), (7, .int st.2.1), (8, .int st.2.2.1)] → PM D dT h st.2.2.2 H → va_S (mA h) s.heap H locs → W p l e (rmd 6) s m args below meth c H locs 0 0 Q (F0 m 69 ls [])) st := by
  obtain ⟨hx, hb, -, hown, hts⟩ := id E
  refine wh_run (P := (fun st : Int32 × Int32 × Int32 × nwM => ∀ (ls : Array Slot) (H : Heap) (locs : List Loc), lv_has ls 10 [(0, .ref h), (3, .int x3), (4, .int x4), (5, .int x5), (6, .int st.1), (7, .int st.2.1), (8, .int st.2.2.1)] → PM D dT h st.2.2.2 H → va_S (mA h) s.heap H locs → W p l e (rmd 6) s m args below meth c H locs 0 0 Q (F0 m 69 ls []))) (PE := (fun x : Int32 × nwM => ∀ (ls : Array Slot) (H : Heap) (locs : List Loc), lv_has ls 10 [(6, .int x.1)] → PM D dT h x.2 H → va_S (mA h) s.heap H locs → W p l e (rmd 6) s m args below meth c H locs 0 0 Q (F0 m 146 ls []))) ?_ hw hk
  clear hw hk
  intro st x hf hk ls H locs hl hP hS
  refine lv_iload hx hb dX2_ask_69 (lv_at hl 6 rfl) ?_
  refine lv_aload_n hx hb dX2_ask_71 rfl (lv_at hl 0 rfl) ?_
  refine m_ga E hK hP 1 (by decide) rfl q1414 rfl dX2_ask_72 ?_
  refine lv_iconst (v := nI 4) hx hb dX2_ask_75 rfl ?_
  obtain ⟨v14, hv14, hf⟩ := ob hf
  refine m_ald E hK hP (by decide) rfl rfl hv14 dX2_ask_76 ?_
  refine lv_icmp_ge (tgt := 146) hx hb dX2_ask_77 (by decide) (fun kc15 => ?_) (fun kc15 => ?_)
  · have hf := ite_t kc15 hf
    cases hf
    exact hk _ _ _ (lv_sub hl [4] rfl) hP hS
  · have hf := ite_f kc15 hf
    refine lv_aload_n hx hb dX2_ask_80 rfl (lv_at hl 0 rfl) ?_
    refine lv_iload hx hb dX2_ask_81 (lv_at hl 2 rfl) ?_
    refine lv_iload_n hx hb dX2_ask_83 rfl (lv_at hl 1 rfl) ?_
    refine lv_iconst (v := nI 1) hx hb dX2_ask_84 rfl ?_
    refine lv_iload hx hb dX2_ask_85 (lv_at hl 6 rfl) ?_
    refine lv_ishl hx hb dX2_ask_87 ?_
    obtain ⟨μ17, hc16, hf⟩ := ob hf
    refine m_callv E hK hP hS (As := [.int x4, .int x3, .int ((nI 1) <<< (st.2.2.1 &&& 31))]) (tm_findsSets l D dT h x4 x3 ((nI 1) <<< (st.2.2.1 &&& 31)) st.2.2.2 _ hc16) (lw_V q2027 q2029 qs151 q166 q2030) dm_findsSets rfl (by decide) (by decide) hl rfl (Nat.le_of_ble_eq_true rfl) dX2_ask_88 (fun H locs hP hS => ?_)
    refine lv_aload_n hx hb dX2_ask_91 rfl (lv_at hl 0 rfl) ?_
    refine lv_aload_n hx hb dX2_ask_92 rfl (lv_at hl 0 rfl) ?_
    refine m_get E hK hP 43 (by decide) rfl q1456 rfl dX2_ask_93 ?_
    refine lv_iload hx hb dX2_ask_96 (lv_at hl 3 rfl) ?_
    refine lv_aload_n hx hb dX2_ask_98 rfl (lv_at hl 0 rfl) ?_
    refine m_get E hK hP 43 (by decide) rfl q1456 rfl dX2_ask_99 ?_
    refine lv_isub hx hb dX2_ask_102 ?_
    obtain ⟨v19, hc18, hf⟩ := ob hf
    refine m_calli E hK hP hS (As := [.int (μ17 43 0), .int (x5 - (μ17 43 0))]) (tm_greater l D dT h (μ17 43 0) (x5 - (μ17 43 0)) μ17 _ hc18) (lw_V q1975 q1977 qs141 q166 q1978) dm_greater rfl (by decide) (by decide) hl rfl (Nat.le_of_ble_eq_true rfl) dX2_ask_103 (fun H locs hP hS => ?_)
    refine lv_istore (lv' := [(9, .int v19), (0, .ref h), (3, .int x3), (4, .int x4), (5, .int x5), (6, .int st.1), (7, .int st.2.1), (8, .int st.2.2.1)]) hx hb dX2_ask_106 hl (by decide) rfl (fun ls hl => ?_)
    refine lv_iload hx hb dX2_ask_108 (lv_at hl 0 rfl) ?_
    refine lv_iload hx hb dX2_ask_110 (lv_at hl 6 rfl) ?_
    refine lv_icmp_ge (tgt := 120) hx hb dX2_ask_112 (by decide) (fun kc20 => ?_) (fun kc20 => ?_)
    · have hf := ite_t kc20 hf
      refine lv_iload hx hb dX2_ask_120 (lv_at hl 5 rfl) ?_
      refine lv_istore (lv' := [(6, .int st.1), (9, .int v19), (0, .ref h), (3, .int x3), (4, .int x4), (5, .int x5), (7, .int st.2.1), (8, .int st.2.2.1)]) hx hb dX2_ask_122 hl (by decide) rfl (fun ls hl => ?_)
      refine lv_iload hx hb dX2_ask_124 (lv_at hl 1 rfl) ?_
      refine lv_iload hx hb dX2_ask_126 (lv_at hl 6 rfl) ?_
      refine lv_icmp_ge (tgt := 136) hx hb dX2_ask_128 (by decide) (fun kc21 => ?_) (fun kc21 => ?_)
      · have hf := ite_t kc21 hf
        refine lv_iload hx hb dX2_ask_136 (lv_at hl 6 rfl) ?_
        refine lv_istore (lv' := [(7, .int st.2.1), (6, .int st.1), (9, .int v19), (0, .ref h), (3, .int x3), (4, .int x4), (5, .int x5), (8, .int st.2.2.1)]) hx hb dX2_ask_138 hl (by decide) rfl (fun ls hl => ?_)
        refine lv_iinc (v := st.2.2.1 + nI 1) (lv' := [(8, .int (st.2.2.1 + nI 1)), (7, .int st.2.1), (6, .int st.1), (9, .int v19), (0, .ref h), (3, .int x3), (4, .int x4), (5, .int x5)]) hx hb dX2_ask_140 hl (k := 7) rfl rfl (by decide) rfl (fun ls hl => ?_)
        refine lv_goto (tgt := 69) hx hb dX2_ask_143 (by decide) ?_
        cases hf
        exact hk _ _ _ (lv_sub hl [4, 5, 6, 7, 2, 1, 0] rfl) hP hS
      · have hf := ite_f kc21 hf
        refine lv_iload hx hb dX2_ask_131 (lv_at hl 1 rfl) ?_
        refine lv_goto (tgt := 138) hx hb dX2_ask_133 (by decide) ?_
        refine lv_istore (lv' := [(7, .int v19), (6, .int st.1), (9, .int v19), (0, .ref h), (3, .int x3), (4, .int x4), (5, .int x5), (8, .int st.2.2.1)]) hx hb dX2_ask_138 hl (by decide) rfl (fun ls hl => ?_)
        refine lv_iinc (v := st.2.2.1 + nI 1) (lv' := [(8, .int (st.2.2.1 + nI 1)), (7, .int v19), (6, .int st.1), (9, .int v19), (0, .ref h), (3, .int x3), (4, .int x4), (5, .int x5)]) hx hb dX2_ask_140 hl (k := 7) rfl rfl (by decide) rfl (fun ls hl => ?_)
        refine lv_goto (tgt := 69) hx hb dX2_ask_143 (by decide) ?_
        cases hf
        exact hk _ _ _ (lv_sub hl [4, 5, 6, 7, 2, 1, 0] rfl) hP hS
    · have hf := ite_f kc20 hf
      refine lv_iload hx hb dX2_ask_115 (lv_at hl 7 rfl) ?_
      refine lv_goto (tgt := 122) hx hb dX2_ask_117 (by decide) ?_
      refine lv_istore (lv' := [(6, .int st.2.2.1), (9, .int v19), (0, .ref h), (3, .int x3), (4, .int x4), (5, .int x5), (7, .int st.2.1), (8, .int st.2.2.1)]) hx hb dX2_ask_122 hl (by decide) rfl (fun ls hl => ?_)
      refine lv_iload hx hb dX2_ask_124 (lv_at hl 1 rfl) ?_
      refine lv_iload hx hb dX2_ask_126 (lv_at hl 6 rfl) ?_
      refine lv_icmp_ge (tgt := 136) hx hb dX2_ask_128 (by decide) (fun kc22 => ?_) (fun kc22 => ?_)
      · have hf := ite_t kc22 hf
        refine lv_iload hx hb dX2_ask_136 (lv_at hl 6 rfl) ?_
        refine lv_istore (lv' := [(7, .int st.2.1), (6, .int st.2.2.1), (9, .int v19), (0, .ref h), (3, .int x3), (4, .int x4), (5, .int x5), (8, .int st.2.2.1)]) hx hb dX2_ask_138 hl (by decide) rfl (fun ls hl => ?_)
        refine lv_iinc (v := st.2.2.1 + nI 1) (lv' := [(8, .int (st.2.2.1 + nI 1)), (7, .int st.2.1), (6, .int st.2.2.1), (9, .int v19), (0, .ref h), (3, .int x3), (4, .int x4), (5, .int x5)]) hx hb dX2_ask_140 hl (k := 7) rfl rfl (by decide) rfl (fun ls hl => ?_)
        refine lv_goto (tgt := 69) hx hb dX2_ask_143 (by decide) ?_
        cases hf
        exact hk _ _ _ (lv_sub hl [4, 5, 6, 7, 2, 1, 0] rfl) hP hS
      · have hf := ite_f kc22 hf
        refine lv_iload hx hb dX2_ask_131 (lv_at hl 1 rfl) ?_
        refine lv_goto (tgt := 138) hx hb dX2_ask_133 (by decide) ?_
        refine lv_istore (lv' := [(7, .int v19), (6, .int st.2.2.1), (9, .int v19), (0, .ref h), (3, .int x3), (4, .int x4), (5, .int x5), (8, .int st.2.2.1)]) hx hb dX2_ask_138 hl (by decide) rfl (fun ls hl => ?_)
        refine lv_iinc (v := st.2.2.1 + nI 1) (lv' := [(8, .int (st.2.2.1 + nI 1)), (7, .int v19), (6, .int st.2.2.1), (9, .int v19), (0, .ref h), (3, .int x3), (4, .int x4), (5, .int x5)]) hx hb dX2_ask_140 hl (k := 7) rfl rfl (by decide) rfl (fun ls hl => ?_)
        refine lv_goto (tgt := 69) hx hb dX2_ask_143 (by decide) ?_
        cases hf
        exact hk _ _ _ (lv_sub hl [4, 5, 6, 7, 2, 1, 0] rfl) hP hS
set_option maxHeartbeats 4000000 in
theorem dm_ask : yX2_ask.cls = RX2 ∧ yX2_ask.cls ≠ "java/lang/invoke/MethodHandle" ∧ yX2_ask.cls ≠ "java/lang/invoke/VarHandle" ∧ (parseMethodDescriptor yX2_ask.desc).map (fun d => d.parameters.length) = some 3 := ⟨rfl, by decide +kernel, by decide +kernel, by decide +kernel⟩
set_option maxHeartbeats 4000000 in
theorem tm_ask (l : Launch) (D : va_G) (dT : Nat → ClassId) (h : Nat) (x1 : Int32) (x2 : Int32) (x3 : Int32) (μ : nwM) (res : Int32 × nwM) (hf : fm_ask x1 x2 x3 μ = some res) : Met l yX2_ask (ws_ yX2_ask cX2_ask 10 (some .int)) (rmd 6) (mPc D dT h μ [.int x1, .int x2, .int x3]) (mQi D dT h res.2 res.1) 0 0 (mA h) := by
  refine m_met (by decide) rfl (Nat.le_of_ble_eq_true rfl) ?_
  intro p e s m below meth c ls E hK hr hlk hl hP
  have hS : va_S (mA h) s.heap s.heap [] := va_S.rf
  obtain ⟨hx, hb, -, hown, hts⟩ := id E
  have hl : lv_has ls 10 [(0, .ref h), (1, .int x1), (2, .int x2), (3, .int x3)] := hl
  unfold fm_ask at hf
  refine lv_aload_n hx hb dX2_ask_0 rfl (lv_at hl 0 rfl) ?_
  refine lv_iconst (v := nI 0) hx hb dX2_ask_1 rfl ?_
  obtain ⟨μ1, hμ1, hf⟩ := ob hf
  refine m_put E hK hP hS 0 (by decide) rfl q1413 rfl rfl rfl hμ1 dX2_ask_2 (fun H locs hP hS => ?_)
  refine lv_aload_n hx hb dX2_ask_5 rfl (lv_at hl 0 rfl) ?_
  refine lv_iload_n hx hb dX2_ask_6 rfl (lv_at hl 1 rfl) ?_
  refine lv_iload_n hx hb dX2_ask_7 rfl (lv_at hl 2 rfl) ?_
  obtain ⟨v3, hc2, hf⟩ := ob hf
  refine m_calli E hK hP hS (As := [.int x1, .int x2]) (tm_isSky l D dT h x1 x2 μ1 _ hc2) (lw_V q1931 q1933 qs134 q166 q1934) dm_isSky rfl (by decide) (by decide) hl rfl (Nat.le_of_ble_eq_true rfl) dX2_ask_8 (fun H locs hP hS => ?_)
  refine lv_if_eq (tgt := 26) hx hb dX2_ask_11 (by decide) (fun kc4 => ?_) (fun kc4 => ?_)
  · have hf := ite_t kc4 hf
    refine lv_iconst (v := (-1)) hx hb dX2_ask_26 rfl ?_
    cases hf
    exact m_iret E hr hlk hP hS rfl dX2_ask_27
  · have hf := ite_f kc4 hf
    refine lv_aload_n hx hb dX2_ask_14 rfl (lv_at hl 0 rfl) ?_
    refine lv_iload_n hx hb dX2_ask_15 rfl (lv_at hl 3 rfl) ?_
    refine lv_iconst (v := nI 1) hx hb dX2_ask_16 rfl ?_
    refine lv_sipush (v := nI 999) hx hb dX2_ask_17 rfl ?_
    obtain ⟨v6, hc5, hf⟩ := ob hf
    refine m_calli E hK hP hS (As := [.int x3, .int (nI 1), .int (nI 999)]) (tm_isIn l D dT h x3 (nI 1) (nI 999) μ1 _ hc5) (lw_V q1573 q1575 qs59 q166 q1576) dm_isIn rfl (by decide) (by decide) hl rfl (Nat.le_of_ble_eq_true rfl) dX2_ask_20 (fun H locs hP hS => ?_)
    refine lv_if_ne (tgt := 28) hx hb dX2_ask_23 (by decide) (fun kc7 => ?_) (fun kc7 => ?_)
    · have hf := ite_f kc7 hf
      refine lv_aload_n hx hb dX2_ask_28 rfl (lv_at hl 0 rfl) ?_
      refine lv_iload_n hx hb dX2_ask_29 rfl (lv_at hl 1 rfl) ?_
      refine lv_iload_n hx hb dX2_ask_30 rfl (lv_at hl 2 rfl) ?_
      obtain ⟨v9, μ10, hc8, hf⟩ := ob2 hf
      refine m_calli E hK hP hS (As := [.int x1, .int x2]) (tm_callersAt l D dT h x1 x2 μ1 _ hc8) (lw_V q1987 q1989 qs143 q166 q1990) dm_callersAt rfl (by decide) (by decide) hl rfl (Nat.le_of_ble_eq_true rfl) dX2_ask_31 (fun H locs hP hS => ?_)
      refine lv_istore (lv' := [(4, .int v9), (0, .ref h), (1, .int x1), (2, .int x2), (3, .int x3)]) hx hb dX2_ask_34 hl (by decide) rfl (fun ls hl => ?_)
      refine lv_aload_n hx hb dX2_ask_36 rfl (lv_at hl 1 rfl) ?_
      refine lv_iload hx hb dX2_ask_37 (lv_at hl 0 rfl) ?_
      refine lv_iload_n hx hb dX2_ask_39 rfl (lv_at hl 4 rfl) ?_
      refine lv_iconst (v := nI 0) hx hb dX2_ask_40 rfl ?_
      obtain ⟨μ12, hc11, hf⟩ := ob hf
      refine m_callv E hK hP hS (As := [.int v9, .int x3, .int (nI 0)]) (tm_findsSets l D dT h v9 x3 (nI 0) μ10 _ hc11) (lw_V q2027 q2029 qs151 q166 q2030) dm_findsSets rfl (by decide) (by decide) hl rfl (Nat.le_of_ble_eq_true rfl) dX2_ask_41 (fun H locs hP hS => ?_)
      refine lv_aload_n hx hb dX2_ask_44 rfl (lv_at hl 1 rfl) ?_
      refine m_get E hK hP 43 (by decide) rfl q1456 rfl dX2_ask_45 ?_
      refine lv_istore (lv' := [(5, .int (μ12 43 0)), (4, .int v9), (0, .ref h), (1, .int x1), (2, .int x2), (3, .int x3)]) hx hb dX2_ask_48 hl (by decide) rfl (fun ls hl => ?_)
      refine lv_iload hx hb dX2_ask_50 (lv_at hl 0 rfl) ?_
      refine lv_iconst (v := nI 2) hx hb dX2_ask_52 rfl ?_
      refine lv_icmp_ge (tgt := 58) hx hb dX2_ask_53 (by decide) (fun kc13 => ?_) (fun kc13 => ?_)
      · have hf := ite_t kc13 hf
        refine lv_iconst (v := (-1)) hx hb dX2_ask_58 rfl ?_
        refine lv_istore (lv' := [(6, .int (-1)), (5, .int (μ12 43 0)), (4, .int v9), (0, .ref h), (1, .int x1), (2, .int x2), (3, .int x3)]) hx hb dX2_ask_59 hl (by decide) rfl (fun ls hl => ?_)
        refine lv_ldcw (v := 100000) hx hb hown (hts _ q2035) dX2_ask_61 ?_
        refine lv_istore (lv' := [(7, .int (100000)), (6, .int (-1)), (5, .int (μ12 43 0)), (4, .int v9), (0, .ref h), (1, .int x1), (2, .int x2), (3, .int x3)]) hx hb dX2_ask_64 hl (by decide) rfl (fun ls hl => ?_)
        refine lv_iconst (v := nI 0) hx hb dX2_ask_66 rfl ?_
        refine lv_istore (lv' := [(8, .int (nI 0)), (7, .int (100000)), (6, .int (-1)), (5, .int (μ12 43 0)), (4, .int v9), (0, .ref h), (1, .int x1), (2, .int x2), (3, .int x3)]) hx hb dX2_ask_67 hl (by decide) rfl (fun ls hl => ?_)
        obtain ⟨x23, hx23, hf⟩ := ob hf
        refine fm_ask_L69_w E hK x3 v9 (μ12 43 0) hx23 (fun ls H locs hl hP hS => ?_) _ _ _ (lv_sub hl [5, 8, 4, 3, 2, 1, 0] rfl) hP hS
        refine lv_iload hx hb dX2_ask_146 (lv_at hl 0 rfl) ?_
        cases hf
        exact m_iret E hr hlk hP hS rfl dX2_ask_148
      · have hf := ite_f kc13 hf
        refine lv_iconst (v := (-1)) hx hb dX2_ask_56 rfl ?_
        cases hf
        exact m_iret E hr hlk hP hS rfl dX2_ask_57
    · have hf := ite_t kc7 hf
      refine lv_iconst (v := (-1)) hx hb dX2_ask_26 rfl ?_
      cases hf
      exact m_iret E hr hlk hP hS rfl dX2_ask_27
