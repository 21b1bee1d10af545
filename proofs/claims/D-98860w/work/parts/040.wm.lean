/-! walks of NamesWeatherModel, written by genm.py -/
set_option maxRecDepth 100000
set_option maxHeartbeats 4000000 in
def fm_isIn (x1 : Int32) (x2 : Int32) (x3 : Int32) (μ : nwM) : Option (Int32) := (if x1 < x2 then some (nI 0) else (if x3 < x1 then some (nI 0) else some (nI 1)))
set_option maxHeartbeats 4000000 in
theorem dm_isIn : yX2_isIn.cls = RX2 ∧ yX2_isIn.cls ≠ "java/lang/invoke/MethodHandle" ∧ yX2_isIn.cls ≠ "java/lang/invoke/VarHandle" ∧ (parseMethodDescriptor yX2_isIn.desc).map (fun d => d.parameters.length) = some 3 := ⟨rfl, by decide +kernel, by decide +kernel, by decide +kernel⟩
set_option maxHeartbeats 4000000 in
theorem tm_isIn (l : Launch) (D : va_G) (dT : Nat → ClassId) (h : Nat) (x1 : Int32) (x2 : Int32) (x3 : Int32) (μ : nwM) (res : Int32) (hf : fm_isIn x1 x2 x3 μ = some res) : Met l yX2_isIn (ws_ yX2_isIn cX2_isIn 4 (some .boolean)) (rmd 0) (mPc D dT h μ [.int x1, .int x2, .int x3]) (mQi D dT h μ res) 0 0 (mA h) := by
  refine m_met (by decide) rfl (Nat.le_of_ble_eq_true rfl) ?_
  intro p e s m below meth c ls E hK hr hlk hl hP
  have hS : va_S (mA h) s.heap s.heap [] := va_S.rf
  obtain ⟨hx, hb, -, hown, hts⟩ := id E
  have hl : lv_has ls 4 [(0, .ref h), (1, .int x1), (2, .int x2), (3, .int x3)] := hl
  unfold fm_isIn at hf
  refine lv_iload_n hx hb dX2_isIn_0 rfl (lv_at hl 1 rfl) ?_
  refine lv_iload_n hx hb dX2_isIn_1 rfl (lv_at hl 2 rfl) ?_
  refine lv_icmp_lt (tgt := 14) hx hb dX2_isIn_2 (by decide) (fun kc1 => ?_) (fun kc1 => ?_)
  · have hf := ite_t kc1 hf
    refine lv_iconst (v := nI 0) hx hb dX2_isIn_14 rfl ?_
    cases hf
    exact m_zret E hr hlk hP hS rfl dX2_isIn_15
  · have hf := ite_f kc1 hf
    refine lv_iload_n hx hb dX2_isIn_5 rfl (lv_at hl 1 rfl) ?_
    refine lv_iload_n hx hb dX2_isIn_6 rfl (lv_at hl 3 rfl) ?_
    refine lv_icmp_gt (tgt := 14) hx hb dX2_isIn_7 (by decide) (fun kc2 => ?_) (fun kc2 => ?_)
    · have hf := ite_t kc2 hf
      refine lv_iconst (v := nI 0) hx hb dX2_isIn_14 rfl ?_
      cases hf
      exact m_zret E hr hlk hP hS rfl dX2_isIn_15
    · have hf := ite_f kc2 hf
      refine lv_iconst (v := nI 1) hx hb dX2_isIn_10 rfl ?_
      refine lv_goto (tgt := 15) hx hb dX2_isIn_11 (by decide) ?_
      cases hf
      exact m_zret E hr hlk hP hS rfl dX2_isIn_15
set_option maxHeartbeats 4000000 in
def fm_held (x1 : Int32) (x2 : Int32) (x3 : Int32) (μ : nwM) : Option (Int32) := (if x2 ≤ x1 then (if x1 ≤ x3 then some x1 else some x3) else some x2)
set_option maxHeartbeats 4000000 in
theorem dm_held : yX2_held.cls = RX2 ∧ yX2_held.cls ≠ "java/lang/invoke/MethodHandle" ∧ yX2_held.cls ≠ "java/lang/invoke/VarHandle" ∧ (parseMethodDescriptor yX2_held.desc).map (fun d => d.parameters.length) = some 3 := ⟨rfl, by decide +kernel, by decide +kernel, by decide +kernel⟩
set_option maxHeartbeats 4000000 in
theorem tm_held (l : Launch) (D : va_G) (dT : Nat → ClassId) (h : Nat) (x1 : Int32) (x2 : Int32) (x3 : Int32) (μ : nwM) (res : Int32) (hf : fm_held x1 x2 x3 μ = some res) : Met l yX2_held (ws_ yX2_held cX2_held 4 (some .int)) (rmd 0) (mPc D dT h μ [.int x1, .int x2, .int x3]) (mQi D dT h μ res) 0 0 (mA h) := by
  refine m_met (by decide) rfl (Nat.le_of_ble_eq_true rfl) ?_
  intro p e s m below meth c ls E hK hr hlk hl hP
  have hS : va_S (mA h) s.heap s.heap [] := va_S.rf
  obtain ⟨hx, hb, -, hown, hts⟩ := id E
  have hl : lv_has ls 4 [(0, .ref h), (1, .int x1), (2, .int x2), (3, .int x3)] := hl
  unfold fm_held at hf
  refine lv_iload_n hx hb dX2_held_0 rfl (lv_at hl 1 rfl) ?_
  refine lv_iload_n hx hb dX2_held_1 rfl (lv_at hl 2 rfl) ?_
  refine lv_icmp_ge (tgt := 9) hx hb dX2_held_2 (by decide) (fun kc1 => ?_) (fun kc1 => ?_)
  · have hf := ite_t kc1 hf
    refine lv_iload_n hx hb dX2_held_9 rfl (lv_at hl 1 rfl) ?_
    refine lv_iload_n hx hb dX2_held_10 rfl (lv_at hl 3 rfl) ?_
    refine lv_icmp_le (tgt := 18) hx hb dX2_held_11 (by decide) (fun kc2 => ?_) (fun kc2 => ?_)
    · have hf := ite_t kc2 hf
      refine lv_iload_n hx hb dX2_held_18 rfl (lv_at hl 1 rfl) ?_
      cases hf
      exact m_iret E hr hlk hP hS rfl dX2_held_19
    · have hf := ite_f kc2 hf
      refine lv_iload_n hx hb dX2_held_14 rfl (lv_at hl 3 rfl) ?_
      refine lv_goto (tgt := 19) hx hb dX2_held_15 (by decide) ?_
      cases hf
      exact m_iret E hr hlk hP hS rfl dX2_held_19
  · have hf := ite_f kc1 hf
    refine lv_iload_n hx hb dX2_held_5 rfl (lv_at hl 2 rfl) ?_
    refine lv_goto (tgt := 19) hx hb dX2_held_6 (by decide) ?_
    cases hf
    exact m_iret E hr hlk hP hS rfl dX2_held_19
set_option maxHeartbeats 4000000 in
def fm_greater (x1 : Int32) (x2 : Int32) (μ : nwM) : Option (Int32) := (if x1 ≤ x2 then some x2 else some x1)
set_option maxHeartbeats 4000000 in
theorem dm_greater : yX2_greater.cls = RX2 ∧ yX2_greater.cls ≠ "java/lang/invoke/MethodHandle" ∧ yX2_greater.cls ≠ "java/lang/invoke/VarHandle" ∧ (parseMethodDescriptor yX2_greater.desc).map (fun d => d.parameters.length) = some 2 := ⟨rfl, by decide +kernel, by decide +kernel, by decide +kernel⟩
set_option maxHeartbeats 4000000 in
theorem tm_greater (l : Launch) (D : va_G) (dT : Nat → ClassId) (h : Nat) (x1 : Int32) (x2 : Int32) (μ : nwM) (res : Int32) (hf : fm_greater x1 x2 μ = some res) : Met l yX2_greater (ws_ yX2_greater cX2_greater 3 (some .int)) (rmd 0) (mPc D dT h μ [.int x1, .int x2]) (mQi D dT h μ res) 0 0 (mA h) := by
  refine m_met (by decide) rfl (Nat.le_of_ble_eq_true rfl) ?_
  intro p e s m below meth c ls E hK hr hlk hl hP
  have hS : va_S (mA h) s.heap s.heap [] := va_S.rf
  obtain ⟨hx, hb, -, hown, hts⟩ := id E
  have hl : lv_has ls 3 [(0, .ref h), (1, .int x1), (2, .int x2)] := hl
  unfold fm_greater at hf
  refine lv_iload_n hx hb dX2_greater_0 rfl (lv_at hl 1 rfl) ?_
  refine lv_iload_n hx hb dX2_greater_1 rfl (lv_at hl 2 rfl) ?_
  refine lv_icmp_le (tgt := 9) hx hb dX2_greater_2 (by decide) (fun kc1 => ?_) (fun kc1 => ?_)
  · have hf := ite_t kc1 hf
    refine lv_iload_n hx hb dX2_greater_9 rfl (lv_at hl 2 rfl) ?_
    cases hf
    exact m_iret E hr hlk hP hS rfl dX2_greater_10
  · have hf := ite_f kc1 hf
    refine lv_iload_n hx hb dX2_greater_5 rfl (lv_at hl 1 rfl) ?_
    refine lv_goto (tgt := 10) hx hb dX2_greater_6 (by decide) ?_
    cases hf
    exact m_iret E hr hlk hP hS rfl dX2_greater_10
set_option maxHeartbeats 4000000 in
def fm_onesOf_L4 (μ : nwM) : (Int32 × Int32) → Option ((Int32 × Int32) ⊕ (Int32)) := fun st => (if st.2 = 0 then some (.inr st.1) else some (.inl (st.1 + (nI 1), st.2 &&& (st.2 - (nI 1)))))
set_option maxHeartbeats 4000000 in
noncomputable def fm_onesOf (x1 : Int32) (μ : nwM) : Option (Int32) := (wh_ (fm_onesOf_L4 μ) (nI 0, x1)).bind fun x2 => some x2
set_option maxHeartbeats 4000000 in
theorem fm_onesOf_L4_w {p : Program} {l : Launch} {e : Env} {s : State} {m : MethodId} {args : Array Value} {below : List Frame} {meth : Method} {c : Code} {Q : State → Prop} {D : va_G} {dT : Nat → ClassId} {h : Nat} (E : CallFix p m c cX2_onesOf 4 s args lw_all RX2) (hK : va_K D nwCl (nwT dT) s) (μ : nwM) {st : Int32 × Int32} {x : Int32} (hw : wh_ (fm_onesOf_L4 μ) st = some x) (hk : (fun x : Int32 => ∀ (ls : Array Slot) (H : Heap) (locs : List Loc), lv_has ls 4 [(2, .int x)] → PM D dT h μ H → va_S (mA h) s.heap H locs → W p l e (rmd 0) s m args below meth c H locs 0 0 Q (F0 m 21 ls [])) x) : (fun st : Int32 × Int32 => ∀ (ls : Array Slot) (H : Heap) (locs : List Loc), lv_has ls 4 [(2, .int st.1), (3, .int st.2)] → PM D dT h μ H → va_S (mA h) s.heap H locs → W p l e (rmd 0) s m args below meth c H locs 0 0 Q (F0 m 4 ls [])) st := by
  obtain ⟨hx, hb, -, hown, hts⟩ := id E
  refine wh_run (P := (fun st : Int32 × Int32 => ∀ (ls : Array Slot) (H : Heap) (locs : List Loc), lv_has ls 4 [(2, .int st.1), (3, .int st.2)] → PM D dT h μ H → va_S (mA h) s.heap H locs → W p l e (rmd 0) s m args below meth c H locs 0 0 Q (F0 m 4 ls []))) (PE := (fun x : Int32 => ∀ (ls : Array Slot) (H : Heap) (locs : List Loc), lv_has ls 4 [(2, .int x)] → PM D dT h μ H → va_S (mA h) s.heap H locs → W p l e (rmd 0) s m args below meth c H locs 0 0 Q (F0 m 21 ls []))) ?_ hw hk
  clear hw hk
  intro st x hf hk ls H locs hl hP hS
  refine lv_iload_n hx hb dX2_onesOf_4 rfl (lv_at hl 1 rfl) ?_
  refine lv_if_eq (tgt := 21) hx hb dX2_onesOf_5 (by decide) (fun kc1 => ?_) (fun kc1 => ?_)
  · have hf := ite_t kc1 hf
    cases hf
    exact hk _ _ _ (lv_sub hl [0] rfl) hP hS
  · have hf := ite_f kc1 hf
    refine lv_iload_n hx hb dX2_onesOf_8 rfl (lv_at hl 0 rfl) ?_
    refine lv_iconst (v := nI 1) hx hb dX2_onesOf_9 rfl ?_
    refine lv_iadd hx hb dX2_onesOf_10 ?_
    refine lv_istore_n (lv' := [(2, .int (st.1 + (nI 1))), (3, .int st.2)]) hx hb dX2_onesOf_11 rfl hl (by decide) rfl (fun ls hl => ?_)
    refine lv_iload_n hx hb dX2_onesOf_12 rfl (lv_at hl 1 rfl) ?_
    refine lv_iload_n hx hb dX2_onesOf_13 rfl (lv_at hl 1 rfl) ?_
    refine lv_iconst (v := nI 1) hx hb dX2_onesOf_14 rfl ?_
    refine lv_isub hx hb dX2_onesOf_15 ?_
    refine lv_iand hx hb dX2_onesOf_16 ?_
    refine lv_istore_n (lv' := [(3, .int (st.2 &&& (st.2 - (nI 1)))), (2, .int (st.1 + (nI 1)))]) hx hb dX2_onesOf_17 rfl hl (by decide) rfl (fun ls hl => ?_)
    refine lv_goto (tgt := 4) hx hb dX2_onesOf_18 (by decide) ?_
    cases hf
    exact hk _ _ _ (lv_sub hl [1, 0] rfl) hP hS
set_option maxHeartbeats 4000000 in
theorem dm_onesOf : yX2_onesOf.cls = RX2 ∧ yX2_onesOf.cls ≠ "java/lang/invoke/MethodHandle" ∧ yX2_onesOf.cls ≠ "java/lang/invoke/VarHandle" ∧ (parseMethodDescriptor yX2_onesOf.desc).map (fun d => d.parameters.length) = some 1 := ⟨rfl, by decide +kernel, by decide +kernel, by decide +kernel⟩
set_option maxHeartbeats 4000000 in
theorem tm_onesOf (l : Launch) (D : va_G) (dT : Nat → ClassId) (h : Nat) (x1 : Int32) (μ : nwM) (res : Int32) (hf : fm_onesOf x1 μ = some res) : Met l yX2_onesOf (ws_ yX2_onesOf cX2_onesOf 4 (some .int)) (rmd 0) (mPc D dT h μ [.int x1]) (mQi D dT h μ res) 0 0 (mA h) := by
  refine m_met (by decide) rfl (Nat.le_of_ble_eq_true rfl) ?_
  intro p e s m below meth c ls E hK hr hlk hl hP
  have hS : va_S (mA h) s.heap s.heap [] := va_S.rf
  obtain ⟨hx, hb, -, hown, hts⟩ := id E
  have hl : lv_has ls 4 [(0, .ref h), (1, .int x1)] := hl
  unfold fm_onesOf at hf
  refine lv_iconst (v := nI 0) hx hb dX2_onesOf_0 rfl ?_
  refine lv_istore_n (lv' := [(2, .int (nI 0)), (0, .ref h), (1, .int x1)]) hx hb dX2_onesOf_1 rfl hl (by decide) rfl (fun ls hl => ?_)
  refine lv_iload_n hx hb dX2_onesOf_2 rfl (lv_at hl 2 rfl) ?_
  refine lv_istore_n (lv' := [(3, .int x1), (2, .int (nI 0)), (0, .ref h), (1, .int x1)]) hx hb dX2_onesOf_3 rfl hl (by decide) rfl (fun ls hl => ?_)
  obtain ⟨x2, hx2, hf⟩ := ob hf
  refine fm_onesOf_L4_w E hK μ hx2 (fun ls H locs hl hP hS => ?_) _ _ _ (lv_sub hl [1, 0] rfl) hP hS
  refine lv_iload_n hx hb dX2_onesOf_21 rfl (lv_at hl 0 rfl) ?_
  cases hf
  exact m_iret E hr hlk hP hS rfl dX2_onesOf_22
set_option maxHeartbeats 4000000 in
def fm_keepsAhead_L55 : (Int32 × nwM) → Option ((Int32 × nwM) ⊕ (nwM)) := fun st => (if (nI 105) ≤ st.1 then some (.inr st.2) else (rd_ st.2 1 105 st.1).bind fun v3 => (wr_ st.2 2 630 (((nI 105) * (st.2 3 0)) + st.1) v3).bind fun μ4 => some (.inl (st.1 + nI 1, μ4)))
set_option maxHeartbeats 4000000 in
def fm_keepsAhead_L21 : (Int32 × nwM) → Option ((Int32 × nwM) ⊕ (nwM)) := fun st => (if ((nI 105) * (st.2 3 0)) ≤ st.1 then some (.inr st.2) else (rd_ st.2 2 630 (st.1 + (nI 105))).bind fun v9 => (wr_ st.2 2 630 st.1 v9).bind fun μ10 => some (.inl (st.1 + nI 1, μ10)))
set_option maxHeartbeats 4000000 in
noncomputable def fm_keepsAhead (μ : nwM) : Option (nwM) := (if (μ 3 0) = (nI 6) then (wf_ μ 3 ((μ 3 0) - (nI 1))).bind fun μ7 => (wh_ (fm_keepsAhead_L21) (nI 0, μ7)).bind fun x11 => (wh_ (fm_keepsAhead_L55) (nI 0, x11)).bind fun x12 => (wf_ x12 3 ((x12 3 0) + (nI 1))).bind fun μ13 => some μ13 else (wh_ (fm_keepsAhead_L55) (nI 0, μ)).bind fun x5 => (wf_ x5 3 ((x5 3 0) + (nI 1))).bind fun μ6 => some μ6)
set_option maxHeartbeats 4000000 in
theorem fm_keepsAhead_L55_w {p : Program} {l : Launch} {e : Env} {s : State} {m : MethodId} {args : Array Value} {below : List Frame} {meth : Method} {c : Code} {Q : State → Prop} {D : va_G} {dT : Nat → ClassId} {h : Nat} (E : CallFix p m c cX2_keepsAhead 2 s args lw_all RX2) (hK : va_K D nwCl (nwT dT) s) {st : Int32 × nwM} {x : nwM} (hw : wh_ (fm_keepsAhead_L55) st = some x) (hk : (fun x : nwM => ∀ (ls : Array Slot) (H : Heap) (locs : List Loc), lv_has ls 2 [(0, .ref h)] → PM D dT h x H → va_S (mA h) s.heap H locs → W p l e (rmd 0) s m args below meth c H locs 0 0 Q (F0 m 87 ls [])) x) : (fun st : Int32 × nwM => ∀ (ls : Array Slot) (H : Heap) (locs : List Loc), lv_has ls 2 [(0, .ref h), (1, .int st.1)] → PM D dT h st.2 H → va_S (mA h) s.heap H locs → W p l e (rmd 0) s m args below meth c H locs 0 0 Q (F0 m 55 ls [])) st := by
  obtain ⟨hx, hb, -, hown, hts⟩ := id E
  refine wh_run (P := (fun st : Int32 × nwM => ∀ (ls : Array Slot) (H : Heap) (locs : List Loc), lv_has ls 2 [(0, .ref h), (1, .int st.1)] → PM D dT h st.2 H → va_S (mA h) s.heap H locs → W p l e (rmd 0) s m args below meth c H locs 0 0 Q (F0 m 55 ls []))) (PE := (fun x : nwM => ∀ (ls : Array Slot) (H : Heap) (locs : List Loc), lv_has ls 2 [(0, .ref h)] → PM D dT h x H → va_S (mA h) s.heap H locs → W p l e (rmd 0) s m args below meth c H locs 0 0 Q (F0 m 87 ls []))) ?_ hw hk
  clear hw hk
  intro st x hf hk ls H locs hl hP hS
  refine lv_iload_n hx hb dX2_keepsAhead_55 rfl (lv_at hl 1 rfl) ?_
  refine lv_bipush (v := nI 105) hx hb dX2_keepsAhead_56 rfl ?_
  refine lv_icmp_ge (tgt := 87) hx hb dX2_keepsAhead_58 (by decide) (fun kc2 => ?_) (fun kc2 => ?_)
  · have hf := ite_t kc2 hf
    cases hf
    exact hk _ _ _ (lv_sub hl [0] rfl) hP hS
  · have hf := ite_f kc2 hf
    refine lv_aload_n hx hb dX2_keepsAhead_61 rfl (lv_at hl 0 rfl) ?_
    refine m_ga E hK hP 2 (by decide) rfl q1415 rfl dX2_keepsAhead_62 ?_
    refine lv_bipush (v := nI 105) hx hb dX2_keepsAhead_65 rfl ?_
    refine lv_aload_n hx hb dX2_keepsAhead_67 rfl (lv_at hl 0 rfl) ?_
    refine m_get E hK hP 3 (by decide) rfl q1416 rfl dX2_keepsAhead_68 ?_
    refine lv_imul hx hb dX2_keepsAhead_71 ?_
    refine lv_iload_n hx hb dX2_keepsAhead_72 rfl (lv_at hl 1 rfl) ?_
    refine lv_iadd hx hb dX2_keepsAhead_73 ?_
    refine lv_aload_n hx hb dX2_keepsAhead_74 rfl (lv_at hl 0 rfl) ?_
    refine m_ga E hK hP 1 (by decide) rfl q1414 rfl dX2_keepsAhead_75 ?_
    refine lv_iload_n hx hb dX2_keepsAhead_78 rfl (lv_at hl 1 rfl) ?_
    obtain ⟨v3, hv3, hf⟩ := ob hf
    refine m_ald E hK hP (by decide) rfl rfl hv3 dX2_keepsAhead_79 ?_
    obtain ⟨μ4, hμ4, hf⟩ := ob hf
    refine m_ast E hK hP hS (by decide) rfl rfl hμ4 dX2_keepsAhead_80 (fun H locs hP hS => ?_)
    refine lv_iinc (v := st.1 + nI 1) (lv' := [(1, .int (st.1 + nI 1)), (0, .ref h)]) hx hb dX2_keepsAhead_81 hl (k := 1) rfl rfl (by decide) rfl (fun ls hl => ?_)
    refine lv_goto (tgt := 55) hx hb dX2_keepsAhead_84 (by decide) ?_
    cases hf
    exact hk _ _ _ (lv_sub hl [1, 0] rfl) hP hS
set_option maxHeartbeats 4000000 in
theorem fm_keepsAhead_L21_w {p : Program} {l : Launch} {e : Env} {s : State} {m : MethodId} {args : Array Value} {below : List Frame} {meth : Method} {c : Code} {Q : State → Prop} {D : va_G} {dT : Nat → ClassId} {h : Nat} (E : CallFix p m c cX2_keepsAhead 2 s args lw_all RX2) (hK : va_K D nwCl (nwT dT) s) {st : Int32 × nwM} {x : nwM} (hw : wh_ (fm_keepsAhead_L21) st = some x) (hk : (fun x : nwM => ∀ (ls : Array Slot) (H : Heap) (locs : List Loc), lv_has ls 2 [(0, .ref h)] → PM D dT h x H → va_S (mA h) s.heap H locs → W p l e (rmd 0) s m args below meth c H locs 0 0 Q (F0 m 53 ls [])) x) : (fun st : Int32 × nwM => ∀ (ls : Array Slot) (H : Heap) (locs : List Loc), lv_has ls 2 [(0, .ref h), (1, .int st.1)] → PM D dT h st.2 H → va_S (mA h) s.heap H locs → W p l e (rmd 0) s m args below meth c H locs 0 0 Q (F0 m 21 ls [])) st := by
  obtain ⟨hx, hb, -, hown, hts⟩ := id E
  refine wh_run (P := (fun st : Int32 × nwM => ∀ (ls : Array Slot) (H : Heap) (locs : List Loc), lv_has ls 2 [(0, .ref h), (1, .int st.1)] → PM D dT h st.2 H → va_S (mA h) s.heap H locs → W p l e (rmd 0) s m args below meth c H locs 0 0 Q (F0 m 21 ls []))) (PE := (fun x : nwM => ∀ (ls : Array Slot) (H : Heap) (locs : List Loc), lv_has ls 2 [(0, .ref h)] → PM D dT h x H → va_S (mA h) s.heap H locs → W p l e (rmd 0) s m args below meth c H locs 0 0 Q (F0 m 53 ls []))) ?_ hw hk
  clear hw hk
  intro st x hf hk ls H locs hl hP hS
  refine lv_iload_n hx hb dX2_keepsAhead_21 rfl (lv_at hl 1 rfl) ?_
  refine lv_bipush (v := nI 105) hx hb dX2_keepsAhead_22 rfl ?_
  refine lv_aload_n hx hb dX2_keepsAhead_24 rfl (lv_at hl 0 rfl) ?_
  refine m_get E hK hP 3 (by decide) rfl q1416 rfl dX2_keepsAhead_25 ?_
  refine lv_imul hx hb dX2_keepsAhead_28 ?_
  refine lv_icmp_ge (tgt := 53) hx hb dX2_keepsAhead_29 (by decide) (fun kc8 => ?_) (fun kc8 => ?_)
  · have hf := ite_t kc8 hf
    cases hf
    exact hk _ _ _ (lv_sub hl [0] rfl) hP hS
  · have hf := ite_f kc8 hf
    refine lv_aload_n hx hb dX2_keepsAhead_32 rfl (lv_at hl 0 rfl) ?_
    refine m_ga E hK hP 2 (by decide) rfl q1415 rfl dX2_keepsAhead_33 ?_
    refine lv_iload_n hx hb dX2_keepsAhead_36 rfl (lv_at hl 1 rfl) ?_
    refine lv_aload_n hx hb dX2_keepsAhead_37 rfl (lv_at hl 0 rfl) ?_
    refine m_ga E hK hP 2 (by decide) rfl q1415 rfl dX2_keepsAhead_38 ?_
    refine lv_iload_n hx hb dX2_keepsAhead_41 rfl (lv_at hl 1 rfl) ?_
    refine lv_bipush (v := nI 105) hx hb dX2_keepsAhead_42 rfl ?_
    refine lv_iadd hx hb dX2_keepsAhead_44 ?_
    obtain ⟨v9, hv9, hf⟩ := ob hf
    refine m_ald E hK hP (by decide) rfl rfl hv9 dX2_keepsAhead_45 ?_
    obtain ⟨μ10, hμ10, hf⟩ := ob hf
    refine m_ast E hK hP hS (by decide) rfl rfl hμ10 dX2_keepsAhead_46 (fun H locs hP hS => ?_)
    refine lv_iinc (v := st.1 + nI 1) (lv' := [(1, .int (st.1 + nI 1)), (0, .ref h)]) hx hb dX2_keepsAhead_47 hl (k := 1) rfl rfl (by decide) rfl (fun ls hl => ?_)
    refine lv_goto (tgt := 21) hx hb dX2_keepsAhead_50 (by decide) ?_
    cases hf
    exact hk _ _ _ (lv_sub hl [1, 0] rfl) hP hS
set_option maxHeartbeats 4000000 in
theorem dm_keepsAhead : yX2_keepsAhead.cls = RX2 ∧ yX2_keepsAhead.cls ≠ "java/lang/invoke/MethodHandle" ∧ yX2_keepsAhead.cls ≠ "java/lang/invoke/VarHandle" ∧ (parseMethodDescriptor yX2_keepsAhead.desc).map (fun d => d.parameters.length) = some 0 := ⟨rfl, by decide +kernel, by decide +kernel, by decide +kernel⟩
set_option maxHeartbeats 4000000 in
theorem tm_keepsAhead (l : Launch) (D : va_G) (dT : Nat → ClassId) (h : Nat) (μ : nwM) (res : nwM) (hf : fm_keepsAhead μ = some res) : Met l yX2_keepsAhead (ws_ yX2_keepsAhead cX2_keepsAhead 2 none) (rmd 0) (mPc D dT h μ []) (mQv D dT h res) 0 0 (mA h) := by
  refine m_met (by decide) rfl (Nat.le_of_ble_eq_true rfl) ?_
  intro p e s m below meth c ls E hK hr hlk hl hP
  have hS : va_S (mA h) s.heap s.heap [] := va_S.rf
  obtain ⟨hx, hb, -, hown, hts⟩ := id E
  have hl : lv_has ls 2 [(0, .ref h)] := hl
  unfold fm_keepsAhead at hf
  refine lv_aload_n hx hb dX2_keepsAhead_0 rfl (lv_at hl 0 rfl) ?_
  refine m_get E hK hP 3 (by decide) rfl q1416 rfl dX2_keepsAhead_1 ?_
  refine lv_bipush (v := nI 6) hx hb dX2_keepsAhead_4 rfl ?_
  refine lv_icmp_ne (tgt := 53) hx hb dX2_keepsAhead_6 (by decide) (fun kc1 => ?_) (fun kc1 => ?_)
  · have hf := ite_f kc1 hf
    refine lv_iconst (v := nI 0) hx hb dX2_keepsAhead_53 rfl ?_
    refine lv_istore_n (lv' := [(1, .int (nI 0)), (0, .ref h)]) hx hb dX2_keepsAhead_54 rfl hl (by decide) rfl (fun ls hl => ?_)
    obtain ⟨x5, hx5, hf⟩ := ob hf
    refine fm_keepsAhead_L55_w E hK hx5 (fun ls H locs hl hP hS => ?_) _ _ _ (lv_sub hl [1, 0] rfl) hP hS
    refine lv_aload_n hx hb dX2_keepsAhead_87 rfl (lv_at hl 0 rfl) ?_
    refine lv_aload_n hx hb dX2_keepsAhead_88 rfl (lv_at hl 0 rfl) ?_
    refine m_get E hK hP 3 (by decide) rfl q1416 rfl dX2_keepsAhead_89 ?_
    refine lv_iconst (v := nI 1) hx hb dX2_keepsAhead_92 rfl ?_
    refine lv_iadd hx hb dX2_keepsAhead_93 ?_
    obtain ⟨μ6, hμ6, hf⟩ := ob hf
    refine m_put E hK hP hS 3 (by decide) rfl q1416 rfl rfl rfl hμ6 dX2_keepsAhead_94 (fun H locs hP hS => ?_)
    cases hf
    exact m_vret E hr hlk hP hS dX2_keepsAhead_97
  · have hf := ite_t kc1 hf
    refine lv_aload_n hx hb dX2_keepsAhead_9 rfl (lv_at hl 0 rfl) ?_
    refine lv_aload_n hx hb dX2_keepsAhead_10 rfl (lv_at hl 0 rfl) ?_
    refine m_get E hK hP 3 (by decide) rfl q1416 rfl dX2_keepsAhead_11 ?_
    refine lv_iconst (v := nI 1) hx hb dX2_keepsAhead_14 rfl ?_
    refine lv_isub hx hb dX2_keepsAhead_15 ?_
    obtain ⟨μ7, hμ7, hf⟩ := ob hf
    refine m_put E hK hP hS 3 (by decide) rfl q1416 rfl rfl rfl hμ7 dX2_keepsAhead_16 (fun H locs hP hS => ?_)
    refine lv_iconst (v := nI 0) hx hb dX2_keepsAhead_19 rfl ?_
    refine lv_istore_n (lv' := [(1, .int (nI 0)), (0, .ref h)]) hx hb dX2_keepsAhead_20 rfl hl (by decide) rfl (fun ls hl => ?_)
    obtain ⟨x11, hx11, hf⟩ := ob hf
    refine fm_keepsAhead_L21_w E hK hx11 (fun ls H locs hl hP hS => ?_) _ _ _ (lv_sub hl [1, 0] rfl) hP hS
    refine lv_iconst (v := nI 0) hx hb dX2_keepsAhead_53 rfl ?_
    refine lv_istore_n (lv' := [(1, .int (nI 0)), (0, .ref h)]) hx hb dX2_keepsAhead_54 rfl hl (by decide) rfl (fun ls hl => ?_)
    obtain ⟨x12, hx12, hf⟩ := ob hf
    refine fm_keepsAhead_L55_w E hK hx12 (fun ls H locs hl hP hS => ?_) _ _ _ (lv_sub hl [1, 0] rfl) hP hS
    refine lv_aload_n hx hb dX2_keepsAhead_87 rfl (lv_at hl 0 rfl) ?_
    refine lv_aload_n hx hb dX2_keepsAhead_88 rfl (lv_at hl 0 rfl) ?_
    refine m_get E hK hP 3 (by decide) rfl q1416 rfl dX2_keepsAhead_89 ?_
    refine lv_iconst (v := nI 1) hx hb dX2_keepsAhead_92 rfl ?_
    refine lv_iadd hx hb dX2_keepsAhead_93 ?_
    obtain ⟨μ13, hμ13, hf⟩ := ob hf
    refine m_put E hK hP hS 3 (by decide) rfl q1416 rfl rfl rfl hμ13 dX2_keepsAhead_94 (fun H locs hP hS => ?_)
    cases hf
    exact m_vret E hr hlk hP hS dX2_keepsAhead_97
set_option maxHeartbeats 4000000 in
def fm_undo_L26 : (Int32 × nwM) → Option ((Int32 × nwM) ⊕ (nwM)) := fun st => (if (nI 105) ≤ st.1 then some (.inr st.2) else (rd_ st.2 2 630 (((nI 105) * (st.2 3 0)) + st.1)).bind fun v5 => (wr_ st.2 1 105 st.1 v5).bind fun μ6 => some (.inl (st.1 + nI 1, μ6)))
set_option maxHeartbeats 4000000 in
noncomputable def fm_undo (μ : nwM) : Option (Int32 × nwM) := (wf_ μ 0 (nI 0)).bind fun μ1 => (if (μ1 3 0) = 0 then some (nI 0, μ1) else (wf_ μ1 3 ((μ1 3 0) - (nI 1))).bind fun μ3 => (wh_ (fm_undo_L26) (nI 0, μ3)).bind fun x7 => some (nI 1, x7))
set_option maxHeartbeats 4000000 in
theorem fm_undo_L26_w {p : Program} {l : Launch} {e : Env} {s : State} {m : MethodId} {args : Array Value} {below : List Frame} {meth : Method} {c : Code} {Q : State → Prop} {D : va_G} {dT : Nat → ClassId} {h : Nat} (E : CallFix p m c cX2_undo 2 s args lw_all RX2) (hK : va_K D nwCl (nwT dT) s) {st : Int32 × nwM} {x : nwM} (hw : wh_ (fm_undo_L26) st = some x) (hk : (fun x : nwM => ∀ (ls : Array Slot) (H : Heap) (locs : List Loc), lv_has ls 2 [] → PM D dT h x H → va_S (mA h) s.heap H locs → W p l e (rmd 0) s m args below meth c H locs 0 0 Q (F0 m 58 ls [])) x) : (fun st : Int32 × nwM => ∀ (ls : Array Slot) (H : Heap) (locs : List Loc), lv_has ls 2 [(0, .ref h), (1, .int st.1)] → PM D dT h st.2 H → va_S (mA h) s.heap H locs → W p l e (rmd 0) s m args below meth c H locs 0 0 Q (F0 m 26 ls [])) st := by
  obtain ⟨hx, hb, -, hown, hts⟩ := id E
  refine wh_run (P := (fun st : Int32 × nwM => ∀ (ls : Array Slot) (H : Heap) (locs : List Loc), lv_has ls 2 [(0, .ref h), (1, .int st.1)] → PM D dT h st.2 H → va_S (mA h) s.heap H locs → W p l e (rmd 0) s m args below meth c H locs 0 0 Q (F0 m 26 ls []))) (PE := (fun x : nwM => ∀ (ls : Array Slot) (H : Heap) (locs : List Loc), lv_has ls 2 [] → PM D dT h x H → va_S (mA h) s.heap H locs → W p l e (rmd 0) s m args below meth c H locs 0 0 Q (F0 m 58 ls []))) ?_ hw hk
  clear hw hk
  intro st x hf hk ls H locs hl hP hS
  refine lv_iload_n hx hb dX2_undo_26 rfl (lv_at hl 1 rfl) ?_
  refine lv_bipush (v := nI 105) hx hb dX2_undo_27 rfl ?_
  refine lv_icmp_ge (tgt := 58) hx hb dX2_undo_29 (by decide) (fun kc4 => ?_) (fun kc4 => ?_)
  · have hf := ite_t kc4 hf
    cases hf
    exact hk _ _ _ (lv_sub hl [] rfl) hP hS
  · have hf := ite_f kc4 hf
    refine lv_aload_n hx hb dX2_undo_32 rfl (lv_at hl 0 rfl) ?_
    refine m_ga E hK hP 1 (by decide) rfl q1414 rfl dX2_undo_33 ?_
    refine lv_iload_n hx hb dX2_undo_36 rfl (lv_at hl 1 rfl) ?_
    refine lv_aload_n hx hb dX2_undo_37 rfl (lv_at hl 0 rfl) ?_
    refine m_ga E hK hP 2 (by decide) rfl q1415 rfl dX2_undo_38 ?_
    refine lv_bipush (v := nI 105) hx hb dX2_undo_41 rfl ?_
    refine lv_aload_n hx hb dX2_undo_43 rfl (lv_at hl 0 rfl) ?_
    refine m_get E hK hP 3 (by decide) rfl q1416 rfl dX2_undo_44 ?_
    refine lv_imul hx hb dX2_undo_47 ?_
    refine lv_iload_n hx hb dX2_undo_48 rfl (lv_at hl 1 rfl) ?_
    refine lv_iadd hx hb dX2_undo_49 ?_
    obtain ⟨v5, hv5, hf⟩ := ob hf
    refine m_ald E hK hP (by decide) rfl rfl hv5 dX2_undo_50 ?_
    obtain ⟨μ6, hμ6, hf⟩ := ob hf
    refine m_ast E hK hP hS (by decide) rfl rfl hμ6 dX2_undo_51 (fun H locs hP hS => ?_)
    refine lv_iinc (v := st.1 + nI 1) (lv' := [(1, .int (st.1 + nI 1)), (0, .ref h)]) hx hb dX2_undo_52 hl (k := 1) rfl rfl (by decide) rfl (fun ls hl => ?_)
    refine lv_goto (tgt := 26) hx hb dX2_undo_55 (by decide) ?_
    cases hf
    exact hk _ _ _ (lv_sub hl [1, 0] rfl) hP hS
set_option maxHeartbeats 4000000 in
theorem dm_undo : yX2_undo.cls = RX2 ∧ yX2_undo.cls ≠ "java/lang/invoke/MethodHandle" ∧ yX2_undo.cls ≠ "java/lang/invoke/VarHandle" ∧ (parseMethodDescriptor yX2_undo.desc).map (fun d => d.parameters.length) = some 0 := ⟨rfl, by decide +kernel, by decide +kernel, by decide +kernel⟩
set_option maxHeartbeats 4000000 in
theorem tm_undo (l : Launch) (D : va_G) (dT : Nat → ClassId) (h : Nat) (μ : nwM) (res : Int32 × nwM) (hf : fm_undo μ = some res) : Met l yX2_undo (ws_ yX2_undo cX2_undo 2 (some .boolean)) (rmd 0) (mPc D dT h μ []) (mQi D dT h res.2 res.1) 0 0 (mA h) := by
  refine m_met (by decide) rfl (Nat.le_of_ble_eq_true rfl) ?_
  intro p e s m below meth c ls E hK hr hlk hl hP
  have hS : va_S (mA h) s.heap s.heap [] := va_S.rf
  obtain ⟨hx, hb, -, hown, hts⟩ := id E
  have hl : lv_has ls 2 [(0, .ref h)] := hl
  unfold fm_undo at hf
  refine lv_aload_n hx hb dX2_undo_0 rfl (lv_at hl 0 rfl) ?_
  refine lv_iconst (v := nI 0) hx hb dX2_undo_1 rfl ?_
  obtain ⟨μ1, hμ1, hf⟩ := ob hf
  refine m_put E hK hP hS 0 (by decide) rfl q1413 rfl rfl rfl hμ1 dX2_undo_2 (fun H locs hP hS => ?_)
  refine lv_aload_n hx hb dX2_undo_5 rfl (lv_at hl 0 rfl) ?_
  refine m_get E hK hP 3 (by decide) rfl q1416 rfl dX2_undo_6 ?_
  refine lv_if_ne (tgt := 14) hx hb dX2_undo_9 (by decide) (fun kc2 => ?_) (fun kc2 => ?_)
  · have hf := ite_f kc2 hf
    refine lv_aload_n hx hb dX2_undo_14 rfl (lv_at hl 0 rfl) ?_
    refine lv_aload_n hx hb dX2_undo_15 rfl (lv_at hl 0 rfl) ?_
    refine m_get E hK hP 3 (by decide) rfl q1416 rfl dX2_undo_16 ?_
    refine lv_iconst (v := nI 1) hx hb dX2_undo_19 rfl ?_
    refine lv_isub hx hb dX2_undo_20 ?_
    obtain ⟨μ3, hμ3, hf⟩ := ob hf
    refine m_put E hK hP hS 3 (by decide) rfl q1416 rfl rfl rfl hμ3 dX2_undo_21 (fun H locs hP hS => ?_)
    refine lv_iconst (v := nI 0) hx hb dX2_undo_24 rfl ?_
    refine lv_istore_n (lv' := [(1, .int (nI 0)), (0, .ref h)]) hx hb dX2_undo_25 rfl hl (by decide) rfl (fun ls hl => ?_)
    obtain ⟨x7, hx7, hf⟩ := ob hf
    refine fm_undo_L26_w E hK hx7 (fun ls H locs hl hP hS => ?_) _ _ _ (lv_sub hl [1, 0] rfl) hP hS
    refine lv_iconst (v := nI 1) hx hb dX2_undo_58 rfl ?_
    cases hf
    exact m_zret E hr hlk hP hS rfl dX2_undo_59
  · have hf := ite_t kc2 hf
    refine lv_iconst (v := nI 0) hx hb dX2_undo_12 rfl ?_
    cases hf
    exact m_zret E hr hlk hP hS rfl dX2_undo_13
set_option maxHeartbeats 4000000 in
def fm_thinks_L2 : (Int32 × nwM) → Option ((Int32 × nwM) ⊕ (nwM)) := fun st => (if (nI 105) ≤ st.1 then some (.inr st.2) else (rd_ st.2 1 105 st.1).bind fun v2 => (wr_ st.2 4 105 st.1 v2).bind fun μ3 => some (.inl (st.1 + nI 1, μ3)))
set_option maxHeartbeats 4000000 in
noncomputable def fm_thinks (μ : nwM) : Option (nwM) := (wh_ (fm_thinks_L2) (nI 0, μ)).bind fun x4 => (wz_ x4 5 (nI 1)).bind fun μ5 => some μ5
set_option maxHeartbeats 4000000 in
theorem fm_thinks_L2_w {p : Program} {l : Launch} {e : Env} {s : State} {m : MethodId} {args : Array Value} {below : List Frame} {meth : Method} {c : Code} {Q : State → Prop} {D : va_G} {dT : Nat → ClassId} {h : Nat} (E : CallFix p m c cX2_thinks 2 s args lw_all RX2) (hK : va_K D nwCl (nwT dT) s) {st : Int32 × nwM} {x : nwM} (hw : wh_ (fm_thinks_L2) st = some x) (hk : (fun x : nwM => ∀ (ls : Array Slot) (H : Heap) (locs : List Loc), lv_has ls 2 [(0, .ref h)] → PM D dT h x H → va_S (mA h) s.heap H locs → W p l e (rmd 0) s m args below meth c H locs 0 0 Q (F0 m 26 ls [])) x) : (fun st : Int32 × nwM => ∀ (ls : Array Slot) (H : Heap) (locs : List Loc), lv_has ls 2 [(0, .ref h), (1, .int st.1)] → PM D dT h st.2 H → va_S (mA h) s.heap H locs → W p l e (rmd 0) s m args below meth c H locs 0 0 Q (F0 m 2 ls [])) st := by
  obtain ⟨hx, hb, -, hown, hts⟩ := id E
  refine wh_run (P := (fun st : Int32 × nwM => ∀ (ls : Array Slot) (H : Heap) (locs : List Loc), lv_has ls 2 [(0, .ref h), (1, .int st.1)] → PM D dT h st.2 H → va_S (mA h) s.heap H locs → W p l e (rmd 0) s m args below meth c H locs 0 0 Q (F0 m 2 ls []))) (PE := (fun x : nwM => ∀ (ls : Array Slot) (H : Heap) (locs : List Loc), lv_has ls 2 [(0, .ref h)] → PM D dT h x H → va_S (mA h) s.heap H locs → W p l e (rmd 0) s m args below meth c H locs 0 0 Q (F0 m 26 ls []))) ?_ hw hk
  clear hw hk
  intro st x hf hk ls H locs hl hP hS
  refine lv_iload_n hx hb dX2_thinks_2 rfl (lv_at hl 1 rfl) ?_
  refine lv_bipush (v := nI 105) hx hb dX2_thinks_3 rfl ?_
  refine lv_icmp_ge (tgt := 26) hx hb dX2_thinks_5 (by decide) (fun kc1 => ?_) (fun kc1 => ?_)
  · have hf := ite_t kc1 hf
    cases hf
    exact hk _ _ _ (lv_sub hl [0] rfl) hP hS
  · have hf := ite_f kc1 hf
    refine lv_aload_n hx hb dX2_thinks_8 rfl (lv_at hl 0 rfl) ?_
    refine m_ga E hK hP 4 (by decide) rfl q1417 rfl dX2_thinks_9 ?_
    refine lv_iload_n hx hb dX2_thinks_12 rfl (lv_at hl 1 rfl) ?_
    refine lv_aload_n hx hb dX2_thinks_13 rfl (lv_at hl 0 rfl) ?_
    refine m_ga E hK hP 1 (by decide) rfl q1414 rfl dX2_thinks_14 ?_
    refine lv_iload_n hx hb dX2_thinks_17 rfl (lv_at hl 1 rfl) ?_
    obtain ⟨v2, hv2, hf⟩ := ob hf
    refine m_ald E hK hP (by decide) rfl rfl hv2 dX2_thinks_18 ?_
    obtain ⟨μ3, hμ3, hf⟩ := ob hf
    refine m_ast E hK hP hS (by decide) rfl rfl hμ3 dX2_thinks_19 (fun H locs hP hS => ?_)
    refine lv_iinc (v := st.1 + nI 1) (lv' := [(1, .int (st.1 + nI 1)), (0, .ref h)]) hx hb dX2_thinks_20 hl (k := 1) rfl rfl (by decide) rfl (fun ls hl => ?_)
    refine lv_goto (tgt := 2) hx hb dX2_thinks_23 (by decide) ?_
    cases hf
    exact hk _ _ _ (lv_sub hl [1, 0] rfl) hP hS
set_option maxHeartbeats 4000000 in
theorem dm_thinks : yX2_thinks.cls = RX2 ∧ yX2_thinks.cls ≠ "java/lang/invoke/MethodHandle" ∧ yX2_thinks.cls ≠ "java/lang/invoke/VarHandle" ∧ (parseMethodDescriptor yX2_thinks.desc).map (fun d => d.parameters.length) = some 0 := ⟨rfl, by decide +kernel, by decide +kernel, by decide +kernel⟩
set_option maxHeartbeats 4000000 in
theorem tm_thinks (l : Launch) (D : va_G) (dT : Nat → ClassId) (h : Nat) (μ : nwM) (res : nwM) (hf : fm_thinks μ = some res) : Met l yX2_thinks (ws_ yX2_thinks cX2_thinks 2 none) (rmd 0) (mPc D dT h μ []) (mQv D dT h res) 0 0 (mA h) := by
  refine m_met (by decide) rfl (Nat.le_of_ble_eq_true rfl) ?_
  intro p e s m below meth c ls E hK hr hlk hl hP
  have hS : va_S (mA h) s.heap s.heap [] := va_S.rf
  obtain ⟨hx, hb, -, hown, hts⟩ := id E
  have hl : lv_has ls 2 [(0, .ref h)] := hl
  unfold fm_thinks at hf
  refine lv_iconst (v := nI 0) hx hb dX2_thinks_0 rfl ?_
  refine lv_istore_n (lv' := [(1, .int (nI 0)), (0, .ref h)]) hx hb dX2_thinks_1 rfl hl (by decide) rfl (fun ls hl => ?_)
  obtain ⟨x4, hx4, hf⟩ := ob hf
  refine fm_thinks_L2_w E hK hx4 (fun ls H locs hl hP hS => ?_) _ _ _ (lv_sub hl [1, 0] rfl) hP hS
  refine lv_aload_n hx hb dX2_thinks_26 rfl (lv_at hl 0 rfl) ?_
  refine lv_iconst (v := nI 1) hx hb dX2_thinks_27 rfl ?_
  obtain ⟨μ5, hμ5, hf⟩ := ob hf
  refine m_putz E hK hP hS 5 (by decide) rfl q1418 rfl rfl rfl hμ5 dX2_thinks_28 (fun H locs hP hS => ?_)
  cases hf
  exact m_vret E hr hlk hP hS dX2_thinks_31
set_option maxHeartbeats 4000000 in
def fm_endsThought_L2 : (Int32 × nwM) → Option ((Int32 × nwM) ⊕ (nwM)) := fun st => (if (nI 105) ≤ st.1 then some (.inr st.2) else (rd_ st.2 4 105 st.1).bind fun v2 => (wr_ st.2 1 105 st.1 v2).bind fun μ3 => some (.inl (st.1 + nI 1, μ3)))
set_option maxHeartbeats 4000000 in
noncomputable def fm_endsThought (μ : nwM) : Option (nwM) := (wh_ (fm_endsThought_L2) (nI 0, μ)).bind fun x4 => (wz_ x4 5 (nI 0)).bind fun μ5 => some μ5
set_option maxHeartbeats 4000000 in
theorem fm_endsThought_L2_w {p : Program} {l : Launch} {e : Env} {s : State} {m : MethodId} {args : Array Value} {below : List Frame} {meth : Method} {c : Code} {Q : State → Prop} {D : va_G} {dT : Nat → ClassId} {h : Nat} (E : CallFix p m c cX2_endsThought 2 s args lw_all RX2) (hK : va_K D nwCl (nwT dT) s) {st : Int32 × nwM} {x : nwM} (hw : wh_ (fm_endsThought_L2) st = some x) (hk : (fun x : nwM => ∀ (ls : Array Slot) (H : Heap) (locs : List Loc), lv_has ls 2 [(0, .ref h)] → PM D dT h x H → va_S (mA h) s.heap H locs → W p l e (rmd 0) s m args below meth c H locs 0 0 Q (F0 m 26 ls [])) x) : (fun st : Int32 × nwM => ∀ (ls : Array Slot) (H : Heap) (locs : List Loc), lv_has ls 2 [(0, .ref h), (1, .int st.1)] → PM D dT h st.2 H → va_S (mA h) s.heap H locs → W p l e (rmd 0) s m args below meth c H locs 0 0 Q (F0 m 2 ls [])) st := by
  obtain ⟨hx, hb, -, hown, hts⟩ := id E
  refine wh_run (P := (fun st : Int32 × nwM => ∀ (ls : Array Slot) (H : Heap) (locs : List Loc), lv_has ls 2 [(0, .ref h), (1, .int st.1)] → PM D dT h st.2 H → va_S (mA h) s.heap H locs → W p l e (rmd 0) s m args below meth c H locs 0 0 Q (F0 m 2 ls []))) (PE := (fun x : nwM => ∀ (ls : Array Slot) (H : Heap) (locs : List Loc), lv_has ls 2 [(0, .ref h)] → PM D dT h x H → va_S (mA h) s.heap H locs → W p l e (rmd 0) s m args below meth c H locs 0 0 Q (F0 m 26 ls []))) ?_ hw hk
  clear hw hk
  intro st x hf hk ls H locs hl hP hS
  refine lv_iload_n hx hb dX2_endsThought_2 rfl (lv_at hl 1 rfl) ?_
  refine lv_bipush (v := nI 105) hx hb dX2_endsThought_3 rfl ?_
  refine lv_icmp_ge (tgt := 26) hx hb dX2_endsThought_5 (by decide) (fun kc1 => ?_) (fun kc1 => ?_)
  · have hf := ite_t kc1 hf
    cases hf
    exact hk _ _ _ (lv_sub hl [0] rfl) hP hS
  · have hf := ite_f kc1 hf
    refine lv_aload_n hx hb dX2_endsThought_8 rfl (lv_at hl 0 rfl) ?_
    refine m_ga E hK hP 1 (by decide) rfl q1414 rfl dX2_endsThought_9 ?_
    refine lv_iload_n hx hb dX2_endsThought_12 rfl (lv_at hl 1 rfl) ?_
    refine lv_aload_n hx hb dX2_endsThought_13 rfl (lv_at hl 0 rfl) ?_
    refine m_ga E hK hP 4 (by decide) rfl q1417 rfl dX2_endsThought_14 ?_
    refine lv_iload_n hx hb dX2_endsThought_17 rfl (lv_at hl 1 rfl) ?_
    obtain ⟨v2, hv2, hf⟩ := ob hf
    refine m_ald E hK hP (by decide) rfl rfl hv2 dX2_endsThought_18 ?_
    obtain ⟨μ3, hμ3, hf⟩ := ob hf
    refine m_ast E hK hP hS (by decide) rfl rfl hμ3 dX2_endsThought_19 (fun H locs hP hS => ?_)
    refine lv_iinc (v := st.1 + nI 1) (lv' := [(1, .int (st.1 + nI 1)), (0, .ref h)]) hx hb dX2_endsThought_20 hl (k := 1) rfl rfl (by decide) rfl (fun ls hl => ?_)
    refine lv_goto (tgt := 2) hx hb dX2_endsThought_23 (by decide) ?_
    cases hf
    exact hk _ _ _ (lv_sub hl [1, 0] rfl) hP hS
set_option maxHeartbeats 4000000 in
theorem dm_endsThought : yX2_endsThought.cls = RX2 ∧ yX2_endsThought.cls ≠ "java/lang/invoke/MethodHandle" ∧ yX2_endsThought.cls ≠ "java/lang/invoke/VarHandle" ∧ (parseMethodDescriptor yX2_endsThought.desc).map (fun d => d.parameters.length) = some 0 := ⟨rfl, by decide +kernel, by decide +kernel, by decide +kernel⟩
set_option maxHeartbeats 4000000 in
theorem tm_endsThought (l : Launch) (D : va_G) (dT : Nat → ClassId) (h : Nat) (μ : nwM) (res : nwM) (hf : fm_endsThought μ = some res) : Met l yX2_endsThought (ws_ yX2_endsThought cX2_endsThought 2 none) (rmd 0) (mPc D dT h μ []) (mQv D dT h res) 0 0 (mA h) := by
  refine m_met (by decide) rfl (Nat.le_of_ble_eq_true rfl) ?_
  intro p e s m below meth c ls E hK hr hlk hl hP
  have hS : va_S (mA h) s.heap s.heap [] := va_S.rf
  obtain ⟨hx, hb, -, hown, hts⟩ := id E
  have hl : lv_has ls 2 [(0, .ref h)] := hl
  unfold fm_endsThought at hf
  refine lv_iconst (v := nI 0) hx hb dX2_endsThought_0 rfl ?_
  refine lv_istore_n (lv' := [(1, .int (nI 0)), (0, .ref h)]) hx hb dX2_endsThought_1 rfl hl (by decide) rfl (fun ls hl => ?_)
  obtain ⟨x4, hx4, hf⟩ := ob hf
  refine fm_endsThought_L2_w E hK hx4 (fun ls H locs hl hP hS => ?_) _ _ _ (lv_sub hl [1, 0] rfl) hP hS
  refine lv_aload_n hx hb dX2_endsThought_26 rfl (lv_at hl 0 rfl) ?_
  refine lv_iconst (v := nI 0) hx hb dX2_endsThought_27 rfl ?_
  obtain ⟨μ5, hμ5, hf⟩ := ob hf
  refine m_putz E hK hP hS 5 (by decide) rfl q1418 rfl rfl rfl hμ5 dX2_endsThought_28 (fun H locs hP hS => ?_)
  cases hf
  exact m_vret E hr hlk hP hS dX2_endsThought_31
set_option maxHeartbeats 4000000 in
def fm_state (x1 : Int32) (μ : nwM) : Option (Int32 × nwM) := (wf_ μ 0 (nI 0)).bind fun μ1 => (rd_ μ1 1 105 (nI 1)).bind fun v2 => (wr_ μ1 1 105 (nI 1) x1).bind fun μ3 => (wf_ μ3 3 (nI 0)).bind fun μ4 => some (v2, μ4)
set_option maxHeartbeats 4000000 in
theorem dm_state : yX2_state.cls = RX2 ∧ yX2_state.cls ≠ "java/lang/invoke/MethodHandle" ∧ yX2_state.cls ≠ "java/lang/invoke/VarHandle" ∧ (parseMethodDescriptor yX2_state.desc).map (fun d => d.parameters.length) = some 1 := ⟨rfl, by decide +kernel, by decide +kernel, by decide +kernel⟩
set_option maxHeartbeats 4000000 in
theorem tm_state (l : Launch) (D : va_G) (dT : Nat → ClassId) (h : Nat) (x1 : Int32) (μ : nwM) (res : Int32 × nwM) (hf : fm_state x1 μ = some res) : Met l yX2_state (ws_ yX2_state cX2_state 3 (some .int)) (rmd 0) (mPc D dT h μ [.int x1]) (mQi D dT h res.2 res.1) 0 0 (mA h) := by
  refine m_met (by decide) rfl (Nat.le_of_ble_eq_true rfl) ?_
  intro p e s m below meth c ls E hK hr hlk hl hP
  have hS : va_S (mA h) s.heap s.heap [] := va_S.rf
  obtain ⟨hx, hb, -, hown, hts⟩ := id E
  have hl : lv_has ls 3 [(0, .ref h), (1, .int x1)] := hl
  unfold fm_state at hf
  refine lv_aload_n hx hb dX2_state_0 rfl (lv_at hl 0 rfl) ?_
  refine lv_iconst (v := nI 0) hx hb dX2_state_1 rfl ?_
  obtain ⟨μ1, hμ1, hf⟩ := ob hf
  refine m_put E hK hP hS 0 (by decide) rfl q1413 rfl rfl rfl hμ1 dX2_state_2 (fun H locs hP hS => ?_)
  refine lv_aload_n hx hb dX2_state_5 rfl (lv_at hl 0 rfl) ?_
  refine m_ga E hK hP 1 (by decide) rfl q1414 rfl dX2_state_6 ?_
  refine lv_iconst (v := nI 1) hx hb dX2_state_9 rfl ?_
  obtain ⟨v2, hv2, hf⟩ := ob hf
  refine m_ald E hK hP (by decide) rfl rfl hv2 dX2_state_10 ?_
  refine lv_istore_n (lv' := [(2, .int v2), (0, .ref h), (1, .int x1)]) hx hb dX2_state_11 rfl hl (by decide) rfl (fun ls hl => ?_)
  refine lv_aload_n hx hb dX2_state_12 rfl (lv_at hl 1 rfl) ?_
  refine m_ga E hK hP 1 (by decide) rfl q1414 rfl dX2_state_13 ?_
  refine lv_iconst (v := nI 1) hx hb dX2_state_16 rfl ?_
  refine lv_iload_n hx hb dX2_state_17 rfl (lv_at hl 2 rfl) ?_
  obtain ⟨μ3, hμ3, hf⟩ := ob hf
  refine m_ast E hK hP hS (by decide) rfl rfl hμ3 dX2_state_18 (fun H locs hP hS => ?_)
  refine lv_aload_n hx hb dX2_state_19 rfl (lv_at hl 1 rfl) ?_
  refine lv_iconst (v := nI 0) hx hb dX2_state_20 rfl ?_
  obtain ⟨μ4, hμ4, hf⟩ := ob hf
  refine m_put E hK hP hS 3 (by decide) rfl q1416 rfl rfl rfl hμ4 dX2_state_21 (fun H locs hP hS => ?_)
  refine lv_iload_n hx hb dX2_state_24 rfl (lv_at hl 0 rfl) ?_
  cases hf
  exact m_iret E hr hlk hP hS rfl dX2_state_25
set_option maxHeartbeats 4000000 in
def fm_draw (x1 : Int32) (μ : nwM) : Option (Int32 × nwM) := (rd_ μ 1 105 (nI 1)).bind fun v1 => (wr_ μ 1 105 (nI 1) (((1664525) * v1) + (1013904223))).bind fun μ2 => (rd_ μ2 1 105 (nI 1)).bind fun v3 => (rm_ ((v3.toUInt32 >>> ((nI 8).toUInt32 &&& Int32.toUInt32 31)).toInt32) x1).bind fun v4 => some (v4, μ2)
set_option maxHeartbeats 4000000 in
theorem dm_draw : yX2_draw.cls = RX2 ∧ yX2_draw.cls ≠ "java/lang/invoke/MethodHandle" ∧ yX2_draw.cls ≠ "java/lang/invoke/VarHandle" ∧ (parseMethodDescriptor yX2_draw.desc).map (fun d => d.parameters.length) = some 1 := ⟨rfl, by decide +kernel, by decide +kernel, by decide +kernel⟩
set_option maxHeartbeats 4000000 in
theorem tm_draw (l : Launch) (D : va_G) (dT : Nat → ClassId) (h : Nat) (x1 : Int32) (μ : nwM) (res : Int32 × nwM) (hf : fm_draw x1 μ = some res) : Met l yX2_draw (ws_ yX2_draw cX2_draw 2 (some .int)) (rmd 0) (mPc D dT h μ [.int x1]) (mQi D dT h res.2 res.1) 0 0 (mA h) := by
  refine m_met (by decide) rfl (Nat.le_of_ble_eq_true rfl) ?_
  intro p e s m below meth c ls E hK hr hlk hl hP
  have hS : va_S (mA h) s.heap s.heap [] := va_S.rf
  obtain ⟨hx, hb, -, hown, hts⟩ := id E
  have hl : lv_has ls 2 [(0, .ref h), (1, .int x1)] := hl
  unfold fm_draw at hf
  refine lv_aload_n hx hb dX2_draw_0 rfl (lv_at hl 0 rfl) ?_
  refine m_ga E hK hP 1 (by decide) rfl q1414 rfl dX2_draw_1 ?_
  refine lv_iconst (v := nI 1) hx hb dX2_draw_4 rfl ?_
  refine lv_ldc (v := 1664525) hx hb hown (hts _ q1917) dX2_draw_5 ?_
  refine lv_aload_n hx hb dX2_draw_7 rfl (lv_at hl 0 rfl) ?_
  refine m_ga E hK hP 1 (by decide) rfl q1414 rfl dX2_draw_8 ?_
  refine lv_iconst (v := nI 1) hx hb dX2_draw_11 rfl ?_
  obtain ⟨v1, hv1, hf⟩ := ob hf
  refine m_ald E hK hP (by decide) rfl rfl hv1 dX2_draw_12 ?_
  refine lv_imul hx hb dX2_draw_13 ?_
  refine lv_ldc (v := 1013904223) hx hb hown (hts _ q1918) dX2_draw_14 ?_
  refine lv_iadd hx hb dX2_draw_16 ?_
  obtain ⟨μ2, hμ2, hf⟩ := ob hf
  refine m_ast E hK hP hS (by decide) rfl rfl hμ2 dX2_draw_17 (fun H locs hP hS => ?_)
  refine lv_aload_n hx hb dX2_draw_18 rfl (lv_at hl 0 rfl) ?_
  refine m_ga E hK hP 1 (by decide) rfl q1414 rfl dX2_draw_19 ?_
  refine lv_iconst (v := nI 1) hx hb dX2_draw_22 rfl ?_
  obtain ⟨v3, hv3, hf⟩ := ob hf
  refine m_ald E hK hP (by decide) rfl rfl hv3 dX2_draw_23 ?_
  refine lv_bipush (v := nI 8) hx hb dX2_draw_24 rfl ?_
  refine lv_iushr (v := (v3.toUInt32 >>> ((nI 8).toUInt32 &&& Int32.toUInt32 31)).toInt32) hx hb dX2_draw_26 rfl ?_
  refine lv_iload_n hx hb dX2_draw_27 rfl (lv_at hl 1 rfl) ?_
  obtain ⟨v4, hv4, hf⟩ := ob hf
  refine lv_irem hx hb dX2_draw_28 (rm_in hv4).1 ?_
  refine lv_nm (rm_in hv4).2 ?_
  cases hf
  exact m_iret E hr hlk hP hS rfl dX2_draw_29
set_option maxHeartbeats 4000000 in
def fm_isOne (x1 : Int32) (μ : nwM) : Option (Int32) := (if x1 < 0 then some (nI 0) else (rd_ μ 1 105 (nI 4)).bind fun v2 => (if v2 ≤ x1 then some (nI 0) else some (nI 1)))
set_option maxHeartbeats 4000000 in
theorem dm_isOne : yX2_isOne.cls = RX2 ∧ yX2_isOne.cls ≠ "java/lang/invoke/MethodHandle" ∧ yX2_isOne.cls ≠ "java/lang/invoke/VarHandle" ∧ (parseMethodDescriptor yX2_isOne.desc).map (fun d => d.parameters.length) = some 1 := ⟨rfl, by decide +kernel, by decide +kernel, by decide +kernel⟩
set_option maxHeartbeats 4000000 in
theorem tm_isOne (l : Launch) (D : va_G) (dT : Nat → ClassId) (h : Nat) (x1 : Int32) (μ : nwM) (res : Int32) (hf : fm_isOne x1 μ = some res) : Met l yX2_isOne (ws_ yX2_isOne cX2_isOne 2 (some .boolean)) (rmd 0) (mPc D dT h μ [.int x1]) (mQi D dT h μ res) 0 0 (mA h) := by
  refine m_met (by decide) rfl (Nat.le_of_ble_eq_true rfl) ?_
  intro p e s m below meth c ls E hK hr hlk hl hP
  have hS : va_S (mA h) s.heap s.heap [] := va_S.rf
  obtain ⟨hx, hb, -, hown, hts⟩ := id E
  have hl : lv_has ls 2 [(0, .ref h), (1, .int x1)] := hl
  unfold fm_isOne at hf
  refine lv_iload_n hx hb dX2_isOne_0 rfl (lv_at hl 1 rfl) ?_
  refine lv_if_lt (tgt := 18) hx hb dX2_isOne_1 (by decide) (fun kc1 => ?_) (fun kc1 => ?_)
  · have hf := ite_t kc1 hf
    refine lv_iconst (v := nI 0) hx hb dX2_isOne_18 rfl ?_
    cases hf
    exact m_zret E hr hlk hP hS rfl dX2_isOne_19
  · have hf := ite_f kc1 hf
    refine lv_iload_n hx hb dX2_isOne_4 rfl (lv_at hl 1 rfl) ?_
    refine lv_aload_n hx hb dX2_isOne_5 rfl (lv_at hl 0 rfl) ?_
    refine m_ga E hK hP 1 (by decide) rfl q1414 rfl dX2_isOne_6 ?_
    refine lv_iconst (v := nI 4) hx hb dX2_isOne_9 rfl ?_
    obtain ⟨v2, hv2, hf⟩ := ob hf
    refine m_ald E hK hP (by decide) rfl rfl hv2 dX2_isOne_10 ?_
    refine lv_icmp_ge (tgt := 18) hx hb dX2_isOne_11 (by decide) (fun kc3 => ?_) (fun kc3 => ?_)
    · have hf := ite_t kc3 hf
      refine lv_iconst (v := nI 0) hx hb dX2_isOne_18 rfl ?_
      cases hf
      exact m_zret E hr hlk hP hS rfl dX2_isOne_19
    · have hf := ite_f kc3 hf
      refine lv_iconst (v := nI 1) hx hb dX2_isOne_14 rfl ?_
      refine lv_goto (tgt := 19) hx hb dX2_isOne_15 (by decide) ?_
      cases hf
      exact m_zret E hr hlk hP hS rfl dX2_isOne_19
set_option maxHeartbeats 4000000 in
def fm_isIsland (x1 : Int32) (μ : nwM) : Option (Int32) := (if x1 < 0 then some (nI 0) else (if (nI 8) ≤ x1 then some (nI 0) else some (nI 1)))
set_option maxHeartbeats 4000000 in
theorem dm_isIsland : yX2_isIsland.cls = RX2 ∧ yX2_isIsland.cls ≠ "java/lang/invoke/MethodHandle" ∧ yX2_isIsland.cls ≠ "java/lang/invoke/VarHandle" ∧ (parseMethodDescriptor yX2_isIsland.desc).map (fun d => d.parameters.length) = some 1 := ⟨rfl, by decide +kernel, by decide +kernel, by decide +kernel⟩
set_option maxHeartbeats 4000000 in
theorem tm_isIsland (l : Launch) (D : va_G) (dT : Nat → ClassId) (h : Nat) (x1 : Int32) (μ : nwM) (res : Int32) (hf : fm_isIsland x1 μ = some res) : Met l yX2_isIsland (ws_ yX2_isIsland cX2_isIsland 2 (some .boolean)) (rmd 0) (mPc D dT h μ [.int x1]) (mQi D dT h μ res) 0 0 (mA h) := by
  refine m_met (by decide) rfl (Nat.le_of_ble_eq_true rfl) ?_
  intro p e s m below meth c ls E hK hr hlk hl hP
  have hS : va_S (mA h) s.heap s.heap [] := va_S.rf
  obtain ⟨hx, hb, -, hown, hts⟩ := id E
  have hl : lv_has ls 2 [(0, .ref h), (1, .int x1)] := hl
  unfold fm_isIsland at hf
  refine lv_iload_n hx hb dX2_isIsland_0 rfl (lv_at hl 1 rfl) ?_
  refine lv_if_lt (tgt := 14) hx hb dX2_isIsland_1 (by decide) (fun kc1 => ?_) (fun kc1 => ?_)
  · have hf := ite_t kc1 hf
    refine lv_iconst (v := nI 0) hx hb dX2_isIsland_14 rfl ?_
    cases hf
    exact m_zret E hr hlk hP hS rfl dX2_isIsland_15
  · have hf := ite_f kc1 hf
    refine lv_iload_n hx hb dX2_isIsland_4 rfl (lv_at hl 1 rfl) ?_
    refine lv_bipush (v := nI 8) hx hb dX2_isIsland_5 rfl ?_
    refine lv_icmp_ge (tgt := 14) hx hb dX2_isIsland_7 (by decide) (fun kc2 => ?_) (fun kc2 => ?_)
    · have hf := ite_t kc2 hf
      refine lv_iconst (v := nI 0) hx hb dX2_isIsland_14 rfl ?_
      cases hf
      exact m_zret E hr hlk hP hS rfl dX2_isIsland_15
    · have hf := ite_f kc2 hf
      refine lv_iconst (v := nI 1) hx hb dX2_isIsland_10 rfl ?_
      refine lv_goto (tgt := 15) hx hb dX2_isIsland_11 (by decide) ?_
      cases hf
      exact m_zret E hr hlk hP hS rfl dX2_isIsland_15
set_option maxHeartbeats 4000000 in
def fm_isDead (x1 : Int32) (μ : nwM) : Option (Int32) := (rd_ μ 1 105 ((nI 81) + x1)).bind fun v1 => (if v1 = (nI 1) then some (nI 1) else some (nI 0))
set_option maxHeartbeats 4000000 in
theorem dm_isDead : yX2_isDead.cls = RX2 ∧ yX2_isDead.cls ≠ "java/lang/invoke/MethodHandle" ∧ yX2_isDead.cls ≠ "java/lang/invoke/VarHandle" ∧ (parseMethodDescriptor yX2_isDead.desc).map (fun d => d.parameters.length) = some 1 := ⟨rfl, by decide +kernel, by decide +kernel, by decide +kernel⟩
set_option maxHeartbeats 4000000 in
theorem tm_isDead (l : Launch) (D : va_G) (dT : Nat → ClassId) (h : Nat) (x1 : Int32) (μ : nwM) (res : Int32) (hf : fm_isDead x1 μ = some res) : Met l yX2_isDead (ws_ yX2_isDead cX2_isDead 2 (some .boolean)) (rmd 0) (mPc D dT h μ [.int x1]) (mQi D dT h μ res) 0 0 (mA h) := by
  refine m_met (by decide) rfl (Nat.le_of_ble_eq_true rfl) ?_
  intro p e s m below meth c ls E hK hr hlk hl hP
  have hS : va_S (mA h) s.heap s.heap [] := va_S.rf
  obtain ⟨hx, hb, -, hown, hts⟩ := id E
  have hl : lv_has ls 2 [(0, .ref h), (1, .int x1)] := hl
  unfold fm_isDead at hf
  refine lv_aload_n hx hb dX2_isDead_0 rfl (lv_at hl 0 rfl) ?_
  refine m_ga E hK hP 1 (by decide) rfl q1414 rfl dX2_isDead_1 ?_
  refine lv_bipush (v := nI 81) hx hb dX2_isDead_4 rfl ?_
  refine lv_iload_n hx hb dX2_isDead_6 rfl (lv_at hl 1 rfl) ?_
  refine lv_iadd hx hb dX2_isDead_7 ?_
  obtain ⟨v1, hv1, hf⟩ := ob hf
  refine m_ald E hK hP (by decide) rfl rfl hv1 dX2_isDead_8 ?_
  refine lv_iconst (v := nI 1) hx hb dX2_isDead_9 rfl ?_
  refine lv_icmp_ne (tgt := 17) hx hb dX2_isDead_10 (by decide) (fun kc2 => ?_) (fun kc2 => ?_)
  · have hf := ite_f kc2 hf
    refine lv_iconst (v := nI 0) hx hb dX2_isDead_17 rfl ?_
    cases hf
    exact m_zret E hr hlk hP hS rfl dX2_isDead_18
  · have hf := ite_t kc2 hf
    refine lv_iconst (v := nI 1) hx hb dX2_isDead_13 rfl ?_
    refine lv_goto (tgt := 18) hx hb dX2_isDead_14 (by decide) ?_
    cases hf
    exact m_zret E hr hlk hP hS rfl dX2_isDead_18
set_option maxHeartbeats 4000000 in
def fm_skyAt (x1 : Int32) (x2 : Int32) (μ : nwM) : Option (Int32) := (rd_ μ 1 105 (((nI 5) + ((nI 5) * x1)) + x2)).bind fun v1 => some v1
set_option maxHeartbeats 4000000 in
theorem dm_skyAt : yX2_skyAt.cls = RX2 ∧ yX2_skyAt.cls ≠ "java/lang/invoke/MethodHandle" ∧ yX2_skyAt.cls ≠ "java/lang/invoke/VarHandle" ∧ (parseMethodDescriptor yX2_skyAt.desc).map (fun d => d.parameters.length) = some 2 := ⟨rfl, by decide +kernel, by decide +kernel, by decide +kernel⟩
set_option maxHeartbeats 4000000 in
theorem tm_skyAt (l : Launch) (D : va_G) (dT : Nat → ClassId) (h : Nat) (x1 : Int32) (x2 : Int32) (μ : nwM) (res : Int32) (hf : fm_skyAt x1 x2 μ = some res) : Met l yX2_skyAt (ws_ yX2_skyAt cX2_skyAt 3 (some .int)) (rmd 0) (mPc D dT h μ [.int x1, .int x2]) (mQi D dT h μ res) 0 0 (mA h) := by
  refine m_met (by decide) rfl (Nat.le_of_ble_eq_true rfl) ?_
  intro p e s m below meth c ls E hK hr hlk hl hP
  have hS : va_S (mA h) s.heap s.heap [] := va_S.rf
  obtain ⟨hx, hb, -, hown, hts⟩ := id E
  have hl : lv_has ls 3 [(0, .ref h), (1, .int x1), (2, .int x2)] := hl
  unfold fm_skyAt at hf
  refine lv_aload_n hx hb dX2_skyAt_0 rfl (lv_at hl 0 rfl) ?_
  refine m_ga E hK hP 1 (by decide) rfl q1414 rfl dX2_skyAt_1 ?_
  refine lv_iconst (v := nI 5) hx hb dX2_skyAt_4 rfl ?_
  refine lv_iconst (v := nI 5) hx hb dX2_skyAt_5 rfl ?_
  refine lv_iload_n hx hb dX2_skyAt_6 rfl (lv_at hl 1 rfl) ?_
  refine lv_imul hx hb dX2_skyAt_7 ?_
  refine lv_iadd hx hb dX2_skyAt_8 ?_
  refine lv_iload_n hx hb dX2_skyAt_9 rfl (lv_at hl 2 rfl) ?_
  refine lv_iadd hx hb dX2_skyAt_10 ?_
  obtain ⟨v1, hv1, hf⟩ := ob hf
  refine m_ald E hK hP (by decide) rfl rfl hv1 dX2_skyAt_11 ?_
  cases hf
  exact m_iret E hr hlk hP hS rfl dX2_skyAt_12
set_option maxHeartbeats 4000000 in
def fm_skyBe (x1 : Int32) (x2 : Int32) (x3 : Int32) (μ : nwM) : Option (nwM) := (fm_held x3 (nI 0) (nI 99) μ).bind fun v2 => (wr_ μ 1 105 (((nI 5) + ((nI 5) * x1)) + x2) v2).bind fun μ3 => some μ3
set_option maxHeartbeats 4000000 in
theorem dm_skyBe : yX2_skyBe.cls = RX2 ∧ yX2_skyBe.cls ≠ "java/lang/invoke/MethodHandle" ∧ yX2_skyBe.cls ≠ "java/lang/invoke/VarHandle" ∧ (parseMethodDescriptor yX2_skyBe.desc).map (fun d => d.parameters.length) = some 3 := ⟨rfl, by decide +kernel, by decide +kernel, by decide +kernel⟩
set_option maxHeartbeats 4000000 in
theorem tm_skyBe (l : Launch) (D : va_G) (dT : Nat → ClassId) (h : Nat) (x1 : Int32) (x2 : Int32) (x3 : Int32) (μ : nwM) (res : nwM) (hf : fm_skyBe x1 x2 x3 μ = some res) : Met l yX2_skyBe (ws_ yX2_skyBe cX2_skyBe 4 none) (rmd 1) (mPc D dT h μ [.int x1, .int x2, .int x3]) (mQv D dT h res) 0 0 (mA h) := by
  refine m_met (by decide) rfl (Nat.le_of_ble_eq_true rfl) ?_
  intro p e s m below meth c ls E hK hr hlk hl hP
  have hS : va_S (mA h) s.heap s.heap [] := va_S.rf
  obtain ⟨hx, hb, -, hown, hts⟩ := id E
  have hl : lv_has ls 4 [(0, .ref h), (1, .int x1), (2, .int x2), (3, .int x3)] := hl
  unfold fm_skyBe at hf
  refine lv_aload_n hx hb dX2_skyBe_0 rfl (lv_at hl 0 rfl) ?_
  refine m_ga E hK hP 1 (by decide) rfl q1414 rfl dX2_skyBe_1 ?_
  refine lv_iconst (v := nI 5) hx hb dX2_skyBe_4 rfl ?_
  refine lv_iconst (v := nI 5) hx hb dX2_skyBe_5 rfl ?_
  refine lv_iload_n hx hb dX2_skyBe_6 rfl (lv_at hl 1 rfl) ?_
  refine lv_imul hx hb dX2_skyBe_7 ?_
  refine lv_iadd hx hb dX2_skyBe_8 ?_
  refine lv_iload_n hx hb dX2_skyBe_9 rfl (lv_at hl 2 rfl) ?_
  refine lv_iadd hx hb dX2_skyBe_10 ?_
  refine lv_aload_n hx hb dX2_skyBe_11 rfl (lv_at hl 0 rfl) ?_
  refine lv_iload_n hx hb dX2_skyBe_12 rfl (lv_at hl 3 rfl) ?_
  refine lv_iconst (v := nI 0) hx hb dX2_skyBe_13 rfl ?_
  refine lv_bipush (v := nI 99) hx hb dX2_skyBe_14 rfl ?_
  obtain ⟨v2, hc1, hf⟩ := ob hf
  refine m_calli E hK hP hS (As := [.int x3, .int (nI 0), .int (nI 99)]) (tm_held l D dT h x3 (nI 0) (nI 99) μ _ hc1) (lw_V q1593 q1595 qs63 q166 q1596) dm_held rfl (by decide) (by decide) hl rfl (Nat.le_of_ble_eq_true rfl) dX2_skyBe_16 (fun H locs hP hS => ?_)
  obtain ⟨μ3, hμ3, hf⟩ := ob hf
  refine m_ast E hK hP hS (by decide) rfl rfl hμ3 dX2_skyBe_19 (fun H locs hP hS => ?_)
  cases hf
  exact m_vret E hr hlk hP hS dX2_skyBe_20
set_option maxHeartbeats 4000000 in
def fm_comes (x1 : Int32) (x2 : Int32) (x3 : Int32) (μ : nwM) : Option (Int32 × nwM) := (rd_ μ 1 105 (nI 4)).bind fun v1 => (wr_ μ 1 105 ((nI 45) + v1) x1).bind fun μ2 => (wr_ μ2 1 105 ((nI 57) + v1) x2).bind fun μ3 => (wr_ μ3 1 105 ((nI 69) + v1) x3).bind fun μ4 => (wr_ μ4 1 105 ((nI 81) + v1) (nI 0)).bind fun μ5 => (wr_ μ5 1 105 ((nI 93) + v1) (nI 0)).bind fun μ6 => (wr_ μ6 1 105 (nI 4) (v1 + (nI 1))).bind fun μ7 => some (v1, μ7)
set_option maxHeartbeats 4000000 in
theorem dm_comes : yX2_comes.cls = RX2 ∧ yX2_comes.cls ≠ "java/lang/invoke/MethodHandle" ∧ yX2_comes.cls ≠ "java/lang/invoke/VarHandle" ∧ (parseMethodDescriptor yX2_comes.desc).map (fun d => d.parameters.length) = some 3 := ⟨rfl, by decide +kernel, by decide +kernel, by decide +kernel⟩
set_option maxHeartbeats 4000000 in
theorem tm_comes (l : Launch) (D : va_G) (dT : Nat → ClassId) (h : Nat) (x1 : Int32) (x2 : Int32) (x3 : Int32) (μ : nwM) (res : Int32 × nwM) (hf : fm_comes x1 x2 x3 μ = some res) : Met l yX2_comes (ws_ yX2_comes cX2_comes 5 (some .int)) (rmd 0) (mPc D dT h μ [.int x1, .int x2, .int x3]) (mQi D dT h res.2 res.1) 0 0 (mA h) := by
  refine m_met (by decide) rfl (Nat.le_of_ble_eq_true rfl) ?_
  intro p e s m below meth c ls E hK hr hlk hl hP
  have hS : va_S (mA h) s.heap s.heap [] := va_S.rf
  obtain ⟨hx, hb, -, hown, hts⟩ := id E
  have hl : lv_has ls 5 [(0, .ref h), (1, .int x1), (2, .int x2), (3, .int x3)] := hl
  unfold fm_comes at hf
  refine lv_aload_n hx hb dX2_comes_0 rfl (lv_at hl 0 rfl) ?_
  refine m_ga E hK hP 1 (by decide) rfl q1414 rfl dX2_comes_1 ?_
  refine lv_iconst (v := nI 4) hx hb dX2_comes_4 rfl ?_
  obtain ⟨v1, hv1, hf⟩ := ob hf
  refine m_ald E hK hP (by decide) rfl rfl hv1 dX2_comes_5 ?_
  refine lv_istore (lv' := [(4, .int v1), (0, .ref h), (1, .int x1), (2, .int x2), (3, .int x3)]) hx hb dX2_comes_6 hl (by decide) rfl (fun ls hl => ?_)
  refine lv_aload_n hx hb dX2_comes_8 rfl (lv_at hl 1 rfl) ?_
  refine m_ga E hK hP 1 (by decide) rfl q1414 rfl dX2_comes_9 ?_
  refine lv_bipush (v := nI 45) hx hb dX2_comes_12 rfl ?_
  refine lv_iload hx hb dX2_comes_14 (lv_at hl 0 rfl) ?_
  refine lv_iadd hx hb dX2_comes_16 ?_
  refine lv_iload_n hx hb dX2_comes_17 rfl (lv_at hl 2 rfl) ?_
  obtain ⟨μ2, hμ2, hf⟩ := ob hf
  refine m_ast E hK hP hS (by decide) rfl rfl hμ2 dX2_comes_18 (fun H locs hP hS => ?_)
  refine lv_aload_n hx hb dX2_comes_19 rfl (lv_at hl 1 rfl) ?_
  refine m_ga E hK hP 1 (by decide) rfl q1414 rfl dX2_comes_20 ?_
  refine lv_bipush (v := nI 57) hx hb dX2_comes_23 rfl ?_
  refine lv_iload hx hb dX2_comes_25 (lv_at hl 0 rfl) ?_
  refine lv_iadd hx hb dX2_comes_27 ?_
  refine lv_iload_n hx hb dX2_comes_28 rfl (lv_at hl 3 rfl) ?_
  obtain ⟨μ3, hμ3, hf⟩ := ob hf
  refine m_ast E hK hP hS (by decide) rfl rfl hμ3 dX2_comes_29 (fun H locs hP hS => ?_)
  refine lv_aload_n hx hb dX2_comes_30 rfl (lv_at hl 1 rfl) ?_
  refine m_ga E hK hP 1 (by decide) rfl q1414 rfl dX2_comes_31 ?_
  refine lv_bipush (v := nI 69) hx hb dX2_comes_34 rfl ?_
  refine lv_iload hx hb dX2_comes_36 (lv_at hl 0 rfl) ?_
  refine lv_iadd hx hb dX2_comes_38 ?_
  refine lv_iload_n hx hb dX2_comes_39 rfl (lv_at hl 4 rfl) ?_
  obtain ⟨μ4, hμ4, hf⟩ := ob hf
  refine m_ast E hK hP hS (by decide) rfl rfl hμ4 dX2_comes_40 (fun H locs hP hS => ?_)
  refine lv_aload_n hx hb dX2_comes_41 rfl (lv_at hl 1 rfl) ?_
  refine m_ga E hK hP 1 (by decide) rfl q1414 rfl dX2_comes_42 ?_
  refine lv_bipush (v := nI 81) hx hb dX2_comes_45 rfl ?_
  refine lv_iload hx hb dX2_comes_47 (lv_at hl 0 rfl) ?_
  refine lv_iadd hx hb dX2_comes_49 ?_
  refine lv_iconst (v := nI 0) hx hb dX2_comes_50 rfl ?_
  obtain ⟨μ5, hμ5, hf⟩ := ob hf
  refine m_ast E hK hP hS (by decide) rfl rfl hμ5 dX2_comes_51 (fun H locs hP hS => ?_)
  refine lv_aload_n hx hb dX2_comes_52 rfl (lv_at hl 1 rfl) ?_
  refine m_ga E hK hP 1 (by decide) rfl q1414 rfl dX2_comes_53 ?_
  refine lv_bipush (v := nI 93) hx hb dX2_comes_56 rfl ?_
  refine lv_iload hx hb dX2_comes_58 (lv_at hl 0 rfl) ?_
  refine lv_iadd hx hb dX2_comes_60 ?_
  refine lv_iconst (v := nI 0) hx hb dX2_comes_61 rfl ?_
  obtain ⟨μ6, hμ6, hf⟩ := ob hf
  refine m_ast E hK hP hS (by decide) rfl rfl hμ6 dX2_comes_62 (fun H locs hP hS => ?_)
  refine lv_aload_n hx hb dX2_comes_63 rfl (lv_at hl 1 rfl) ?_
  refine m_ga E hK hP 1 (by decide) rfl q1414 rfl dX2_comes_64 ?_
  refine lv_iconst (v := nI 4) hx hb dX2_comes_67 rfl ?_
  refine lv_iload hx hb dX2_comes_68 (lv_at hl 0 rfl) ?_
  refine lv_iconst (v := nI 1) hx hb dX2_comes_70 rfl ?_
  refine lv_iadd hx hb dX2_comes_71 ?_
  obtain ⟨μ7, hμ7, hf⟩ := ob hf
  refine m_ast E hK hP hS (by decide) rfl rfl hμ7 dX2_comes_72 (fun H locs hP hS => ?_)
  refine lv_iload hx hb dX2_comes_73 (lv_at hl 0 rfl) ?_
  cases hf
  exact m_iret E hr hlk hP hS rfl dX2_comes_75
set_option maxHeartbeats 4000000 in
def fm_person (x1 : Int32) (x2 : Int32) (x3 : Int32) (μ : nwM) : Option (Int32 × nwM) := (wf_ μ 0 (nI 0)).bind fun μ1 => (fm_isIn x1 (nI 0) (nI 4) μ1).bind fun v3 => (if v3 = 0 then some ((-1), μ1) else (fm_isIn x2 (nI 1) (nI 9) μ1).bind fun v6 => (if v6 = 0 then some ((-1), μ1) else (fm_isIsland x3 μ1).bind fun v9 => (if v9 = 0 then some ((-1), μ1) else (rd_ μ1 1 105 (nI 4)).bind fun v11 => (if v11 = (nI 12) then some ((-1), μ1) else (wf_ μ1 3 (nI 0)).bind fun μ13 => bd2 (fm_comes x1 x2 x3 μ13) fun v15 μ16 => some (v15, μ16)))))
set_option maxHeartbeats 4000000 in
theorem dm_person : yX2_person.cls = RX2 ∧ yX2_person.cls ≠ "java/lang/invoke/MethodHandle" ∧ yX2_person.cls ≠ "java/lang/invoke/VarHandle" ∧ (parseMethodDescriptor yX2_person.desc).map (fun d => d.parameters.length) = some 3 := ⟨rfl, by decide +kernel, by decide +kernel, by decide +kernel⟩
set_option maxHeartbeats 4000000 in
theorem tm_person (l : Launch) (D : va_G) (dT : Nat → ClassId) (h : Nat) (x1 : Int32) (x2 : Int32) (x3 : Int32) (μ : nwM) (res : Int32 × nwM) (hf : fm_person x1 x2 x3 μ = some res) : Met l yX2_person (ws_ yX2_person cX2_person 4 (some .int)) (rmd 1) (mPc D dT h μ [.int x1, .int x2, .int x3]) (mQi D dT h res.2 res.1) 0 0 (mA h) := by
  refine m_met (by decide) rfl (Nat.le_of_ble_eq_true rfl) ?_
  intro p e s m below meth c ls E hK hr hlk hl hP
  have hS : va_S (mA h) s.heap s.heap [] := va_S.rf
  obtain ⟨hx, hb, -, hown, hts⟩ := id E
  have hl : lv_has ls 4 [(0, .ref h), (1, .int x1), (2, .int x2), (3, .int x3)] := hl
  unfold fm_person at hf
  refine lv_aload_n hx hb dX2_person_0 rfl (lv_at hl 0 rfl) ?_
  refine lv_iconst (v := nI 0) hx hb dX2_person_1 rfl ?_
  obtain ⟨μ1, hμ1, hf⟩ := ob hf
  refine m_put E hK hP hS 0 (by decide) rfl q1413 rfl rfl rfl hμ1 dX2_person_2 (fun H locs hP hS => ?_)
  refine lv_aload_n hx hb dX2_person_5 rfl (lv_at hl 0 rfl) ?_
  refine lv_iload_n hx hb dX2_person_6 rfl (lv_at hl 1 rfl) ?_
  refine lv_iconst (v := nI 0) hx hb dX2_person_7 rfl ?_
  refine lv_iconst (v := nI 4) hx hb dX2_person_8 rfl ?_
  obtain ⟨v3, hc2, hf⟩ := ob hf
  refine m_calli E hK hP hS (As := [.int x1, .int (nI 0), .int (nI 4)]) (tm_isIn l D dT h x1 (nI 0) (nI 4) μ1 _ hc2) (lw_V q1573 q1575 qs59 q166 q1576) dm_isIn rfl (by decide) (by decide) hl rfl (Nat.le_of_ble_eq_true rfl) dX2_person_9 (fun H locs hP hS => ?_)
  refine lv_if_eq (tgt := 45) hx hb dX2_person_12 (by decide) (fun kc4 => ?_) (fun kc4 => ?_)
  · have hf := ite_t kc4 hf
    refine lv_iconst (v := (-1)) hx hb dX2_person_45 rfl ?_
    cases hf
    exact m_iret E hr hlk hP hS rfl dX2_person_46
  · have hf := ite_f kc4 hf
    refine lv_aload_n hx hb dX2_person_15 rfl (lv_at hl 0 rfl) ?_
    refine lv_iload_n hx hb dX2_person_16 rfl (lv_at hl 2 rfl) ?_
    refine lv_iconst (v := nI 1) hx hb dX2_person_17 rfl ?_
    refine lv_bipush (v := nI 9) hx hb dX2_person_18 rfl ?_
    obtain ⟨v6, hc5, hf⟩ := ob hf
    refine m_calli E hK hP hS (As := [.int x2, .int (nI 1), .int (nI 9)]) (tm_isIn l D dT h x2 (nI 1) (nI 9) μ1 _ hc5) (lw_V q1573 q1575 qs59 q166 q1576) dm_isIn rfl (by decide) (by decide) hl rfl (Nat.le_of_ble_eq_true rfl) dX2_person_20 (fun H locs hP hS => ?_)
    refine lv_if_eq (tgt := 45) hx hb dX2_person_23 (by decide) (fun kc7 => ?_) (fun kc7 => ?_)
    · have hf := ite_t kc7 hf
      refine lv_iconst (v := (-1)) hx hb dX2_person_45 rfl ?_
      cases hf
      exact m_iret E hr hlk hP hS rfl dX2_person_46
    · have hf := ite_f kc7 hf
      refine lv_aload_n hx hb dX2_person_26 rfl (lv_at hl 0 rfl) ?_
      refine lv_iload_n hx hb dX2_person_27 rfl (lv_at hl 3 rfl) ?_
      obtain ⟨v9, hc8, hf⟩ := ob hf
      refine m_calli E hK hP hS (As := [.int x3]) (tm_isIsland l D dT h x3 μ1 _ hc8) (lw_V q1577 q1579 qs60 q166 q1580) dm_isIsland rfl (by decide) (by decide) hl rfl (Nat.le_of_ble_eq_true rfl) dX2_person_28 (fun H locs hP hS => ?_)
      refine lv_if_eq (tgt := 45) hx hb dX2_person_31 (by decide) (fun kc10 => ?_) (fun kc10 => ?_)
      · have hf := ite_t kc10 hf
        refine lv_iconst (v := (-1)) hx hb dX2_person_45 rfl ?_
        cases hf
        exact m_iret E hr hlk hP hS rfl dX2_person_46
      · have hf := ite_f kc10 hf
        refine lv_aload_n hx hb dX2_person_34 rfl (lv_at hl 0 rfl) ?_
        refine m_ga E hK hP 1 (by decide) rfl q1414 rfl dX2_person_35 ?_
        refine lv_iconst (v := nI 4) hx hb dX2_person_38 rfl ?_
        obtain ⟨v11, hv11, hf⟩ := ob hf
        refine m_ald E hK hP (by decide) rfl rfl hv11 dX2_person_39 ?_
        refine lv_bipush (v := nI 12) hx hb dX2_person_40 rfl ?_
        refine lv_icmp_ne (tgt := 47) hx hb dX2_person_42 (by decide) (fun kc12 => ?_) (fun kc12 => ?_)
        · have hf := ite_f kc12 hf
          refine lv_aload_n hx hb dX2_person_47 rfl (lv_at hl 0 rfl) ?_
          refine lv_iconst (v := nI 0) hx hb dX2_person_48 rfl ?_
          obtain ⟨μ13, hμ13, hf⟩ := ob hf
          refine m_put E hK hP hS 3 (by decide) rfl q1416 rfl rfl rfl hμ13 dX2_person_49 (fun H locs hP hS => ?_)
          refine lv_aload_n hx hb dX2_person_52 rfl (lv_at hl 0 rfl) ?_
          refine lv_iload_n hx hb dX2_person_53 rfl (lv_at hl 1 rfl) ?_
          refine lv_iload_n hx hb dX2_person_54 rfl (lv_at hl 2 rfl) ?_
          refine lv_iload_n hx hb dX2_person_55 rfl (lv_at hl 3 rfl) ?_
          obtain ⟨v15, μ16, hc14, hf⟩ := ob2 hf
          refine m_calli E hK hP hS (As := [.int x1, .int x2, .int x3]) (tm_comes l D dT h x1 x2 x3 μ13 _ hc14) (lw_V q1581 q1583 qs61 q166 q1584) dm_comes rfl (by decide) (by decide) hl rfl (Nat.le_of_ble_eq_true rfl) dX2_person_56 (fun H locs hP hS => ?_)
          cases hf
          exact m_iret E hr hlk hP hS rfl dX2_person_59
        · have hf := ite_t kc12 hf
          refine lv_iconst (v := (-1)) hx hb dX2_person_45 rfl ?_
          cases hf
          exact m_iret E hr hlk hP hS rfl dX2_person_46
set_option maxHeartbeats 4000000 in
def fm_sky (x1 : Int32) (x2 : Int32) (x3 : Int32) (μ : nwM) : Option (Int32 × nwM) := (wf_ μ 0 (nI 0)).bind fun μ1 => (fm_isIsland x1 μ1).bind fun v3 => (if v3 = 0 then some (nI 0, μ1) else (fm_isIn x2 (nI 0) (nI 4) μ1).bind fun v6 => (if v6 = 0 then some (nI 0, μ1) else (fm_isIn x3 (nI 0) (nI 99) μ1).bind fun v9 => (if v9 = 0 then some (nI 0, μ1) else (fm_skyBe x1 x2 x3 μ1).bind fun μ12 => (wf_ μ12 3 (nI 0)).bind fun μ13 => some (nI 1, μ13))))
set_option maxHeartbeats 4000000 in
theorem dm_sky : yX2_sky.cls = RX2 ∧ yX2_sky.cls ≠ "java/lang/invoke/MethodHandle" ∧ yX2_sky.cls ≠ "java/lang/invoke/VarHandle" ∧ (parseMethodDescriptor yX2_sky.desc).map (fun d => d.parameters.length) = some 3 := ⟨rfl, by decide +kernel, by decide +kernel, by decide +kernel⟩
set_option maxHeartbeats 4000000 in
theorem tm_sky (l : Launch) (D : va_G) (dT : Nat → ClassId) (h : Nat) (x1 : Int32) (x2 : Int32) (x3 : Int32) (μ : nwM) (res : Int32 × nwM) (hf : fm_sky x1 x2 x3 μ = some res) : Met l yX2_sky (ws_ yX2_sky cX2_sky 4 (some .boolean)) (rmd 2) (mPc D dT h μ [.int x1, .int x2, .int x3]) (mQi D dT h res.2 res.1) 0 0 (mA h) := by
  refine m_met (by decide) rfl (Nat.le_of_ble_eq_true rfl) ?_
  intro p e s m below meth c ls E hK hr hlk hl hP
  have hS : va_S (mA h) s.heap s.heap [] := va_S.rf
  obtain ⟨hx, hb, -, hown, hts⟩ := id E
  have hl : lv_has ls 4 [(0, .ref h), (1, .int x1), (2, .int x2), (3, .int x3)] := hl
  unfold fm_sky at hf
  refine lv_aload_n hx hb dX2_sky_0 rfl (lv_at hl 0 rfl) ?_
  refine lv_iconst (v := nI 0) hx hb dX2_sky_1 rfl ?_
  obtain ⟨μ1, hμ1, hf⟩ := ob hf
  refine m_put E hK hP hS 0 (by decide) rfl q1413 rfl rfl rfl hμ1 dX2_sky_2 (fun H locs hP hS => ?_)
  refine lv_aload_n hx hb dX2_sky_5 rfl (lv_at hl 0 rfl) ?_
  refine lv_iload_n hx hb dX2_sky_6 rfl (lv_at hl 1 rfl) ?_
  obtain ⟨v3, hc2, hf⟩ := ob hf
  refine m_calli E hK hP hS (As := [.int x1]) (tm_isIsland l D dT h x1 μ1 _ hc2) (lw_V q1577 q1579 qs60 q166 q1580) dm_isIsland rfl (by decide) (by decide) hl rfl (Nat.le_of_ble_eq_true rfl) dX2_sky_7 (fun H locs hP hS => ?_)
  refine lv_if_eq (tgt := 34) hx hb dX2_sky_10 (by decide) (fun kc4 => ?_) (fun kc4 => ?_)
  · have hf := ite_t kc4 hf
    refine lv_iconst (v := nI 0) hx hb dX2_sky_34 rfl ?_
    cases hf
    exact m_zret E hr hlk hP hS rfl dX2_sky_35
  · have hf := ite_f kc4 hf
    refine lv_aload_n hx hb dX2_sky_13 rfl (lv_at hl 0 rfl) ?_
    refine lv_iload_n hx hb dX2_sky_14 rfl (lv_at hl 2 rfl) ?_
    refine lv_iconst (v := nI 0) hx hb dX2_sky_15 rfl ?_
    refine lv_iconst (v := nI 4) hx hb dX2_sky_16 rfl ?_
    obtain ⟨v6, hc5, hf⟩ := ob hf
    refine m_calli E hK hP hS (As := [.int x2, .int (nI 0), .int (nI 4)]) (tm_isIn l D dT h x2 (nI 0) (nI 4) μ1 _ hc5) (lw_V q1573 q1575 qs59 q166 q1576) dm_isIn rfl (by decide) (by decide) hl rfl (Nat.le_of_ble_eq_true rfl) dX2_sky_17 (fun H locs hP hS => ?_)
    refine lv_if_eq (tgt := 34) hx hb dX2_sky_20 (by decide) (fun kc7 => ?_) (fun kc7 => ?_)
    · have hf := ite_t kc7 hf
      refine lv_iconst (v := nI 0) hx hb dX2_sky_34 rfl ?_
      cases hf
      exact m_zret E hr hlk hP hS rfl dX2_sky_35
    · have hf := ite_f kc7 hf
      refine lv_aload_n hx hb dX2_sky_23 rfl (lv_at hl 0 rfl) ?_
      refine lv_iload_n hx hb dX2_sky_24 rfl (lv_at hl 3 rfl) ?_
      refine lv_iconst (v := nI 0) hx hb dX2_sky_25 rfl ?_
      refine lv_bipush (v := nI 99) hx hb dX2_sky_26 rfl ?_
      obtain ⟨v9, hc8, hf⟩ := ob hf
      refine m_calli E hK hP hS (As := [.int x3, .int (nI 0), .int (nI 99)]) (tm_isIn l D dT h x3 (nI 0) (nI 99) μ1 _ hc8) (lw_V q1573 q1575 qs59 q166 q1576) dm_isIn rfl (by decide) (by decide) hl rfl (Nat.le_of_ble_eq_true rfl) dX2_sky_28 (fun H locs hP hS => ?_)
      refine lv_if_ne (tgt := 36) hx hb dX2_sky_31 (by decide) (fun kc10 => ?_) (fun kc10 => ?_)
      · have hf := ite_f kc10 hf
        refine lv_aload_n hx hb dX2_sky_36 rfl (lv_at hl 0 rfl) ?_
        refine lv_iload_n hx hb dX2_sky_37 rfl (lv_at hl 1 rfl) ?_
        refine lv_iload_n hx hb dX2_sky_38 rfl (lv_at hl 2 rfl) ?_
        refine lv_iload_n hx hb dX2_sky_39 rfl (lv_at hl 3 rfl) ?_
        obtain ⟨μ12, hc11, hf⟩ := ob hf
        refine m_callv E hK hP hS (As := [.int x1, .int x2, .int x3]) (tm_skyBe l D dT h x1 x2 x3 μ1 _ hc11) (lw_V q1589 q1591 qs62 q166 q1592) dm_skyBe rfl (by decide) (by decide) hl rfl (Nat.le_of_ble_eq_true rfl) dX2_sky_40 (fun H locs hP hS => ?_)
        refine lv_aload_n hx hb dX2_sky_43 rfl (lv_at hl 0 rfl) ?_
        refine lv_iconst (v := nI 0) hx hb dX2_sky_44 rfl ?_
        obtain ⟨μ13, hμ13, hf⟩ := ob hf
        refine m_put E hK hP hS 3 (by decide) rfl q1416 rfl rfl rfl hμ13 dX2_sky_45 (fun H locs hP hS => ?_)
        refine lv_iconst (v := nI 1) hx hb dX2_sky_48 rfl ?_
        cases hf
        exact m_zret E hr hlk hP hS rfl dX2_sky_49
      · have hf := ite_t kc10 hf
        refine lv_iconst (v := nI 0) hx hb dX2_sky_34 rfl ?_
        cases hf
        exact m_zret E hr hlk hP hS rfl dX2_sky_35
set_option maxHeartbeats 4000000 in
def fm_cry (x1 : Int32) (μ : nwM) : Option (Int32 × nwM) := (wf_ μ 0 (nI 0)).bind fun μ1 => (fm_isIn x1 (nI 0) (nI 1000) μ1).bind fun v3 => (if v3 = 0 then some (nI 0, μ1) else (wf_ μ1 6 x1).bind fun μ5 => (wf_ μ5 3 (nI 0)).bind fun μ6 => some (nI 1, μ6))
set_option maxHeartbeats 4000000 in
theorem dm_cry : yX2_cry.cls = RX2 ∧ yX2_cry.cls ≠ "java/lang/invoke/MethodHandle" ∧ yX2_cry.cls ≠ "java/lang/invoke/VarHandle" ∧ (parseMethodDescriptor yX2_cry.desc).map (fun d => d.parameters.length) = some 1 := ⟨rfl, by decide +kernel, by decide +kernel, by decide +kernel⟩
set_option maxHeartbeats 4000000 in
theorem tm_cry (l : Launch) (D : va_G) (dT : Nat → ClassId) (h : Nat) (x1 : Int32) (μ : nwM) (res : Int32 × nwM) (hf : fm_cry x1 μ = some res) : Met l yX2_cry (ws_ yX2_cry cX2_cry 2 (some .boolean)) (rmd 1) (mPc D dT h μ [.int x1]) (mQi D dT h res.2 res.1) 0 0 (mA h) := by
  refine m_met (by decide) rfl (Nat.le_of_ble_eq_true rfl) ?_
  intro p e s m below meth c ls E hK hr hlk hl hP
  have hS : va_S (mA h) s.heap s.heap [] := va_S.rf
  obtain ⟨hx, hb, -, hown, hts⟩ := id E
  have hl : lv_has ls 2 [(0, .ref h), (1, .int x1)] := hl
  unfold fm_cry at hf
  refine lv_aload_n hx hb dX2_cry_0 rfl (lv_at hl 0 rfl) ?_
  refine lv_iconst (v := nI 0) hx hb dX2_cry_1 rfl ?_
  obtain ⟨μ1, hμ1, hf⟩ := ob hf
  refine m_put E hK hP hS 0 (by decide) rfl q1413 rfl rfl rfl hμ1 dX2_cry_2 (fun H locs hP hS => ?_)
  refine lv_aload_n hx hb dX2_cry_5 rfl (lv_at hl 0 rfl) ?_
  refine lv_iload_n hx hb dX2_cry_6 rfl (lv_at hl 1 rfl) ?_
  refine lv_iconst (v := nI 0) hx hb dX2_cry_7 rfl ?_
  refine lv_sipush (v := nI 1000) hx hb dX2_cry_8 rfl ?_
  obtain ⟨v3, hc2, hf⟩ := ob hf
  refine m_calli E hK hP hS (As := [.int x1, .int (nI 0), .int (nI 1000)]) (tm_isIn l D dT h x1 (nI 0) (nI 1000) μ1 _ hc2) (lw_V q1573 q1575 qs59 q166 q1576) dm_isIn rfl (by decide) (by decide) hl rfl (Nat.le_of_ble_eq_true rfl) dX2_cry_11 (fun H locs hP hS => ?_)
  refine lv_if_ne (tgt := 19) hx hb dX2_cry_14 (by decide) (fun kc4 => ?_) (fun kc4 => ?_)
  · have hf := ite_f kc4 hf
    refine lv_aload_n hx hb dX2_cry_19 rfl (lv_at hl 0 rfl) ?_
    refine lv_iload_n hx hb dX2_cry_20 rfl (lv_at hl 1 rfl) ?_
    obtain ⟨μ5, hμ5, hf⟩ := ob hf
    refine m_put E hK hP hS 6 (by decide) rfl q1419 rfl rfl rfl hμ5 dX2_cry_21 (fun H locs hP hS => ?_)
    refine lv_aload_n hx hb dX2_cry_24 rfl (lv_at hl 0 rfl) ?_
    refine lv_iconst (v := nI 0) hx hb dX2_cry_25 rfl ?_
    obtain ⟨μ6, hμ6, hf⟩ := ob hf
    refine m_put E hK hP hS 3 (by decide) rfl q1416 rfl rfl rfl hμ6 dX2_cry_26 (fun H locs hP hS => ?_)
    refine lv_iconst (v := nI 1) hx hb dX2_cry_29 rfl ?_
    cases hf
    exact m_zret E hr hlk hP hS rfl dX2_cry_30
  · have hf := ite_t kc4 hf
    refine lv_iconst (v := nI 0) hx hb dX2_cry_17 rfl ?_
    cases hf
    exact m_zret E hr hlk hP hS rfl dX2_cry_18
set_option maxHeartbeats 4000000 in
def fm_route (x1 : Int32) (x2 : Int32) (μ : nwM) : Option (Int32 × nwM) := (wf_ μ 0 (nI 0)).bind fun μ1 => (fm_isIsland x1 μ1).bind fun v3 => (if v3 = 0 then some (nI 0, μ1) else (if x2 = x1 then some (nI 0, μ1) else (if x2 = (-1) then (wr_ μ1 7 8 x1 (x2 + (nI 1))).bind fun μ7 => (wf_ μ7 3 (nI 0)).bind fun μ8 => some (nI 1, μ8) else (fm_isIsland x2 μ1).bind fun v10 => (if v10 = 0 then some (nI 0, μ1) else (wr_ μ1 7 8 x1 (x2 + (nI 1))).bind fun μ12 => (wf_ μ12 3 (nI 0)).bind fun μ13 => some (nI 1, μ13)))))
set_option maxHeartbeats 4000000 in
theorem dm_route : yX2_route.cls = RX2 ∧ yX2_route.cls ≠ "java/lang/invoke/MethodHandle" ∧ yX2_route.cls ≠ "java/lang/invoke/VarHandle" ∧ (parseMethodDescriptor yX2_route.desc).map (fun d => d.parameters.length) = some 2 := ⟨rfl, by decide +kernel, by decide +kernel, by decide +kernel⟩
set_option maxHeartbeats 4000000 in
theorem tm_route (l : Launch) (D : va_G) (dT : Nat → ClassId) (h : Nat) (x1 : Int32) (x2 : Int32) (μ : nwM) (res : Int32 × nwM) (hf : fm_route x1 x2 μ = some res) : Met l yX2_route (ws_ yX2_route cX2_route 3 (some .boolean)) (rmd 1) (mPc D dT h μ [.int x1, .int x2]) (mQi D dT h res.2 res.1) 0 0 (mA h) := by
  refine m_met (by decide) rfl (Nat.le_of_ble_eq_true rfl) ?_
  intro p e s m below meth c ls E hK hr hlk hl hP
  have hS : va_S (mA h) s.heap s.heap [] := va_S.rf
  obtain ⟨hx, hb, -, hown, hts⟩ := id E
  have hl : lv_has ls 3 [(0, .ref h), (1, .int x1), (2, .int x2)] := hl
  unfold fm_route at hf
  refine lv_aload_n hx hb dX2_route_0 rfl (lv_at hl 0 rfl) ?_
  refine lv_iconst (v := nI 0) hx hb dX2_route_1 rfl ?_
  obtain ⟨μ1, hμ1, hf⟩ := ob hf
  refine m_put E hK hP hS 0 (by decide) rfl q1413 rfl rfl rfl hμ1 dX2_route_2 (fun H locs hP hS => ?_)
  refine lv_aload_n hx hb dX2_route_5 rfl (lv_at hl 0 rfl) ?_
  refine lv_iload_n hx hb dX2_route_6 rfl (lv_at hl 1 rfl) ?_
  obtain ⟨v3, hc2, hf⟩ := ob hf
  refine m_calli E hK hP hS (As := [.int x1]) (tm_isIsland l D dT h x1 μ1 _ hc2) (lw_V q1577 q1579 qs60 q166 q1580) dm_isIsland rfl (by decide) (by decide) hl rfl (Nat.le_of_ble_eq_true rfl) dX2_route_7 (fun H locs hP hS => ?_)
  refine lv_if_eq (tgt := 31) hx hb dX2_route_10 (by decide) (fun kc4 => ?_) (fun kc4 => ?_)
  · have hf := ite_t kc4 hf
    refine lv_iconst (v := nI 0) hx hb dX2_route_31 rfl ?_
    cases hf
    exact m_zret E hr hlk hP hS rfl dX2_route_32
  · have hf := ite_f kc4 hf
    refine lv_iload_n hx hb dX2_route_13 rfl (lv_at hl 2 rfl) ?_
    refine lv_iload_n hx hb dX2_route_14 rfl (lv_at hl 1 rfl) ?_
    refine lv_icmp_eq (tgt := 31) hx hb dX2_route_15 (by decide) (fun kc5 => ?_) (fun kc5 => ?_)
    · have hf := ite_t kc5 hf
      refine lv_iconst (v := nI 0) hx hb dX2_route_31 rfl ?_
      cases hf
      exact m_zret E hr hlk hP hS rfl dX2_route_32
    · have hf := ite_f kc5 hf
      refine lv_iload_n hx hb dX2_route_18 rfl (lv_at hl 2 rfl) ?_
      refine lv_iconst (v := (-1)) hx hb dX2_route_19 rfl ?_
      refine lv_icmp_eq (tgt := 33) hx hb dX2_route_20 (by decide) (fun kc6 => ?_) (fun kc6 => ?_)
      · have hf := ite_t kc6 hf
        refine lv_aload_n hx hb dX2_route_33 rfl (lv_at hl 0 rfl) ?_
        refine m_ga E hK hP 7 (by decide) rfl q1420 rfl dX2_route_34 ?_
        refine lv_iload_n hx hb dX2_route_37 rfl (lv_at hl 1 rfl) ?_
        refine lv_iload_n hx hb dX2_route_38 rfl (lv_at hl 2 rfl) ?_
        refine lv_iconst (v := nI 1) hx hb dX2_route_39 rfl ?_
        refine lv_iadd hx hb dX2_route_40 ?_
        obtain ⟨μ7, hμ7, hf⟩ := ob hf
        refine m_ast E hK hP hS (by decide) rfl rfl hμ7 dX2_route_41 (fun H locs hP hS => ?_)
        refine lv_aload_n hx hb dX2_route_42 rfl (lv_at hl 0 rfl) ?_
        refine lv_iconst (v := nI 0) hx hb dX2_route_43 rfl ?_
        obtain ⟨μ8, hμ8, hf⟩ := ob hf
        refine m_put E hK hP hS 3 (by decide) rfl q1416 rfl rfl rfl hμ8 dX2_route_44 (fun H locs hP hS => ?_)
        refine lv_iconst (v := nI 1) hx hb dX2_route_47 rfl ?_
        cases hf
        exact m_zret E hr hlk hP hS rfl dX2_route_48
      · have hf := ite_f kc6 hf
        refine lv_aload_n hx hb dX2_route_23 rfl (lv_at hl 0 rfl) ?_
        refine lv_iload_n hx hb dX2_route_24 rfl (lv_at hl 2 rfl) ?_
        obtain ⟨v10, hc9, hf⟩ := ob hf
        refine m_calli E hK hP hS (As := [.int x2]) (tm_isIsland l D dT h x2 μ1 _ hc9) (lw_V q1577 q1579 qs60 q166 q1580) dm_isIsland rfl (by decide) (by decide) hl rfl (Nat.le_of_ble_eq_true rfl) dX2_route_25 (fun H locs hP hS => ?_)
        refine lv_if_ne (tgt := 33) hx hb dX2_route_28 (by decide) (fun kc11 => ?_) (fun kc11 => ?_)
        · have hf := ite_f kc11 hf
          refine lv_aload_n hx hb dX2_route_33 rfl (lv_at hl 0 rfl) ?_
          refine m_ga E hK hP 7 (by decide) rfl q1420 rfl dX2_route_34 ?_
          refine lv_iload_n hx hb dX2_route_37 rfl (lv_at hl 1 rfl) ?_
          refine lv_iload_n hx hb dX2_route_38 rfl (lv_at hl 2 rfl) ?_
          refine lv_iconst (v := nI 1) hx hb dX2_route_39 rfl ?_
          refine lv_iadd hx hb dX2_route_40 ?_
          obtain ⟨μ12, hμ12, hf⟩ := ob hf
          refine m_ast E hK hP hS (by decide) rfl rfl hμ12 dX2_route_41 (fun H locs hP hS => ?_)
          refine lv_aload_n hx hb dX2_route_42 rfl (lv_at hl 0 rfl) ?_
          refine lv_iconst (v := nI 0) hx hb dX2_route_43 rfl ?_
          obtain ⟨μ13, hμ13, hf⟩ := ob hf
          refine m_put E hK hP hS 3 (by decide) rfl q1416 rfl rfl rfl hμ13 dX2_route_44 (fun H locs hP hS => ?_)
          refine lv_iconst (v := nI 1) hx hb dX2_route_47 rfl ?_
          cases hf
          exact m_zret E hr hlk hP hS rfl dX2_route_48
        · have hf := ite_t kc11 hf
          refine lv_iconst (v := nI 0) hx hb dX2_route_31 rfl ?_
          cases hf
          exact m_zret E hr hlk hP hS rfl dX2_route_32
set_option maxHeartbeats 4000000 in
def fm_types_L3 (x1 : Int32) : (Int32 × nwM) → Option ((Int32 × nwM) ⊕ (nwM)) := fun st => (if st.1 < 0 then some (.inr st.2) else (wr_ st.2 9 400 (st.2 10 0) ((x1 >>> (st.1 &&& 31)) &&& (nI 255))).bind fun μ2 => (wf_ μ2 10 ((μ2 10 0) + (nI 1))).bind fun μ3 => some (.inl (st.1 + (-8), μ3)))
set_option maxHeartbeats 4000000 in
noncomputable def fm_types (x1 : Int32) (μ : nwM) : Option (nwM) := (wh_ (fm_types_L3 x1) (nI 24, μ)).bind fun x4 => some x4
set_option maxHeartbeats 4000000 in
theorem fm_types_L3_w {p : Program} {l : Launch} {e : Env} {s : State} {m : MethodId} {args : Array Value} {below : List Frame} {meth : Method} {c : Code} {Q : State → Prop} {D : va_G} {dT : Nat → ClassId} {h : Nat} (E : CallFix p m c cX2_types 3 s args lw_all RX2) (hK : va_K D nwCl (nwT dT) s) (x1 : Int32) {st : Int32 × nwM} {x : nwM} (hw : wh_ (fm_types_L3 x1) st = some x) (hk : (fun x : nwM => ∀ (ls : Array Slot) (H : Heap) (locs : List Loc), lv_has ls 3 [] → PM D dT h x H → va_S (mA h) s.heap H locs → W p l e (rmd 0) s m args below meth c H locs 0 0 Q (F0 m 39 ls [])) x) : (fun st : Int32 × nwM => ∀ (ls : Array Slot) (H : Heap) (locs : List Loc), lv_has ls 3 [(0, .ref h), (1, .int x1), (2, .int st.1)] → PM D dT h st.2 H → va_S (mA h) s.heap H locs → W p l e (rmd 0) s m args below meth c H locs 0 0 Q (F0 m 3 ls [])) st := by
  obtain ⟨hx, hb, -, hown, hts⟩ := id E
  refine wh_run (P := (fun st : Int32 × nwM => ∀ (ls : Array Slot) (H : Heap) (locs : List Loc), lv_has ls 3 [(0, .ref h), (1, .int x1), (2, .int st.1)] → PM D dT h st.2 H → va_S (mA h) s.heap H locs → W p l e (rmd 0) s m args below meth c H locs 0 0 Q (F0 m 3 ls []))) (PE := (fun x : nwM => ∀ (ls : Array Slot) (H : Heap) (locs : List Loc), lv_has ls 3 [] → PM D dT h x H → va_S (mA h) s.heap H locs → W p l e (rmd 0) s m args below meth c H locs 0 0 Q (F0 m 39 ls []))) ?_ hw hk
  clear hw hk
  intro st x hf hk ls H locs hl hP hS
  refine lv_iload_n hx hb dX2_types_3 rfl (lv_at hl 2 rfl) ?_
  refine lv_if_lt (tgt := 39) hx hb dX2_types_4 (by decide) (fun kc1 => ?_) (fun kc1 => ?_)
  · have hf := ite_t kc1 hf
    cases hf
    exact hk _ _ _ (lv_sub hl [] rfl) hP hS
  · have hf := ite_f kc1 hf
    refine lv_aload_n hx hb dX2_types_7 rfl (lv_at hl 0 rfl) ?_
    refine m_ga E hK hP 9 (by decide) rfl q1422 rfl dX2_types_8 ?_
    refine lv_aload_n hx hb dX2_types_11 rfl (lv_at hl 0 rfl) ?_
    refine m_get E hK hP 10 (by decide) rfl q1423 rfl dX2_types_12 ?_
    refine lv_iload_n hx hb dX2_types_15 rfl (lv_at hl 1 rfl) ?_
    refine lv_iload_n hx hb dX2_types_16 rfl (lv_at hl 2 rfl) ?_
    refine lv_ishr hx hb dX2_types_17 ?_
    refine lv_sipush (v := nI 255) hx hb dX2_types_18 rfl ?_
    refine lv_iand hx hb dX2_types_21 ?_
    obtain ⟨μ2, hμ2, hf⟩ := ob hf
    refine m_ast E hK hP hS (by decide) rfl rfl hμ2 dX2_types_22 (fun H locs hP hS => ?_)
    refine lv_aload_n hx hb dX2_types_23 rfl (lv_at hl 0 rfl) ?_
    refine lv_aload_n hx hb dX2_types_24 rfl (lv_at hl 0 rfl) ?_
    refine m_get E hK hP 10 (by decide) rfl q1423 rfl dX2_types_25 ?_
    refine lv_iconst (v := nI 1) hx hb dX2_types_28 rfl ?_
    refine lv_iadd hx hb dX2_types_29 ?_
    obtain ⟨μ3, hμ3, hf⟩ := ob hf
    refine m_put E hK hP hS 10 (by decide) rfl q1423 rfl rfl rfl hμ3 dX2_types_30 (fun H locs hP hS => ?_)
    refine lv_iinc (v := st.1 + (-8)) (lv' := [(2, .int (st.1 + (-8))), (0, .ref h), (1, .int x1)]) hx hb dX2_types_33 hl (k := 2) rfl rfl (by decide) rfl (fun ls hl => ?_)
    refine lv_goto (tgt := 3) hx hb dX2_types_36 (by decide) ?_
    cases hf
    exact hk _ _ _ (lv_sub hl [1, 2, 0] rfl) hP hS
set_option maxHeartbeats 4000000 in
theorem dm_types : yX2_types.cls = RX2 ∧ yX2_types.cls ≠ "java/lang/invoke/MethodHandle" ∧ yX2_types.cls ≠ "java/lang/invoke/VarHandle" ∧ (parseMethodDescriptor yX2_types.desc).map (fun d => d.parameters.length) = some 1 := ⟨rfl, by decide +kernel, by decide +kernel, by decide +kernel⟩
set_option maxHeartbeats 4000000 in
theorem tm_types (l : Launch) (D : va_G) (dT : Nat → ClassId) (h : Nat) (x1 : Int32) (μ : nwM) (res : nwM) (hf : fm_types x1 μ = some res) : Met l yX2_types (ws_ yX2_types cX2_types 3 none) (rmd 0) (mPc D dT h μ [.int x1]) (mQv D dT h res) 0 0 (mA h) := by
  refine m_met (by decide) rfl (Nat.le_of_ble_eq_true rfl) ?_
  intro p e s m below meth c ls E hK hr hlk hl hP
  have hS : va_S (mA h) s.heap s.heap [] := va_S.rf
  obtain ⟨hx, hb, -, hown, hts⟩ := id E
  have hl : lv_has ls 3 [(0, .ref h), (1, .int x1)] := hl
  unfold fm_types at hf
  refine lv_bipush (v := nI 24) hx hb dX2_types_0 rfl ?_
  refine lv_istore_n (lv' := [(2, .int (nI 24)), (0, .ref h), (1, .int x1)]) hx hb dX2_types_2 rfl hl (by decide) rfl (fun ls hl => ?_)
  obtain ⟨x4, hx4, hf⟩ := ob hf
  refine fm_types_L3_w E hK x1 hx4 (fun ls H locs hl hP hS => ?_) _ _ _ (lv_sub hl [1, 2, 0] rfl) hP hS
  cases hf
  exact m_vret E hr hlk hP hS dX2_types_39
set_option maxHeartbeats 4000000 in
noncomputable def fm_feed (x1 : Int32) (x2 : Int32) (x3 : Int32) (x4 : Int32) (x5 : Int32) (μ : nwM) : Option (Int32 × nwM) := (wf_ μ 0 (nI 0)).bind fun μ1 => (if (μ1 10 0) ≤ (nI 380) then (fm_types x1 μ1).bind fun μ4 => (fm_types x2 μ4).bind fun μ6 => (fm_types x3 μ6).bind fun μ8 => (fm_types x4 μ8).bind fun μ10 => (fm_types x5 μ10).bind fun μ12 => some (μ12 10 0, μ12) else some ((-1), μ1))
set_option maxHeartbeats 4000000 in
theorem dm_feed : yX2_feed.cls = RX2 ∧ yX2_feed.cls ≠ "java/lang/invoke/MethodHandle" ∧ yX2_feed.cls ≠ "java/lang/invoke/VarHandle" ∧ (parseMethodDescriptor yX2_feed.desc).map (fun d => d.parameters.length) = some 5 := ⟨rfl, by decide +kernel, by decide +kernel, by decide +kernel⟩
set_option maxHeartbeats 4000000 in
theorem tm_feed (l : Launch) (D : va_G) (dT : Nat → ClassId) (h : Nat) (x1 : Int32) (x2 : Int32) (x3 : Int32) (x4 : Int32) (x5 : Int32) (μ : nwM) (res : Int32 × nwM) (hf : fm_feed x1 x2 x3 x4 x5 μ = some res) : Met l yX2_feed (ws_ yX2_feed cX2_feed 6 (some .int)) (rmd 1) (mPc D dT h μ [.int x1, .int x2, .int x3, .int x4, .int x5]) (mQi D dT h res.2 res.1) 0 0 (mA h) := by
  refine m_met (by decide) rfl (Nat.le_of_ble_eq_true rfl) ?_
  intro p e s m below meth c ls E hK hr hlk hl hP
  have hS : va_S (mA h) s.heap s.heap [] := va_S.rf
  obtain ⟨hx, hb, -, hown, hts⟩ := id E
  have hl : lv_has ls 6 [(0, .ref h), (1, .int x1), (2, .int x2), (3, .int x3), (4, .int x4), (5, .int x5)] := hl
  unfold fm_feed at hf
  refine lv_aload_n hx hb dX2_feed_0 rfl (lv_at hl 0 rfl) ?_
  refine lv_iconst (v := nI 0) hx hb dX2_feed_1 rfl ?_
  obtain ⟨μ1, hμ1, hf⟩ := ob hf
  refine m_put E hK hP hS 0 (by decide) rfl q1413 rfl rfl rfl hμ1 dX2_feed_2 (fun H locs hP hS => ?_)
  refine lv_aload_n hx hb dX2_feed_5 rfl (lv_at hl 0 rfl) ?_
  refine m_get E hK hP 10 (by decide) rfl q1423 rfl dX2_feed_6 ?_
  refine lv_sipush (v := nI 380) hx hb dX2_feed_9 rfl ?_
  refine lv_icmp_le (tgt := 17) hx hb dX2_feed_12 (by decide) (fun kc2 => ?_) (fun kc2 => ?_)
  · have hf := ite_t kc2 hf
    refine lv_aload_n hx hb dX2_feed_17 rfl (lv_at hl 0 rfl) ?_
    refine lv_iload_n hx hb dX2_feed_18 rfl (lv_at hl 1 rfl) ?_
    obtain ⟨μ4, hc3, hf⟩ := ob hf
    refine m_callv E hK hP hS (As := [.int x1]) (tm_types l D dT h x1 μ1 _ hc3) (lw_V q1609 q1611 qs64 q166 q1612) dm_types rfl (by decide) (by decide) hl rfl (Nat.le_of_ble_eq_true rfl) dX2_feed_19 (fun H locs hP hS => ?_)
    refine lv_aload_n hx hb dX2_feed_22 rfl (lv_at hl 0 rfl) ?_
    refine lv_iload_n hx hb dX2_feed_23 rfl (lv_at hl 2 rfl) ?_
    obtain ⟨μ6, hc5, hf⟩ := ob hf
    refine m_callv E hK hP hS (As := [.int x2]) (tm_types l D dT h x2 μ4 _ hc5) (lw_V q1609 q1611 qs64 q166 q1612) dm_types rfl (by decide) (by decide) hl rfl (Nat.le_of_ble_eq_true rfl) dX2_feed_24 (fun H locs hP hS => ?_)
    refine lv_aload_n hx hb dX2_feed_27 rfl (lv_at hl 0 rfl) ?_
    refine lv_iload_n hx hb dX2_feed_28 rfl (lv_at hl 3 rfl) ?_
    obtain ⟨μ8, hc7, hf⟩ := ob hf
    refine m_callv E hK hP hS (As := [.int x3]) (tm_types l D dT h x3 μ6 _ hc7) (lw_V q1609 q1611 qs64 q166 q1612) dm_types rfl (by decide) (by decide) hl rfl (Nat.le_of_ble_eq_true rfl) dX2_feed_29 (fun H locs hP hS => ?_)
    refine lv_aload_n hx hb dX2_feed_32 rfl (lv_at hl 0 rfl) ?_
    refine lv_iload hx hb dX2_feed_33 (lv_at hl 4 rfl) ?_
    obtain ⟨μ10, hc9, hf⟩ := ob hf
    refine m_callv E hK hP hS (As := [.int x4]) (tm_types l D dT h x4 μ8 _ hc9) (lw_V q1609 q1611 qs64 q166 q1612) dm_types rfl (by decide) (by decide) hl rfl (Nat.le_of_ble_eq_true rfl) dX2_feed_35 (fun H locs hP hS => ?_)
    refine lv_aload_n hx hb dX2_feed_38 rfl (lv_at hl 0 rfl) ?_
    refine lv_iload hx hb dX2_feed_39 (lv_at hl 5 rfl) ?_
    obtain ⟨μ12, hc11, hf⟩ := ob hf
    refine m_callv E hK hP hS (As := [.int x5]) (tm_types l D dT h x5 μ10 _ hc11) (lw_V q1609 q1611 qs64 q166 q1612) dm_types rfl (by decide) (by decide) hl rfl (Nat.le_of_ble_eq_true rfl) dX2_feed_41 (fun H locs hP hS => ?_)
    refine lv_aload_n hx hb dX2_feed_44 rfl (lv_at hl 0 rfl) ?_
    refine m_get E hK hP 10 (by decide) rfl q1423 rfl dX2_feed_45 ?_
    cases hf
    exact m_iret E hr hlk hP hS rfl dX2_feed_48
  · have hf := ite_f kc2 hf
    refine lv_iconst (v := (-1)) hx hb dX2_feed_15 rfl ?_
    cases hf
    exact m_iret E hr hlk hP hS rfl dX2_feed_16
set_option maxHeartbeats 4000000 in
def fm_end (x1 : Int32) (μ : nwM) : Option (Int32 × nwM) := (wf_ μ 0 (nI 0)).bind fun μ1 => (fm_isIn x1 (nI 0) (μ1 10 0) μ1).bind fun v3 => (if v3 = 0 then some (nI 0, μ1) else (wf_ μ1 10 x1).bind fun μ5 => some (nI 1, μ5))
set_option maxHeartbeats 4000000 in
theorem dm_end : yX2_end.cls = RX2 ∧ yX2_end.cls ≠ "java/lang/invoke/MethodHandle" ∧ yX2_end.cls ≠ "java/lang/invoke/VarHandle" ∧ (parseMethodDescriptor yX2_end.desc).map (fun d => d.parameters.length) = some 1 := ⟨rfl, by decide +kernel, by decide +kernel, by decide +kernel⟩
set_option maxHeartbeats 4000000 in
theorem tm_end (l : Launch) (D : va_G) (dT : Nat → ClassId) (h : Nat) (x1 : Int32) (μ : nwM) (res : Int32 × nwM) (hf : fm_end x1 μ = some res) : Met l yX2_end (ws_ yX2_end cX2_end 2 (some .boolean)) (rmd 1) (mPc D dT h μ [.int x1]) (mQi D dT h res.2 res.1) 0 0 (mA h) := by
  refine m_met (by decide) rfl (Nat.le_of_ble_eq_true rfl) ?_
  intro p e s m below meth c ls E hK hr hlk hl hP
  have hS : va_S (mA h) s.heap s.heap [] := va_S.rf
  obtain ⟨hx, hb, -, hown, hts⟩ := id E
  have hl : lv_has ls 2 [(0, .ref h), (1, .int x1)] := hl
  unfold fm_end at hf
  refine lv_aload_n hx hb dX2_end_0 rfl (lv_at hl 0 rfl) ?_
  refine lv_iconst (v := nI 0) hx hb dX2_end_1 rfl ?_
  obtain ⟨μ1, hμ1, hf⟩ := ob hf
  refine m_put E hK hP hS 0 (by decide) rfl q1413 rfl rfl rfl hμ1 dX2_end_2 (fun H locs hP hS => ?_)
  refine lv_aload_n hx hb dX2_end_5 rfl (lv_at hl 0 rfl) ?_
  refine lv_iload_n hx hb dX2_end_6 rfl (lv_at hl 1 rfl) ?_
  refine lv_iconst (v := nI 0) hx hb dX2_end_7 rfl ?_
  refine lv_aload_n hx hb dX2_end_8 rfl (lv_at hl 0 rfl) ?_
  refine m_get E hK hP 10 (by decide) rfl q1423 rfl dX2_end_9 ?_
  obtain ⟨v3, hc2, hf⟩ := ob hf
  refine m_calli E hK hP hS (As := [.int x1, .int (nI 0), .int (μ1 10 0)]) (tm_isIn l D dT h x1 (nI 0) (μ1 10 0) μ1 _ hc2) (lw_V q1573 q1575 qs59 q166 q1576) dm_isIn rfl (by decide) (by decide) hl rfl (Nat.le_of_ble_eq_true rfl) dX2_end_12 (fun H locs hP hS => ?_)
  refine lv_if_ne (tgt := 20) hx hb dX2_end_15 (by decide) (fun kc4 => ?_) (fun kc4 => ?_)
  · have hf := ite_f kc4 hf
    refine lv_aload_n hx hb dX2_end_20 rfl (lv_at hl 0 rfl) ?_
    refine lv_iload_n hx hb dX2_end_21 rfl (lv_at hl 1 rfl) ?_
    obtain ⟨μ5, hμ5, hf⟩ := ob hf
    refine m_put E hK hP hS 10 (by decide) rfl q1423 rfl rfl rfl hμ5 dX2_end_22 (fun H locs hP hS => ?_)
    refine lv_iconst (v := nI 1) hx hb dX2_end_25 rfl ?_
    cases hf
    exact m_zret E hr hlk hP hS rfl dX2_end_26
  · have hf := ite_t kc4 hf
    refine lv_iconst (v := nI 0) hx hb dX2_end_18 rfl ?_
    cases hf
    exact m_zret E hr hlk hP hS rfl dX2_end_19
set_option maxHeartbeats 4000000 in
def fm_raw (x1 : Int32) (μ : nwM) : Option (Int32) := (if (μ 10 0) ≤ x1 then some (-1) else (rd_ μ 9 400 x1).bind fun v2 => some v2)
set_option maxHeartbeats 4000000 in
theorem dm_raw : yX2_raw.cls = RX2 ∧ yX2_raw.cls ≠ "java/lang/invoke/MethodHandle" ∧ yX2_raw.cls ≠ "java/lang/invoke/VarHandle" ∧ (parseMethodDescriptor yX2_raw.desc).map (fun d => d.parameters.length) = some 1 := ⟨rfl, by decide +kernel, by decide +kernel, by decide +kernel⟩
set_option maxHeartbeats 4000000 in
theorem tm_raw (l : Launch) (D : va_G) (dT : Nat → ClassId) (h : Nat) (x1 : Int32) (μ : nwM) (res : Int32) (hf : fm_raw x1 μ = some res) : Met l yX2_raw (ws_ yX2_raw cX2_raw 2 (some .int)) (rmd 0) (mPc D dT h μ [.int x1]) (mQi D dT h μ res) 0 0 (mA h) := by
  refine m_met (by decide) rfl (Nat.le_of_ble_eq_true rfl) ?_
  intro p e s m below meth c ls E hK hr hlk hl hP
  have hS : va_S (mA h) s.heap s.heap [] := va_S.rf
  obtain ⟨hx, hb, -, hown, hts⟩ := id E
  have hl : lv_has ls 2 [(0, .ref h), (1, .int x1)] := hl
  unfold fm_raw at hf
  refine lv_iload_n hx hb dX2_raw_0 rfl (lv_at hl 1 rfl) ?_
  refine lv_aload_n hx hb dX2_raw_1 rfl (lv_at hl 0 rfl) ?_
  refine m_get E hK hP 10 (by decide) rfl q1423 rfl dX2_raw_2 ?_
  refine lv_icmp_ge (tgt := 17) hx hb dX2_raw_5 (by decide) (fun kc1 => ?_) (fun kc1 => ?_)
  · have hf := ite_t kc1 hf
    refine lv_iconst (v := (-1)) hx hb dX2_raw_17 rfl ?_
    cases hf
    exact m_iret E hr hlk hP hS rfl dX2_raw_18
  · have hf := ite_f kc1 hf
    refine lv_aload_n hx hb dX2_raw_8 rfl (lv_at hl 0 rfl) ?_
    refine m_ga E hK hP 9 (by decide) rfl q1422 rfl dX2_raw_9 ?_
    refine lv_iload_n hx hb dX2_raw_12 rfl (lv_at hl 1 rfl) ?_
    obtain ⟨v2, hv2, hf⟩ := ob hf
    refine m_ald E hK hP (by decide) rfl rfl hv2 dX2_raw_13 ?_
    refine lv_goto (tgt := 18) hx hb dX2_raw_14 (by decide) ?_
    cases hf
    exact m_iret E hr hlk hP hS rfl dX2_raw_18
