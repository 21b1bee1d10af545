/-! walks of NamesWeatherModel, written by genm.py -/
set_option maxRecDepth 100000
set_option maxHeartbeats 4000000 in
def fm_quenches_L10 (x1 : Int32) : (Int32 × nwM) → Option ((Int32 × nwM) ⊕ (nwM)) := fun st => (if (st.2 32 0) ≤ st.1 then some (.inr st.2) else (rd_ st.2 33 96 (((nI 3) * st.1) + (nI 1))).bind fun v3 => (rd_ st.2 33 96 (((nI 3) * st.1) + (nI 1))).bind fun v4 => (fm_skyAt x1 v4 st.2).bind fun v6 => (rd_ st.2 33 96 (((nI 3) * st.1) + (nI 2))).bind fun v7 => (rd_ st.2 33 96 ((nI 3) * st.1)).bind fun v8 => (fm_skyAt x1 v8 st.2).bind fun v10 => (fm_skyBe x1 v3 (v6 - ((v7 * v10) / (nI 10))) st.2).bind fun μ12 => some (.inl (st.1 + nI 1, μ12)))
set_option maxHeartbeats 4000000 in
noncomputable def fm_quenches_L2 : (Int32 × nwM) → Option ((Int32 × nwM) ⊕ (nwM)) := fun st => (if (nI 8) ≤ st.1 then some (.inr st.2) else (wh_ (fm_quenches_L10 st.1) (nI 0, st.2)).bind fun x13 => some (.inl (st.1 + nI 1, x13)))
set_option maxHeartbeats 4000000 in
noncomputable def fm_quenches (μ : nwM) : Option (nwM) := (wh_ (fm_quenches_L2) (nI 0, μ)).bind fun x14 => some x14
set_option maxHeartbeats 4000000 in
theorem fm_quenches_L10_w {p : Program} {l : Launch} {e : Env} {s : State} {m : MethodId} {args : Array Value} {below : List Frame} {meth : Method} {c : Code} {Q : State → Prop} {D : va_G} {dT : Nat → ClassId} {h : Nat} (E : CallFix p m c cX2_quenches 3 s args lw_all RX2) (hK : va_K D nwCl (nwT dT) s) (x1 : Int32) {st : Int32 × nwM} {x : nwM} (hw : wh_ (fm_quenches_L10 x1) st = some x) (hk : (fun x : nwM => ∀ (ls : Array Slot) (H : Heap) (locs : List Loc), lv_has ls 3 [(0, .ref h), (1, .int x1)] → PM D dT h x H → va_S (mA h) s.heap H locs → W p l e (rmd 2) s m args below meth c H locs 0 0 Q (F0 m 82 ls [])) x) : (fun st : Int32 × nwM => ∀ (ls : Array Slot) (H : Heap) (locs : List Loc), lv_has ls 3 [(0, .ref h), (1, .int x1), (2, .int st.1)] → PM D dT h st.2 H → va_S (mA h) s.heap H locs → W p l e (rmd 2) s m args below meth c H locs 0 0 Q (F0 m 10 ls [])) st := by
  obtain ⟨hx, hb, -, hown, hts⟩ := id E
  refine wh_run (P := (fun st : Int32 × nwM => ∀ (ls : Array Slot) (H : Heap) (locs : List Loc), lv_has ls 3 [(0, .ref h), (1, .int x1), (2, .int st.1)] → PM D dT h st.2 H → va_S (mA h) s.heap H locs → W p l e (rmd 2) s m args below meth c H locs 0 0 Q (F0 m 10 ls []))) (PE := (fun x : nwM => ∀ (ls : Array Slot) (H : Heap) (locs : List Loc), lv_has ls 3 [(0, .ref h), (1, .int x1)] → PM D dT h x H → va_S (mA h) s.heap H locs → W p l e (rmd 2) s m args below meth c H locs 0 0 Q (F0 m 82 ls []))) ?_ hw hk
  clear hw hk
  intro st x hf hk ls H locs hl hP hS
  refine lv_iload_n hx hb dX2_quenches_10 rfl (lv_at hl 2 rfl) ?_
  refine lv_aload_n hx hb dX2_quenches_11 rfl (lv_at hl 0 rfl) ?_
  refine m_get E hK hP 32 (by decide) rfl q1445 rfl dX2_quenches_12 ?_
  refine lv_icmp_ge (tgt := 82) hx hb dX2_quenches_15 (by decide) (fun kc2 => ?_) (fun kc2 => ?_)
  · have hf := ite_t kc2 hf
    cases hf
    exact hk _ _ _ (lv_sub hl [0, 1] rfl) hP hS
  · have hf := ite_f kc2 hf
    refine lv_aload_n hx hb dX2_quenches_18 rfl (lv_at hl 0 rfl) ?_
    refine lv_iload_n hx hb dX2_quenches_19 rfl (lv_at hl 1 rfl) ?_
    refine lv_aload_n hx hb dX2_quenches_20 rfl (lv_at hl 0 rfl) ?_
    refine m_ga E hK hP 33 (by decide) rfl q1446 rfl dX2_quenches_21 ?_
    refine lv_iconst (v := nI 3) hx hb dX2_quenches_24 rfl ?_
    refine lv_iload_n hx hb dX2_quenches_25 rfl (lv_at hl 2 rfl) ?_
    refine lv_imul hx hb dX2_quenches_26 ?_
    refine lv_iconst (v := nI 1) hx hb dX2_quenches_27 rfl ?_
    refine lv_iadd hx hb dX2_quenches_28 ?_
    obtain ⟨v3, hv3, hf⟩ := ob hf
    refine m_ald E hK hP (by decide) rfl rfl hv3 dX2_quenches_29 ?_
    refine lv_aload_n hx hb dX2_quenches_30 rfl (lv_at hl 0 rfl) ?_
    refine lv_iload_n hx hb dX2_quenches_31 rfl (lv_at hl 1 rfl) ?_
    refine lv_aload_n hx hb dX2_quenches_32 rfl (lv_at hl 0 rfl) ?_
    refine m_ga E hK hP 33 (by decide) rfl q1446 rfl dX2_quenches_33 ?_
    refine lv_iconst (v := nI 3) hx hb dX2_quenches_36 rfl ?_
    refine lv_iload_n hx hb dX2_quenches_37 rfl (lv_at hl 2 rfl) ?_
    refine lv_imul hx hb dX2_quenches_38 ?_
    refine lv_iconst (v := nI 1) hx hb dX2_quenches_39 rfl ?_
    refine lv_iadd hx hb dX2_quenches_40 ?_
    obtain ⟨v4, hv4, hf⟩ := ob hf
    refine m_ald E hK hP (by decide) rfl rfl hv4 dX2_quenches_41 ?_
    obtain ⟨v6, hc5, hf⟩ := ob hf
    refine m_calli E hK hP hS (As := [.int x1, .int v4]) (tm_skyAt l D dT h x1 v4 st.2 _ hc5) (lw_V q1793 q1795 qs106 q166 q1796) dm_skyAt rfl (by decide) (by decide) hl rfl (Nat.le_of_ble_eq_true rfl) dX2_quenches_42 (fun H locs hP hS => ?_)
    refine lv_aload_n hx hb dX2_quenches_45 rfl (lv_at hl 0 rfl) ?_
    refine m_ga E hK hP 33 (by decide) rfl q1446 rfl dX2_quenches_46 ?_
    refine lv_iconst (v := nI 3) hx hb dX2_quenches_49 rfl ?_
    refine lv_iload_n hx hb dX2_quenches_50 rfl (lv_at hl 2 rfl) ?_
    refine lv_imul hx hb dX2_quenches_51 ?_
    refine lv_iconst (v := nI 2) hx hb dX2_quenches_52 rfl ?_
    refine lv_iadd hx hb dX2_quenches_53 ?_
    obtain ⟨v7, hv7, hf⟩ := ob hf
    refine m_ald E hK hP (by decide) rfl rfl hv7 dX2_quenches_54 ?_
    refine lv_aload_n hx hb dX2_quenches_55 rfl (lv_at hl 0 rfl) ?_
    refine lv_iload_n hx hb dX2_quenches_56 rfl (lv_at hl 1 rfl) ?_
    refine lv_aload_n hx hb dX2_quenches_57 rfl (lv_at hl 0 rfl) ?_
    refine m_ga E hK hP 33 (by decide) rfl q1446 rfl dX2_quenches_58 ?_
    refine lv_iconst (v := nI 3) hx hb dX2_quenches_61 rfl ?_
    refine lv_iload_n hx hb dX2_quenches_62 rfl (lv_at hl 2 rfl) ?_
    refine lv_imul hx hb dX2_quenches_63 ?_
    obtain ⟨v8, hv8, hf⟩ := ob hf
    refine m_ald E hK hP (by decide) rfl rfl hv8 dX2_quenches_64 ?_
    obtain ⟨v10, hc9, hf⟩ := ob hf
    refine m_calli E hK hP hS (As := [.int x1, .int v8]) (tm_skyAt l D dT h x1 v8 st.2 _ hc9) (lw_V q1793 q1795 qs106 q166 q1796) dm_skyAt rfl (by decide) (by decide) hl rfl (Nat.le_of_ble_eq_true rfl) dX2_quenches_65 (fun H locs hP hS => ?_)
    refine lv_imul hx hb dX2_quenches_68 ?_
    refine lv_bipush (v := nI 10) hx hb dX2_quenches_69 rfl ?_
    refine lv_idiv hx hb dX2_quenches_71 (by decide) ?_
    refine lv_isub hx hb dX2_quenches_72 ?_
    obtain ⟨μ12, hc11, hf⟩ := ob hf
    refine m_callv E hK hP hS (As := [.int x1, .int v3, .int (v6 - ((v7 * v10) / (nI 10)))]) (tm_skyBe l D dT h x1 v3 (v6 - ((v7 * v10) / (nI 10))) st.2 _ hc11) (lw_V q1589 q1591 qs62 q166 q1592) dm_skyBe rfl (by decide) (by decide) hl rfl (Nat.le_of_ble_eq_true rfl) dX2_quenches_73 (fun H locs hP hS => ?_)
    refine lv_iinc (v := st.1 + nI 1) (lv' := [(2, .int (st.1 + nI 1)), (0, .ref h), (1, .int x1)]) hx hb dX2_quenches_76 hl (k := 2) rfl rfl (by decide) rfl (fun ls hl => ?_)
    refine lv_goto (tgt := 10) hx hb dX2_quenches_79 (by decide) ?_
    cases hf
    exact hk _ _ _ (lv_sub hl [1, 2, 0] rfl) hP hS
set_option maxHeartbeats 4000000 in
theorem fm_quenches_L2_w {p : Program} {l : Launch} {e : Env} {s : State} {m : MethodId} {args : Array Value} {below : List Frame} {meth : Method} {c : Code} {Q : State → Prop} {D : va_G} {dT : Nat → ClassId} {h : Nat} (E : CallFix p m c cX2_quenches 3 s args lw_all RX2) (hK : va_K D nwCl (nwT dT) s) {st : Int32 × nwM} {x : nwM} (hw : wh_ (fm_quenches_L2) st = some x) (hk : (fun x : nwM => ∀ (ls : Array Slot) (H : Heap) (locs : List Loc), lv_has ls 3 [] → PM D dT h x H → va_S (mA h) s.heap H locs → W p l e (rmd 2) s m args below meth c H locs 0 0 Q (F0 m 88 ls [])) x) : (fun st : Int32 × nwM => ∀ (ls : Array Slot) (H : Heap) (locs : List Loc), lv_has ls 3 [(0, .ref h), (1, .int st.1)] → PM D dT h st.2 H → va_S (mA h) s.heap H locs → W p l e (rmd 2) s m args below meth c H locs 0 0 Q (F0 m 2 ls [])) st := by
  obtain ⟨hx, hb, -, hown, hts⟩ := id E
  refine wh_run (P := (fun st : Int32 × nwM => ∀ (ls : Array Slot) (H : Heap) (locs : List Loc), lv_has ls 3 [(0, .ref h), (1, .int st.1)] → PM D dT h st.2 H → va_S (mA h) s.heap H locs → W p l e (rmd 2) s m args below meth c H locs 0 0 Q (F0 m 2 ls []))) (PE := (fun x : nwM => ∀ (ls : Array Slot) (H : Heap) (locs : List Loc), lv_has ls 3 [] → PM D dT h x H → va_S (mA h) s.heap H locs → W p l e (rmd 2) s m args below meth c H locs 0 0 Q (F0 m 88 ls []))) ?_ hw hk
  clear hw hk
  intro st x hf hk ls H locs hl hP hS
  refine lv_iload_n hx hb dX2_quenches_2 rfl (lv_at hl 1 rfl) ?_
  refine lv_bipush (v := nI 8) hx hb dX2_quenches_3 rfl ?_
  refine lv_icmp_ge (tgt := 88) hx hb dX2_quenches_5 (by decide) (fun kc1 => ?_) (fun kc1 => ?_)
  · have hf := ite_t kc1 hf
    cases hf
    exact hk _ _ _ (lv_sub hl [] rfl) hP hS
  · have hf := ite_f kc1 hf
    refine lv_iconst (v := nI 0) hx hb dX2_quenches_8 rfl ?_
    refine lv_istore_n (lv' := [(2, .int (nI 0)), (0, .ref h), (1, .int st.1)]) hx hb dX2_quenches_9 rfl hl (by decide) rfl (fun ls hl => ?_)
    obtain ⟨x13, hx13, hf⟩ := ob hf
    refine fm_quenches_L10_w E hK st.1 hx13 (fun ls H locs hl hP hS => ?_) _ _ _ (lv_sub hl [1, 2, 0] rfl) hP hS
    refine lv_iinc (v := st.1 + nI 1) (lv' := [(1, .int (st.1 + nI 1)), (0, .ref h)]) hx hb dX2_quenches_82 hl (k := 1) rfl rfl (by decide) rfl (fun ls hl => ?_)
    refine lv_goto (tgt := 2) hx hb dX2_quenches_85 (by decide) ?_
    cases hf
    exact hk _ _ _ (lv_sub hl [1, 0] rfl) hP hS
set_option maxHeartbeats 4000000 in
theorem dm_quenches : yX2_quenches.cls = RX2 ∧ yX2_quenches.cls ≠ "java/lang/invoke/MethodHandle" ∧ yX2_quenches.cls ≠ "java/lang/invoke/VarHandle" ∧ (parseMethodDescriptor yX2_quenches.desc).map (fun d => d.parameters.length) = some 0 := ⟨rfl, by decide +kernel, by decide +kernel, by decide +kernel⟩
set_option maxHeartbeats 4000000 in
theorem tm_quenches (l : Launch) (D : va_G) (dT : Nat → ClassId) (h : Nat) (μ : nwM) (res : nwM) (hf : fm_quenches μ = some res) : Met l yX2_quenches (ws_ yX2_quenches cX2_quenches 3 none) (rmd 2) (mPc D dT h μ []) (mQv D dT h res) 0 0 (mA h) := by
  refine m_met (by decide) rfl (Nat.le_of_ble_eq_true rfl) ?_
  intro p e s m below meth c ls E hK hr hlk hl hP
  have hS : va_S (mA h) s.heap s.heap [] := va_S.rf
  obtain ⟨hx, hb, -, hown, hts⟩ := id E
  have hl : lv_has ls 3 [(0, .ref h)] := hl
  unfold fm_quenches at hf
  refine lv_iconst (v := nI 0) hx hb dX2_quenches_0 rfl ?_
  refine lv_istore_n (lv' := [(1, .int (nI 0)), (0, .ref h)]) hx hb dX2_quenches_1 rfl hl (by decide) rfl (fun ls hl => ?_)
  obtain ⟨x14, hx14, hf⟩ := ob hf
  refine fm_quenches_L2_w E hK hx14 (fun ls H locs hl hP hS => ?_) _ _ _ (lv_sub hl [1, 0] rfl) hP hS
  cases hf
  exact m_vret E hr hlk hP hS dX2_quenches_88
set_option maxHeartbeats 4000000 in
def fm_blows_L2 : (Int32 × nwM) → Option ((Int32 × nwM) ⊕ (nwM)) := fun st => (if (nI 40) ≤ st.1 then some (.inr st.2) else (rd_ st.2 1 105 ((nI 5) + st.1)).bind fun v2 => (wr_ st.2 40 40 st.1 v2).bind fun μ3 => some (.inl (st.1 + nI 1, μ3)))
set_option maxHeartbeats 4000000 in
def fm_blows_L61 (x1 : Int32) : (Int32 × nwM) → Option ((Int32 × nwM) ⊕ (nwM)) := fun st => (if (nI 5) ≤ st.1 then some (.inr st.2) else (fm_skyAt x1 st.1 st.2).bind fun v13 => (rd_ st.2 40 40 (((nI 5) * x1) + st.1)).bind fun v14 => (wr_ st.2 40 40 (((nI 5) * x1) + st.1) (v14 - (v13 / (nI 2)))).bind fun μ15 => (rd_ μ15 7 8 x1).bind fun v16 => (rd_ μ15 7 8 x1).bind fun v17 => (rd_ μ15 40 40 (((nI 5) * (v17 - (nI 1))) + st.1)).bind fun v18 => (wr_ μ15 40 40 (((nI 5) * (v16 - (nI 1))) + st.1) (v18 + (v13 / (nI 2)))).bind fun μ19 => some (.inl (st.1 + nI 1, μ19)))
set_option maxHeartbeats 4000000 in
noncomputable def fm_blows_L30 : (Int32 × nwM) → Option ((Int32 × nwM) ⊕ (nwM)) := fun st => (if (nI 8) ≤ st.1 then some (.inr st.2) else (rd_ st.2 7 8 st.1).bind fun v6 => (if v6 = 0 then some (.inl (st.1 + nI 1, st.2)) else (fm_skyAt st.1 (nI 2) st.2).bind fun v9 => (if (nI 10) ≤ v9 then (wh_ (fm_blows_L61 st.1) (nI 0, st.2)).bind fun x20 => some (.inl (st.1 + nI 1, x20)) else some (.inl (st.1 + nI 1, st.2)))))
set_option maxHeartbeats 4000000 in
def fm_blows_L155 (x1 : Int32) : (Int32 × nwM) → Option ((Int32 × nwM) ⊕ (nwM)) := fun st => (if (nI 5) ≤ st.1 then some (.inr st.2) else (rd_ st.2 40 40 (((nI 5) * x1) + st.1)).bind fun v24 => (fm_skyBe x1 st.1 v24 st.2).bind fun μ26 => some (.inl (st.1 + nI 1, μ26)))
set_option maxHeartbeats 4000000 in
noncomputable def fm_blows_L147 : (Int32 × nwM) → Option ((Int32 × nwM) ⊕ (nwM)) := fun st => (if (nI 8) ≤ st.1 then some (.inr st.2) else (wh_ (fm_blows_L155 st.1) (nI 0, st.2)).bind fun x27 => some (.inl (st.1 + nI 1, x27)))
set_option maxHeartbeats 4000000 in
noncomputable def fm_blows (μ : nwM) : Option (nwM) := (wh_ (fm_blows_L2) (nI 0, μ)).bind fun x4 => (wh_ (fm_blows_L30) (nI 0, x4)).bind fun x21 => (wh_ (fm_blows_L147) (nI 0, x21)).bind fun x28 => some x28
set_option maxHeartbeats 4000000 in
theorem fm_blows_L2_w {p : Program} {l : Launch} {e : Env} {s : State} {m : MethodId} {args : Array Value} {below : List Frame} {meth : Method} {c : Code} {Q : State → Prop} {D : va_G} {dT : Nat → ClassId} {h : Nat} (E : CallFix p m c cX2_blows 4 s args lw_all RX2) (hK : va_K D nwCl (nwT dT) s) {st : Int32 × nwM} {x : nwM} (hw : wh_ (fm_blows_L2) st = some x) (hk : (fun x : nwM => ∀ (ls : Array Slot) (H : Heap) (locs : List Loc), lv_has ls 4 [(0, .ref h)] → PM D dT h x H → va_S (mA h) s.heap H locs → W p l e (rmd 2) s m args below meth c H locs 0 0 Q (F0 m 28 ls [])) x) : (fun st : Int32 × nwM => ∀ (ls : Array Slot) (H : Heap) (locs : List Loc), lv_has ls 4 [(0, .ref h), (1, .int st.1)] → PM D dT h st.2 H → va_S (mA h) s.heap H locs → W p l e (rmd 2) s m args below meth c H locs 0 0 Q (F0 m 2 ls [])) st := by
  obtain ⟨hx, hb, -, hown, hts⟩ := id E
  refine wh_run (P := (fun st : Int32 × nwM => ∀ (ls : Array Slot) (H : Heap) (locs : List Loc), lv_has ls 4 [(0, .ref h), (1, .int st.1)] → PM D dT h st.2 H → va_S (mA h) s.heap H locs → W p l e (rmd 2) s m args below meth c H locs 0 0 Q (F0 m 2 ls []))) (PE := (fun x : nwM => ∀ (ls : Array Slot) (H : Heap) (locs : List Loc), lv_has ls 4 [(0, .ref h)] → PM D dT h x H → va_S (mA h) s.heap H locs → W p l e (rmd 2) s m args below meth c H locs 0 0 Q (F0 m 28 ls []))) ?_ hw hk
  clear hw hk
  intro st x hf hk ls H locs hl hP hS
  refine lv_iload_n hx hb dX2_blows_2 rfl (lv_at hl 1 rfl) ?_
  refine lv_bipush (v := nI 40) hx hb dX2_blows_3 rfl ?_
  refine lv_icmp_ge (tgt := 28) hx hb dX2_blows_5 (by decide) (fun kc1 => ?_) (fun kc1 => ?_)
  · have hf := ite_t kc1 hf
    cases hf
    exact hk _ _ _ (lv_sub hl [0] rfl) hP hS
  · have hf := ite_f kc1 hf
    refine lv_aload_n hx hb dX2_blows_8 rfl (lv_at hl 0 rfl) ?_
    refine m_ga E hK hP 40 (by decide) rfl q1453 rfl dX2_blows_9 ?_
    refine lv_iload_n hx hb dX2_blows_12 rfl (lv_at hl 1 rfl) ?_
    refine lv_aload_n hx hb dX2_blows_13 rfl (lv_at hl 0 rfl) ?_
    refine m_ga E hK hP 1 (by decide) rfl q1414 rfl dX2_blows_14 ?_
    refine lv_iconst (v := nI 5) hx hb dX2_blows_17 rfl ?_
    refine lv_iload_n hx hb dX2_blows_18 rfl (lv_at hl 1 rfl) ?_
    refine lv_iadd hx hb dX2_blows_19 ?_
    obtain ⟨v2, hv2, hf⟩ := ob hf
    refine m_ald E hK hP (by decide) rfl rfl hv2 dX2_blows_20 ?_
    obtain ⟨μ3, hμ3, hf⟩ := ob hf
    refine m_ast E hK hP hS (by decide) rfl rfl hμ3 dX2_blows_21 (fun H locs hP hS => ?_)
    refine lv_iinc (v := st.1 + nI 1) (lv' := [(1, .int (st.1 + nI 1)), (0, .ref h)]) hx hb dX2_blows_22 hl (k := 1) rfl rfl (by decide) rfl (fun ls hl => ?_)
    refine lv_goto (tgt := 2) hx hb dX2_blows_25 (by decide) ?_
    cases hf
    exact hk _ _ _ (lv_sub hl [1, 0] rfl) hP hS
set_option maxHeartbeats 4000000 in
theorem fm_blows_L61_w {p : Program} {l : Launch} {e : Env} {s : State} {m : MethodId} {args : Array Value} {below : List Frame} {meth : Method} {c : Code} {Q : State → Prop} {D : va_G} {dT : Nat → ClassId} {h : Nat} (E : CallFix p m c cX2_blows 4 s args lw_all RX2) (hK : va_K D nwCl (nwT dT) s) (x1 : Int32) {st : Int32 × nwM} {x : nwM} (hw : wh_ (fm_blows_L61 x1) st = some x) (hk : (fun x : nwM => ∀ (ls : Array Slot) (H : Heap) (locs : List Loc), lv_has ls 4 [(0, .ref h), (1, .int x1)] → PM D dT h x H → va_S (mA h) s.heap H locs → W p l e (rmd 2) s m args below meth c H locs 0 0 Q (F0 m 139 ls [])) x) : (fun st : Int32 × nwM => ∀ (ls : Array Slot) (H : Heap) (locs : List Loc), lv_has ls 4 [(0, .ref h), (1, .int x1), (2, .int st.1)] → PM D dT h st.2 H → va_S (mA h) s.heap H locs → W p l e (rmd 2) s m args below meth c H locs 0 0 Q (F0 m 61 ls [])) st := by
  obtain ⟨hx, hb, -, hown, hts⟩ := id E
  refine wh_run (P := (fun st : Int32 × nwM => ∀ (ls : Array Slot) (H : Heap) (locs : List Loc), lv_has ls 4 [(0, .ref h), (1, .int x1), (2, .int st.1)] → PM D dT h st.2 H → va_S (mA h) s.heap H locs → W p l e (rmd 2) s m args below meth c H locs 0 0 Q (F0 m 61 ls []))) (PE := (fun x : nwM => ∀ (ls : Array Slot) (H : Heap) (locs : List Loc), lv_has ls 4 [(0, .ref h), (1, .int x1)] → PM D dT h x H → va_S (mA h) s.heap H locs → W p l e (rmd 2) s m args below meth c H locs 0 0 Q (F0 m 139 ls []))) ?_ hw hk
  clear hw hk
  intro st x hf hk ls H locs hl hP hS
  refine lv_iload_n hx hb dX2_blows_61 rfl (lv_at hl 2 rfl) ?_
  refine lv_iconst (v := nI 5) hx hb dX2_blows_62 rfl ?_
  refine lv_icmp_ge (tgt := 139) hx hb dX2_blows_63 (by decide) (fun kc11 => ?_) (fun kc11 => ?_)
  · have hf := ite_t kc11 hf
    cases hf
    exact hk _ _ _ (lv_sub hl [0, 1] rfl) hP hS
  · have hf := ite_f kc11 hf
    refine lv_aload_n hx hb dX2_blows_66 rfl (lv_at hl 0 rfl) ?_
    refine lv_iload_n hx hb dX2_blows_67 rfl (lv_at hl 1 rfl) ?_
    refine lv_iload_n hx hb dX2_blows_68 rfl (lv_at hl 2 rfl) ?_
    obtain ⟨v13, hc12, hf⟩ := ob hf
    refine m_calli E hK hP hS (As := [.int x1, .int st.1]) (tm_skyAt l D dT h x1 st.1 st.2 _ hc12) (lw_V q1793 q1795 qs106 q166 q1796) dm_skyAt rfl (by decide) (by decide) hl rfl (Nat.le_of_ble_eq_true rfl) dX2_blows_69 (fun H locs hP hS => ?_)
    refine lv_iconst (v := nI 2) hx hb dX2_blows_72 rfl ?_
    refine lv_idiv hx hb dX2_blows_73 (by decide) ?_
    refine lv_istore_n (lv' := [(3, .int (v13 / (nI 2))), (0, .ref h), (1, .int x1), (2, .int st.1)]) hx hb dX2_blows_74 rfl hl (by decide) rfl (fun ls hl => ?_)
    refine lv_aload_n hx hb dX2_blows_75 rfl (lv_at hl 1 rfl) ?_
    refine m_ga E hK hP 40 (by decide) rfl q1453 rfl dX2_blows_76 ?_
    refine lv_iconst (v := nI 5) hx hb dX2_blows_79 rfl ?_
    refine lv_iload_n hx hb dX2_blows_80 rfl (lv_at hl 2 rfl) ?_
    refine lv_imul hx hb dX2_blows_81 ?_
    refine lv_iload_n hx hb dX2_blows_82 rfl (lv_at hl 3 rfl) ?_
    refine lv_iadd hx hb dX2_blows_83 ?_
    refine lv_aload_n hx hb dX2_blows_84 rfl (lv_at hl 1 rfl) ?_
    refine m_ga E hK hP 40 (by decide) rfl q1453 rfl dX2_blows_85 ?_
    refine lv_iconst (v := nI 5) hx hb dX2_blows_88 rfl ?_
    refine lv_iload_n hx hb dX2_blows_89 rfl (lv_at hl 2 rfl) ?_
    refine lv_imul hx hb dX2_blows_90 ?_
    refine lv_iload_n hx hb dX2_blows_91 rfl (lv_at hl 3 rfl) ?_
    refine lv_iadd hx hb dX2_blows_92 ?_
    obtain ⟨v14, hv14, hf⟩ := ob hf
    refine m_ald E hK hP (by decide) rfl rfl hv14 dX2_blows_93 ?_
    refine lv_iload_n hx hb dX2_blows_94 rfl (lv_at hl 0 rfl) ?_
    refine lv_isub hx hb dX2_blows_95 ?_
    obtain ⟨μ15, hμ15, hf⟩ := ob hf
    refine m_ast E hK hP hS (by decide) rfl rfl hμ15 dX2_blows_96 (fun H locs hP hS => ?_)
    refine lv_aload_n hx hb dX2_blows_97 rfl (lv_at hl 1 rfl) ?_
    refine m_ga E hK hP 40 (by decide) rfl q1453 rfl dX2_blows_98 ?_
    refine lv_iconst (v := nI 5) hx hb dX2_blows_101 rfl ?_
    refine lv_aload_n hx hb dX2_blows_102 rfl (lv_at hl 1 rfl) ?_
    refine m_ga E hK hP 7 (by decide) rfl q1420 rfl dX2_blows_103 ?_
    refine lv_iload_n hx hb dX2_blows_106 rfl (lv_at hl 2 rfl) ?_
    obtain ⟨v16, hv16, hf⟩ := ob hf
    refine m_ald E hK hP (by decide) rfl rfl hv16 dX2_blows_107 ?_
    refine lv_iconst (v := nI 1) hx hb dX2_blows_108 rfl ?_
    refine lv_isub hx hb dX2_blows_109 ?_
    refine lv_imul hx hb dX2_blows_110 ?_
    refine lv_iload_n hx hb dX2_blows_111 rfl (lv_at hl 3 rfl) ?_
    refine lv_iadd hx hb dX2_blows_112 ?_
    refine lv_aload_n hx hb dX2_blows_113 rfl (lv_at hl 1 rfl) ?_
    refine m_ga E hK hP 40 (by decide) rfl q1453 rfl dX2_blows_114 ?_
    refine lv_iconst (v := nI 5) hx hb dX2_blows_117 rfl ?_
    refine lv_aload_n hx hb dX2_blows_118 rfl (lv_at hl 1 rfl) ?_
    refine m_ga E hK hP 7 (by decide) rfl q1420 rfl dX2_blows_119 ?_
    refine lv_iload_n hx hb dX2_blows_122 rfl (lv_at hl 2 rfl) ?_
    obtain ⟨v17, hv17, hf⟩ := ob hf
    refine m_ald E hK hP (by decide) rfl rfl hv17 dX2_blows_123 ?_
    refine lv_iconst (v := nI 1) hx hb dX2_blows_124 rfl ?_
    refine lv_isub hx hb dX2_blows_125 ?_
    refine lv_imul hx hb dX2_blows_126 ?_
    refine lv_iload_n hx hb dX2_blows_127 rfl (lv_at hl 3 rfl) ?_
    refine lv_iadd hx hb dX2_blows_128 ?_
    obtain ⟨v18, hv18, hf⟩ := ob hf
    refine m_ald E hK hP (by decide) rfl rfl hv18 dX2_blows_129 ?_
    refine lv_iload_n hx hb dX2_blows_130 rfl (lv_at hl 0 rfl) ?_
    refine lv_iadd hx hb dX2_blows_131 ?_
    obtain ⟨μ19, hμ19, hf⟩ := ob hf
    refine m_ast E hK hP hS (by decide) rfl rfl hμ19 dX2_blows_132 (fun H locs hP hS => ?_)
    refine lv_iinc (v := st.1 + nI 1) (lv' := [(2, .int (st.1 + nI 1)), (3, .int (v13 / (nI 2))), (0, .ref h), (1, .int x1)]) hx hb dX2_blows_133 hl (k := 3) rfl rfl (by decide) rfl (fun ls hl => ?_)
    refine lv_goto (tgt := 61) hx hb dX2_blows_136 (by decide) ?_
    cases hf
    exact hk _ _ _ (lv_sub hl [2, 3, 0] rfl) hP hS
set_option maxHeartbeats 4000000 in
theorem fm_blows_L30_w {p : Program} {l : Launch} {e : Env} {s : State} {m : MethodId} {args : Array Value} {below : List Frame} {meth : Method} {c : Code} {Q : State → Prop} {D : va_G} {dT : Nat → ClassId} {h : Nat} (E : CallFix p m c cX2_blows 4 s args lw_all RX2) (hK : va_K D nwCl (nwT dT) s) {st : Int32 × nwM} {x : nwM} (hw : wh_ (fm_blows_L30) st = some x) (hk : (fun x : nwM => ∀ (ls : Array Slot) (H : Heap) (locs : List Loc), lv_has ls 4 [(0, .ref h)] → PM D dT h x H → va_S (mA h) s.heap H locs → W p l e (rmd 2) s m args below meth c H locs 0 0 Q (F0 m 145 ls [])) x) : (fun st : Int32 × nwM => ∀ (ls : Array Slot) (H : Heap) (locs : List Loc), lv_has ls 4 [(0, .ref h), (1, .int st.1)] → PM D dT h st.2 H → va_S (mA h) s.heap H locs → W p l e (rmd 2) s m args below meth c H locs 0 0 Q (F0 m 30 ls [])) st := by
  obtain ⟨hx, hb, -, hown, hts⟩ := id E
  refine wh_run (P := (fun st : Int32 × nwM => ∀ (ls : Array Slot) (H : Heap) (locs : List Loc), lv_has ls 4 [(0, .ref h), (1, .int st.1)] → PM D dT h st.2 H → va_S (mA h) s.heap H locs → W p l e (rmd 2) s m args below meth c H locs 0 0 Q (F0 m 30 ls []))) (PE := (fun x : nwM => ∀ (ls : Array Slot) (H : Heap) (locs : List Loc), lv_has ls 4 [(0, .ref h)] → PM D dT h x H → va_S (mA h) s.heap H locs → W p l e (rmd 2) s m args below meth c H locs 0 0 Q (F0 m 145 ls []))) ?_ hw hk
  clear hw hk
  intro st x hf hk ls H locs hl hP hS
  refine lv_iload_n hx hb dX2_blows_30 rfl (lv_at hl 1 rfl) ?_
  refine lv_bipush (v := nI 8) hx hb dX2_blows_31 rfl ?_
  refine lv_icmp_ge (tgt := 145) hx hb dX2_blows_33 (by decide) (fun kc5 => ?_) (fun kc5 => ?_)
  · have hf := ite_t kc5 hf
    cases hf
    exact hk _ _ _ (lv_sub hl [0] rfl) hP hS
  · have hf := ite_f kc5 hf
    refine lv_aload_n hx hb dX2_blows_36 rfl (lv_at hl 0 rfl) ?_
    refine m_ga E hK hP 7 (by decide) rfl q1420 rfl dX2_blows_37 ?_
    refine lv_iload_n hx hb dX2_blows_40 rfl (lv_at hl 1 rfl) ?_
    obtain ⟨v6, hv6, hf⟩ := ob hf
    refine m_ald E hK hP (by decide) rfl rfl hv6 dX2_blows_41 ?_
    refine lv_if_eq (tgt := 139) hx hb dX2_blows_42 (by decide) (fun kc7 => ?_) (fun kc7 => ?_)
    · have hf := ite_t kc7 hf
      refine lv_iinc (v := st.1 + nI 1) (lv' := [(1, .int (st.1 + nI 1)), (0, .ref h)]) hx hb dX2_blows_139 hl (k := 1) rfl rfl (by decide) rfl (fun ls hl => ?_)
      refine lv_goto (tgt := 30) hx hb dX2_blows_142 (by decide) ?_
      cases hf
      exact hk _ _ _ (lv_sub hl [1, 0] rfl) hP hS
    · have hf := ite_f kc7 hf
      refine lv_aload_n hx hb dX2_blows_45 rfl (lv_at hl 0 rfl) ?_
      refine lv_iload_n hx hb dX2_blows_46 rfl (lv_at hl 1 rfl) ?_
      refine lv_iconst (v := nI 2) hx hb dX2_blows_47 rfl ?_
      obtain ⟨v9, hc8, hf⟩ := ob hf
      refine m_calli E hK hP hS (As := [.int st.1, .int (nI 2)]) (tm_skyAt l D dT h st.1 (nI 2) st.2 _ hc8) (lw_V q1793 q1795 qs106 q166 q1796) dm_skyAt rfl (by decide) (by decide) hl rfl (Nat.le_of_ble_eq_true rfl) dX2_blows_48 (fun H locs hP hS => ?_)
      refine lv_bipush (v := nI 10) hx hb dX2_blows_51 rfl ?_
      refine lv_icmp_ge (tgt := 59) hx hb dX2_blows_53 (by decide) (fun kc10 => ?_) (fun kc10 => ?_)
      · have hf := ite_t kc10 hf
        refine lv_iconst (v := nI 0) hx hb dX2_blows_59 rfl ?_
        refine lv_istore_n (lv' := [(2, .int (nI 0)), (0, .ref h), (1, .int st.1)]) hx hb dX2_blows_60 rfl hl (by decide) rfl (fun ls hl => ?_)
        obtain ⟨x20, hx20, hf⟩ := ob hf
        refine fm_blows_L61_w E hK st.1 hx20 (fun ls H locs hl hP hS => ?_) _ _ _ (lv_sub hl [1, 2, 0] rfl) hP hS
        refine lv_iinc (v := st.1 + nI 1) (lv' := [(1, .int (st.1 + nI 1)), (0, .ref h)]) hx hb dX2_blows_139 hl (k := 1) rfl rfl (by decide) rfl (fun ls hl => ?_)
        refine lv_goto (tgt := 30) hx hb dX2_blows_142 (by decide) ?_
        cases hf
        exact hk _ _ _ (lv_sub hl [1, 0] rfl) hP hS
      · have hf := ite_f kc10 hf
        refine lv_goto (tgt := 139) hx hb dX2_blows_56 (by decide) ?_
        refine lv_iinc (v := st.1 + nI 1) (lv' := [(1, .int (st.1 + nI 1)), (0, .ref h)]) hx hb dX2_blows_139 hl (k := 1) rfl rfl (by decide) rfl (fun ls hl => ?_)
        refine lv_goto (tgt := 30) hx hb dX2_blows_142 (by decide) ?_
        cases hf
        exact hk _ _ _ (lv_sub hl [1, 0] rfl) hP hS
set_option maxHeartbeats 4000000 in
theorem fm_blows_L155_w {p : Program} {l : Launch} {e : Env} {s : State} {m : MethodId} {args : Array Value} {below : List Frame} {meth : Method} {c : Code} {Q : State → Prop} {D : va_G} {dT : Nat → ClassId} {h : Nat} (E : CallFix p m c cX2_blows 4 s args lw_all RX2) (hK : va_K D nwCl (nwT dT) s) (x1 : Int32) {st : Int32 × nwM} {x : nwM} (hw : wh_ (fm_blows_L155 x1) st = some x) (hk : (fun x : nwM => ∀ (ls : Array Slot) (H : Heap) (locs : List Loc), lv_has ls 4 [(0, .ref h), (1, .int x1)] → PM D dT h x H → va_S (mA h) s.heap H locs → W p l e (rmd 2) s m args below meth c H locs 0 0 Q (F0 m 182 ls [])) x) : (fun st : Int32 × nwM => ∀ (ls : Array Slot) (H : Heap) (locs : List Loc), lv_has ls 4 [(0, .ref h), (1, .int x1), (2, .int st.1)] → PM D dT h st.2 H → va_S (mA h) s.heap H locs → W p l e (rmd 2) s m args below meth c H locs 0 0 Q (F0 m 155 ls [])) st := by
  obtain ⟨hx, hb, -, hown, hts⟩ := id E
  refine wh_run (P := (fun st : Int32 × nwM => ∀ (ls : Array Slot) (H : Heap) (locs : List Loc), lv_has ls 4 [(0, .ref h), (1, .int x1), (2, .int st.1)] → PM D dT h st.2 H → va_S (mA h) s.heap H locs → W p l e (rmd 2) s m args below meth c H locs 0 0 Q (F0 m 155 ls []))) (PE := (fun x : nwM => ∀ (ls : Array Slot) (H : Heap) (locs : List Loc), lv_has ls 4 [(0, .ref h), (1, .int x1)] → PM D dT h x H → va_S (mA h) s.heap H locs → W p l e (rmd 2) s m args below meth c H locs 0 0 Q (F0 m 182 ls []))) ?_ hw hk
  clear hw hk
  intro st x hf hk ls H locs hl hP hS
  refine lv_iload_n hx hb dX2_blows_155 rfl (lv_at hl 2 rfl) ?_
  refine lv_iconst (v := nI 5) hx hb dX2_blows_156 rfl ?_
  refine lv_icmp_ge (tgt := 182) hx hb dX2_blows_157 (by decide) (fun kc23 => ?_) (fun kc23 => ?_)
  · have hf := ite_t kc23 hf
    cases hf
    exact hk _ _ _ (lv_sub hl [0, 1] rfl) hP hS
  · have hf := ite_f kc23 hf
    refine lv_aload_n hx hb dX2_blows_160 rfl (lv_at hl 0 rfl) ?_
    refine lv_iload_n hx hb dX2_blows_161 rfl (lv_at hl 1 rfl) ?_
    refine lv_iload_n hx hb dX2_blows_162 rfl (lv_at hl 2 rfl) ?_
    refine lv_aload_n hx hb dX2_blows_163 rfl (lv_at hl 0 rfl) ?_
    refine m_ga E hK hP 40 (by decide) rfl q1453 rfl dX2_blows_164 ?_
    refine lv_iconst (v := nI 5) hx hb dX2_blows_167 rfl ?_
    refine lv_iload_n hx hb dX2_blows_168 rfl (lv_at hl 1 rfl) ?_
    refine lv_imul hx hb dX2_blows_169 ?_
    refine lv_iload_n hx hb dX2_blows_170 rfl (lv_at hl 2 rfl) ?_
    refine lv_iadd hx hb dX2_blows_171 ?_
    obtain ⟨v24, hv24, hf⟩ := ob hf
    refine m_ald E hK hP (by decide) rfl rfl hv24 dX2_blows_172 ?_
    obtain ⟨μ26, hc25, hf⟩ := ob hf
    refine m_callv E hK hP hS (As := [.int x1, .int st.1, .int v24]) (tm_skyBe l D dT h x1 st.1 v24 st.2 _ hc25) (lw_V q1589 q1591 qs62 q166 q1592) dm_skyBe rfl (by decide) (by decide) hl rfl (Nat.le_of_ble_eq_true rfl) dX2_blows_173 (fun H locs hP hS => ?_)
    refine lv_iinc (v := st.1 + nI 1) (lv' := [(2, .int (st.1 + nI 1)), (0, .ref h), (1, .int x1)]) hx hb dX2_blows_176 hl (k := 2) rfl rfl (by decide) rfl (fun ls hl => ?_)
    refine lv_goto (tgt := 155) hx hb dX2_blows_179 (by decide) ?_
    cases hf
    exact hk _ _ _ (lv_sub hl [1, 2, 0] rfl) hP hS
set_option maxHeartbeats 4000000 in
theorem fm_blows_L147_w {p : Program} {l : Launch} {e : Env} {s : State} {m : MethodId} {args : Array Value} {below : List Frame} {meth : Method} {c : Code} {Q : State → Prop} {D : va_G} {dT : Nat → ClassId} {h : Nat} (E : CallFix p m c cX2_blows 4 s args lw_all RX2) (hK : va_K D nwCl (nwT dT) s) {st : Int32 × nwM} {x : nwM} (hw : wh_ (fm_blows_L147) st = some x) (hk : (fun x : nwM => ∀ (ls : Array Slot) (H : Heap) (locs : List Loc), lv_has ls 4 [] → PM D dT h x H → va_S (mA h) s.heap H locs → W p l e (rmd 2) s m args below meth c H locs 0 0 Q (F0 m 188 ls [])) x) : (fun st : Int32 × nwM => ∀ (ls : Array Slot) (H : Heap) (locs : List Loc), lv_has ls 4 [(0, .ref h), (1, .int st.1)] → PM D dT h st.2 H → va_S (mA h) s.heap H locs → W p l e (rmd 2) s m args below meth c H locs 0 0 Q (F0 m 147 ls [])) st := by
  obtain ⟨hx, hb, -, hown, hts⟩ := id E
  refine wh_run (P := (fun st : Int32 × nwM => ∀ (ls : Array Slot) (H : Heap) (locs : List Loc), lv_has ls 4 [(0, .ref h), (1, .int st.1)] → PM D dT h st.2 H → va_S (mA h) s.heap H locs → W p l e (rmd 2) s m args below meth c H locs 0 0 Q (F0 m 147 ls []))) (PE := (fun x : nwM => ∀ (ls : Array Slot) (H : Heap) (locs : List Loc), lv_has ls 4 [] → PM D dT h x H → va_S (mA h) s.heap H locs → W p l e (rmd 2) s m args below meth c H locs 0 0 Q (F0 m 188 ls []))) ?_ hw hk
  clear hw hk
  intro st x hf hk ls H locs hl hP hS
  refine lv_iload_n hx hb dX2_blows_147 rfl (lv_at hl 1 rfl) ?_
  refine lv_bipush (v := nI 8) hx hb dX2_blows_148 rfl ?_
  refine lv_icmp_ge (tgt := 188) hx hb dX2_blows_150 (by decide) (fun kc22 => ?_) (fun kc22 => ?_)
  · have hf := ite_t kc22 hf
    cases hf
    exact hk _ _ _ (lv_sub hl [] rfl) hP hS
  · have hf := ite_f kc22 hf
    refine lv_iconst (v := nI 0) hx hb dX2_blows_153 rfl ?_
    refine lv_istore_n (lv' := [(2, .int (nI 0)), (0, .ref h), (1, .int st.1)]) hx hb dX2_blows_154 rfl hl (by decide) rfl (fun ls hl => ?_)
    obtain ⟨x27, hx27, hf⟩ := ob hf
    refine fm_blows_L155_w E hK st.1 hx27 (fun ls H locs hl hP hS => ?_) _ _ _ (lv_sub hl [1, 2, 0] rfl) hP hS
    refine lv_iinc (v := st.1 + nI 1) (lv' := [(1, .int (st.1 + nI 1)), (0, .ref h)]) hx hb dX2_blows_182 hl (k := 1) rfl rfl (by decide) rfl (fun ls hl => ?_)
    refine lv_goto (tgt := 147) hx hb dX2_blows_185 (by decide) ?_
    cases hf
    exact hk _ _ _ (lv_sub hl [1, 0] rfl) hP hS
set_option maxHeartbeats 4000000 in
theorem dm_blows : yX2_blows.cls = RX2 ∧ yX2_blows.cls ≠ "java/lang/invoke/MethodHandle" ∧ yX2_blows.cls ≠ "java/lang/invoke/VarHandle" ∧ (parseMethodDescriptor yX2_blows.desc).map (fun d => d.parameters.length) = some 0 := ⟨rfl, by decide +kernel, by decide +kernel, by decide +kernel⟩
set_option maxHeartbeats 4000000 in
theorem tm_blows (l : Launch) (D : va_G) (dT : Nat → ClassId) (h : Nat) (μ : nwM) (res : nwM) (hf : fm_blows μ = some res) : Met l yX2_blows (ws_ yX2_blows cX2_blows 4 none) (rmd 2) (mPc D dT h μ []) (mQv D dT h res) 0 0 (mA h) := by
  refine m_met (by decide) rfl (Nat.le_of_ble_eq_true rfl) ?_
  intro p e s m below meth c ls E hK hr hlk hl hP
  have hS : va_S (mA h) s.heap s.heap [] := va_S.rf
  obtain ⟨hx, hb, -, hown, hts⟩ := id E
  have hl : lv_has ls 4 [(0, .ref h)] := hl
  unfold fm_blows at hf
  refine lv_iconst (v := nI 0) hx hb dX2_blows_0 rfl ?_
  refine lv_istore_n (lv' := [(1, .int (nI 0)), (0, .ref h)]) hx hb dX2_blows_1 rfl hl (by decide) rfl (fun ls hl => ?_)
  obtain ⟨x4, hx4, hf⟩ := ob hf
  refine fm_blows_L2_w E hK hx4 (fun ls H locs hl hP hS => ?_) _ _ _ (lv_sub hl [1, 0] rfl) hP hS
  refine lv_iconst (v := nI 0) hx hb dX2_blows_28 rfl ?_
  refine lv_istore_n (lv' := [(1, .int (nI 0)), (0, .ref h)]) hx hb dX2_blows_29 rfl hl (by decide) rfl (fun ls hl => ?_)
  obtain ⟨x21, hx21, hf⟩ := ob hf
  refine fm_blows_L30_w E hK hx21 (fun ls H locs hl hP hS => ?_) _ _ _ (lv_sub hl [1, 0] rfl) hP hS
  refine lv_iconst (v := nI 0) hx hb dX2_blows_145 rfl ?_
  refine lv_istore_n (lv' := [(1, .int (nI 0)), (0, .ref h)]) hx hb dX2_blows_146 rfl hl (by decide) rfl (fun ls hl => ?_)
  obtain ⟨x28, hx28, hf⟩ := ob hf
  refine fm_blows_L147_w E hK hx28 (fun ls H locs hl hP hS => ?_) _ _ _ (lv_sub hl [1, 0] rfl) hP hS
  cases hf
  exact m_vret E hr hlk hP hS dX2_blows_188
set_option maxHeartbeats 4000000 in
noncomputable def fm_fades_L10 (x1 : Int32) : (Int32 × nwM) → Option ((Int32 × nwM) ⊕ (nwM)) := fun st => (if (nI 5) ≤ st.1 then some (.inr st.2) else (fm_skyAt x1 st.1 st.2).bind fun v4 => bd2 (fm_fadeOf x1 st.1 st.2) fun v6 μ7 => (fm_skyBe x1 st.1 (v4 - v6) μ7).bind fun μ9 => some (.inl (st.1 + nI 1, μ9)))
set_option maxHeartbeats 4000000 in
noncomputable def fm_fades_L2 : (Int32 × nwM) → Option ((Int32 × nwM) ⊕ (nwM)) := fun st => (if (nI 8) ≤ st.1 then some (.inr st.2) else (wh_ (fm_fades_L10 st.1) (nI 0, st.2)).bind fun x10 => some (.inl (st.1 + nI 1, x10)))
set_option maxHeartbeats 4000000 in
noncomputable def fm_fades (μ : nwM) : Option (nwM) := (wh_ (fm_fades_L2) (nI 0, μ)).bind fun x11 => some x11
set_option maxHeartbeats 4000000 in
theorem fm_fades_L10_w {p : Program} {l : Launch} {e : Env} {s : State} {m : MethodId} {args : Array Value} {below : List Frame} {meth : Method} {c : Code} {Q : State → Prop} {D : va_G} {dT : Nat → ClassId} {h : Nat} (E : CallFix p m c cX2_fades 3 s args lw_all RX2) (hK : va_K D nwCl (nwT dT) s) (x1 : Int32) {st : Int32 × nwM} {x : nwM} (hw : wh_ (fm_fades_L10 x1) st = some x) (hk : (fun x : nwM => ∀ (ls : Array Slot) (H : Heap) (locs : List Loc), lv_has ls 3 [(0, .ref h), (1, .int x1)] → PM D dT h x H → va_S (mA h) s.heap H locs → W p l e (rmd 5) s m args below meth c H locs 0 0 Q (F0 m 40 ls [])) x) : (fun st : Int32 × nwM => ∀ (ls : Array Slot) (H : Heap) (locs : List Loc), lv_has ls 3 [(0, .ref h), (1, .int x1), (2, .int st.1)] → PM D dT h st.2 H → va_S (mA h) s.heap H locs → W p l e (rmd 5) s m args below meth c H locs 0 0 Q (F0 m 10 ls [])) st := by
  obtain ⟨hx, hb, -, hown, hts⟩ := id E
  refine wh_run (P := (fun st : Int32 × nwM => ∀ (ls : Array Slot) (H : Heap) (locs : List Loc), lv_has ls 3 [(0, .ref h), (1, .int x1), (2, .int st.1)] → PM D dT h st.2 H → va_S (mA h) s.heap H locs → W p l e (rmd 5) s m args below meth c H locs 0 0 Q (F0 m 10 ls []))) (PE := (fun x : nwM => ∀ (ls : Array Slot) (H : Heap) (locs : List Loc), lv_has ls 3 [(0, .ref h), (1, .int x1)] → PM D dT h x H → va_S (mA h) s.heap H locs → W p l e (rmd 5) s m args below meth c H locs 0 0 Q (F0 m 40 ls []))) ?_ hw hk
  clear hw hk
  intro st x hf hk ls H locs hl hP hS
  refine lv_iload_n hx hb dX2_fades_10 rfl (lv_at hl 2 rfl) ?_
  refine lv_iconst (v := nI 5) hx hb dX2_fades_11 rfl ?_
  refine lv_icmp_ge (tgt := 40) hx hb dX2_fades_12 (by decide) (fun kc2 => ?_) (fun kc2 => ?_)
  · have hf := ite_t kc2 hf
    cases hf
    exact hk _ _ _ (lv_sub hl [0, 1] rfl) hP hS
  · have hf := ite_f kc2 hf
    refine lv_aload_n hx hb dX2_fades_15 rfl (lv_at hl 0 rfl) ?_
    refine lv_iload_n hx hb dX2_fades_16 rfl (lv_at hl 1 rfl) ?_
    refine lv_iload_n hx hb dX2_fades_17 rfl (lv_at hl 2 rfl) ?_
    refine lv_aload_n hx hb dX2_fades_18 rfl (lv_at hl 0 rfl) ?_
    refine lv_iload_n hx hb dX2_fades_19 rfl (lv_at hl 1 rfl) ?_
    refine lv_iload_n hx hb dX2_fades_20 rfl (lv_at hl 2 rfl) ?_
    obtain ⟨v4, hc3, hf⟩ := ob hf
    refine m_calli E hK hP hS (As := [.int x1, .int st.1]) (tm_skyAt l D dT h x1 st.1 st.2 _ hc3) (lw_V q1793 q1795 qs106 q166 q1796) dm_skyAt rfl (by decide) (by decide) hl rfl (Nat.le_of_ble_eq_true rfl) dX2_fades_21 (fun H locs hP hS => ?_)
    refine lv_aload_n hx hb dX2_fades_24 rfl (lv_at hl 0 rfl) ?_
    refine lv_iload_n hx hb dX2_fades_25 rfl (lv_at hl 1 rfl) ?_
    refine lv_iload_n hx hb dX2_fades_26 rfl (lv_at hl 2 rfl) ?_
    obtain ⟨v6, μ7, hc5, hf⟩ := ob2 hf
    refine m_calli E hK hP hS (As := [.int x1, .int st.1]) (tm_fadeOf l D dT h x1 st.1 st.2 _ hc5) (lw_V q1901 q1903 qs129 q166 q1904) dm_fadeOf rfl (by decide) (by decide) hl rfl (Nat.le_of_ble_eq_true rfl) dX2_fades_27 (fun H locs hP hS => ?_)
    refine lv_isub hx hb dX2_fades_30 ?_
    obtain ⟨μ9, hc8, hf⟩ := ob hf
    refine m_callv E hK hP hS (As := [.int x1, .int st.1, .int (v4 - v6)]) (tm_skyBe l D dT h x1 st.1 (v4 - v6) μ7 _ hc8) (lw_V q1589 q1591 qs62 q166 q1592) dm_skyBe rfl (by decide) (by decide) hl rfl (Nat.le_of_ble_eq_true rfl) dX2_fades_31 (fun H locs hP hS => ?_)
    refine lv_iinc (v := st.1 + nI 1) (lv' := [(2, .int (st.1 + nI 1)), (0, .ref h), (1, .int x1)]) hx hb dX2_fades_34 hl (k := 2) rfl rfl (by decide) rfl (fun ls hl => ?_)
    refine lv_goto (tgt := 10) hx hb dX2_fades_37 (by decide) ?_
    cases hf
    exact hk _ _ _ (lv_sub hl [1, 2, 0] rfl) hP hS
set_option maxHeartbeats 4000000 in
theorem fm_fades_L2_w {p : Program} {l : Launch} {e : Env} {s : State} {m : MethodId} {args : Array Value} {below : List Frame} {meth : Method} {c : Code} {Q : State → Prop} {D : va_G} {dT : Nat → ClassId} {h : Nat} (E : CallFix p m c cX2_fades 3 s args lw_all RX2) (hK : va_K D nwCl (nwT dT) s) {st : Int32 × nwM} {x : nwM} (hw : wh_ (fm_fades_L2) st = some x) (hk : (fun x : nwM => ∀ (ls : Array Slot) (H : Heap) (locs : List Loc), lv_has ls 3 [] → PM D dT h x H → va_S (mA h) s.heap H locs → W p l e (rmd 5) s m args below meth c H locs 0 0 Q (F0 m 46 ls [])) x) : (fun st : Int32 × nwM => ∀ (ls : Array Slot) (H : Heap) (locs : List Loc), lv_has ls 3 [(0, .ref h), (1, .int st.1)] → PM D dT h st.2 H → va_S (mA h) s.heap H locs → W p l e (rmd 5) s m args below meth c H locs 0 0 Q (F0 m 2 ls [])) st := by
  obtain ⟨hx, hb, -, hown, hts⟩ := id E
  refine wh_run (P := (fun st : Int32 × nwM => ∀ (ls : Array Slot) (H : Heap) (locs : List Loc), lv_has ls 3 [(0, .ref h), (1, .int st.1)] → PM D dT h st.2 H → va_S (mA h) s.heap H locs → W p l e (rmd 5) s m args below meth c H locs 0 0 Q (F0 m 2 ls []))) (PE := (fun x : nwM => ∀ (ls : Array Slot) (H : Heap) (locs : List Loc), lv_has ls 3 [] → PM D dT h x H → va_S (mA h) s.heap H locs → W p l e (rmd 5) s m args below meth c H locs 0 0 Q (F0 m 46 ls []))) ?_ hw hk
  clear hw hk
  intro st x hf hk ls H locs hl hP hS
  refine lv_iload_n hx hb dX2_fades_2 rfl (lv_at hl 1 rfl) ?_
  refine lv_bipush (v := nI 8) hx hb dX2_fades_3 rfl ?_
  refine lv_icmp_ge (tgt := 46) hx hb dX2_fades_5 (by decide) (fun kc1 => ?_) (fun kc1 => ?_)
  · have hf := ite_t kc1 hf
    cases hf
    exact hk _ _ _ (lv_sub hl [] rfl) hP hS
  · have hf := ite_f kc1 hf
    refine lv_iconst (v := nI 0) hx hb dX2_fades_8 rfl ?_
    refine lv_istore_n (lv' := [(2, .int (nI 0)), (0, .ref h), (1, .int st.1)]) hx hb dX2_fades_9 rfl hl (by decide) rfl (fun ls hl => ?_)
    obtain ⟨x10, hx10, hf⟩ := ob hf
    refine fm_fades_L10_w E hK st.1 hx10 (fun ls H locs hl hP hS => ?_) _ _ _ (lv_sub hl [1, 2, 0] rfl) hP hS
    refine lv_iinc (v := st.1 + nI 1) (lv' := [(1, .int (st.1 + nI 1)), (0, .ref h)]) hx hb dX2_fades_40 hl (k := 1) rfl rfl (by decide) rfl (fun ls hl => ?_)
    refine lv_goto (tgt := 2) hx hb dX2_fades_43 (by decide) ?_
    cases hf
    exact hk _ _ _ (lv_sub hl [1, 0] rfl) hP hS
set_option maxHeartbeats 4000000 in
theorem dm_fades : yX2_fades.cls = RX2 ∧ yX2_fades.cls ≠ "java/lang/invoke/MethodHandle" ∧ yX2_fades.cls ≠ "java/lang/invoke/VarHandle" ∧ (parseMethodDescriptor yX2_fades.desc).map (fun d => d.parameters.length) = some 0 := ⟨rfl, by decide +kernel, by decide +kernel, by decide +kernel⟩
set_option maxHeartbeats 4000000 in
theorem tm_fades (l : Launch) (D : va_G) (dT : Nat → ClassId) (h : Nat) (μ : nwM) (res : nwM) (hf : fm_fades μ = some res) : Met l yX2_fades (ws_ yX2_fades cX2_fades 3 none) (rmd 5) (mPc D dT h μ []) (mQv D dT h res) 0 0 (mA h) := by
  refine m_met (by decide) rfl (Nat.le_of_ble_eq_true rfl) ?_
  intro p e s m below meth c ls E hK hr hlk hl hP
  have hS : va_S (mA h) s.heap s.heap [] := va_S.rf
  obtain ⟨hx, hb, -, hown, hts⟩ := id E
  have hl : lv_has ls 3 [(0, .ref h)] := hl
  unfold fm_fades at hf
  refine lv_iconst (v := nI 0) hx hb dX2_fades_0 rfl ?_
  refine lv_istore_n (lv' := [(1, .int (nI 0)), (0, .ref h)]) hx hb dX2_fades_1 rfl hl (by decide) rfl (fun ls hl => ?_)
  obtain ⟨x11, hx11, hf⟩ := ob hf
  refine fm_fades_L2_w E hK hx11 (fun ls H locs hl hP hS => ?_) _ _ _ (lv_sub hl [1, 0] rfl) hP hS
  cases hf
  exact m_vret E hr hlk hP hS dX2_fades_46
set_option maxHeartbeats 4000000 in
def fm_keepsGraves_L2 : (Int32 × nwM) → Option ((Int32 × nwM) ⊕ (nwM)) := fun st => (rd_ st.2 1 105 (nI 4)).bind fun v1 => (if v1 ≤ st.1 then some (.inr st.2) else (fm_isDead st.1 st.2).bind fun v4 => (if v4 = 0 then some (.inl (st.1 + nI 1, st.2)) else (rd_ st.2 1 105 ((nI 69) + st.1)).bind fun v6 => (rd_ st.2 1 105 ((nI 45) + st.1)).bind fun v7 => (fm_skyAt v6 v7 st.2).bind fun v9 => (rd_ st.2 1 105 ((nI 57) + st.1)).bind fun v10 => (fm_skyBe v6 v7 (v9 + ((v10 + (nI 1)) / (nI 2))) st.2).bind fun μ12 => some (.inl (st.1 + nI 1, μ12))))
set_option maxHeartbeats 4000000 in
noncomputable def fm_keepsGraves (μ : nwM) : Option (nwM) := (wh_ (fm_keepsGraves_L2) (nI 0, μ)).bind fun x13 => some x13
set_option maxHeartbeats 4000000 in
theorem fm_keepsGraves_L2_w {p : Program} {l : Launch} {e : Env} {s : State} {m : MethodId} {args : Array Value} {below : List Frame} {meth : Method} {c : Code} {Q : State → Prop} {D : va_G} {dT : Nat → ClassId} {h : Nat} (E : CallFix p m c cX2_keepsGraves 4 s args lw_all RX2) (hK : va_K D nwCl (nwT dT) s) {st : Int32 × nwM} {x : nwM} (hw : wh_ (fm_keepsGraves_L2) st = some x) (hk : (fun x : nwM => ∀ (ls : Array Slot) (H : Heap) (locs : List Loc), lv_has ls 4 [] → PM D dT h x H → va_S (mA h) s.heap H locs → W p l e (rmd 2) s m args below meth c H locs 0 0 Q (F0 m 75 ls [])) x) : (fun st : Int32 × nwM => ∀ (ls : Array Slot) (H : Heap) (locs : List Loc), lv_has ls 4 [(0, .ref h), (1, .int st.1)] → PM D dT h st.2 H → va_S (mA h) s.heap H locs → W p l e (rmd 2) s m args below meth c H locs 0 0 Q (F0 m 2 ls [])) st := by
  obtain ⟨hx, hb, -, hown, hts⟩ := id E
  refine wh_run (P := (fun st : Int32 × nwM => ∀ (ls : Array Slot) (H : Heap) (locs : List Loc), lv_has ls 4 [(0, .ref h), (1, .int st.1)] → PM D dT h st.2 H → va_S (mA h) s.heap H locs → W p l e (rmd 2) s m args below meth c H locs 0 0 Q (F0 m 2 ls []))) (PE := (fun x : nwM => ∀ (ls : Array Slot) (H : Heap) (locs : List Loc), lv_has ls 4 [] → PM D dT h x H → va_S (mA h) s.heap H locs → W p l e (rmd 2) s m args below meth c H locs 0 0 Q (F0 m 75 ls []))) ?_ hw hk
  clear hw hk
  intro st x hf hk ls H locs hl hP hS
  refine lv_iload_n hx hb dX2_keepsGraves_2 rfl (lv_at hl 1 rfl) ?_
  refine lv_aload_n hx hb dX2_keepsGraves_3 rfl (lv_at hl 0 rfl) ?_
  refine m_ga E hK hP 1 (by decide) rfl q1414 rfl dX2_keepsGraves_4 ?_
  refine lv_iconst (v := nI 4) hx hb dX2_keepsGraves_7 rfl ?_
  obtain ⟨v1, hv1, hf⟩ := ob hf
  refine m_ald E hK hP (by decide) rfl rfl hv1 dX2_keepsGraves_8 ?_
  refine lv_icmp_ge (tgt := 75) hx hb dX2_keepsGraves_9 (by decide) (fun kc2 => ?_) (fun kc2 => ?_)
  · have hf := ite_t kc2 hf
    cases hf
    exact hk _ _ _ (lv_sub hl [] rfl) hP hS
  · have hf := ite_f kc2 hf
    refine lv_aload_n hx hb dX2_keepsGraves_12 rfl (lv_at hl 0 rfl) ?_
    refine lv_iload_n hx hb dX2_keepsGraves_13 rfl (lv_at hl 1 rfl) ?_
    obtain ⟨v4, hc3, hf⟩ := ob hf
    refine m_calli E hK hP hS (As := [.int st.1]) (tm_isDead l D dT h st.1 st.2 _ hc3) (lw_V q1781 q1783 qs103 q166 q1784) dm_isDead rfl (by decide) (by decide) hl rfl (Nat.le_of_ble_eq_true rfl) dX2_keepsGraves_14 (fun H locs hP hS => ?_)
    refine lv_if_ne (tgt := 23) hx hb dX2_keepsGraves_17 (by decide) (fun kc5 => ?_) (fun kc5 => ?_)
    · have hf := ite_f kc5 hf
      refine lv_aload_n hx hb dX2_keepsGraves_23 rfl (lv_at hl 0 rfl) ?_
      refine m_ga E hK hP 1 (by decide) rfl q1414 rfl dX2_keepsGraves_24 ?_
      refine lv_bipush (v := nI 69) hx hb dX2_keepsGraves_27 rfl ?_
      refine lv_iload_n hx hb dX2_keepsGraves_29 rfl (lv_at hl 1 rfl) ?_
      refine lv_iadd hx hb dX2_keepsGraves_30 ?_
      obtain ⟨v6, hv6, hf⟩ := ob hf
      refine m_ald E hK hP (by decide) rfl rfl hv6 dX2_keepsGraves_31 ?_
      refine lv_istore_n (lv' := [(2, .int v6), (0, .ref h), (1, .int st.1)]) hx hb dX2_keepsGraves_32 rfl hl (by decide) rfl (fun ls hl => ?_)
      refine lv_aload_n hx hb dX2_keepsGraves_33 rfl (lv_at hl 1 rfl) ?_
      refine m_ga E hK hP 1 (by decide) rfl q1414 rfl dX2_keepsGraves_34 ?_
      refine lv_bipush (v := nI 45) hx hb dX2_keepsGraves_37 rfl ?_
      refine lv_iload_n hx hb dX2_keepsGraves_39 rfl (lv_at hl 2 rfl) ?_
      refine lv_iadd hx hb dX2_keepsGraves_40 ?_
      obtain ⟨v7, hv7, hf⟩ := ob hf
      refine m_ald E hK hP (by decide) rfl rfl hv7 dX2_keepsGraves_41 ?_
      refine lv_istore_n (lv' := [(3, .int v7), (2, .int v6), (0, .ref h), (1, .int st.1)]) hx hb dX2_keepsGraves_42 rfl hl (by decide) rfl (fun ls hl => ?_)
      refine lv_aload_n hx hb dX2_keepsGraves_43 rfl (lv_at hl 2 rfl) ?_
      refine lv_iload_n hx hb dX2_keepsGraves_44 rfl (lv_at hl 1 rfl) ?_
      refine lv_iload_n hx hb dX2_keepsGraves_45 rfl (lv_at hl 0 rfl) ?_
      refine lv_aload_n hx hb dX2_keepsGraves_46 rfl (lv_at hl 2 rfl) ?_
      refine lv_iload_n hx hb dX2_keepsGraves_47 rfl (lv_at hl 1 rfl) ?_
      refine lv_iload_n hx hb dX2_keepsGraves_48 rfl (lv_at hl 0 rfl) ?_
      obtain ⟨v9, hc8, hf⟩ := ob hf
      refine m_calli E hK hP hS (As := [.int v6, .int v7]) (tm_skyAt l D dT h v6 v7 st.2 _ hc8) (lw_V q1793 q1795 qs106 q166 q1796) dm_skyAt rfl (by decide) (by decide) hl rfl (Nat.le_of_ble_eq_true rfl) dX2_keepsGraves_49 (fun H locs hP hS => ?_)
      refine lv_aload_n hx hb dX2_keepsGraves_52 rfl (lv_at hl 2 rfl) ?_
      refine m_ga E hK hP 1 (by decide) rfl q1414 rfl dX2_keepsGraves_53 ?_
      refine lv_bipush (v := nI 57) hx hb dX2_keepsGraves_56 rfl ?_
      refine lv_iload_n hx hb dX2_keepsGraves_58 rfl (lv_at hl 3 rfl) ?_
      refine lv_iadd hx hb dX2_keepsGraves_59 ?_
      obtain ⟨v10, hv10, hf⟩ := ob hf
      refine m_ald E hK hP (by decide) rfl rfl hv10 dX2_keepsGraves_60 ?_
      refine lv_iconst (v := nI 1) hx hb dX2_keepsGraves_61 rfl ?_
      refine lv_iadd hx hb dX2_keepsGraves_62 ?_
      refine lv_iconst (v := nI 2) hx hb dX2_keepsGraves_63 rfl ?_
      refine lv_idiv hx hb dX2_keepsGraves_64 (by decide) ?_
      refine lv_iadd hx hb dX2_keepsGraves_65 ?_
      obtain ⟨μ12, hc11, hf⟩ := ob hf
      refine m_callv E hK hP hS (As := [.int v6, .int v7, .int (v9 + ((v10 + (nI 1)) / (nI 2)))]) (tm_skyBe l D dT h v6 v7 (v9 + ((v10 + (nI 1)) / (nI 2))) st.2 _ hc11) (lw_V q1589 q1591 qs62 q166 q1592) dm_skyBe rfl (by decide) (by decide) hl rfl (Nat.le_of_ble_eq_true rfl) dX2_keepsGraves_66 (fun H locs hP hS => ?_)
      refine lv_iinc (v := st.1 + nI 1) (lv' := [(1, .int (st.1 + nI 1)), (3, .int v7), (2, .int v6), (0, .ref h)]) hx hb dX2_keepsGraves_69 hl (k := 3) rfl rfl (by decide) rfl (fun ls hl => ?_)
      refine lv_goto (tgt := 2) hx hb dX2_keepsGraves_72 (by decide) ?_
      cases hf
      exact hk _ _ _ (lv_sub hl [3, 0] rfl) hP hS
    · have hf := ite_t kc5 hf
      refine lv_goto (tgt := 69) hx hb dX2_keepsGraves_20 (by decide) ?_
      refine lv_iinc (v := st.1 + nI 1) (lv' := [(1, .int (st.1 + nI 1)), (0, .ref h)]) hx hb dX2_keepsGraves_69 hl (k := 1) rfl rfl (by decide) rfl (fun ls hl => ?_)
      refine lv_goto (tgt := 2) hx hb dX2_keepsGraves_72 (by decide) ?_
      cases hf
      exact hk _ _ _ (lv_sub hl [1, 0] rfl) hP hS
set_option maxHeartbeats 4000000 in
theorem dm_keepsGraves : yX2_keepsGraves.cls = RX2 ∧ yX2_keepsGraves.cls ≠ "java/lang/invoke/MethodHandle" ∧ yX2_keepsGraves.cls ≠ "java/lang/invoke/VarHandle" ∧ (parseMethodDescriptor yX2_keepsGraves.desc).map (fun d => d.parameters.length) = some 0 := ⟨rfl, by decide +kernel, by decide +kernel, by decide +kernel⟩
set_option maxHeartbeats 4000000 in
theorem tm_keepsGraves (l : Launch) (D : va_G) (dT : Nat → ClassId) (h : Nat) (μ : nwM) (res : nwM) (hf : fm_keepsGraves μ = some res) : Met l yX2_keepsGraves (ws_ yX2_keepsGraves cX2_keepsGraves 4 none) (rmd 2) (mPc D dT h μ []) (mQv D dT h res) 0 0 (mA h) := by
  refine m_met (by decide) rfl (Nat.le_of_ble_eq_true rfl) ?_
  intro p e s m below meth c ls E hK hr hlk hl hP
  have hS : va_S (mA h) s.heap s.heap [] := va_S.rf
  obtain ⟨hx, hb, -, hown, hts⟩ := id E
  have hl : lv_has ls 4 [(0, .ref h)] := hl
  unfold fm_keepsGraves at hf
  refine lv_iconst (v := nI 0) hx hb dX2_keepsGraves_0 rfl ?_
  refine lv_istore_n (lv' := [(1, .int (nI 0)), (0, .ref h)]) hx hb dX2_keepsGraves_1 rfl hl (by decide) rfl (fun ls hl => ?_)
  obtain ⟨x13, hx13, hf⟩ := ob hf
  refine fm_keepsGraves_L2_w E hK hx13 (fun ls H locs hl hP hS => ?_) _ _ _ (lv_sub hl [1, 0] rfl) hP hS
  cases hf
  exact m_vret E hr hlk hP hS dX2_keepsGraves_75
set_option maxHeartbeats 4000000 in
noncomputable def fm_cries (μ : nwM) : Option (Int32 × nwM) := (if (μ 5 0) = 0 then (if (μ 6 0) = 0 then some (nI 0, μ) else (rd_ μ 1 105 (nI 4)).bind fun v3 => (if v3 = 0 then some (nI 0, μ) else bd2 (fm_draw (nI 1000) μ) fun v6 μ7 => (if v6 < (μ7 6 0) then (rd_ μ7 1 105 (nI 4)).bind fun v9 => bd2 (fm_draw v9 μ7) fun v11 μ12 => bd2 (fm_draw (nI 8) μ12) fun v14 μ15 => (fm_canCall v11 v14 μ15).bind fun v17 => (if v17 = 0 then some (nI 0, μ15) else bd2 (fm_calledAt v11 v14 (nI 4) μ15) fun v20 μ21 => some (nI 1, μ21)) else some (nI 0, μ7)))) else some (nI 0, μ))
set_option maxHeartbeats 4000000 in
theorem dm_cries : yX2_cries.cls = RX2 ∧ yX2_cries.cls ≠ "java/lang/invoke/MethodHandle" ∧ yX2_cries.cls ≠ "java/lang/invoke/VarHandle" ∧ (parseMethodDescriptor yX2_cries.desc).map (fun d => d.parameters.length) = some 0 := ⟨rfl, by decide +kernel, by decide +kernel, by decide +kernel⟩
set_option maxHeartbeats 4000000 in
theorem tm_cries (l : Launch) (D : va_G) (dT : Nat → ClassId) (h : Nat) (μ : nwM) (res : Int32 × nwM) (hf : fm_cries μ = some res) : Met l yX2_cries (ws_ yX2_cries cX2_cries 3 (some .int)) (rmd 6) (mPc D dT h μ []) (mQi D dT h res.2 res.1) 0 0 (mA h) := by
  refine m_met (by decide) rfl (Nat.le_of_ble_eq_true rfl) ?_
  intro p e s m below meth c ls E hK hr hlk hl hP
  have hS : va_S (mA h) s.heap s.heap [] := va_S.rf
  obtain ⟨hx, hb, -, hown, hts⟩ := id E
  have hl : lv_has ls 3 [(0, .ref h)] := hl
  unfold fm_cries at hf
  refine lv_aload_n hx hb dX2_cries_0 rfl (lv_at hl 0 rfl) ?_
  refine m_get E hK hP 5 (by decide) rfl q1418 rfl dX2_cries_1 ?_
  refine lv_if_ne (tgt := 37) hx hb dX2_cries_4 (by decide) (fun kc1 => ?_) (fun kc1 => ?_)
  · have hf := ite_f kc1 hf
    refine lv_iconst (v := nI 0) hx hb dX2_cries_37 rfl ?_
    cases hf
    exact m_iret E hr hlk hP hS rfl dX2_cries_38
  · have hf := ite_t kc1 hf
    refine lv_aload_n hx hb dX2_cries_7 rfl (lv_at hl 0 rfl) ?_
    refine m_get E hK hP 6 (by decide) rfl q1419 rfl dX2_cries_8 ?_
    refine lv_if_eq (tgt := 37) hx hb dX2_cries_11 (by decide) (fun kc2 => ?_) (fun kc2 => ?_)
    · have hf := ite_t kc2 hf
      refine lv_iconst (v := nI 0) hx hb dX2_cries_37 rfl ?_
      cases hf
      exact m_iret E hr hlk hP hS rfl dX2_cries_38
    · have hf := ite_f kc2 hf
      refine lv_aload_n hx hb dX2_cries_14 rfl (lv_at hl 0 rfl) ?_
      refine m_ga E hK hP 1 (by decide) rfl q1414 rfl dX2_cries_15 ?_
      refine lv_iconst (v := nI 4) hx hb dX2_cries_18 rfl ?_
      obtain ⟨v3, hv3, hf⟩ := ob hf
      refine m_ald E hK hP (by decide) rfl rfl hv3 dX2_cries_19 ?_
      refine lv_if_eq (tgt := 37) hx hb dX2_cries_20 (by decide) (fun kc4 => ?_) (fun kc4 => ?_)
      · have hf := ite_t kc4 hf
        refine lv_iconst (v := nI 0) hx hb dX2_cries_37 rfl ?_
        cases hf
        exact m_iret E hr hlk hP hS rfl dX2_cries_38
      · have hf := ite_f kc4 hf
        refine lv_aload_n hx hb dX2_cries_23 rfl (lv_at hl 0 rfl) ?_
        refine lv_sipush (v := nI 1000) hx hb dX2_cries_24 rfl ?_
        obtain ⟨v6, μ7, hc5, hf⟩ := ob2 hf
        refine m_calli E hK hP hS (As := [.int (nI 1000)]) (tm_draw l D dT h (nI 1000) μ _ hc5) (lw_V q1913 q1915 qs132 q166 q1916) dm_draw rfl (by decide) (by decide) hl rfl (Nat.le_of_ble_eq_true rfl) dX2_cries_27 (fun H locs hP hS => ?_)
        refine lv_aload_n hx hb dX2_cries_30 rfl (lv_at hl 0 rfl) ?_
        refine m_get E hK hP 6 (by decide) rfl q1419 rfl dX2_cries_31 ?_
        refine lv_icmp_lt (tgt := 39) hx hb dX2_cries_34 (by decide) (fun kc8 => ?_) (fun kc8 => ?_)
        · have hf := ite_t kc8 hf
          refine lv_aload_n hx hb dX2_cries_39 rfl (lv_at hl 0 rfl) ?_
          refine lv_aload_n hx hb dX2_cries_40 rfl (lv_at hl 0 rfl) ?_
          refine m_ga E hK hP 1 (by decide) rfl q1414 rfl dX2_cries_41 ?_
          refine lv_iconst (v := nI 4) hx hb dX2_cries_44 rfl ?_
          obtain ⟨v9, hv9, hf⟩ := ob hf
          refine m_ald E hK hP (by decide) rfl rfl hv9 dX2_cries_45 ?_
          obtain ⟨v11, μ12, hc10, hf⟩ := ob2 hf
          refine m_calli E hK hP hS (As := [.int v9]) (tm_draw l D dT h v9 μ7 _ hc10) (lw_V q1913 q1915 qs132 q166 q1916) dm_draw rfl (by decide) (by decide) hl rfl (Nat.le_of_ble_eq_true rfl) dX2_cries_46 (fun H locs hP hS => ?_)
          refine lv_istore_n (lv' := [(1, .int v11), (0, .ref h)]) hx hb dX2_cries_49 rfl hl (by decide) rfl (fun ls hl => ?_)
          refine lv_aload_n hx hb dX2_cries_50 rfl (lv_at hl 1 rfl) ?_
          refine lv_bipush (v := nI 8) hx hb dX2_cries_51 rfl ?_
          obtain ⟨v14, μ15, hc13, hf⟩ := ob2 hf
          refine m_calli E hK hP hS (As := [.int (nI 8)]) (tm_draw l D dT h (nI 8) μ12 _ hc13) (lw_V q1913 q1915 qs132 q166 q1916) dm_draw rfl (by decide) (by decide) hl rfl (Nat.le_of_ble_eq_true rfl) dX2_cries_53 (fun H locs hP hS => ?_)
          refine lv_istore_n (lv' := [(2, .int v14), (1, .int v11), (0, .ref h)]) hx hb dX2_cries_56 rfl hl (by decide) rfl (fun ls hl => ?_)
          refine lv_aload_n hx hb dX2_cries_57 rfl (lv_at hl 2 rfl) ?_
          refine lv_iload_n hx hb dX2_cries_58 rfl (lv_at hl 1 rfl) ?_
          refine lv_iload_n hx hb dX2_cries_59 rfl (lv_at hl 0 rfl) ?_
          obtain ⟨v17, hc16, hf⟩ := ob hf
          refine m_calli E hK hP hS (As := [.int v11, .int v14]) (tm_canCall l D dT h v11 v14 μ15 _ hc16) (lw_V q1773 q1775 qs101 q166 q1776) dm_canCall rfl (by decide) (by decide) hl rfl (Nat.le_of_ble_eq_true rfl) dX2_cries_60 (fun H locs hP hS => ?_)
          refine lv_if_ne (tgt := 68) hx hb dX2_cries_63 (by decide) (fun kc18 => ?_) (fun kc18 => ?_)
          · have hf := ite_f kc18 hf
            refine lv_aload_n hx hb dX2_cries_68 rfl (lv_at hl 2 rfl) ?_
            refine lv_iload_n hx hb dX2_cries_69 rfl (lv_at hl 1 rfl) ?_
            refine lv_iload_n hx hb dX2_cries_70 rfl (lv_at hl 0 rfl) ?_
            refine lv_iconst (v := nI 4) hx hb dX2_cries_71 rfl ?_
            obtain ⟨v20, μ21, hc19, hf⟩ := ob2 hf
            refine m_calli E hK hP hS (As := [.int v11, .int v14, .int (nI 4)]) (tm_calledAt l D dT h v11 v14 (nI 4) μ15 _ hc19) (lw_V q1789 q1791 qs105 q166 q1792) dm_calledAt rfl (by decide) (by decide) hl rfl (Nat.le_of_ble_eq_true rfl) dX2_cries_72 (fun H locs hP hS => ?_)
            refine lv_pop hx hb dX2_cries_75 rfl ?_
            refine lv_iconst (v := nI 1) hx hb dX2_cries_76 rfl ?_
            cases hf
            exact m_iret E hr hlk hP hS rfl dX2_cries_77
          · have hf := ite_t kc18 hf
            refine lv_iconst (v := nI 0) hx hb dX2_cries_66 rfl ?_
            cases hf
            exact m_iret E hr hlk hP hS rfl dX2_cries_67
        · have hf := ite_f kc8 hf
          refine lv_iconst (v := nI 0) hx hb dX2_cries_37 rfl ?_
          cases hf
          exact m_iret E hr hlk hP hS rfl dX2_cries_38
set_option maxHeartbeats 4000000 in
noncomputable def fm_goesIn_L2 : (Int32 × nwM) → Option ((Int32 × nwM) ⊕ (nwM)) := fun st => (if (st.2 36 0) ≤ st.1 then some (.inr st.2) else (rd_ st.2 37 128 ((nI 4) * st.1)).bind fun v2 => (rd_ st.2 1 105 (nI 0)).bind fun v3 => (if v2 = v3 then (fm_does ((nI 4) * st.1) st.2).bind fun μ6 => some (.inl (st.1 + nI 1, μ6)) else some (.inl (st.1 + nI 1, st.2))))
set_option maxHeartbeats 4000000 in
noncomputable def fm_goesIn (μ : nwM) : Option (nwM) := (wh_ (fm_goesIn_L2) (nI 0, μ)).bind fun x7 => (fm_quenches x7).bind fun μ9 => some μ9
set_option maxHeartbeats 4000000 in
theorem fm_goesIn_L2_w {p : Program} {l : Launch} {e : Env} {s : State} {m : MethodId} {args : Array Value} {below : List Frame} {meth : Method} {c : Code} {Q : State → Prop} {D : va_G} {dT : Nat → ClassId} {h : Nat} (E : CallFix p m c cX2_goesIn 2 s args lw_all RX2) (hK : va_K D nwCl (nwT dT) s) {st : Int32 × nwM} {x : nwM} (hw : wh_ (fm_goesIn_L2) st = some x) (hk : (fun x : nwM => ∀ (ls : Array Slot) (H : Heap) (locs : List Loc), lv_has ls 2 [(0, .ref h)] → PM D dT h x H → va_S (mA h) s.heap H locs → W p l e (rmd 7) s m args below meth c H locs 0 0 Q (F0 m 40 ls [])) x) : (fun st : Int32 × nwM => ∀ (ls : Array Slot) (H : Heap) (locs : List Loc), lv_has ls 2 [(0, .ref h), (1, .int st.1)] → PM D dT h st.2 H → va_S (mA h) s.heap H locs → W p l e (rmd 7) s m args below meth c H locs 0 0 Q (F0 m 2 ls [])) st := by
  obtain ⟨hx, hb, -, hown, hts⟩ := id E
  refine wh_run (P := (fun st : Int32 × nwM => ∀ (ls : Array Slot) (H : Heap) (locs : List Loc), lv_has ls 2 [(0, .ref h), (1, .int st.1)] → PM D dT h st.2 H → va_S (mA h) s.heap H locs → W p l e (rmd 7) s m args below meth c H locs 0 0 Q (F0 m 2 ls []))) (PE := (fun x : nwM => ∀ (ls : Array Slot) (H : Heap) (locs : List Loc), lv_has ls 2 [(0, .ref h)] → PM D dT h x H → va_S (mA h) s.heap H locs → W p l e (rmd 7) s m args below meth c H locs 0 0 Q (F0 m 40 ls []))) ?_ hw hk
  clear hw hk
  intro st x hf hk ls H locs hl hP hS
  refine lv_iload_n hx hb dX2_goesIn_2 rfl (lv_at hl 1 rfl) ?_
  refine lv_aload_n hx hb dX2_goesIn_3 rfl (lv_at hl 0 rfl) ?_
  refine m_get E hK hP 36 (by decide) rfl q1449 rfl dX2_goesIn_4 ?_
  refine lv_icmp_ge (tgt := 40) hx hb dX2_goesIn_7 (by decide) (fun kc1 => ?_) (fun kc1 => ?_)
  · have hf := ite_t kc1 hf
    cases hf
    exact hk _ _ _ (lv_sub hl [0] rfl) hP hS
  · have hf := ite_f kc1 hf
    refine lv_aload_n hx hb dX2_goesIn_10 rfl (lv_at hl 0 rfl) ?_
    refine m_ga E hK hP 37 (by decide) rfl q1450 rfl dX2_goesIn_11 ?_
    refine lv_iconst (v := nI 4) hx hb dX2_goesIn_14 rfl ?_
    refine lv_iload_n hx hb dX2_goesIn_15 rfl (lv_at hl 1 rfl) ?_
    refine lv_imul hx hb dX2_goesIn_16 ?_
    obtain ⟨v2, hv2, hf⟩ := ob hf
    refine m_ald E hK hP (by decide) rfl rfl hv2 dX2_goesIn_17 ?_
    refine lv_aload_n hx hb dX2_goesIn_18 rfl (lv_at hl 0 rfl) ?_
    refine m_ga E hK hP 1 (by decide) rfl q1414 rfl dX2_goesIn_19 ?_
    refine lv_iconst (v := nI 0) hx hb dX2_goesIn_22 rfl ?_
    obtain ⟨v3, hv3, hf⟩ := ob hf
    refine m_ald E hK hP (by decide) rfl rfl hv3 dX2_goesIn_23 ?_
    refine lv_icmp_ne (tgt := 34) hx hb dX2_goesIn_24 (by decide) (fun kc4 => ?_) (fun kc4 => ?_)
    · have hf := ite_f kc4 hf
      refine lv_iinc (v := st.1 + nI 1) (lv' := [(1, .int (st.1 + nI 1)), (0, .ref h)]) hx hb dX2_goesIn_34 hl (k := 1) rfl rfl (by decide) rfl (fun ls hl => ?_)
      refine lv_goto (tgt := 2) hx hb dX2_goesIn_37 (by decide) ?_
      cases hf
      exact hk _ _ _ (lv_sub hl [1, 0] rfl) hP hS
    · have hf := ite_t kc4 hf
      refine lv_aload_n hx hb dX2_goesIn_27 rfl (lv_at hl 0 rfl) ?_
      refine lv_iconst (v := nI 4) hx hb dX2_goesIn_28 rfl ?_
      refine lv_iload_n hx hb dX2_goesIn_29 rfl (lv_at hl 1 rfl) ?_
      refine lv_imul hx hb dX2_goesIn_30 ?_
      obtain ⟨μ6, hc5, hf⟩ := ob hf
      refine m_callv E hK hP hS (As := [.int ((nI 4) * st.1)]) (tm_does l D dT h ((nI 4) * st.1) st.2 _ hc5) (lw_V q1881 q1883 qs124 q166 q1884) dm_does rfl (by decide) (by decide) hl rfl (Nat.le_of_ble_eq_true rfl) dX2_goesIn_31 (fun H locs hP hS => ?_)
      refine lv_iinc (v := st.1 + nI 1) (lv' := [(1, .int (st.1 + nI 1)), (0, .ref h)]) hx hb dX2_goesIn_34 hl (k := 1) rfl rfl (by decide) rfl (fun ls hl => ?_)
      refine lv_goto (tgt := 2) hx hb dX2_goesIn_37 (by decide) ?_
      cases hf
      exact hk _ _ _ (lv_sub hl [1, 0] rfl) hP hS
set_option maxHeartbeats 4000000 in
theorem dm_goesIn : yX2_goesIn.cls = RX2 ∧ yX2_goesIn.cls ≠ "java/lang/invoke/MethodHandle" ∧ yX2_goesIn.cls ≠ "java/lang/invoke/VarHandle" ∧ (parseMethodDescriptor yX2_goesIn.desc).map (fun d => d.parameters.length) = some 0 := ⟨rfl, by decide +kernel, by decide +kernel, by decide +kernel⟩
set_option maxHeartbeats 4000000 in
theorem tm_goesIn (l : Launch) (D : va_G) (dT : Nat → ClassId) (h : Nat) (μ : nwM) (res : nwM) (hf : fm_goesIn μ = some res) : Met l yX2_goesIn (ws_ yX2_goesIn cX2_goesIn 2 none) (rmd 7) (mPc D dT h μ []) (mQv D dT h res) 0 0 (mA h) := by
  refine m_met (by decide) rfl (Nat.le_of_ble_eq_true rfl) ?_
  intro p e s m below meth c ls E hK hr hlk hl hP
  have hS : va_S (mA h) s.heap s.heap [] := va_S.rf
  obtain ⟨hx, hb, -, hown, hts⟩ := id E
  have hl : lv_has ls 2 [(0, .ref h)] := hl
  unfold fm_goesIn at hf
  refine lv_iconst (v := nI 0) hx hb dX2_goesIn_0 rfl ?_
  refine lv_istore_n (lv' := [(1, .int (nI 0)), (0, .ref h)]) hx hb dX2_goesIn_1 rfl hl (by decide) rfl (fun ls hl => ?_)
  obtain ⟨x7, hx7, hf⟩ := ob hf
  refine fm_goesIn_L2_w E hK hx7 (fun ls H locs hl hP hS => ?_) _ _ _ (lv_sub hl [1, 0] rfl) hP hS
  refine lv_aload_n hx hb dX2_goesIn_40 rfl (lv_at hl 0 rfl) ?_
  obtain ⟨μ9, hc8, hf⟩ := ob hf
  refine m_callv E hK hP hS (As := []) (tm_quenches l D dT h x7 _ hc8) (lw_V q1885 q1887 qs125 q166 q1888) dm_quenches rfl (by decide) (by decide) hl rfl (Nat.le_of_ble_eq_true rfl) dX2_goesIn_41 (fun H locs hP hS => ?_)
  cases hf
  exact m_vret E hr hlk hP hS dX2_goesIn_44
set_option maxHeartbeats 4000000 in
noncomputable def fm_goesOut (μ : nwM) : Option (Int32 × nwM) := (fm_blows μ).bind fun μ2 => (fm_fades μ2).bind fun μ4 => (fm_keepsGraves μ4).bind fun μ6 => bd2 (fm_cries μ6) fun v8 μ9 => (rd_ μ9 1 105 (nI 0)).bind fun v10 => (wr_ μ9 1 105 (nI 0) (v10 + (nI 1))).bind fun μ11 => (wr_ μ11 1 105 (nI 3) (nI 0)).bind fun μ12 => some (v8, μ12)
set_option maxHeartbeats 4000000 in
theorem dm_goesOut : yX2_goesOut.cls = RX2 ∧ yX2_goesOut.cls ≠ "java/lang/invoke/MethodHandle" ∧ yX2_goesOut.cls ≠ "java/lang/invoke/VarHandle" ∧ (parseMethodDescriptor yX2_goesOut.desc).map (fun d => d.parameters.length) = some 0 := ⟨rfl, by decide +kernel, by decide +kernel, by decide +kernel⟩
set_option maxHeartbeats 4000000 in
theorem tm_goesOut (l : Launch) (D : va_G) (dT : Nat → ClassId) (h : Nat) (μ : nwM) (res : Int32 × nwM) (hf : fm_goesOut μ = some res) : Met l yX2_goesOut (ws_ yX2_goesOut cX2_goesOut 2 (some .int)) (rmd 7) (mPc D dT h μ []) (mQi D dT h res.2 res.1) 0 0 (mA h) := by
  refine m_met (by decide) rfl (Nat.le_of_ble_eq_true rfl) ?_
  intro p e s m below meth c ls E hK hr hlk hl hP
  have hS : va_S (mA h) s.heap s.heap [] := va_S.rf
  obtain ⟨hx, hb, -, hown, hts⟩ := id E
  have hl : lv_has ls 2 [(0, .ref h)] := hl
  unfold fm_goesOut at hf
  refine lv_aload_n hx hb dX2_goesOut_0 rfl (lv_at hl 0 rfl) ?_
  obtain ⟨μ2, hc1, hf⟩ := ob hf
  refine m_callv E hK hP hS (As := []) (tm_blows l D dT h μ _ hc1) (lw_V q1893 q1895 qs127 q166 q1896) dm_blows rfl (by decide) (by decide) hl rfl (Nat.le_of_ble_eq_true rfl) dX2_goesOut_1 (fun H locs hP hS => ?_)
  refine lv_aload_n hx hb dX2_goesOut_4 rfl (lv_at hl 0 rfl) ?_
  obtain ⟨μ4, hc3, hf⟩ := ob hf
  refine m_callv E hK hP hS (As := []) (tm_fades l D dT h μ2 _ hc3) (lw_V q1897 q1899 qs128 q166 q1900) dm_fades rfl (by decide) (by decide) hl rfl (Nat.le_of_ble_eq_true rfl) dX2_goesOut_5 (fun H locs hP hS => ?_)
  refine lv_aload_n hx hb dX2_goesOut_8 rfl (lv_at hl 0 rfl) ?_
  obtain ⟨μ6, hc5, hf⟩ := ob hf
  refine m_callv E hK hP hS (As := []) (tm_keepsGraves l D dT h μ4 _ hc5) (lw_V q1905 q1907 qs130 q166 q1908) dm_keepsGraves rfl (by decide) (by decide) hl rfl (Nat.le_of_ble_eq_true rfl) dX2_goesOut_9 (fun H locs hP hS => ?_)
  refine lv_aload_n hx hb dX2_goesOut_12 rfl (lv_at hl 0 rfl) ?_
  obtain ⟨v8, μ9, hc7, hf⟩ := ob2 hf
  refine m_calli E hK hP hS (As := []) (tm_cries l D dT h μ6 _ hc7) (lw_V q1909 q1911 qs131 q166 q1912) dm_cries rfl (by decide) (by decide) hl rfl (Nat.le_of_ble_eq_true rfl) dX2_goesOut_13 (fun H locs hP hS => ?_)
  refine lv_istore_n (lv' := [(1, .int v8), (0, .ref h)]) hx hb dX2_goesOut_16 rfl hl (by decide) rfl (fun ls hl => ?_)
  refine lv_aload_n hx hb dX2_goesOut_17 rfl (lv_at hl 1 rfl) ?_
  refine m_ga E hK hP 1 (by decide) rfl q1414 rfl dX2_goesOut_18 ?_
  refine lv_iconst (v := nI 0) hx hb dX2_goesOut_21 rfl ?_
  refine lv_aload_n hx hb dX2_goesOut_22 rfl (lv_at hl 1 rfl) ?_
  refine m_ga E hK hP 1 (by decide) rfl q1414 rfl dX2_goesOut_23 ?_
  refine lv_iconst (v := nI 0) hx hb dX2_goesOut_26 rfl ?_
  obtain ⟨v10, hv10, hf⟩ := ob hf
  refine m_ald E hK hP (by decide) rfl rfl hv10 dX2_goesOut_27 ?_
  refine lv_iconst (v := nI 1) hx hb dX2_goesOut_28 rfl ?_
  refine lv_iadd hx hb dX2_goesOut_29 ?_
  obtain ⟨μ11, hμ11, hf⟩ := ob hf
  refine m_ast E hK hP hS (by decide) rfl rfl hμ11 dX2_goesOut_30 (fun H locs hP hS => ?_)
  refine lv_aload_n hx hb dX2_goesOut_31 rfl (lv_at hl 1 rfl) ?_
  refine m_ga E hK hP 1 (by decide) rfl q1414 rfl dX2_goesOut_32 ?_
  refine lv_iconst (v := nI 3) hx hb dX2_goesOut_35 rfl ?_
  refine lv_iconst (v := nI 0) hx hb dX2_goesOut_36 rfl ?_
  obtain ⟨μ12, hμ12, hf⟩ := ob hf
  refine m_ast E hK hP hS (by decide) rfl rfl hμ12 dX2_goesOut_37 (fun H locs hP hS => ?_)
  refine lv_iload_n hx hb dX2_goesOut_38 rfl (lv_at hl 0 rfl) ?_
  cases hf
  exact m_iret E hr hlk hP hS rfl dX2_goesOut_39
set_option maxHeartbeats 4000000 in
noncomputable def fm_days_L36 (x1 : Int32) : (Int32 × Int32 × nwM) → Option ((Int32 × Int32 × nwM) ⊕ (Int32 × nwM)) := fun st => (if x1 ≤ st.2.1 then some (.inr (st.1, st.2.2)) else (fm_keepsAhead st.2.2).bind fun μ9 => (fm_goesIn μ9).bind fun μ11 => bd2 (fm_goesOut μ11) fun v13 μ14 => some (.inl (st.1 + v13, st.2.1 + nI 1, μ14)))
set_option maxHeartbeats 4000000 in
noncomputable def fm_days (x1 : Int32) (μ : nwM) : Option (Int32 × nwM) := (wf_ μ 0 (nI 0)).bind fun μ1 => (fm_isIn x1 (nI 1) (nI 60) μ1).bind fun v3 => (if v3 = 0 then some ((-1), μ1) else (rd_ μ1 1 105 (nI 0)).bind fun v5 => (if (v5 + x1) ≤ (nI 999) then (wh_ (fm_days_L36 x1) (nI 0, nI 0, μ1)).bind fun x15 => some (x15.1, x15.2) else some ((-1), μ1)))
set_option maxHeartbeats 4000000 in
theorem fm_days_L36_w {p : Program} {l : Launch} {e : Env} {s : State} {m : MethodId} {args : Array Value} {below : List Frame} {meth : Method} {c : Code} {Q : State → Prop} {D : va_G} {dT : Nat → ClassId} {h : Nat} (E : CallFix p m c cX2_days 4 s args lw_all RX2) (hK : va_K D nwCl (nwT dT) s) (x1 : Int32) {st : Int32 × Int32 × nwM} {x : Int32 × nwM} (hw : wh_ (fm_days_L36 x1) st = some x) (hk : (fun x : Int32 × nwM => ∀ (ls : Array Slot) (H : Heap) (locs : List Loc), lv_has ls 4 [(2, .int x.1)] → PM D dT h x.2 H → va_S (mA h) s.heap H locs → W p l e (rmd 8) s m args below meth c H locs 0 0 Q (F0 m 62 ls [])) x) : (fun st : Int32 × Int32 × nwM => ∀ (ls : Array Slot) (H : Heap) (locs : List Loc), lv_has ls 4 [(0, .ref h), (1, .int x1), (2, .int st.1), (3, .int st.2.1)] → PM D dT h st.2.2 H → va_S (mA h) s.heap H locs → W p l e (rmd 8) s m args below meth c H locs 0 0 Q (F0 m 36 ls [])) st := by
  obtain ⟨hx, hb, -, hown, hts⟩ := id E
  refine wh_run (P := (fun st : Int32 × Int32 × nwM => ∀ (ls : Array Slot) (H : Heap) (locs : List Loc), lv_has ls 4 [(0, .ref h), (1, .int x1), (2, .int st.1), (3, .int st.2.1)] → PM D dT h st.2.2 H → va_S (mA h) s.heap H locs → W p l e (rmd 8) s m args below meth c H locs 0 0 Q (F0 m 36 ls []))) (PE := (fun x : Int32 × nwM => ∀ (ls : Array Slot) (H : Heap) (locs : List Loc), lv_has ls 4 [(2, .int x.1)] → PM D dT h x.2 H → va_S (mA h) s.heap H locs → W p l e (rmd 8) s m args below meth c H locs 0 0 Q (F0 m 62 ls []))) ?_ hw hk
  clear hw hk
  intro st x hf hk ls H locs hl hP hS
  refine lv_iload_n hx hb dX2_days_36 rfl (lv_at hl 3 rfl) ?_
  refine lv_iload_n hx hb dX2_days_37 rfl (lv_at hl 1 rfl) ?_
  refine lv_icmp_ge (tgt := 62) hx hb dX2_days_38 (by decide) (fun kc7 => ?_) (fun kc7 => ?_)
  · have hf := ite_t kc7 hf
    cases hf
    exact hk _ _ _ (lv_sub hl [2] rfl) hP hS
  · have hf := ite_f kc7 hf
    refine lv_aload_n hx hb dX2_days_41 rfl (lv_at hl 0 rfl) ?_
    obtain ⟨μ9, hc8, hf⟩ := ob hf
    refine m_callv E hK hP hS (As := []) (tm_keepsAhead l D dT h st.2.2 _ hc8) (lw_V q1785 q1787 qs104 q166 q1788) dm_keepsAhead rfl (by decide) (by decide) hl rfl (Nat.le_of_ble_eq_true rfl) dX2_days_42 (fun H locs hP hS => ?_)
    refine lv_aload_n hx hb dX2_days_45 rfl (lv_at hl 0 rfl) ?_
    obtain ⟨μ11, hc10, hf⟩ := ob hf
    refine m_callv E hK hP hS (As := []) (tm_goesIn l D dT h μ9 _ hc10) (lw_V q1877 q1879 qs123 q166 q1880) dm_goesIn rfl (by decide) (by decide) hl rfl (Nat.le_of_ble_eq_true rfl) dX2_days_46 (fun H locs hP hS => ?_)
    refine lv_iload_n hx hb dX2_days_49 rfl (lv_at hl 2 rfl) ?_
    refine lv_aload_n hx hb dX2_days_50 rfl (lv_at hl 0 rfl) ?_
    obtain ⟨v13, μ14, hc12, hf⟩ := ob2 hf
    refine m_calli E hK hP hS (As := []) (tm_goesOut l D dT h μ11 _ hc12) (lw_V q1889 q1891 qs126 q166 q1892) dm_goesOut rfl (by decide) (by decide) hl rfl (Nat.le_of_ble_eq_true rfl) dX2_days_51 (fun H locs hP hS => ?_)
    refine lv_iadd hx hb dX2_days_54 ?_
    refine lv_istore_n (lv' := [(2, .int (st.1 + v13)), (0, .ref h), (1, .int x1), (3, .int st.2.1)]) hx hb dX2_days_55 rfl hl (by decide) rfl (fun ls hl => ?_)
    refine lv_iinc (v := st.2.1 + nI 1) (lv' := [(3, .int (st.2.1 + nI 1)), (2, .int (st.1 + v13)), (0, .ref h), (1, .int x1)]) hx hb dX2_days_56 hl (k := 3) rfl rfl (by decide) rfl (fun ls hl => ?_)
    refine lv_goto (tgt := 36) hx hb dX2_days_59 (by decide) ?_
    cases hf
    exact hk _ _ _ (lv_sub hl [2, 3, 1, 0] rfl) hP hS
set_option maxHeartbeats 4000000 in
theorem dm_days : yX2_days.cls = RX2 ∧ yX2_days.cls ≠ "java/lang/invoke/MethodHandle" ∧ yX2_days.cls ≠ "java/lang/invoke/VarHandle" ∧ (parseMethodDescriptor yX2_days.desc).map (fun d => d.parameters.length) = some 1 := ⟨rfl, by decide +kernel, by decide +kernel, by decide +kernel⟩
set_option maxHeartbeats 4000000 in
theorem tm_days (l : Launch) (D : va_G) (dT : Nat → ClassId) (h : Nat) (x1 : Int32) (μ : nwM) (res : Int32 × nwM) (hf : fm_days x1 μ = some res) : Met l yX2_days (ws_ yX2_days cX2_days 4 (some .int)) (rmd 8) (mPc D dT h μ [.int x1]) (mQi D dT h res.2 res.1) 0 0 (mA h) := by
  refine m_met (by decide) rfl (Nat.le_of_ble_eq_true rfl) ?_
  intro p e s m below meth c ls E hK hr hlk hl hP
  have hS : va_S (mA h) s.heap s.heap [] := va_S.rf
  obtain ⟨hx, hb, -, hown, hts⟩ := id E
  have hl : lv_has ls 4 [(0, .ref h), (1, .int x1)] := hl
  unfold fm_days at hf
  refine lv_aload_n hx hb dX2_days_0 rfl (lv_at hl 0 rfl) ?_
  refine lv_iconst (v := nI 0) hx hb dX2_days_1 rfl ?_
  obtain ⟨μ1, hμ1, hf⟩ := ob hf
  refine m_put E hK hP hS 0 (by decide) rfl q1413 rfl rfl rfl hμ1 dX2_days_2 (fun H locs hP hS => ?_)
  refine lv_aload_n hx hb dX2_days_5 rfl (lv_at hl 0 rfl) ?_
  refine lv_iload_n hx hb dX2_days_6 rfl (lv_at hl 1 rfl) ?_
  refine lv_iconst (v := nI 1) hx hb dX2_days_7 rfl ?_
  refine lv_bipush (v := nI 60) hx hb dX2_days_8 rfl ?_
  obtain ⟨v3, hc2, hf⟩ := ob hf
  refine m_calli E hK hP hS (As := [.int x1, .int (nI 1), .int (nI 60)]) (tm_isIn l D dT h x1 (nI 1) (nI 60) μ1 _ hc2) (lw_V q1573 q1575 qs59 q166 q1576) dm_isIn rfl (by decide) (by decide) hl rfl (Nat.le_of_ble_eq_true rfl) dX2_days_10 (fun H locs hP hS => ?_)
  refine lv_if_eq (tgt := 30) hx hb dX2_days_13 (by decide) (fun kc4 => ?_) (fun kc4 => ?_)
  · have hf := ite_t kc4 hf
    refine lv_iconst (v := (-1)) hx hb dX2_days_30 rfl ?_
    cases hf
    exact m_iret E hr hlk hP hS rfl dX2_days_31
  · have hf := ite_f kc4 hf
    refine lv_aload_n hx hb dX2_days_16 rfl (lv_at hl 0 rfl) ?_
    refine m_ga E hK hP 1 (by decide) rfl q1414 rfl dX2_days_17 ?_
    refine lv_iconst (v := nI 0) hx hb dX2_days_20 rfl ?_
    obtain ⟨v5, hv5, hf⟩ := ob hf
    refine m_ald E hK hP (by decide) rfl rfl hv5 dX2_days_21 ?_
    refine lv_iload_n hx hb dX2_days_22 rfl (lv_at hl 1 rfl) ?_
    refine lv_iadd hx hb dX2_days_23 ?_
    refine lv_sipush (v := nI 999) hx hb dX2_days_24 rfl ?_
    refine lv_icmp_le (tgt := 32) hx hb dX2_days_27 (by decide) (fun kc6 => ?_) (fun kc6 => ?_)
    · have hf := ite_t kc6 hf
      refine lv_iconst (v := nI 0) hx hb dX2_days_32 rfl ?_
      refine lv_istore_n (lv' := [(2, .int (nI 0)), (0, .ref h), (1, .int x1)]) hx hb dX2_days_33 rfl hl (by decide) rfl (fun ls hl => ?_)
      refine lv_iconst (v := nI 0) hx hb dX2_days_34 rfl ?_
      refine lv_istore_n (lv' := [(3, .int (nI 0)), (2, .int (nI 0)), (0, .ref h), (1, .int x1)]) hx hb dX2_days_35 rfl hl (by decide) rfl (fun ls hl => ?_)
      obtain ⟨x15, hx15, hf⟩ := ob hf
      refine fm_days_L36_w E hK x1 hx15 (fun ls H locs hl hP hS => ?_) _ _ _ (lv_sub hl [2, 3, 1, 0] rfl) hP hS
      refine lv_iload_n hx hb dX2_days_62 rfl (lv_at hl 0 rfl) ?_
      cases hf
      exact m_iret E hr hlk hP hS rfl dX2_days_63
    · have hf := ite_f kc6 hf
      refine lv_iconst (v := (-1)) hx hb dX2_days_30 rfl ?_
      cases hf
      exact m_iret E hr hlk hP hS rfl dX2_days_31
set_option maxHeartbeats 4000000 in
noncomputable def fm_of (x1 : Int32) (x2 : Int32) (μ : nwM) : Option (Int32 × nwM) := (wf_ μ 0 (nI 0)).bind fun μ1 => (fm_isOne x1 μ1).bind fun v3 => (if v3 = 0 then some ((-2), μ1) else (if x2 = 0 then (rd_ μ1 1 105 ((nI 45) + x1)).bind fun v27 => some (v27, μ1) else (if x2 = (nI 1) then (rd_ μ1 1 105 ((nI 57) + x1)).bind fun v26 => some (v26, μ1) else (if x2 = (nI 2) then (rd_ μ1 1 105 ((nI 69) + x1)).bind fun v25 => some (v25, μ1) else (if x2 = (nI 3) then (rd_ μ1 1 105 ((nI 81) + x1)).bind fun v24 => some (v24, μ1) else (if x2 = (nI 4) then (rd_ μ1 1 105 ((nI 93) + x1)).bind fun v23 => some (v23, μ1) else (if x2 = (nI 5) then bd2 (fm_costOf x1 μ1) fun v21 μ22 => some (v21, μ22) else (fm_isIn x2 (nI 10) (nI 17) μ1).bind fun v12 => (if v12 = 0 then some ((-2), μ1) else (fm_canCall x1 (x2 - (nI 10)) μ1).bind fun v15 => (if v15 = 0 then some ((-1), μ1) else bd2 (fm_addOf x1 (x2 - (nI 10)) μ1) fun v18 μ19 => some (v18, μ19))))))))))
set_option maxHeartbeats 4000000 in
theorem dm_of : yX2_of.cls = RX2 ∧ yX2_of.cls ≠ "java/lang/invoke/MethodHandle" ∧ yX2_of.cls ≠ "java/lang/invoke/VarHandle" ∧ (parseMethodDescriptor yX2_of.desc).map (fun d => d.parameters.length) = some 2 := ⟨rfl, by decide +kernel, by decide +kernel, by decide +kernel⟩
set_option maxHeartbeats 4000000 in
theorem tm_of (l : Launch) (D : va_G) (dT : Nat → ClassId) (h : Nat) (x1 : Int32) (x2 : Int32) (μ : nwM) (res : Int32 × nwM) (hf : fm_of x1 x2 μ = some res) : Met l yX2_of (ws_ yX2_of cX2_of 3 (some .int)) (rmd 5) (mPc D dT h μ [.int x1, .int x2]) (mQi D dT h res.2 res.1) 0 0 (mA h) := by
  refine m_met (by decide) rfl (Nat.le_of_ble_eq_true rfl) ?_
  intro p e s m below meth c ls E hK hr hlk hl hP
  have hS : va_S (mA h) s.heap s.heap [] := va_S.rf
  obtain ⟨hx, hb, -, hown, hts⟩ := id E
  have hl : lv_has ls 3 [(0, .ref h), (1, .int x1), (2, .int x2)] := hl
  unfold fm_of at hf
  refine lv_aload_n hx hb dX2_of_0 rfl (lv_at hl 0 rfl) ?_
  refine lv_iconst (v := nI 0) hx hb dX2_of_1 rfl ?_
  obtain ⟨μ1, hμ1, hf⟩ := ob hf
  refine m_put E hK hP hS 0 (by decide) rfl q1413 rfl rfl rfl hμ1 dX2_of_2 (fun H locs hP hS => ?_)
  refine lv_aload_n hx hb dX2_of_5 rfl (lv_at hl 0 rfl) ?_
  refine lv_iload_n hx hb dX2_of_6 rfl (lv_at hl 1 rfl) ?_
  obtain ⟨v3, hc2, hf⟩ := ob hf
  refine m_calli E hK hP hS (As := [.int x1]) (tm_isOne l D dT h x1 μ1 _ hc2) (lw_V q1777 q1779 qs102 q166 q1780) dm_isOne rfl (by decide) (by decide) hl rfl (Nat.le_of_ble_eq_true rfl) dX2_of_7 (fun H locs hP hS => ?_)
  refine lv_if_ne (tgt := 16) hx hb dX2_of_10 (by decide) (fun kc4 => ?_) (fun kc4 => ?_)
  · have hf := ite_f kc4 hf
    refine lv_iload_n hx hb dX2_of_16 rfl (lv_at hl 2 rfl) ?_
    refine lv_if_ne (tgt := 30) hx hb dX2_of_17 (by decide) (fun kc5 => ?_) (fun kc5 => ?_)
    · have hf := ite_f kc5 hf
      refine lv_iload_n hx hb dX2_of_30 rfl (lv_at hl 2 rfl) ?_
      refine lv_iconst (v := nI 1) hx hb dX2_of_31 rfl ?_
      refine lv_icmp_ne (tgt := 45) hx hb dX2_of_32 (by decide) (fun kc6 => ?_) (fun kc6 => ?_)
      · have hf := ite_f kc6 hf
        refine lv_iload_n hx hb dX2_of_45 rfl (lv_at hl 2 rfl) ?_
        refine lv_iconst (v := nI 2) hx hb dX2_of_46 rfl ?_
        refine lv_icmp_ne (tgt := 60) hx hb dX2_of_47 (by decide) (fun kc7 => ?_) (fun kc7 => ?_)
        · have hf := ite_f kc7 hf
          refine lv_iload_n hx hb dX2_of_60 rfl (lv_at hl 2 rfl) ?_
          refine lv_iconst (v := nI 3) hx hb dX2_of_61 rfl ?_
          refine lv_icmp_ne (tgt := 75) hx hb dX2_of_62 (by decide) (fun kc8 => ?_) (fun kc8 => ?_)
          · have hf := ite_f kc8 hf
            refine lv_iload_n hx hb dX2_of_75 rfl (lv_at hl 2 rfl) ?_
            refine lv_iconst (v := nI 4) hx hb dX2_of_76 rfl ?_
            refine lv_icmp_ne (tgt := 90) hx hb dX2_of_77 (by decide) (fun kc9 => ?_) (fun kc9 => ?_)
            · have hf := ite_f kc9 hf
              refine lv_iload_n hx hb dX2_of_90 rfl (lv_at hl 2 rfl) ?_
              refine lv_iconst (v := nI 5) hx hb dX2_of_91 rfl ?_
              refine lv_icmp_ne (tgt := 101) hx hb dX2_of_92 (by decide) (fun kc10 => ?_) (fun kc10 => ?_)
              · have hf := ite_f kc10 hf
                refine lv_aload_n hx hb dX2_of_101 rfl (lv_at hl 0 rfl) ?_
                refine lv_iload_n hx hb dX2_of_102 rfl (lv_at hl 2 rfl) ?_
                refine lv_bipush (v := nI 10) hx hb dX2_of_103 rfl ?_
                refine lv_bipush (v := nI 17) hx hb dX2_of_105 rfl ?_
                obtain ⟨v12, hc11, hf⟩ := ob hf
                refine m_calli E hK hP hS (As := [.int x2, .int (nI 10), .int (nI 17)]) (tm_isIn l D dT h x2 (nI 10) (nI 17) μ1 _ hc11) (lw_V q1573 q1575 qs59 q166 q1576) dm_isIn rfl (by decide) (by decide) hl rfl (Nat.le_of_ble_eq_true rfl) dX2_of_107 (fun H locs hP hS => ?_)
                refine lv_if_ne (tgt := 116) hx hb dX2_of_110 (by decide) (fun kc13 => ?_) (fun kc13 => ?_)
                · have hf := ite_f kc13 hf
                  refine lv_aload_n hx hb dX2_of_116 rfl (lv_at hl 0 rfl) ?_
                  refine lv_iload_n hx hb dX2_of_117 rfl (lv_at hl 1 rfl) ?_
                  refine lv_iload_n hx hb dX2_of_118 rfl (lv_at hl 2 rfl) ?_
                  refine lv_bipush (v := nI 10) hx hb dX2_of_119 rfl ?_
                  refine lv_isub hx hb dX2_of_121 ?_
                  obtain ⟨v15, hc14, hf⟩ := ob hf
                  refine m_calli E hK hP hS (As := [.int x1, .int (x2 - (nI 10))]) (tm_canCall l D dT h x1 (x2 - (nI 10)) μ1 _ hc14) (lw_V q1773 q1775 qs101 q166 q1776) dm_canCall rfl (by decide) (by decide) hl rfl (Nat.le_of_ble_eq_true rfl) dX2_of_122 (fun H locs hP hS => ?_)
                  refine lv_if_eq (tgt := 140) hx hb dX2_of_125 (by decide) (fun kc16 => ?_) (fun kc16 => ?_)
                  · have hf := ite_t kc16 hf
                    refine lv_iconst (v := (-1)) hx hb dX2_of_140 rfl ?_
                    cases hf
                    exact m_iret E hr hlk hP hS rfl dX2_of_141
                  · have hf := ite_f kc16 hf
                    refine lv_aload_n hx hb dX2_of_128 rfl (lv_at hl 0 rfl) ?_
                    refine lv_iload_n hx hb dX2_of_129 rfl (lv_at hl 1 rfl) ?_
                    refine lv_iload_n hx hb dX2_of_130 rfl (lv_at hl 2 rfl) ?_
                    refine lv_bipush (v := nI 10) hx hb dX2_of_131 rfl ?_
                    refine lv_isub hx hb dX2_of_133 ?_
                    obtain ⟨v18, μ19, hc17, hf⟩ := ob2 hf
                    refine m_calli E hK hP hS (As := [.int x1, .int (x2 - (nI 10))]) (tm_addOf l D dT h x1 (x2 - (nI 10)) μ1 _ hc17) (lw_V q1797 q1799 qs107 q166 q1800) dm_addOf rfl (by decide) (by decide) hl rfl (Nat.le_of_ble_eq_true rfl) dX2_of_134 (fun H locs hP hS => ?_)
                    refine lv_goto (tgt := 141) hx hb dX2_of_137 (by decide) ?_
                    cases hf
                    exact m_iret E hr hlk hP hS rfl dX2_of_141
                · have hf := ite_t kc13 hf
                  refine lv_bipush (v := (-2)) hx hb dX2_of_113 rfl ?_
                  cases hf
                  exact m_iret E hr hlk hP hS rfl dX2_of_115
              · have hf := ite_t kc10 hf
                refine lv_aload_n hx hb dX2_of_95 rfl (lv_at hl 0 rfl) ?_
                refine lv_iload_n hx hb dX2_of_96 rfl (lv_at hl 1 rfl) ?_
                obtain ⟨v21, μ22, hc20, hf⟩ := ob2 hf
                refine m_calli E hK hP hS (As := [.int x1]) (tm_costOf l D dT h x1 μ1 _ hc20) (lw_V q1923 q1925 qs133 q166 q1926) dm_costOf rfl (by decide) (by decide) hl rfl (Nat.le_of_ble_eq_true rfl) dX2_of_97 (fun H locs hP hS => ?_)
                cases hf
                exact m_iret E hr hlk hP hS rfl dX2_of_100
            · have hf := ite_t kc9 hf
              refine lv_aload_n hx hb dX2_of_80 rfl (lv_at hl 0 rfl) ?_
              refine m_ga E hK hP 1 (by decide) rfl q1414 rfl dX2_of_81 ?_
              refine lv_bipush (v := nI 93) hx hb dX2_of_84 rfl ?_
              refine lv_iload_n hx hb dX2_of_86 rfl (lv_at hl 1 rfl) ?_
              refine lv_iadd hx hb dX2_of_87 ?_
              obtain ⟨v23, hv23, hf⟩ := ob hf
              refine m_ald E hK hP (by decide) rfl rfl hv23 dX2_of_88 ?_
              cases hf
              exact m_iret E hr hlk hP hS rfl dX2_of_89
          · have hf := ite_t kc8 hf
            refine lv_aload_n hx hb dX2_of_65 rfl (lv_at hl 0 rfl) ?_
            refine m_ga E hK hP 1 (by decide) rfl q1414 rfl dX2_of_66 ?_
            refine lv_bipush (v := nI 81) hx hb dX2_of_69 rfl ?_
            refine lv_iload_n hx hb dX2_of_71 rfl (lv_at hl 1 rfl) ?_
            refine lv_iadd hx hb dX2_of_72 ?_
            obtain ⟨v24, hv24, hf⟩ := ob hf
            refine m_ald E hK hP (by decide) rfl rfl hv24 dX2_of_73 ?_
            cases hf
            exact m_iret E hr hlk hP hS rfl dX2_of_74
        · have hf := ite_t kc7 hf
          refine lv_aload_n hx hb dX2_of_50 rfl (lv_at hl 0 rfl) ?_
          refine m_ga E hK hP 1 (by decide) rfl q1414 rfl dX2_of_51 ?_
          refine lv_bipush (v := nI 69) hx hb dX2_of_54 rfl ?_
          refine lv_iload_n hx hb dX2_of_56 rfl (lv_at hl 1 rfl) ?_
          refine lv_iadd hx hb dX2_of_57 ?_
          obtain ⟨v25, hv25, hf⟩ := ob hf
          refine m_ald E hK hP (by decide) rfl rfl hv25 dX2_of_58 ?_
          cases hf
          exact m_iret E hr hlk hP hS rfl dX2_of_59
      · have hf := ite_t kc6 hf
        refine lv_aload_n hx hb dX2_of_35 rfl (lv_at hl 0 rfl) ?_
        refine m_ga E hK hP 1 (by decide) rfl q1414 rfl dX2_of_36 ?_
        refine lv_bipush (v := nI 57) hx hb dX2_of_39 rfl ?_
        refine lv_iload_n hx hb dX2_of_41 rfl (lv_at hl 1 rfl) ?_
        refine lv_iadd hx hb dX2_of_42 ?_
        obtain ⟨v26, hv26, hf⟩ := ob hf
        refine m_ald E hK hP (by decide) rfl rfl hv26 dX2_of_43 ?_
        cases hf
        exact m_iret E hr hlk hP hS rfl dX2_of_44
    · have hf := ite_t kc5 hf
      refine lv_aload_n hx hb dX2_of_20 rfl (lv_at hl 0 rfl) ?_
      refine m_ga E hK hP 1 (by decide) rfl q1414 rfl dX2_of_21 ?_
      refine lv_bipush (v := nI 45) hx hb dX2_of_24 rfl ?_
      refine lv_iload_n hx hb dX2_of_26 rfl (lv_at hl 1 rfl) ?_
      refine lv_iadd hx hb dX2_of_27 ?_
      obtain ⟨v27, hv27, hf⟩ := ob hf
      refine m_ald E hK hP (by decide) rfl rfl hv27 dX2_of_28 ?_
      cases hf
      exact m_iret E hr hlk hP hS rfl dX2_of_29
  · have hf := ite_t kc4 hf
    refine lv_bipush (v := (-2)) hx hb dX2_of_13 rfl ?_
    cases hf
    exact m_iret E hr hlk hP hS rfl dX2_of_15
set_option maxHeartbeats 4000000 in
def fm_isSky (x1 : Int32) (x2 : Int32) (μ : nwM) : Option (Int32) := (fm_isIsland x1 μ).bind fun v2 => (if v2 = 0 then some (nI 0) else (fm_isIn x2 (nI 0) (nI 4) μ).bind fun v5 => (if v5 = 0 then some (nI 0) else some (nI 1)))
set_option maxHeartbeats 4000000 in
theorem dm_isSky : yX2_isSky.cls = RX2 ∧ yX2_isSky.cls ≠ "java/lang/invoke/MethodHandle" ∧ yX2_isSky.cls ≠ "java/lang/invoke/VarHandle" ∧ (parseMethodDescriptor yX2_isSky.desc).map (fun d => d.parameters.length) = some 2 := ⟨rfl, by decide +kernel, by decide +kernel, by decide +kernel⟩
set_option maxHeartbeats 4000000 in
theorem tm_isSky (l : Launch) (D : va_G) (dT : Nat → ClassId) (h : Nat) (x1 : Int32) (x2 : Int32) (μ : nwM) (res : Int32) (hf : fm_isSky x1 x2 μ = some res) : Met l yX2_isSky (ws_ yX2_isSky cX2_isSky 3 (some .boolean)) (rmd 1) (mPc D dT h μ [.int x1, .int x2]) (mQi D dT h μ res) 0 0 (mA h) := by
  refine m_met (by decide) rfl (Nat.le_of_ble_eq_true rfl) ?_
  intro p e s m below meth c ls E hK hr hlk hl hP
  have hS : va_S (mA h) s.heap s.heap [] := va_S.rf
  obtain ⟨hx, hb, -, hown, hts⟩ := id E
  have hl : lv_has ls 3 [(0, .ref h), (1, .int x1), (2, .int x2)] := hl
  unfold fm_isSky at hf
  refine lv_aload_n hx hb dX2_isSky_0 rfl (lv_at hl 0 rfl) ?_
  refine lv_iload_n hx hb dX2_isSky_1 rfl (lv_at hl 1 rfl) ?_
  obtain ⟨v2, hc1, hf⟩ := ob hf
  refine m_calli E hK hP hS (As := [.int x1]) (tm_isIsland l D dT h x1 μ _ hc1) (lw_V q1577 q1579 qs60 q166 q1580) dm_isIsland rfl (by decide) (by decide) hl rfl (Nat.le_of_ble_eq_true rfl) dX2_isSky_2 (fun H locs hP hS => ?_)
  refine lv_if_eq (tgt := 22) hx hb dX2_isSky_5 (by decide) (fun kc3 => ?_) (fun kc3 => ?_)
  · have hf := ite_t kc3 hf
    refine lv_iconst (v := nI 0) hx hb dX2_isSky_22 rfl ?_
    cases hf
    exact m_zret E hr hlk hP hS rfl dX2_isSky_23
  · have hf := ite_f kc3 hf
    refine lv_aload_n hx hb dX2_isSky_8 rfl (lv_at hl 0 rfl) ?_
    refine lv_iload_n hx hb dX2_isSky_9 rfl (lv_at hl 2 rfl) ?_
    refine lv_iconst (v := nI 0) hx hb dX2_isSky_10 rfl ?_
    refine lv_iconst (v := nI 4) hx hb dX2_isSky_11 rfl ?_
    obtain ⟨v5, hc4, hf⟩ := ob hf
    refine m_calli E hK hP hS (As := [.int x2, .int (nI 0), .int (nI 4)]) (tm_isIn l D dT h x2 (nI 0) (nI 4) μ _ hc4) (lw_V q1573 q1575 qs59 q166 q1576) dm_isIn rfl (by decide) (by decide) hl rfl (Nat.le_of_ble_eq_true rfl) dX2_isSky_12 (fun H locs hP hS => ?_)
    refine lv_if_eq (tgt := 22) hx hb dX2_isSky_15 (by decide) (fun kc6 => ?_) (fun kc6 => ?_)
    · have hf := ite_t kc6 hf
      refine lv_iconst (v := nI 0) hx hb dX2_isSky_22 rfl ?_
      cases hf
      exact m_zret E hr hlk hP hS rfl dX2_isSky_23
    · have hf := ite_f kc6 hf
      refine lv_iconst (v := nI 1) hx hb dX2_isSky_18 rfl ?_
      refine lv_goto (tgt := 23) hx hb dX2_isSky_19 (by decide) ?_
      cases hf
      exact m_zret E hr hlk hP hS rfl dX2_isSky_23
set_option maxHeartbeats 4000000 in
noncomputable def fm_goesFor_L2 (x1 : Int32) : (Int32 × nwM) → Option ((Int32 × nwM) ⊕ (nwM)) := fun st => (if x1 ≤ st.1 then some (.inr st.2) else (fm_goesIn st.2).bind fun μ3 => bd2 (fm_goesOut μ3) fun v5 μ6 => some (.inl (st.1 + nI 1, μ6)))
set_option maxHeartbeats 4000000 in
noncomputable def fm_goesFor (x1 : Int32) (μ : nwM) : Option (nwM) := (wh_ (fm_goesFor_L2 x1) (nI 0, μ)).bind fun x7 => some x7
set_option maxHeartbeats 4000000 in
theorem fm_goesFor_L2_w {p : Program} {l : Launch} {e : Env} {s : State} {m : MethodId} {args : Array Value} {below : List Frame} {meth : Method} {c : Code} {Q : State → Prop} {D : va_G} {dT : Nat → ClassId} {h : Nat} (E : CallFix p m c cX2_goesFor 3 s args lw_all RX2) (hK : va_K D nwCl (nwT dT) s) (x1 : Int32) {st : Int32 × nwM} {x : nwM} (hw : wh_ (fm_goesFor_L2 x1) st = some x) (hk : (fun x : nwM => ∀ (ls : Array Slot) (H : Heap) (locs : List Loc), lv_has ls 3 [] → PM D dT h x H → va_S (mA h) s.heap H locs → W p l e (rmd 8) s m args below meth c H locs 0 0 Q (F0 m 22 ls [])) x) : (fun st : Int32 × nwM => ∀ (ls : Array Slot) (H : Heap) (locs : List Loc), lv_has ls 3 [(0, .ref h), (1, .int x1), (2, .int st.1)] → PM D dT h st.2 H → va_S (mA h) s.heap H locs → W p l e (rmd 8) s m args below meth c H locs 0 0 Q (F0 m 2 ls [])) st := by
  obtain ⟨hx, hb, -, hown, hts⟩ := id E
  refine wh_run (P := (fun st : Int32 × nwM => ∀ (ls : Array Slot) (H : Heap) (locs : List Loc), lv_has ls 3 [(0, .ref h), (1, .int x1), (2, .int st.1)] → PM D dT h st.2 H → va_S (mA h) s.heap H locs → W p l e (rmd 8) s m args below meth c H locs 0 0 Q (F0 m 2 ls []))) (PE := (fun x : nwM => ∀ (ls : Array Slot) (H : Heap) (locs : List Loc), lv_has ls 3 [] → PM D dT h x H → va_S (mA h) s.heap H locs → W p l e (rmd 8) s m args below meth c H locs 0 0 Q (F0 m 22 ls []))) ?_ hw hk
  clear hw hk
  intro st x hf hk ls H locs hl hP hS
  refine lv_iload_n hx hb dX2_goesFor_2 rfl (lv_at hl 2 rfl) ?_
  refine lv_iload_n hx hb dX2_goesFor_3 rfl (lv_at hl 1 rfl) ?_
  refine lv_icmp_ge (tgt := 22) hx hb dX2_goesFor_4 (by decide) (fun kc1 => ?_) (fun kc1 => ?_)
  · have hf := ite_t kc1 hf
    cases hf
    exact hk _ _ _ (lv_sub hl [] rfl) hP hS
  · have hf := ite_f kc1 hf
    refine lv_aload_n hx hb dX2_goesFor_7 rfl (lv_at hl 0 rfl) ?_
    obtain ⟨μ3, hc2, hf⟩ := ob hf
    refine m_callv E hK hP hS (As := []) (tm_goesIn l D dT h st.2 _ hc2) (lw_V q1877 q1879 qs123 q166 q1880) dm_goesIn rfl (by decide) (by decide) hl rfl (Nat.le_of_ble_eq_true rfl) dX2_goesFor_8 (fun H locs hP hS => ?_)
    refine lv_aload_n hx hb dX2_goesFor_11 rfl (lv_at hl 0 rfl) ?_
    obtain ⟨v5, μ6, hc4, hf⟩ := ob2 hf
    refine m_calli E hK hP hS (As := []) (tm_goesOut l D dT h μ3 _ hc4) (lw_V q1889 q1891 qs126 q166 q1892) dm_goesOut rfl (by decide) (by decide) hl rfl (Nat.le_of_ble_eq_true rfl) dX2_goesFor_12 (fun H locs hP hS => ?_)
    refine lv_pop hx hb dX2_goesFor_15 rfl ?_
    refine lv_iinc (v := st.1 + nI 1) (lv' := [(2, .int (st.1 + nI 1)), (0, .ref h), (1, .int x1)]) hx hb dX2_goesFor_16 hl (k := 2) rfl rfl (by decide) rfl (fun ls hl => ?_)
    refine lv_goto (tgt := 2) hx hb dX2_goesFor_19 (by decide) ?_
    cases hf
    exact hk _ _ _ (lv_sub hl [1, 2, 0] rfl) hP hS
set_option maxHeartbeats 4000000 in
theorem dm_goesFor : yX2_goesFor.cls = RX2 ∧ yX2_goesFor.cls ≠ "java/lang/invoke/MethodHandle" ∧ yX2_goesFor.cls ≠ "java/lang/invoke/VarHandle" ∧ (parseMethodDescriptor yX2_goesFor.desc).map (fun d => d.parameters.length) = some 1 := ⟨rfl, by decide +kernel, by decide +kernel, by decide +kernel⟩
set_option maxHeartbeats 4000000 in
theorem tm_goesFor (l : Launch) (D : va_G) (dT : Nat → ClassId) (h : Nat) (x1 : Int32) (μ : nwM) (res : nwM) (hf : fm_goesFor x1 μ = some res) : Met l yX2_goesFor (ws_ yX2_goesFor cX2_goesFor 3 none) (rmd 8) (mPc D dT h μ [.int x1]) (mQv D dT h res) 0 0 (mA h) := by
  refine m_met (by decide) rfl (Nat.le_of_ble_eq_true rfl) ?_
  intro p e s m below meth c ls E hK hr hlk hl hP
  have hS : va_S (mA h) s.heap s.heap [] := va_S.rf
  obtain ⟨hx, hb, -, hown, hts⟩ := id E
  have hl : lv_has ls 3 [(0, .ref h), (1, .int x1)] := hl
  unfold fm_goesFor at hf
  refine lv_iconst (v := nI 0) hx hb dX2_goesFor_0 rfl ?_
  refine lv_istore_n (lv' := [(2, .int (nI 0)), (0, .ref h), (1, .int x1)]) hx hb dX2_goesFor_1 rfl hl (by decide) rfl (fun ls hl => ?_)
  obtain ⟨x7, hx7, hf⟩ := ob hf
  refine fm_goesFor_L2_w E hK x1 hx7 (fun ls H locs hl hP hS => ?_) _ _ _ (lv_sub hl [1, 2, 0] rfl) hP hS
  cases hf
  exact m_vret E hr hlk hP hS dX2_goesFor_22
