/-! walks of NamesWeatherModel, written by genm.py -/
set_option maxRecDepth 100000
set_option maxHeartbeats 4000000 in
noncomputable def fm_readPlan_L2 : (Int32 × nwM) → Option ((Int32 × nwM) ⊕ (Int32 × nwM)) := fun st => (fm_isWord (nI 26) st.2).bind fun v2 => (if v2 = 0 then (if (st.2 13 0) = 0 then some (.inr (st.1, st.2)) else bd2 (fm_errs (nI 1) st.2) fun v6 μ7 => some (.inr (v6, μ7))) else (if st.1 = (nI 16) then bd2 (fm_errs (nI 3) st.2) fun v14 μ15 => some (.inr (v14, μ15)) else bd2 (fm_readPlanLine ((nI 64) + ((nI 4) * st.1)) st.2) fun v10 μ11 => (if v10 = (-1) then some (.inr ((-1), μ11)) else some (.inl (st.1 + (nI 1), μ11)))))
set_option maxHeartbeats 4000000 in
noncomputable def fm_readPlan (μ : nwM) : Option (Int32 × nwM) := wh_ (fm_readPlan_L2) (nI 0, μ)
set_option maxHeartbeats 4000000 in
theorem fm_readPlan_L2_w {p : Program} {l : Launch} {e : Env} {s : State} {m : MethodId} {args : Array Value} {below : List Frame} {meth : Method} {c : Code} {D : va_G} {dT : Nat → ClassId} {h : Nat} (E : CallFix p m c cX2_readPlan 2 s args lw_all RX2) (hK : va_K D nwCl (nwT dT) s) (hr : meth.sig.returnType = (some .int)) (hlk : meth.locks = false) {res : Int32 × nwM} {st : Int32 × nwM} {x : Int32 × nwM} (hw : wh_ (fm_readPlan_L2) st = some x) (hk : (fun r : Int32 × nwM => r = res) x) : (fun st : Int32 × nwM => ∀ (ls : Array Slot) (H : Heap) (locs : List Loc), lv_has ls 2 [(0, .ref h), (1, .int st.1)] → PM D dT h st.2 H → va_S (mA h) s.heap H locs → W p l e (rmd 6) s m args below meth c H locs 0 0 (MQ below (mQi D dT h res.2 res.1) args s 0 0 (mA h)) (F0 m 2 ls [])) st := by
  obtain ⟨hx, hb, -, hown, hts⟩ := id E
  refine wh_run (P := (fun st : Int32 × nwM => ∀ (ls : Array Slot) (H : Heap) (locs : List Loc), lv_has ls 2 [(0, .ref h), (1, .int st.1)] → PM D dT h st.2 H → va_S (mA h) s.heap H locs → W p l e (rmd 6) s m args below meth c H locs 0 0 (MQ below (mQi D dT h res.2 res.1) args s 0 0 (mA h)) (F0 m 2 ls []))) (PE := (fun r : Int32 × nwM => r = res)) ?_ hw hk
  clear hw hk
  intro st x hf hk ls H locs hl hP hS
  refine lv_aload_n hx hb dX2_readPlan_2 rfl (lv_at hl 0 rfl) ?_
  refine lv_bipush (v := nI 26) hx hb dX2_readPlan_3 rfl ?_
  obtain ⟨v2, hc1, hf⟩ := ob hf
  refine m_calli E hK hP hS (As := [.int (nI 26)]) (tm_isWord l D dT h (nI 26) st.2 _ hc1) (lw_V q1669 q1671 qs77 q166 q1672) dm_isWord rfl (by decide) (by decide) hl rfl (Nat.le_of_ble_eq_true rfl) dX2_readPlan_5 (fun H locs hP hS => ?_)
  refine lv_if_eq (tgt := 46) hx hb dX2_readPlan_8 (by decide) (fun kc3 => ?_) (fun kc3 => ?_)
  · have hf := ite_t kc3 hf
    refine lv_aload_n hx hb dX2_readPlan_46 rfl (lv_at hl 0 rfl) ?_
    refine m_get E hK hP 13 (by decide) rfl q1426 rfl dX2_readPlan_47 ?_
    refine lv_if_ne (tgt := 57) hx hb dX2_readPlan_50 (by decide) (fun kc4 => ?_) (fun kc4 => ?_)
    · have hf := ite_f kc4 hf
      refine lv_aload_n hx hb dX2_readPlan_57 rfl (lv_at hl 0 rfl) ?_
      refine lv_iconst (v := nI 1) hx hb dX2_readPlan_58 rfl ?_
      obtain ⟨v6, μ7, hc5, hf⟩ := ob2 hf
      refine m_calli E hK hP hS (As := [.int (nI 1)]) (tm_errs l D dT h (nI 1) st.2 _ hc5) (lw_V q1657 q1659 qs74 q166 q1660) dm_errs rfl (by decide) (by decide) hl rfl (Nat.le_of_ble_eq_true rfl) dX2_readPlan_59 (fun H locs hP hS => ?_)
      cases hf
      have hk : (v6, μ7) = res := hk
      subst hk
      exact m_iret E hr hlk hP hS rfl dX2_readPlan_62
    · have hf := ite_t kc4 hf
      refine lv_iload_n hx hb dX2_readPlan_53 rfl (lv_at hl 1 rfl) ?_
      refine lv_goto (tgt := 62) hx hb dX2_readPlan_54 (by decide) ?_
      cases hf
      have hk : (st.1, st.2) = res := hk
      subst hk
      exact m_iret E hr hlk hP hS rfl dX2_readPlan_62
  · have hf := ite_f kc3 hf
    refine lv_iload_n hx hb dX2_readPlan_11 rfl (lv_at hl 1 rfl) ?_
    refine lv_bipush (v := nI 16) hx hb dX2_readPlan_12 rfl ?_
    refine lv_icmp_ne (tgt := 23) hx hb dX2_readPlan_14 (by decide) (fun kc8 => ?_) (fun kc8 => ?_)
    · have hf := ite_f kc8 hf
      refine lv_aload_n hx hb dX2_readPlan_23 rfl (lv_at hl 0 rfl) ?_
      refine lv_bipush (v := nI 64) hx hb dX2_readPlan_24 rfl ?_
      refine lv_iconst (v := nI 4) hx hb dX2_readPlan_26 rfl ?_
      refine lv_iload_n hx hb dX2_readPlan_27 rfl (lv_at hl 1 rfl) ?_
      refine lv_imul hx hb dX2_readPlan_28 ?_
      refine lv_iadd hx hb dX2_readPlan_29 ?_
      obtain ⟨v10, μ11, hc9, hf⟩ := ob2 hf
      refine m_calli E hK hP hS (As := [.int ((nI 64) + ((nI 4) * st.1))]) (tm_readPlanLine l D dT h ((nI 64) + ((nI 4) * st.1)) st.2 _ hc9) (lw_V q1705 q1707 qs86 q166 q1708) dm_readPlanLine rfl (by decide) (by decide) hl rfl (Nat.le_of_ble_eq_true rfl) dX2_readPlan_30 (fun H locs hP hS => ?_)
      refine lv_iconst (v := (-1)) hx hb dX2_readPlan_33 rfl ?_
      refine lv_icmp_ne (tgt := 39) hx hb dX2_readPlan_34 (by decide) (fun kc12 => ?_) (fun kc12 => ?_)
      · have hf := ite_f kc12 hf
        refine lv_iload_n hx hb dX2_readPlan_39 rfl (lv_at hl 1 rfl) ?_
        refine lv_iconst (v := nI 1) hx hb dX2_readPlan_40 rfl ?_
        refine lv_iadd hx hb dX2_readPlan_41 ?_
        refine lv_istore_n (lv' := [(1, .int (st.1 + (nI 1))), (0, .ref h)]) hx hb dX2_readPlan_42 rfl hl (by decide) rfl (fun ls hl => ?_)
        refine lv_goto (tgt := 2) hx hb dX2_readPlan_43 (by decide) ?_
        cases hf
        exact hk _ _ _ (lv_sub hl [1, 0] rfl) hP hS
      · have hf := ite_t kc12 hf
        refine lv_iconst (v := (-1)) hx hb dX2_readPlan_37 rfl ?_
        cases hf
        have hk : ((-1), μ11) = res := hk
        subst hk
        exact m_iret E hr hlk hP hS rfl dX2_readPlan_38
    · have hf := ite_t kc8 hf
      refine lv_aload_n hx hb dX2_readPlan_17 rfl (lv_at hl 0 rfl) ?_
      refine lv_iconst (v := nI 3) hx hb dX2_readPlan_18 rfl ?_
      obtain ⟨v14, μ15, hc13, hf⟩ := ob2 hf
      refine m_calli E hK hP hS (As := [.int (nI 3)]) (tm_errs l D dT h (nI 3) st.2 _ hc13) (lw_V q1657 q1659 qs74 q166 q1660) dm_errs rfl (by decide) (by decide) hl rfl (Nat.le_of_ble_eq_true rfl) dX2_readPlan_19 (fun H locs hP hS => ?_)
      cases hf
      have hk : (v14, μ15) = res := hk
      subst hk
      exact m_iret E hr hlk hP hS rfl dX2_readPlan_22
set_option maxHeartbeats 4000000 in
theorem dm_readPlan : yX2_readPlan.cls = RX2 ∧ yX2_readPlan.cls ≠ "java/lang/invoke/MethodHandle" ∧ yX2_readPlan.cls ≠ "java/lang/invoke/VarHandle" ∧ (parseMethodDescriptor yX2_readPlan.desc).map (fun d => d.parameters.length) = some 0 := ⟨rfl, by decide +kernel, by decide +kernel, by decide +kernel⟩
set_option maxHeartbeats 4000000 in
theorem tm_readPlan (l : Launch) (D : va_G) (dT : Nat → ClassId) (h : Nat) (μ : nwM) (res : Int32 × nwM) (hf : fm_readPlan μ = some res) : Met l yX2_readPlan (ws_ yX2_readPlan cX2_readPlan 2 (some .int)) (rmd 6) (mPc D dT h μ []) (mQi D dT h res.2 res.1) 0 0 (mA h) := by
  refine m_met (by decide) rfl (Nat.le_of_ble_eq_true rfl) ?_
  intro p e s m below meth c ls E hK hr hlk hl hP
  have hS : va_S (mA h) s.heap s.heap [] := va_S.rf
  obtain ⟨hx, hb, -, hown, hts⟩ := id E
  have hl : lv_has ls 2 [(0, .ref h)] := hl
  unfold fm_readPlan at hf
  refine lv_iconst (v := nI 0) hx hb dX2_readPlan_0 rfl ?_
  refine lv_istore_n (lv' := [(1, .int (nI 0)), (0, .ref h)]) hx hb dX2_readPlan_1 rfl hl (by decide) rfl (fun ls hl => ?_)
  exact fm_readPlan_L2_w E hK hr hlk hf rfl _ _ _ (lv_sub hl [1, 0] rfl) hP hS
set_option maxHeartbeats 4000000 in
noncomputable def fm_readsText (x1 : Int32) (μ : nwM) : Option (Int32 × nwM) := (wf_ μ 23 (nI 0)).bind fun μ1 => (fm_reads μ1).bind fun μ3 => (if x1 = (nI 1) then bd2 (fm_readQuenching μ3) fun v17 μ18 => some (v17, μ18) else (if x1 = (nI 2) then bd2 (fm_readWants μ3) fun v14 μ15 => some (v14, μ15) else (if x1 = (nI 3) then bd2 (fm_readPlan μ3) fun v11 μ12 => some (v11, μ12) else bd2 (fm_readLaw μ3) fun v8 μ9 => some (v8, μ9))))
set_option maxHeartbeats 4000000 in
theorem dm_readsText : yX2_readsText.cls = RX2 ∧ yX2_readsText.cls ≠ "java/lang/invoke/MethodHandle" ∧ yX2_readsText.cls ≠ "java/lang/invoke/VarHandle" ∧ (parseMethodDescriptor yX2_readsText.desc).map (fun d => d.parameters.length) = some 1 := ⟨rfl, by decide +kernel, by decide +kernel, by decide +kernel⟩
set_option maxHeartbeats 4000000 in
theorem tm_readsText (l : Launch) (D : va_G) (dT : Nat → ClassId) (h : Nat) (x1 : Int32) (μ : nwM) (res : Int32 × nwM) (hf : fm_readsText x1 μ = some res) : Met l yX2_readsText (ws_ yX2_readsText cX2_readsText 2 (some .int)) (rmd 9) (mPc D dT h μ [.int x1]) (mQi D dT h res.2 res.1) 0 0 (mA h) := by
  refine m_met (by decide) rfl (Nat.le_of_ble_eq_true rfl) ?_
  intro p e s m below meth c ls E hK hr hlk hl hP
  have hS : va_S (mA h) s.heap s.heap [] := va_S.rf
  obtain ⟨hx, hb, -, hown, hts⟩ := id E
  have hl : lv_has ls 2 [(0, .ref h), (1, .int x1)] := hl
  unfold fm_readsText at hf
  refine lv_aload_n hx hb dX2_readsText_0 rfl (lv_at hl 0 rfl) ?_
  refine lv_iconst (v := nI 0) hx hb dX2_readsText_1 rfl ?_
  obtain ⟨μ1, hμ1, hf⟩ := ob hf
  refine m_put E hK hP hS 23 (by decide) rfl q1436 rfl rfl rfl hμ1 dX2_readsText_2 (fun H locs hP hS => ?_)
  refine lv_aload_n hx hb dX2_readsText_5 rfl (lv_at hl 0 rfl) ?_
  obtain ⟨μ3, hc2, hf⟩ := ob hf
  refine m_callv E hK hP hS (As := []) (tm_reads l D dT h μ1 _ hc2) (lw_V q1625 q1627 qs66 q166 q1628) dm_reads rfl (by decide) (by decide) hl rfl (Nat.le_of_ble_eq_true rfl) dX2_readsText_6 (fun H locs hP hS => ?_)
  refine lv_iload_n hx hb dX2_readsText_9 rfl (lv_at hl 1 rfl) ?_
  refine lv_iconst (v := nI 1) hx hb dX2_readsText_10 rfl ?_
  refine lv_icmp_ne (tgt := 19) hx hb dX2_readsText_11 (by decide) (fun kc4 => ?_) (fun kc4 => ?_)
  · have hf := ite_f kc4 hf
    refine lv_iload_n hx hb dX2_readsText_19 rfl (lv_at hl 1 rfl) ?_
    refine lv_iconst (v := nI 2) hx hb dX2_readsText_20 rfl ?_
    refine lv_icmp_ne (tgt := 29) hx hb dX2_readsText_21 (by decide) (fun kc5 => ?_) (fun kc5 => ?_)
    · have hf := ite_f kc5 hf
      refine lv_iload_n hx hb dX2_readsText_29 rfl (lv_at hl 1 rfl) ?_
      refine lv_iconst (v := nI 3) hx hb dX2_readsText_30 rfl ?_
      refine lv_icmp_ne (tgt := 41) hx hb dX2_readsText_31 (by decide) (fun kc6 => ?_) (fun kc6 => ?_)
      · have hf := ite_f kc6 hf
        refine lv_aload_n hx hb dX2_readsText_41 rfl (lv_at hl 0 rfl) ?_
        obtain ⟨v8, μ9, hc7, hf⟩ := ob2 hf
        refine m_calli E hK hP hS (As := []) (tm_readLaw l D dT h μ3 _ hc7) (lw_V q1713 q1715 qs88 q166 q1716) dm_readLaw rfl (by decide) (by decide) hl rfl (Nat.le_of_ble_eq_true rfl) dX2_readsText_42 (fun H locs hP hS => ?_)
        cases hf
        exact m_iret E hr hlk hP hS rfl dX2_readsText_45
      · have hf := ite_t kc6 hf
        refine lv_aload_n hx hb dX2_readsText_34 rfl (lv_at hl 0 rfl) ?_
        obtain ⟨v11, μ12, hc10, hf⟩ := ob2 hf
        refine m_calli E hK hP hS (As := []) (tm_readPlan l D dT h μ3 _ hc10) (lw_V q1701 q1703 qs85 q166 q1704) dm_readPlan rfl (by decide) (by decide) hl rfl (Nat.le_of_ble_eq_true rfl) dX2_readsText_35 (fun H locs hP hS => ?_)
        refine lv_goto (tgt := 45) hx hb dX2_readsText_38 (by decide) ?_
        cases hf
        exact m_iret E hr hlk hP hS rfl dX2_readsText_45
    · have hf := ite_t kc5 hf
      refine lv_aload_n hx hb dX2_readsText_24 rfl (lv_at hl 0 rfl) ?_
      obtain ⟨v14, μ15, hc13, hf⟩ := ob2 hf
      refine m_calli E hK hP hS (As := []) (tm_readWants l D dT h μ3 _ hc13) (lw_V q1689 q1691 qs82 q166 q1692) dm_readWants rfl (by decide) (by decide) hl rfl (Nat.le_of_ble_eq_true rfl) dX2_readsText_25 (fun H locs hP hS => ?_)
      cases hf
      exact m_iret E hr hlk hP hS rfl dX2_readsText_28
  · have hf := ite_t kc4 hf
    refine lv_aload_n hx hb dX2_readsText_14 rfl (lv_at hl 0 rfl) ?_
    obtain ⟨v17, μ18, hc16, hf⟩ := ob2 hf
    refine m_calli E hK hP hS (As := []) (tm_readQuenching l D dT h μ3 _ hc16) (lw_V q1649 q1651 qs72 q166 q1652) dm_readQuenching rfl (by decide) (by decide) hl rfl (Nat.le_of_ble_eq_true rfl) dX2_readsText_15 (fun H locs hP hS => ?_)
    cases hf
    exact m_iret E hr hlk hP hS rfl dX2_readsText_18
set_option maxHeartbeats 4000000 in
def fm_takesOther_L87 (x2 : Int32) : (Int32 × nwM) → Option ((Int32 × nwM) ⊕ (nwM)) := fun st => (if ((nI 4) * x2) ≤ st.1 then some (.inr st.2) else (rd_ st.2 37 128 ((nI 64) + st.1)).bind fun v5 => (wr_ st.2 37 128 st.1 v5).bind fun μ6 => some (.inl (st.1 + nI 1, μ6)))
set_option maxHeartbeats 4000000 in
def fm_takesOther_L47 (x1 : Int32) (x2 : Int32) : (Int32 × nwM) → Option ((Int32 × nwM) ⊕ (nwM)) := fun st => (if ((nI 5) * x2) ≤ st.1 then some (.inr st.2) else (rd_ st.2 35 100 ((nI 50) + st.1)).bind fun v11 => (wr_ st.2 35 100 st.1 v11).bind fun μ12 => some (.inl (st.1 + nI 1, μ12)))
set_option maxHeartbeats 4000000 in
def fm_takesOther_L7 (x1 : Int32) (x2 : Int32) : (Int32 × nwM) → Option ((Int32 × nwM) ⊕ (nwM)) := fun st => (if ((nI 3) * x2) ≤ st.1 then some (.inr st.2) else (rd_ st.2 33 96 ((nI 48) + st.1)).bind fun v20 => (wr_ st.2 33 96 st.1 v20).bind fun μ21 => some (.inl (st.1 + nI 1, μ21)))
set_option maxHeartbeats 4000000 in
noncomputable def fm_takesOther (x1 : Int32) (x2 : Int32) (μ : nwM) : Option (nwM) := (if x1 = (nI 1) then (wh_ (fm_takesOther_L7 x1 x2) (nI 0, μ)).bind fun x22 => (wf_ x22 32 x2).bind fun μ23 => (if x1 = (nI 2) then (wh_ (fm_takesOther_L47 x1 x2) (nI 0, μ23)).bind fun x29 => (wf_ x29 34 x2).bind fun μ30 => (if x1 = (nI 3) then (wh_ (fm_takesOther_L87 x2) (nI 0, μ30)).bind fun x32 => (wf_ x32 36 x2).bind fun μ33 => (wf_ μ33 3 (nI 0)).bind fun μ34 => some μ34 else some μ30) else (if x1 = (nI 3) then (wh_ (fm_takesOther_L87 x2) (nI 0, μ23)).bind fun x26 => (wf_ x26 36 x2).bind fun μ27 => (wf_ μ27 3 (nI 0)).bind fun μ28 => some μ28 else some μ23)) else (if x1 = (nI 2) then (wh_ (fm_takesOther_L47 x1 x2) (nI 0, μ)).bind fun x13 => (wf_ x13 34 x2).bind fun μ14 => (if x1 = (nI 3) then (wh_ (fm_takesOther_L87 x2) (nI 0, μ14)).bind fun x16 => (wf_ x16 36 x2).bind fun μ17 => (wf_ μ17 3 (nI 0)).bind fun μ18 => some μ18 else some μ14) else (if x1 = (nI 3) then (wh_ (fm_takesOther_L87 x2) (nI 0, μ)).bind fun x7 => (wf_ x7 36 x2).bind fun μ8 => (wf_ μ8 3 (nI 0)).bind fun μ9 => some μ9 else some μ)))
set_option maxHeartbeats 4000000 in
theorem fm_takesOther_L87_w {p : Program} {l : Launch} {e : Env} {s : State} {m : MethodId} {args : Array Value} {below : List Frame} {meth : Method} {c : Code} {Q : State → Prop} {D : va_G} {dT : Nat → ClassId} {h : Nat} (E : CallFix p m c cX2_takesOther 4 s args lw_all RX2) (hK : va_K D nwCl (nwT dT) s) (x2 : Int32) {st : Int32 × nwM} {x : nwM} (hw : wh_ (fm_takesOther_L87 x2) st = some x) (hk : (fun x : nwM => ∀ (ls : Array Slot) (H : Heap) (locs : List Loc), lv_has ls 4 [(0, .ref h), (2, .int x2)] → PM D dT h x H → va_S (mA h) s.heap H locs → W p l e (rmd 0) s m args below meth c H locs 0 0 Q (F0 m 115 ls [])) x) : (fun st : Int32 × nwM => ∀ (ls : Array Slot) (H : Heap) (locs : List Loc), lv_has ls 4 [(0, .ref h), (2, .int x2), (3, .int st.1)] → PM D dT h st.2 H → va_S (mA h) s.heap H locs → W p l e (rmd 0) s m args below meth c H locs 0 0 Q (F0 m 87 ls [])) st := by
  obtain ⟨hx, hb, -, hown, hts⟩ := id E
  refine wh_run (P := (fun st : Int32 × nwM => ∀ (ls : Array Slot) (H : Heap) (locs : List Loc), lv_has ls 4 [(0, .ref h), (2, .int x2), (3, .int st.1)] → PM D dT h st.2 H → va_S (mA h) s.heap H locs → W p l e (rmd 0) s m args below meth c H locs 0 0 Q (F0 m 87 ls []))) (PE := (fun x : nwM => ∀ (ls : Array Slot) (H : Heap) (locs : List Loc), lv_has ls 4 [(0, .ref h), (2, .int x2)] → PM D dT h x H → va_S (mA h) s.heap H locs → W p l e (rmd 0) s m args below meth c H locs 0 0 Q (F0 m 115 ls []))) ?_ hw hk
  clear hw hk
  intro st x hf hk ls H locs hl hP hS
  refine lv_iload_n hx hb dX2_takesOther_87 rfl (lv_at hl 2 rfl) ?_
  refine lv_iconst (v := nI 4) hx hb dX2_takesOther_88 rfl ?_
  refine lv_iload_n hx hb dX2_takesOther_89 rfl (lv_at hl 1 rfl) ?_
  refine lv_imul hx hb dX2_takesOther_90 ?_
  refine lv_icmp_ge (tgt := 115) hx hb dX2_takesOther_91 (by decide) (fun kc4 => ?_) (fun kc4 => ?_)
  · have hf := ite_t kc4 hf
    cases hf
    exact hk _ _ _ (lv_sub hl [0, 1] rfl) hP hS
  · have hf := ite_f kc4 hf
    refine lv_aload_n hx hb dX2_takesOther_94 rfl (lv_at hl 0 rfl) ?_
    refine m_ga E hK hP 37 (by decide) rfl q1450 rfl dX2_takesOther_95 ?_
    refine lv_iload_n hx hb dX2_takesOther_98 rfl (lv_at hl 2 rfl) ?_
    refine lv_aload_n hx hb dX2_takesOther_99 rfl (lv_at hl 0 rfl) ?_
    refine m_ga E hK hP 37 (by decide) rfl q1450 rfl dX2_takesOther_100 ?_
    refine lv_bipush (v := nI 64) hx hb dX2_takesOther_103 rfl ?_
    refine lv_iload_n hx hb dX2_takesOther_105 rfl (lv_at hl 2 rfl) ?_
    refine lv_iadd hx hb dX2_takesOther_106 ?_
    obtain ⟨v5, hv5, hf⟩ := ob hf
    refine m_ald E hK hP (by decide) rfl rfl hv5 dX2_takesOther_107 ?_
    obtain ⟨μ6, hμ6, hf⟩ := ob hf
    refine m_ast E hK hP hS (by decide) rfl rfl hμ6 dX2_takesOther_108 (fun H locs hP hS => ?_)
    refine lv_iinc (v := st.1 + nI 1) (lv' := [(3, .int (st.1 + nI 1)), (0, .ref h), (2, .int x2)]) hx hb dX2_takesOther_109 hl (k := 2) rfl rfl (by decide) rfl (fun ls hl => ?_)
    refine lv_goto (tgt := 87) hx hb dX2_takesOther_112 (by decide) ?_
    cases hf
    exact hk _ _ _ (lv_sub hl [1, 2, 0] rfl) hP hS
set_option maxHeartbeats 4000000 in
theorem fm_takesOther_L47_w {p : Program} {l : Launch} {e : Env} {s : State} {m : MethodId} {args : Array Value} {below : List Frame} {meth : Method} {c : Code} {Q : State → Prop} {D : va_G} {dT : Nat → ClassId} {h : Nat} (E : CallFix p m c cX2_takesOther 4 s args lw_all RX2) (hK : va_K D nwCl (nwT dT) s) (x1 : Int32) (x2 : Int32) {st : Int32 × nwM} {x : nwM} (hw : wh_ (fm_takesOther_L47 x1 x2) st = some x) (hk : (fun x : nwM => ∀ (ls : Array Slot) (H : Heap) (locs : List Loc), lv_has ls 4 [(0, .ref h), (1, .int x1), (2, .int x2)] → PM D dT h x H → va_S (mA h) s.heap H locs → W p l e (rmd 0) s m args below meth c H locs 0 0 Q (F0 m 75 ls [])) x) : (fun st : Int32 × nwM => ∀ (ls : Array Slot) (H : Heap) (locs : List Loc), lv_has ls 4 [(0, .ref h), (1, .int x1), (2, .int x2), (3, .int st.1)] → PM D dT h st.2 H → va_S (mA h) s.heap H locs → W p l e (rmd 0) s m args below meth c H locs 0 0 Q (F0 m 47 ls [])) st := by
  obtain ⟨hx, hb, -, hown, hts⟩ := id E
  refine wh_run (P := (fun st : Int32 × nwM => ∀ (ls : Array Slot) (H : Heap) (locs : List Loc), lv_has ls 4 [(0, .ref h), (1, .int x1), (2, .int x2), (3, .int st.1)] → PM D dT h st.2 H → va_S (mA h) s.heap H locs → W p l e (rmd 0) s m args below meth c H locs 0 0 Q (F0 m 47 ls []))) (PE := (fun x : nwM => ∀ (ls : Array Slot) (H : Heap) (locs : List Loc), lv_has ls 4 [(0, .ref h), (1, .int x1), (2, .int x2)] → PM D dT h x H → va_S (mA h) s.heap H locs → W p l e (rmd 0) s m args below meth c H locs 0 0 Q (F0 m 75 ls []))) ?_ hw hk
  clear hw hk
  intro st x hf hk ls H locs hl hP hS
  refine lv_iload_n hx hb dX2_takesOther_47 rfl (lv_at hl 3 rfl) ?_
  refine lv_iconst (v := nI 5) hx hb dX2_takesOther_48 rfl ?_
  refine lv_iload_n hx hb dX2_takesOther_49 rfl (lv_at hl 2 rfl) ?_
  refine lv_imul hx hb dX2_takesOther_50 ?_
  refine lv_icmp_ge (tgt := 75) hx hb dX2_takesOther_51 (by decide) (fun kc10 => ?_) (fun kc10 => ?_)
  · have hf := ite_t kc10 hf
    cases hf
    exact hk _ _ _ (lv_sub hl [0, 1, 2] rfl) hP hS
  · have hf := ite_f kc10 hf
    refine lv_aload_n hx hb dX2_takesOther_54 rfl (lv_at hl 0 rfl) ?_
    refine m_ga E hK hP 35 (by decide) rfl q1448 rfl dX2_takesOther_55 ?_
    refine lv_iload_n hx hb dX2_takesOther_58 rfl (lv_at hl 3 rfl) ?_
    refine lv_aload_n hx hb dX2_takesOther_59 rfl (lv_at hl 0 rfl) ?_
    refine m_ga E hK hP 35 (by decide) rfl q1448 rfl dX2_takesOther_60 ?_
    refine lv_bipush (v := nI 50) hx hb dX2_takesOther_63 rfl ?_
    refine lv_iload_n hx hb dX2_takesOther_65 rfl (lv_at hl 3 rfl) ?_
    refine lv_iadd hx hb dX2_takesOther_66 ?_
    obtain ⟨v11, hv11, hf⟩ := ob hf
    refine m_ald E hK hP (by decide) rfl rfl hv11 dX2_takesOther_67 ?_
    obtain ⟨μ12, hμ12, hf⟩ := ob hf
    refine m_ast E hK hP hS (by decide) rfl rfl hμ12 dX2_takesOther_68 (fun H locs hP hS => ?_)
    refine lv_iinc (v := st.1 + nI 1) (lv' := [(3, .int (st.1 + nI 1)), (0, .ref h), (1, .int x1), (2, .int x2)]) hx hb dX2_takesOther_69 hl (k := 3) rfl rfl (by decide) rfl (fun ls hl => ?_)
    refine lv_goto (tgt := 47) hx hb dX2_takesOther_72 (by decide) ?_
    cases hf
    exact hk _ _ _ (lv_sub hl [1, 2, 3, 0] rfl) hP hS
set_option maxHeartbeats 4000000 in
theorem fm_takesOther_L7_w {p : Program} {l : Launch} {e : Env} {s : State} {m : MethodId} {args : Array Value} {below : List Frame} {meth : Method} {c : Code} {Q : State → Prop} {D : va_G} {dT : Nat → ClassId} {h : Nat} (E : CallFix p m c cX2_takesOther 4 s args lw_all RX2) (hK : va_K D nwCl (nwT dT) s) (x1 : Int32) (x2 : Int32) {st : Int32 × nwM} {x : nwM} (hw : wh_ (fm_takesOther_L7 x1 x2) st = some x) (hk : (fun x : nwM => ∀ (ls : Array Slot) (H : Heap) (locs : List Loc), lv_has ls 4 [(0, .ref h), (1, .int x1), (2, .int x2)] → PM D dT h x H → va_S (mA h) s.heap H locs → W p l e (rmd 0) s m args below meth c H locs 0 0 Q (F0 m 35 ls [])) x) : (fun st : Int32 × nwM => ∀ (ls : Array Slot) (H : Heap) (locs : List Loc), lv_has ls 4 [(0, .ref h), (1, .int x1), (2, .int x2), (3, .int st.1)] → PM D dT h st.2 H → va_S (mA h) s.heap H locs → W p l e (rmd 0) s m args below meth c H locs 0 0 Q (F0 m 7 ls [])) st := by
  obtain ⟨hx, hb, -, hown, hts⟩ := id E
  refine wh_run (P := (fun st : Int32 × nwM => ∀ (ls : Array Slot) (H : Heap) (locs : List Loc), lv_has ls 4 [(0, .ref h), (1, .int x1), (2, .int x2), (3, .int st.1)] → PM D dT h st.2 H → va_S (mA h) s.heap H locs → W p l e (rmd 0) s m args below meth c H locs 0 0 Q (F0 m 7 ls []))) (PE := (fun x : nwM => ∀ (ls : Array Slot) (H : Heap) (locs : List Loc), lv_has ls 4 [(0, .ref h), (1, .int x1), (2, .int x2)] → PM D dT h x H → va_S (mA h) s.heap H locs → W p l e (rmd 0) s m args below meth c H locs 0 0 Q (F0 m 35 ls []))) ?_ hw hk
  clear hw hk
  intro st x hf hk ls H locs hl hP hS
  refine lv_iload_n hx hb dX2_takesOther_7 rfl (lv_at hl 3 rfl) ?_
  refine lv_iconst (v := nI 3) hx hb dX2_takesOther_8 rfl ?_
  refine lv_iload_n hx hb dX2_takesOther_9 rfl (lv_at hl 2 rfl) ?_
  refine lv_imul hx hb dX2_takesOther_10 ?_
  refine lv_icmp_ge (tgt := 35) hx hb dX2_takesOther_11 (by decide) (fun kc19 => ?_) (fun kc19 => ?_)
  · have hf := ite_t kc19 hf
    cases hf
    exact hk _ _ _ (lv_sub hl [0, 1, 2] rfl) hP hS
  · have hf := ite_f kc19 hf
    refine lv_aload_n hx hb dX2_takesOther_14 rfl (lv_at hl 0 rfl) ?_
    refine m_ga E hK hP 33 (by decide) rfl q1446 rfl dX2_takesOther_15 ?_
    refine lv_iload_n hx hb dX2_takesOther_18 rfl (lv_at hl 3 rfl) ?_
    refine lv_aload_n hx hb dX2_takesOther_19 rfl (lv_at hl 0 rfl) ?_
    refine m_ga E hK hP 33 (by decide) rfl q1446 rfl dX2_takesOther_20 ?_
    refine lv_bipush (v := nI 48) hx hb dX2_takesOther_23 rfl ?_
    refine lv_iload_n hx hb dX2_takesOther_25 rfl (lv_at hl 3 rfl) ?_
    refine lv_iadd hx hb dX2_takesOther_26 ?_
    obtain ⟨v20, hv20, hf⟩ := ob hf
    refine m_ald E hK hP (by decide) rfl rfl hv20 dX2_takesOther_27 ?_
    obtain ⟨μ21, hμ21, hf⟩ := ob hf
    refine m_ast E hK hP hS (by decide) rfl rfl hμ21 dX2_takesOther_28 (fun H locs hP hS => ?_)
    refine lv_iinc (v := st.1 + nI 1) (lv' := [(3, .int (st.1 + nI 1)), (0, .ref h), (1, .int x1), (2, .int x2)]) hx hb dX2_takesOther_29 hl (k := 3) rfl rfl (by decide) rfl (fun ls hl => ?_)
    refine lv_goto (tgt := 7) hx hb dX2_takesOther_32 (by decide) ?_
    cases hf
    exact hk _ _ _ (lv_sub hl [1, 2, 3, 0] rfl) hP hS
set_option maxHeartbeats 4000000 in
theorem dm_takesOther : yX2_takesOther.cls = RX2 ∧ yX2_takesOther.cls ≠ "java/lang/invoke/MethodHandle" ∧ yX2_takesOther.cls ≠ "java/lang/invoke/VarHandle" ∧ (parseMethodDescriptor yX2_takesOther.desc).map (fun d => d.parameters.length) = some 2 := ⟨rfl, by decide +kernel, by decide +kernel, by decide +kernel⟩
set_option maxHeartbeats 4000000 in
theorem tm_takesOther (l : Launch) (D : va_G) (dT : Nat → ClassId) (h : Nat) (x1 : Int32) (x2 : Int32) (μ : nwM) (res : nwM) (hf : fm_takesOther x1 x2 μ = some res) : Met l yX2_takesOther (ws_ yX2_takesOther cX2_takesOther 4 none) (rmd 0) (mPc D dT h μ [.int x1, .int x2]) (mQv D dT h res) 0 0 (mA h) := by
  refine m_met (by decide) rfl (Nat.le_of_ble_eq_true rfl) ?_
  intro p e s m below meth c ls E hK hr hlk hl hP
  have hS : va_S (mA h) s.heap s.heap [] := va_S.rf
  obtain ⟨hx, hb, -, hown, hts⟩ := id E
  have hl : lv_has ls 4 [(0, .ref h), (1, .int x1), (2, .int x2)] := hl
  unfold fm_takesOther at hf
  refine lv_iload_n hx hb dX2_takesOther_0 rfl (lv_at hl 1 rfl) ?_
  refine lv_iconst (v := nI 1) hx hb dX2_takesOther_1 rfl ?_
  refine lv_icmp_ne (tgt := 40) hx hb dX2_takesOther_2 (by decide) (fun kc1 => ?_) (fun kc1 => ?_)
  · have hf := ite_f kc1 hf
    refine lv_iload_n hx hb dX2_takesOther_40 rfl (lv_at hl 1 rfl) ?_
    refine lv_iconst (v := nI 2) hx hb dX2_takesOther_41 rfl ?_
    refine lv_icmp_ne (tgt := 80) hx hb dX2_takesOther_42 (by decide) (fun kc2 => ?_) (fun kc2 => ?_)
    · have hf := ite_f kc2 hf
      refine lv_iload_n hx hb dX2_takesOther_80 rfl (lv_at hl 1 rfl) ?_
      refine lv_iconst (v := nI 3) hx hb dX2_takesOther_81 rfl ?_
      refine lv_icmp_ne (tgt := 125) hx hb dX2_takesOther_82 (by decide) (fun kc3 => ?_) (fun kc3 => ?_)
      · have hf := ite_f kc3 hf
        cases hf
        exact m_vret E hr hlk hP hS dX2_takesOther_125
      · have hf := ite_t kc3 hf
        refine lv_iconst (v := nI 0) hx hb dX2_takesOther_85 rfl ?_
        refine lv_istore_n (lv' := [(3, .int (nI 0)), (0, .ref h), (1, .int x1), (2, .int x2)]) hx hb dX2_takesOther_86 rfl hl (by decide) rfl (fun ls hl => ?_)
        obtain ⟨x7, hx7, hf⟩ := ob hf
        refine fm_takesOther_L87_w E hK x2 hx7 (fun ls H locs hl hP hS => ?_) _ _ _ (lv_sub hl [1, 3, 0] rfl) hP hS
        refine lv_aload_n hx hb dX2_takesOther_115 rfl (lv_at hl 0 rfl) ?_
        refine lv_iload_n hx hb dX2_takesOther_116 rfl (lv_at hl 1 rfl) ?_
        obtain ⟨μ8, hμ8, hf⟩ := ob hf
        refine m_put E hK hP hS 36 (by decide) rfl q1449 rfl rfl rfl hμ8 dX2_takesOther_117 (fun H locs hP hS => ?_)
        refine lv_aload_n hx hb dX2_takesOther_120 rfl (lv_at hl 0 rfl) ?_
        refine lv_iconst (v := nI 0) hx hb dX2_takesOther_121 rfl ?_
        obtain ⟨μ9, hμ9, hf⟩ := ob hf
        refine m_put E hK hP hS 3 (by decide) rfl q1416 rfl rfl rfl hμ9 dX2_takesOther_122 (fun H locs hP hS => ?_)
        cases hf
        exact m_vret E hr hlk hP hS dX2_takesOther_125
    · have hf := ite_t kc2 hf
      refine lv_iconst (v := nI 0) hx hb dX2_takesOther_45 rfl ?_
      refine lv_istore_n (lv' := [(3, .int (nI 0)), (0, .ref h), (1, .int x1), (2, .int x2)]) hx hb dX2_takesOther_46 rfl hl (by decide) rfl (fun ls hl => ?_)
      obtain ⟨x13, hx13, hf⟩ := ob hf
      refine fm_takesOther_L47_w E hK x1 x2 hx13 (fun ls H locs hl hP hS => ?_) _ _ _ (lv_sub hl [1, 2, 3, 0] rfl) hP hS
      refine lv_aload_n hx hb dX2_takesOther_75 rfl (lv_at hl 0 rfl) ?_
      refine lv_iload_n hx hb dX2_takesOther_76 rfl (lv_at hl 2 rfl) ?_
      obtain ⟨μ14, hμ14, hf⟩ := ob hf
      refine m_put E hK hP hS 34 (by decide) rfl q1447 rfl rfl rfl hμ14 dX2_takesOther_77 (fun H locs hP hS => ?_)
      refine lv_iload_n hx hb dX2_takesOther_80 rfl (lv_at hl 1 rfl) ?_
      refine lv_iconst (v := nI 3) hx hb dX2_takesOther_81 rfl ?_
      refine lv_icmp_ne (tgt := 125) hx hb dX2_takesOther_82 (by decide) (fun kc15 => ?_) (fun kc15 => ?_)
      · have hf := ite_f kc15 hf
        cases hf
        exact m_vret E hr hlk hP hS dX2_takesOther_125
      · have hf := ite_t kc15 hf
        refine lv_iconst (v := nI 0) hx hb dX2_takesOther_85 rfl ?_
        refine lv_istore_n (lv' := [(3, .int (nI 0)), (0, .ref h), (1, .int x1), (2, .int x2)]) hx hb dX2_takesOther_86 rfl hl (by decide) rfl (fun ls hl => ?_)
        obtain ⟨x16, hx16, hf⟩ := ob hf
        refine fm_takesOther_L87_w E hK x2 hx16 (fun ls H locs hl hP hS => ?_) _ _ _ (lv_sub hl [1, 3, 0] rfl) hP hS
        refine lv_aload_n hx hb dX2_takesOther_115 rfl (lv_at hl 0 rfl) ?_
        refine lv_iload_n hx hb dX2_takesOther_116 rfl (lv_at hl 1 rfl) ?_
        obtain ⟨μ17, hμ17, hf⟩ := ob hf
        refine m_put E hK hP hS 36 (by decide) rfl q1449 rfl rfl rfl hμ17 dX2_takesOther_117 (fun H locs hP hS => ?_)
        refine lv_aload_n hx hb dX2_takesOther_120 rfl (lv_at hl 0 rfl) ?_
        refine lv_iconst (v := nI 0) hx hb dX2_takesOther_121 rfl ?_
        obtain ⟨μ18, hμ18, hf⟩ := ob hf
        refine m_put E hK hP hS 3 (by decide) rfl q1416 rfl rfl rfl hμ18 dX2_takesOther_122 (fun H locs hP hS => ?_)
        cases hf
        exact m_vret E hr hlk hP hS dX2_takesOther_125
  · have hf := ite_t kc1 hf
    refine lv_iconst (v := nI 0) hx hb dX2_takesOther_5 rfl ?_
    refine lv_istore_n (lv' := [(3, .int (nI 0)), (0, .ref h), (1, .int x1), (2, .int x2)]) hx hb dX2_takesOther_6 rfl hl (by decide) rfl (fun ls hl => ?_)
    obtain ⟨x22, hx22, hf⟩ := ob hf
    refine fm_takesOther_L7_w E hK x1 x2 hx22 (fun ls H locs hl hP hS => ?_) _ _ _ (lv_sub hl [1, 2, 3, 0] rfl) hP hS
    refine lv_aload_n hx hb dX2_takesOther_35 rfl (lv_at hl 0 rfl) ?_
    refine lv_iload_n hx hb dX2_takesOther_36 rfl (lv_at hl 2 rfl) ?_
    obtain ⟨μ23, hμ23, hf⟩ := ob hf
    refine m_put E hK hP hS 32 (by decide) rfl q1445 rfl rfl rfl hμ23 dX2_takesOther_37 (fun H locs hP hS => ?_)
    refine lv_iload_n hx hb dX2_takesOther_40 rfl (lv_at hl 1 rfl) ?_
    refine lv_iconst (v := nI 2) hx hb dX2_takesOther_41 rfl ?_
    refine lv_icmp_ne (tgt := 80) hx hb dX2_takesOther_42 (by decide) (fun kc24 => ?_) (fun kc24 => ?_)
    · have hf := ite_f kc24 hf
      refine lv_iload_n hx hb dX2_takesOther_80 rfl (lv_at hl 1 rfl) ?_
      refine lv_iconst (v := nI 3) hx hb dX2_takesOther_81 rfl ?_
      refine lv_icmp_ne (tgt := 125) hx hb dX2_takesOther_82 (by decide) (fun kc25 => ?_) (fun kc25 => ?_)
      · have hf := ite_f kc25 hf
        cases hf
        exact m_vret E hr hlk hP hS dX2_takesOther_125
      · have hf := ite_t kc25 hf
        refine lv_iconst (v := nI 0) hx hb dX2_takesOther_85 rfl ?_
        refine lv_istore_n (lv' := [(3, .int (nI 0)), (0, .ref h), (1, .int x1), (2, .int x2)]) hx hb dX2_takesOther_86 rfl hl (by decide) rfl (fun ls hl => ?_)
        obtain ⟨x26, hx26, hf⟩ := ob hf
        refine fm_takesOther_L87_w E hK x2 hx26 (fun ls H locs hl hP hS => ?_) _ _ _ (lv_sub hl [1, 3, 0] rfl) hP hS
        refine lv_aload_n hx hb dX2_takesOther_115 rfl (lv_at hl 0 rfl) ?_
        refine lv_iload_n hx hb dX2_takesOther_116 rfl (lv_at hl 1 rfl) ?_
        obtain ⟨μ27, hμ27, hf⟩ := ob hf
        refine m_put E hK hP hS 36 (by decide) rfl q1449 rfl rfl rfl hμ27 dX2_takesOther_117 (fun H locs hP hS => ?_)
        refine lv_aload_n hx hb dX2_takesOther_120 rfl (lv_at hl 0 rfl) ?_
        refine lv_iconst (v := nI 0) hx hb dX2_takesOther_121 rfl ?_
        obtain ⟨μ28, hμ28, hf⟩ := ob hf
        refine m_put E hK hP hS 3 (by decide) rfl q1416 rfl rfl rfl hμ28 dX2_takesOther_122 (fun H locs hP hS => ?_)
        cases hf
        exact m_vret E hr hlk hP hS dX2_takesOther_125
    · have hf := ite_t kc24 hf
      refine lv_iconst (v := nI 0) hx hb dX2_takesOther_45 rfl ?_
      refine lv_istore_n (lv' := [(3, .int (nI 0)), (0, .ref h), (1, .int x1), (2, .int x2)]) hx hb dX2_takesOther_46 rfl hl (by decide) rfl (fun ls hl => ?_)
      obtain ⟨x29, hx29, hf⟩ := ob hf
      refine fm_takesOther_L47_w E hK x1 x2 hx29 (fun ls H locs hl hP hS => ?_) _ _ _ (lv_sub hl [1, 2, 3, 0] rfl) hP hS
      refine lv_aload_n hx hb dX2_takesOther_75 rfl (lv_at hl 0 rfl) ?_
      refine lv_iload_n hx hb dX2_takesOther_76 rfl (lv_at hl 2 rfl) ?_
      obtain ⟨μ30, hμ30, hf⟩ := ob hf
      refine m_put E hK hP hS 34 (by decide) rfl q1447 rfl rfl rfl hμ30 dX2_takesOther_77 (fun H locs hP hS => ?_)
      refine lv_iload_n hx hb dX2_takesOther_80 rfl (lv_at hl 1 rfl) ?_
      refine lv_iconst (v := nI 3) hx hb dX2_takesOther_81 rfl ?_
      refine lv_icmp_ne (tgt := 125) hx hb dX2_takesOther_82 (by decide) (fun kc31 => ?_) (fun kc31 => ?_)
      · have hf := ite_f kc31 hf
        cases hf
        exact m_vret E hr hlk hP hS dX2_takesOther_125
      · have hf := ite_t kc31 hf
        refine lv_iconst (v := nI 0) hx hb dX2_takesOther_85 rfl ?_
        refine lv_istore_n (lv' := [(3, .int (nI 0)), (0, .ref h), (1, .int x1), (2, .int x2)]) hx hb dX2_takesOther_86 rfl hl (by decide) rfl (fun ls hl => ?_)
        obtain ⟨x32, hx32, hf⟩ := ob hf
        refine fm_takesOther_L87_w E hK x2 hx32 (fun ls H locs hl hP hS => ?_) _ _ _ (lv_sub hl [1, 3, 0] rfl) hP hS
        refine lv_aload_n hx hb dX2_takesOther_115 rfl (lv_at hl 0 rfl) ?_
        refine lv_iload_n hx hb dX2_takesOther_116 rfl (lv_at hl 1 rfl) ?_
        obtain ⟨μ33, hμ33, hf⟩ := ob hf
        refine m_put E hK hP hS 36 (by decide) rfl q1449 rfl rfl rfl hμ33 dX2_takesOther_117 (fun H locs hP hS => ?_)
        refine lv_aload_n hx hb dX2_takesOther_120 rfl (lv_at hl 0 rfl) ?_
        refine lv_iconst (v := nI 0) hx hb dX2_takesOther_121 rfl ?_
        obtain ⟨μ34, hμ34, hf⟩ := ob hf
        refine m_put E hK hP hS 3 (by decide) rfl q1416 rfl rfl rfl hμ34 dX2_takesOther_122 (fun H locs hP hS => ?_)
        cases hf
        exact m_vret E hr hlk hP hS dX2_takesOther_125
set_option maxHeartbeats 4000000 in
noncomputable def fm_text (x1 : Int32) (μ : nwM) : Option (Int32 × nwM) := (wf_ μ 0 (nI 0)).bind fun μ1 => (wf_ μ1 30 (nI 0)).bind fun μ2 => (wf_ μ2 31 (-1)).bind fun μ3 => (wf_ μ3 11 (nI 0)).bind fun μ4 => (wf_ μ4 24 (nI 0)).bind fun μ5 => (wf_ μ5 25 (nI 0)).bind fun μ6 => (fm_isIn x1 (nI 0) (nI 3) μ6).bind fun v8 => (if v8 = 0 then (wf_ μ6 10 (nI 0)).bind fun μ10 => some ((-1), μ10) else bd2 (fm_readsText x1 μ6) fun v13 μ14 => (if v13 = (-1) then (wf_ μ14 30 (μ14 28 0)).bind fun μ23 => (wf_ μ23 31 (μ23 29 0)).bind fun μ24 => (wf_ μ24 10 (nI 0)).bind fun μ25 => (if v13 = (-1) then some ((-1), μ25) else (if x1 = 0 then (fm_takesLaw v13 μ25).bind fun μ31 => some (v13, μ31) else (fm_takesOther x1 v13 μ25).bind fun μ29 => some (v13, μ29))) else (wf_ μ14 10 (nI 0)).bind fun μ16 => (if v13 = (-1) then some ((-1), μ16) else (if x1 = 0 then (fm_takesLaw v13 μ16).bind fun μ22 => some (v13, μ22) else (fm_takesOther x1 v13 μ16).bind fun μ20 => some (v13, μ20)))))
set_option maxHeartbeats 4000000 in
theorem dm_text : yX2_text.cls = RX2 ∧ yX2_text.cls ≠ "java/lang/invoke/MethodHandle" ∧ yX2_text.cls ≠ "java/lang/invoke/VarHandle" ∧ (parseMethodDescriptor yX2_text.desc).map (fun d => d.parameters.length) = some 1 := ⟨rfl, by decide +kernel, by decide +kernel, by decide +kernel⟩
set_option maxHeartbeats 4000000 in
theorem tm_text (l : Launch) (D : va_G) (dT : Nat → ClassId) (h : Nat) (x1 : Int32) (μ : nwM) (res : Int32 × nwM) (hf : fm_text x1 μ = some res) : Met l yX2_text (ws_ yX2_text cX2_text 3 (some .int)) (rmd 10) (mPc D dT h μ [.int x1]) (mQi D dT h res.2 res.1) 0 0 (mA h) := by
  refine m_met (by decide) rfl (Nat.le_of_ble_eq_true rfl) ?_
  intro p e s m below meth c ls E hK hr hlk hl hP
  have hS : va_S (mA h) s.heap s.heap [] := va_S.rf
  obtain ⟨hx, hb, -, hown, hts⟩ := id E
  have hl : lv_has ls 3 [(0, .ref h), (1, .int x1)] := hl
  unfold fm_text at hf
  refine lv_aload_n hx hb dX2_text_0 rfl (lv_at hl 0 rfl) ?_
  refine lv_iconst (v := nI 0) hx hb dX2_text_1 rfl ?_
  obtain ⟨μ1, hμ1, hf⟩ := ob hf
  refine m_put E hK hP hS 0 (by decide) rfl q1413 rfl rfl rfl hμ1 dX2_text_2 (fun H locs hP hS => ?_)
  refine lv_aload_n hx hb dX2_text_5 rfl (lv_at hl 0 rfl) ?_
  refine lv_iconst (v := nI 0) hx hb dX2_text_6 rfl ?_
  obtain ⟨μ2, hμ2, hf⟩ := ob hf
  refine m_put E hK hP hS 30 (by decide) rfl q1443 rfl rfl rfl hμ2 dX2_text_7 (fun H locs hP hS => ?_)
  refine lv_aload_n hx hb dX2_text_10 rfl (lv_at hl 0 rfl) ?_
  refine lv_iconst (v := (-1)) hx hb dX2_text_11 rfl ?_
  obtain ⟨μ3, hμ3, hf⟩ := ob hf
  refine m_put E hK hP hS 31 (by decide) rfl q1444 rfl rfl rfl hμ3 dX2_text_12 (fun H locs hP hS => ?_)
  refine lv_aload_n hx hb dX2_text_15 rfl (lv_at hl 0 rfl) ?_
  refine lv_iconst (v := nI 0) hx hb dX2_text_16 rfl ?_
  obtain ⟨μ4, hμ4, hf⟩ := ob hf
  refine m_put E hK hP hS 11 (by decide) rfl q1424 rfl rfl rfl hμ4 dX2_text_17 (fun H locs hP hS => ?_)
  refine lv_aload_n hx hb dX2_text_20 rfl (lv_at hl 0 rfl) ?_
  refine lv_iconst (v := nI 0) hx hb dX2_text_21 rfl ?_
  obtain ⟨μ5, hμ5, hf⟩ := ob hf
  refine m_put E hK hP hS 24 (by decide) rfl q1437 rfl rfl rfl hμ5 dX2_text_22 (fun H locs hP hS => ?_)
  refine lv_aload_n hx hb dX2_text_25 rfl (lv_at hl 0 rfl) ?_
  refine lv_iconst (v := nI 0) hx hb dX2_text_26 rfl ?_
  obtain ⟨μ6, hμ6, hf⟩ := ob hf
  refine m_put E hK hP hS 25 (by decide) rfl q1438 rfl rfl rfl hμ6 dX2_text_27 (fun H locs hP hS => ?_)
  refine lv_iconst (v := (-1)) hx hb dX2_text_30 rfl ?_
  refine lv_istore_n (lv' := [(2, .int (-1)), (0, .ref h), (1, .int x1)]) hx hb dX2_text_31 rfl hl (by decide) rfl (fun ls hl => ?_)
  refine lv_aload_n hx hb dX2_text_32 rfl (lv_at hl 1 rfl) ?_
  refine lv_iload_n hx hb dX2_text_33 rfl (lv_at hl 2 rfl) ?_
  refine lv_iconst (v := nI 0) hx hb dX2_text_34 rfl ?_
  refine lv_iconst (v := nI 3) hx hb dX2_text_35 rfl ?_
  obtain ⟨v8, hc7, hf⟩ := ob hf
  refine m_calli E hK hP hS (As := [.int x1, .int (nI 0), .int (nI 3)]) (tm_isIn l D dT h x1 (nI 0) (nI 3) μ6 _ hc7) (lw_V q1573 q1575 qs59 q166 q1576) dm_isIn rfl (by decide) (by decide) hl rfl (Nat.le_of_ble_eq_true rfl) dX2_text_36 (fun H locs hP hS => ?_)
  refine lv_if_eq (tgt := 69) hx hb dX2_text_39 (by decide) (fun kc9 => ?_) (fun kc9 => ?_)
  · have hf := ite_t kc9 hf
    refine lv_aload_n hx hb dX2_text_69 rfl (lv_at hl 1 rfl) ?_
    refine lv_iconst (v := nI 0) hx hb dX2_text_70 rfl ?_
    obtain ⟨μ10, hμ10, hf⟩ := ob hf
    refine m_put E hK hP hS 10 (by decide) rfl q1423 rfl rfl rfl hμ10 dX2_text_71 (fun H locs hP hS => ?_)
    refine lv_iload_n hx hb dX2_text_74 rfl (lv_at hl 0 rfl) ?_
    refine lv_iconst (v := (-1)) hx hb dX2_text_75 rfl ?_
    refine lv_icmp_ne (tgt := 81) hx hb dX2_text_76 (by decide) (fun kc11 => ?_) (fun kc11 => ?_)
    · exact absurd (by decide) kc11
    · skip
      refine lv_iconst (v := (-1)) hx hb dX2_text_79 rfl ?_
      cases hf
      exact m_iret E hr hlk hP hS rfl dX2_text_80
  · have hf := ite_f kc9 hf
    refine lv_aload_n hx hb dX2_text_42 rfl (lv_at hl 1 rfl) ?_
    refine lv_iload_n hx hb dX2_text_43 rfl (lv_at hl 2 rfl) ?_
    obtain ⟨v13, μ14, hc12, hf⟩ := ob2 hf
    refine m_calli E hK hP hS (As := [.int x1]) (tm_readsText l D dT h x1 μ6 _ hc12) (lw_V q1621 q1623 qs65 q166 q1624) dm_readsText rfl (by decide) (by decide) hl rfl (Nat.le_of_ble_eq_true rfl) dX2_text_44 (fun H locs hP hS => ?_)
    refine lv_istore_n (lv' := [(2, .int v13), (0, .ref h), (1, .int x1)]) hx hb dX2_text_47 rfl hl (by decide) rfl (fun ls hl => ?_)
    refine lv_iload_n hx hb dX2_text_48 rfl (lv_at hl 0 rfl) ?_
    refine lv_iconst (v := (-1)) hx hb dX2_text_49 rfl ?_
    refine lv_icmp_ne (tgt := 69) hx hb dX2_text_50 (by decide) (fun kc15 => ?_) (fun kc15 => ?_)
    · have hf := ite_f kc15 hf
      refine lv_aload_n hx hb dX2_text_69 rfl (lv_at hl 1 rfl) ?_
      refine lv_iconst (v := nI 0) hx hb dX2_text_70 rfl ?_
      obtain ⟨μ16, hμ16, hf⟩ := ob hf
      refine m_put E hK hP hS 10 (by decide) rfl q1423 rfl rfl rfl hμ16 dX2_text_71 (fun H locs hP hS => ?_)
      refine lv_iload_n hx hb dX2_text_74 rfl (lv_at hl 0 rfl) ?_
      refine lv_iconst (v := (-1)) hx hb dX2_text_75 rfl ?_
      refine lv_icmp_ne (tgt := 81) hx hb dX2_text_76 (by decide) (fun kc17 => ?_) (fun kc17 => ?_)
      · have hf := ite_f kc17 hf
        refine lv_iload_n hx hb dX2_text_81 rfl (lv_at hl 2 rfl) ?_
        refine lv_if_ne (tgt := 93) hx hb dX2_text_82 (by decide) (fun kc18 => ?_) (fun kc18 => ?_)
        · have hf := ite_f kc18 hf
          refine lv_aload_n hx hb dX2_text_93 rfl (lv_at hl 1 rfl) ?_
          refine lv_iload_n hx hb dX2_text_94 rfl (lv_at hl 2 rfl) ?_
          refine lv_iload_n hx hb dX2_text_95 rfl (lv_at hl 0 rfl) ?_
          obtain ⟨μ20, hc19, hf⟩ := ob hf
          refine m_callv E hK hP hS (As := [.int x1, .int v13]) (tm_takesOther l D dT h x1 v13 μ16 _ hc19) (lw_V q1761 q1763 qs100 q166 q1764) dm_takesOther rfl (by decide) (by decide) hl rfl (Nat.le_of_ble_eq_true rfl) dX2_text_96 (fun H locs hP hS => ?_)
          refine lv_iload_n hx hb dX2_text_99 rfl (lv_at hl 0 rfl) ?_
          cases hf
          exact m_iret E hr hlk hP hS rfl dX2_text_100
        · have hf := ite_t kc18 hf
          refine lv_aload_n hx hb dX2_text_85 rfl (lv_at hl 1 rfl) ?_
          refine lv_iload_n hx hb dX2_text_86 rfl (lv_at hl 0 rfl) ?_
          obtain ⟨μ22, hc21, hf⟩ := ob hf
          refine m_callv E hK hP hS (As := [.int v13]) (tm_takesLaw l D dT h v13 μ16 _ hc21) (lw_V q1757 q1759 qs99 q166 q1760) dm_takesLaw rfl (by decide) (by decide) hl rfl (Nat.le_of_ble_eq_true rfl) dX2_text_87 (fun H locs hP hS => ?_)
          refine lv_goto (tgt := 99) hx hb dX2_text_90 (by decide) ?_
          refine lv_iload_n hx hb dX2_text_99 rfl (lv_at hl 0 rfl) ?_
          cases hf
          exact m_iret E hr hlk hP hS rfl dX2_text_100
      · have hf := ite_t kc17 hf
        refine lv_iconst (v := (-1)) hx hb dX2_text_79 rfl ?_
        cases hf
        exact m_iret E hr hlk hP hS rfl dX2_text_80
    · have hf := ite_t kc15 hf
      refine lv_aload_n hx hb dX2_text_53 rfl (lv_at hl 1 rfl) ?_
      refine lv_aload_n hx hb dX2_text_54 rfl (lv_at hl 1 rfl) ?_
      refine m_get E hK hP 28 (by decide) rfl q1441 rfl dX2_text_55 ?_
      obtain ⟨μ23, hμ23, hf⟩ := ob hf
      refine m_put E hK hP hS 30 (by decide) rfl q1443 rfl rfl rfl hμ23 dX2_text_58 (fun H locs hP hS => ?_)
      refine lv_aload_n hx hb dX2_text_61 rfl (lv_at hl 1 rfl) ?_
      refine lv_aload_n hx hb dX2_text_62 rfl (lv_at hl 1 rfl) ?_
      refine m_get E hK hP 29 (by decide) rfl q1442 rfl dX2_text_63 ?_
      obtain ⟨μ24, hμ24, hf⟩ := ob hf
      refine m_put E hK hP hS 31 (by decide) rfl q1444 rfl rfl rfl hμ24 dX2_text_66 (fun H locs hP hS => ?_)
      refine lv_aload_n hx hb dX2_text_69 rfl (lv_at hl 1 rfl) ?_
      refine lv_iconst (v := nI 0) hx hb dX2_text_70 rfl ?_
      obtain ⟨μ25, hμ25, hf⟩ := ob hf
      refine m_put E hK hP hS 10 (by decide) rfl q1423 rfl rfl rfl hμ25 dX2_text_71 (fun H locs hP hS => ?_)
      refine lv_iload_n hx hb dX2_text_74 rfl (lv_at hl 0 rfl) ?_
      refine lv_iconst (v := (-1)) hx hb dX2_text_75 rfl ?_
      refine lv_icmp_ne (tgt := 81) hx hb dX2_text_76 (by decide) (fun kc26 => ?_) (fun kc26 => ?_)
      · have hf := ite_f kc26 hf
        refine lv_iload_n hx hb dX2_text_81 rfl (lv_at hl 2 rfl) ?_
        refine lv_if_ne (tgt := 93) hx hb dX2_text_82 (by decide) (fun kc27 => ?_) (fun kc27 => ?_)
        · have hf := ite_f kc27 hf
          refine lv_aload_n hx hb dX2_text_93 rfl (lv_at hl 1 rfl) ?_
          refine lv_iload_n hx hb dX2_text_94 rfl (lv_at hl 2 rfl) ?_
          refine lv_iload_n hx hb dX2_text_95 rfl (lv_at hl 0 rfl) ?_
          obtain ⟨μ29, hc28, hf⟩ := ob hf
          refine m_callv E hK hP hS (As := [.int x1, .int v13]) (tm_takesOther l D dT h x1 v13 μ25 _ hc28) (lw_V q1761 q1763 qs100 q166 q1764) dm_takesOther rfl (by decide) (by decide) hl rfl (Nat.le_of_ble_eq_true rfl) dX2_text_96 (fun H locs hP hS => ?_)
          refine lv_iload_n hx hb dX2_text_99 rfl (lv_at hl 0 rfl) ?_
          cases hf
          exact m_iret E hr hlk hP hS rfl dX2_text_100
        · have hf := ite_t kc27 hf
          refine lv_aload_n hx hb dX2_text_85 rfl (lv_at hl 1 rfl) ?_
          refine lv_iload_n hx hb dX2_text_86 rfl (lv_at hl 0 rfl) ?_
          obtain ⟨μ31, hc30, hf⟩ := ob hf
          refine m_callv E hK hP hS (As := [.int v13]) (tm_takesLaw l D dT h v13 μ25 _ hc30) (lw_V q1757 q1759 qs99 q166 q1760) dm_takesLaw rfl (by decide) (by decide) hl rfl (Nat.le_of_ble_eq_true rfl) dX2_text_87 (fun H locs hP hS => ?_)
          refine lv_goto (tgt := 99) hx hb dX2_text_90 (by decide) ?_
          refine lv_iload_n hx hb dX2_text_99 rfl (lv_at hl 0 rfl) ?_
          cases hf
          exact m_iret E hr hlk hP hS rfl dX2_text_100
      · have hf := ite_t kc26 hf
        refine lv_iconst (v := (-1)) hx hb dX2_text_79 rfl ?_
        cases hf
        exact m_iret E hr hlk hP hS rfl dX2_text_80
set_option maxHeartbeats 4000000 in
def fm_fault (x1 : Int32) (μ : nwM) : Option (Int32 × nwM) := (wf_ μ 0 (nI 0)).bind fun μ1 => (if x1 = 0 then some (μ1 30 0, μ1) else (if x1 = (nI 1) then some (μ1 31 0, μ1) else some ((-1), μ1)))
set_option maxHeartbeats 4000000 in
theorem dm_fault : yX2_fault.cls = RX2 ∧ yX2_fault.cls ≠ "java/lang/invoke/MethodHandle" ∧ yX2_fault.cls ≠ "java/lang/invoke/VarHandle" ∧ (parseMethodDescriptor yX2_fault.desc).map (fun d => d.parameters.length) = some 1 := ⟨rfl, by decide +kernel, by decide +kernel, by decide +kernel⟩
set_option maxHeartbeats 4000000 in
theorem tm_fault (l : Launch) (D : va_G) (dT : Nat → ClassId) (h : Nat) (x1 : Int32) (μ : nwM) (res : Int32 × nwM) (hf : fm_fault x1 μ = some res) : Met l yX2_fault (ws_ yX2_fault cX2_fault 2 (some .int)) (rmd 0) (mPc D dT h μ [.int x1]) (mQi D dT h res.2 res.1) 0 0 (mA h) := by
  refine m_met (by decide) rfl (Nat.le_of_ble_eq_true rfl) ?_
  intro p e s m below meth c ls E hK hr hlk hl hP
  have hS : va_S (mA h) s.heap s.heap [] := va_S.rf
  obtain ⟨hx, hb, -, hown, hts⟩ := id E
  have hl : lv_has ls 2 [(0, .ref h), (1, .int x1)] := hl
  unfold fm_fault at hf
  refine lv_aload_n hx hb dX2_fault_0 rfl (lv_at hl 0 rfl) ?_
  refine lv_iconst (v := nI 0) hx hb dX2_fault_1 rfl ?_
  obtain ⟨μ1, hμ1, hf⟩ := ob hf
  refine m_put E hK hP hS 0 (by decide) rfl q1413 rfl rfl rfl hμ1 dX2_fault_2 (fun H locs hP hS => ?_)
  refine lv_iload_n hx hb dX2_fault_5 rfl (lv_at hl 1 rfl) ?_
  refine lv_if_ne (tgt := 16) hx hb dX2_fault_6 (by decide) (fun kc2 => ?_) (fun kc2 => ?_)
  · have hf := ite_f kc2 hf
    refine lv_iload_n hx hb dX2_fault_16 rfl (lv_at hl 1 rfl) ?_
    refine lv_iconst (v := nI 1) hx hb dX2_fault_17 rfl ?_
    refine lv_icmp_ne (tgt := 28) hx hb dX2_fault_18 (by decide) (fun kc3 => ?_) (fun kc3 => ?_)
    · have hf := ite_f kc3 hf
      refine lv_iconst (v := (-1)) hx hb dX2_fault_28 rfl ?_
      cases hf
      exact m_iret E hr hlk hP hS rfl dX2_fault_29
    · have hf := ite_t kc3 hf
      refine lv_aload_n hx hb dX2_fault_21 rfl (lv_at hl 0 rfl) ?_
      refine m_get E hK hP 31 (by decide) rfl q1444 rfl dX2_fault_22 ?_
      refine lv_goto (tgt := 29) hx hb dX2_fault_25 (by decide) ?_
      cases hf
      exact m_iret E hr hlk hP hS rfl dX2_fault_29
  · have hf := ite_t kc2 hf
    refine lv_aload_n hx hb dX2_fault_9 rfl (lv_at hl 0 rfl) ?_
    refine m_get E hK hP 30 (by decide) rfl q1443 rfl dX2_fault_10 ?_
    refine lv_goto (tgt := 29) hx hb dX2_fault_13 (by decide) ?_
    cases hf
    exact m_iret E hr hlk hP hS rfl dX2_fault_29
set_option maxHeartbeats 4000000 in
def fm_twoOf (x1 : Int32) (x2 : Int32) (x3 : Int32) (μ : nwM) : Option (Int32) := (if x1 = (nI 2) then some (x2 + x3) else (if x1 = (nI 3) then some (x2 - x3) else (if x1 = (nI 4) then some (x2 * x3) else (if x1 = (nI 5) then (dv_ x2 x3).bind fun v13 => some v13 else (if x1 = (nI 6) then (if x3 ≤ x2 then some (nI 0) else some (nI 1)) else (if x1 = (nI 7) then (if x2 = x3 then some (nI 1) else some (nI 0)) else (if x1 = (nI 8) then (if x2 ≤ x3 then some (nI 0) else some (nI 1)) else (if x1 = (nI 10) then some (x2 * x3) else (if (x2 + x3) ≤ 0 then some (nI 0) else some (nI 1))))))))))
set_option maxHeartbeats 4000000 in
theorem dm_twoOf : yX2_twoOf.cls = RX2 ∧ yX2_twoOf.cls ≠ "java/lang/invoke/MethodHandle" ∧ yX2_twoOf.cls ≠ "java/lang/invoke/VarHandle" ∧ (parseMethodDescriptor yX2_twoOf.desc).map (fun d => d.parameters.length) = some 3 := ⟨rfl, by decide +kernel, by decide +kernel, by decide +kernel⟩
set_option maxHeartbeats 4000000 in
theorem tm_twoOf (l : Launch) (D : va_G) (dT : Nat → ClassId) (h : Nat) (x1 : Int32) (x2 : Int32) (x3 : Int32) (μ : nwM) (res : Int32) (hf : fm_twoOf x1 x2 x3 μ = some res) : Met l yX2_twoOf (ws_ yX2_twoOf cX2_twoOf 4 (some .int)) (rmd 0) (mPc D dT h μ [.int x1, .int x2, .int x3]) (mQi D dT h μ res) 0 0 (mA h) := by
  refine m_met (by decide) rfl (Nat.le_of_ble_eq_true rfl) ?_
  intro p e s m below meth c ls E hK hr hlk hl hP
  have hS : va_S (mA h) s.heap s.heap [] := va_S.rf
  obtain ⟨hx, hb, -, hown, hts⟩ := id E
  have hl : lv_has ls 4 [(0, .ref h), (1, .int x1), (2, .int x2), (3, .int x3)] := hl
  unfold fm_twoOf at hf
  refine lv_iload_n hx hb dX2_twoOf_0 rfl (lv_at hl 1 rfl) ?_
  refine lv_iconst (v := nI 2) hx hb dX2_twoOf_1 rfl ?_
  refine lv_icmp_ne (tgt := 9) hx hb dX2_twoOf_2 (by decide) (fun kc1 => ?_) (fun kc1 => ?_)
  · have hf := ite_f kc1 hf
    refine lv_iload_n hx hb dX2_twoOf_9 rfl (lv_at hl 1 rfl) ?_
    refine lv_iconst (v := nI 3) hx hb dX2_twoOf_10 rfl ?_
    refine lv_icmp_ne (tgt := 18) hx hb dX2_twoOf_11 (by decide) (fun kc2 => ?_) (fun kc2 => ?_)
    · have hf := ite_f kc2 hf
      refine lv_iload_n hx hb dX2_twoOf_18 rfl (lv_at hl 1 rfl) ?_
      refine lv_iconst (v := nI 4) hx hb dX2_twoOf_19 rfl ?_
      refine lv_icmp_ne (tgt := 27) hx hb dX2_twoOf_20 (by decide) (fun kc3 => ?_) (fun kc3 => ?_)
      · have hf := ite_f kc3 hf
        refine lv_iload_n hx hb dX2_twoOf_27 rfl (lv_at hl 1 rfl) ?_
        refine lv_iconst (v := nI 5) hx hb dX2_twoOf_28 rfl ?_
        refine lv_icmp_ne (tgt := 36) hx hb dX2_twoOf_29 (by decide) (fun kc4 => ?_) (fun kc4 => ?_)
        · have hf := ite_f kc4 hf
          refine lv_iload_n hx hb dX2_twoOf_36 rfl (lv_at hl 1 rfl) ?_
          refine lv_bipush (v := nI 6) hx hb dX2_twoOf_37 rfl ?_
          refine lv_icmp_ne (tgt := 53) hx hb dX2_twoOf_39 (by decide) (fun kc5 => ?_) (fun kc5 => ?_)
          · have hf := ite_f kc5 hf
            refine lv_iload_n hx hb dX2_twoOf_53 rfl (lv_at hl 1 rfl) ?_
            refine lv_bipush (v := nI 7) hx hb dX2_twoOf_54 rfl ?_
            refine lv_icmp_ne (tgt := 70) hx hb dX2_twoOf_56 (by decide) (fun kc6 => ?_) (fun kc6 => ?_)
            · have hf := ite_f kc6 hf
              refine lv_iload_n hx hb dX2_twoOf_70 rfl (lv_at hl 1 rfl) ?_
              refine lv_bipush (v := nI 8) hx hb dX2_twoOf_71 rfl ?_
              refine lv_icmp_ne (tgt := 87) hx hb dX2_twoOf_73 (by decide) (fun kc7 => ?_) (fun kc7 => ?_)
              · have hf := ite_f kc7 hf
                refine lv_iload_n hx hb dX2_twoOf_87 rfl (lv_at hl 1 rfl) ?_
                refine lv_bipush (v := nI 10) hx hb dX2_twoOf_88 rfl ?_
                refine lv_icmp_ne (tgt := 99) hx hb dX2_twoOf_90 (by decide) (fun kc8 => ?_) (fun kc8 => ?_)
                · have hf := ite_f kc8 hf
                  refine lv_iload_n hx hb dX2_twoOf_99 rfl (lv_at hl 2 rfl) ?_
                  refine lv_iload_n hx hb dX2_twoOf_100 rfl (lv_at hl 3 rfl) ?_
                  refine lv_iadd hx hb dX2_twoOf_101 ?_
                  refine lv_if_le (tgt := 109) hx hb dX2_twoOf_102 (by decide) (fun kc9 => ?_) (fun kc9 => ?_)
                  · have hf := ite_t kc9 hf
                    refine lv_iconst (v := nI 0) hx hb dX2_twoOf_109 rfl ?_
                    cases hf
                    exact m_iret E hr hlk hP hS rfl dX2_twoOf_110
                  · have hf := ite_f kc9 hf
                    refine lv_iconst (v := nI 1) hx hb dX2_twoOf_105 rfl ?_
                    refine lv_goto (tgt := 110) hx hb dX2_twoOf_106 (by decide) ?_
                    cases hf
                    exact m_iret E hr hlk hP hS rfl dX2_twoOf_110
                · have hf := ite_t kc8 hf
                  refine lv_iload_n hx hb dX2_twoOf_93 rfl (lv_at hl 2 rfl) ?_
                  refine lv_iload_n hx hb dX2_twoOf_94 rfl (lv_at hl 3 rfl) ?_
                  refine lv_imul hx hb dX2_twoOf_95 ?_
                  refine lv_goto (tgt := 110) hx hb dX2_twoOf_96 (by decide) ?_
                  cases hf
                  exact m_iret E hr hlk hP hS rfl dX2_twoOf_110
              · have hf := ite_t kc7 hf
                refine lv_iload_n hx hb dX2_twoOf_76 rfl (lv_at hl 2 rfl) ?_
                refine lv_iload_n hx hb dX2_twoOf_77 rfl (lv_at hl 3 rfl) ?_
                refine lv_icmp_le (tgt := 85) hx hb dX2_twoOf_78 (by decide) (fun kc10 => ?_) (fun kc10 => ?_)
                · have hf := ite_t kc10 hf
                  refine lv_iconst (v := nI 0) hx hb dX2_twoOf_85 rfl ?_
                  cases hf
                  exact m_iret E hr hlk hP hS rfl dX2_twoOf_86
                · have hf := ite_f kc10 hf
                  refine lv_iconst (v := nI 1) hx hb dX2_twoOf_81 rfl ?_
                  refine lv_goto (tgt := 86) hx hb dX2_twoOf_82 (by decide) ?_
                  cases hf
                  exact m_iret E hr hlk hP hS rfl dX2_twoOf_86
            · have hf := ite_t kc6 hf
              refine lv_iload_n hx hb dX2_twoOf_59 rfl (lv_at hl 2 rfl) ?_
              refine lv_iload_n hx hb dX2_twoOf_60 rfl (lv_at hl 3 rfl) ?_
              refine lv_icmp_ne (tgt := 68) hx hb dX2_twoOf_61 (by decide) (fun kc11 => ?_) (fun kc11 => ?_)
              · have hf := ite_f kc11 hf
                refine lv_iconst (v := nI 0) hx hb dX2_twoOf_68 rfl ?_
                cases hf
                exact m_iret E hr hlk hP hS rfl dX2_twoOf_69
              · have hf := ite_t kc11 hf
                refine lv_iconst (v := nI 1) hx hb dX2_twoOf_64 rfl ?_
                refine lv_goto (tgt := 69) hx hb dX2_twoOf_65 (by decide) ?_
                cases hf
                exact m_iret E hr hlk hP hS rfl dX2_twoOf_69
          · have hf := ite_t kc5 hf
            refine lv_iload_n hx hb dX2_twoOf_42 rfl (lv_at hl 2 rfl) ?_
            refine lv_iload_n hx hb dX2_twoOf_43 rfl (lv_at hl 3 rfl) ?_
            refine lv_icmp_ge (tgt := 51) hx hb dX2_twoOf_44 (by decide) (fun kc12 => ?_) (fun kc12 => ?_)
            · have hf := ite_t kc12 hf
              refine lv_iconst (v := nI 0) hx hb dX2_twoOf_51 rfl ?_
              cases hf
              exact m_iret E hr hlk hP hS rfl dX2_twoOf_52
            · have hf := ite_f kc12 hf
              refine lv_iconst (v := nI 1) hx hb dX2_twoOf_47 rfl ?_
              refine lv_goto (tgt := 52) hx hb dX2_twoOf_48 (by decide) ?_
              cases hf
              exact m_iret E hr hlk hP hS rfl dX2_twoOf_52
        · have hf := ite_t kc4 hf
          refine lv_iload_n hx hb dX2_twoOf_32 rfl (lv_at hl 2 rfl) ?_
          refine lv_iload_n hx hb dX2_twoOf_33 rfl (lv_at hl 3 rfl) ?_
          obtain ⟨v13, hv13, hf⟩ := ob hf
          refine lv_idiv hx hb dX2_twoOf_34 (dv_in hv13).1 ?_
          refine lv_nm (dv_in hv13).2 ?_
          cases hf
          exact m_iret E hr hlk hP hS rfl dX2_twoOf_35
      · have hf := ite_t kc3 hf
        refine lv_iload_n hx hb dX2_twoOf_23 rfl (lv_at hl 2 rfl) ?_
        refine lv_iload_n hx hb dX2_twoOf_24 rfl (lv_at hl 3 rfl) ?_
        refine lv_imul hx hb dX2_twoOf_25 ?_
        cases hf
        exact m_iret E hr hlk hP hS rfl dX2_twoOf_26
    · have hf := ite_t kc2 hf
      refine lv_iload_n hx hb dX2_twoOf_14 rfl (lv_at hl 2 rfl) ?_
      refine lv_iload_n hx hb dX2_twoOf_15 rfl (lv_at hl 3 rfl) ?_
      refine lv_isub hx hb dX2_twoOf_16 ?_
      cases hf
      exact m_iret E hr hlk hP hS rfl dX2_twoOf_17
  · have hf := ite_t kc1 hf
    refine lv_iload_n hx hb dX2_twoOf_5 rfl (lv_at hl 2 rfl) ?_
    refine lv_iload_n hx hb dX2_twoOf_6 rfl (lv_at hl 3 rfl) ?_
    refine lv_iadd hx hb dX2_twoOf_7 ?_
    cases hf
    exact m_iret E hr hlk hP hS rfl dX2_twoOf_8
set_option maxHeartbeats 4000000 in
def fm_runs_L12 (x1 : Int32) (x3 : Int32) : (Int32 × Int32 × nwM) → Option ((Int32 × Int32 × nwM) ⊕ (nwM)) := fun st => (if (((nI 400) * x1) + x3) ≤ st.2.1 then some (.inr st.2.2) else (rd_ st.2.2 21 1200 st.2.1).bind fun v2 => (if v2 = 0 then (rd_ st.2.2 21 1200 st.2.1).bind fun v4 => (if v4 = 0 then (rd_ st.2.2 22 1200 st.2.1).bind fun v9 => (wr_ st.2.2 39 420 st.1 v9).bind fun μ10 => some (.inl (st.1 + (nI 1), st.2.1 + nI 1, μ10)) else (rd_ st.2.2 22 1200 st.2.1).bind fun v6 => (rd_ st.2.2 38 9 v6).bind fun v7 => (wr_ st.2.2 39 420 st.1 v7).bind fun μ8 => some (.inl (st.1 + (nI 1), st.2.1 + nI 1, μ8))) else (rd_ st.2.2 21 1200 st.2.1).bind fun v11 => (if v11 = (nI 1) then (rd_ st.2.2 21 1200 st.2.1).bind fun v23 => (if v23 = 0 then (rd_ st.2.2 22 1200 st.2.1).bind fun v28 => (wr_ st.2.2 39 420 st.1 v28).bind fun μ29 => some (.inl (st.1 + (nI 1), st.2.1 + nI 1, μ29)) else (rd_ st.2.2 22 1200 st.2.1).bind fun v25 => (rd_ st.2.2 38 9 v25).bind fun v26 => (wr_ st.2.2 39 420 st.1 v26).bind fun μ27 => some (.inl (st.1 + (nI 1), st.2.1 + nI 1, μ27))) else (rd_ st.2.2 21 1200 st.2.1).bind fun v13 => (if v13 = (nI 9) then (rd_ st.2.2 39 420 (st.1 - (nI 1))).bind fun v21 => (wr_ st.2.2 39 420 (st.1 - (nI 1)) ((nI 1) - v21)).bind fun μ22 => some (.inl (st.1, st.2.1 + nI 1, μ22)) else (rd_ st.2.2 21 1200 st.2.1).bind fun v15 => (rd_ st.2.2 39 420 ((st.1 - (nI 1)) - (nI 1))).bind fun v16 => (rd_ st.2.2 39 420 (st.1 - (nI 1))).bind fun v17 => (fm_twoOf v15 v16 v17 st.2.2).bind fun v19 => (wr_ st.2.2 39 420 ((st.1 - (nI 1)) - (nI 1)) v19).bind fun μ20 => some (.inl (st.1 - (nI 1), st.2.1 + nI 1, μ20))))))
set_option maxHeartbeats 4000000 in
noncomputable def fm_runs (x1 : Int32) (x2 : Int32) (x3 : Int32) (μ : nwM) : Option (Int32 × nwM) := (wh_ (fm_runs_L12 x1 x3) (nI 0, ((nI 400) * x1) + x2, μ)).bind fun x30 => (rd_ x30 39 420 (nI 0)).bind fun v31 => some (v31, x30)
set_option maxHeartbeats 4000000 in
theorem fm_runs_L12_w {p : Program} {l : Launch} {e : Env} {s : State} {m : MethodId} {args : Array Value} {below : List Frame} {meth : Method} {c : Code} {Q : State → Prop} {D : va_G} {dT : Nat → ClassId} {h : Nat} (E : CallFix p m c cX2_runs 6 s args lw_all RX2) (hK : va_K D nwCl (nwT dT) s) (x1 : Int32) (x3 : Int32) {st : Int32 × Int32 × nwM} {x : nwM} (hw : wh_ (fm_runs_L12 x1 x3) st = some x) (hk : (fun x : nwM => ∀ (ls : Array Slot) (H : Heap) (locs : List Loc), lv_has ls 6 [(0, .ref h)] → PM D dT h x H → va_S (mA h) s.heap H locs → W p l e (rmd 1) s m args below meth c H locs 0 0 Q (F0 m 176 ls [])) x) : (fun st : Int32 × Int32 × nwM => ∀ (ls : Array Slot) (H : Heap) (locs : List Loc), lv_has ls 6 [(0, .ref h), (1, .int x1), (3, .int x3), (4, .int st.1), (5, .int st.2.1)] → PM D dT h st.2.2 H → va_S (mA h) s.heap H locs → W p l e (rmd 1) s m args below meth c H locs 0 0 Q (F0 m 12 ls [])) st := by
  obtain ⟨hx, hb, -, hown, hts⟩ := id E
  refine wh_run (P := (fun st : Int32 × Int32 × nwM => ∀ (ls : Array Slot) (H : Heap) (locs : List Loc), lv_has ls 6 [(0, .ref h), (1, .int x1), (3, .int x3), (4, .int st.1), (5, .int st.2.1)] → PM D dT h st.2.2 H → va_S (mA h) s.heap H locs → W p l e (rmd 1) s m args below meth c H locs 0 0 Q (F0 m 12 ls []))) (PE := (fun x : nwM => ∀ (ls : Array Slot) (H : Heap) (locs : List Loc), lv_has ls 6 [(0, .ref h)] → PM D dT h x H → va_S (mA h) s.heap H locs → W p l e (rmd 1) s m args below meth c H locs 0 0 Q (F0 m 176 ls []))) ?_ hw hk
  clear hw hk
  intro st x hf hk ls H locs hl hP hS
  refine lv_iload hx hb dX2_runs_12 (lv_at hl 4 rfl) ?_
  refine lv_sipush (v := nI 400) hx hb dX2_runs_14 rfl ?_
  refine lv_iload_n hx hb dX2_runs_17 rfl (lv_at hl 1 rfl) ?_
  refine lv_imul hx hb dX2_runs_18 ?_
  refine lv_iload_n hx hb dX2_runs_19 rfl (lv_at hl 2 rfl) ?_
  refine lv_iadd hx hb dX2_runs_20 ?_
  refine lv_icmp_ge (tgt := 176) hx hb dX2_runs_21 (by decide) (fun kc1 => ?_) (fun kc1 => ?_)
  · have hf := ite_t kc1 hf
    cases hf
    exact hk _ _ _ (lv_sub hl [0] rfl) hP hS
  · have hf := ite_f kc1 hf
    refine lv_aload_n hx hb dX2_runs_24 rfl (lv_at hl 0 rfl) ?_
    refine m_ga E hK hP 21 (by decide) rfl q1434 rfl dX2_runs_25 ?_
    refine lv_iload hx hb dX2_runs_28 (lv_at hl 4 rfl) ?_
    obtain ⟨v2, hv2, hf⟩ := ob hf
    refine m_ald E hK hP (by decide) rfl rfl hv2 dX2_runs_30 ?_
    refine lv_if_eq (tgt := 45) hx hb dX2_runs_31 (by decide) (fun kc3 => ?_) (fun kc3 => ?_)
    · have hf := ite_t kc3 hf
      refine lv_aload_n hx hb dX2_runs_45 rfl (lv_at hl 0 rfl) ?_
      refine m_ga E hK hP 39 (by decide) rfl q1452 rfl dX2_runs_46 ?_
      refine lv_iload hx hb dX2_runs_49 (lv_at hl 3 rfl) ?_
      refine lv_aload_n hx hb dX2_runs_51 rfl (lv_at hl 0 rfl) ?_
      refine m_ga E hK hP 21 (by decide) rfl q1434 rfl dX2_runs_52 ?_
      refine lv_iload hx hb dX2_runs_55 (lv_at hl 4 rfl) ?_
      obtain ⟨v4, hv4, hf⟩ := ob hf
      refine m_ald E hK hP (by decide) rfl rfl hv4 dX2_runs_57 ?_
      refine lv_if_ne (tgt := 71) hx hb dX2_runs_58 (by decide) (fun kc5 => ?_) (fun kc5 => ?_)
      · have hf := ite_f kc5 hf
        refine lv_aload_n hx hb dX2_runs_71 rfl (lv_at hl 0 rfl) ?_
        refine m_ga E hK hP 38 (by decide) rfl q1451 rfl dX2_runs_72 ?_
        refine lv_aload_n hx hb dX2_runs_75 rfl (lv_at hl 0 rfl) ?_
        refine m_ga E hK hP 22 (by decide) rfl q1435 rfl dX2_runs_76 ?_
        refine lv_iload hx hb dX2_runs_79 (lv_at hl 4 rfl) ?_
        obtain ⟨v6, hv6, hf⟩ := ob hf
        refine m_ald E hK hP (by decide) rfl rfl hv6 dX2_runs_81 ?_
        obtain ⟨v7, hv7, hf⟩ := ob hf
        refine m_ald E hK hP (by decide) rfl rfl hv7 dX2_runs_82 ?_
        obtain ⟨μ8, hμ8, hf⟩ := ob hf
        refine m_ast E hK hP hS (by decide) rfl rfl hμ8 dX2_runs_83 (fun H locs hP hS => ?_)
        refine lv_iload hx hb dX2_runs_84 (lv_at hl 3 rfl) ?_
        refine lv_iconst (v := nI 1) hx hb dX2_runs_86 rfl ?_
        refine lv_iadd hx hb dX2_runs_87 ?_
        refine lv_istore (lv' := [(4, .int (st.1 + (nI 1))), (0, .ref h), (1, .int x1), (3, .int x3), (5, .int st.2.1)]) hx hb dX2_runs_88 hl (by decide) rfl (fun ls hl => ?_)
        refine lv_goto (tgt := 170) hx hb dX2_runs_90 (by decide) ?_
        refine lv_iinc (v := st.2.1 + nI 1) (lv' := [(5, .int (st.2.1 + nI 1)), (4, .int (st.1 + (nI 1))), (0, .ref h), (1, .int x1), (3, .int x3)]) hx hb dX2_runs_170 hl (k := 4) rfl rfl (by decide) rfl (fun ls hl => ?_)
        refine lv_goto (tgt := 12) hx hb dX2_runs_173 (by decide) ?_
        cases hf
        exact hk _ _ _ (lv_sub hl [2, 3, 4, 1, 0] rfl) hP hS
      · have hf := ite_t kc5 hf
        refine lv_aload_n hx hb dX2_runs_61 rfl (lv_at hl 0 rfl) ?_
        refine m_ga E hK hP 22 (by decide) rfl q1435 rfl dX2_runs_62 ?_
        refine lv_iload hx hb dX2_runs_65 (lv_at hl 4 rfl) ?_
        obtain ⟨v9, hv9, hf⟩ := ob hf
        refine m_ald E hK hP (by decide) rfl rfl hv9 dX2_runs_67 ?_
        refine lv_goto (tgt := 83) hx hb dX2_runs_68 (by decide) ?_
        obtain ⟨μ10, hμ10, hf⟩ := ob hf
        refine m_ast E hK hP hS (by decide) rfl rfl hμ10 dX2_runs_83 (fun H locs hP hS => ?_)
        refine lv_iload hx hb dX2_runs_84 (lv_at hl 3 rfl) ?_
        refine lv_iconst (v := nI 1) hx hb dX2_runs_86 rfl ?_
        refine lv_iadd hx hb dX2_runs_87 ?_
        refine lv_istore (lv' := [(4, .int (st.1 + (nI 1))), (0, .ref h), (1, .int x1), (3, .int x3), (5, .int st.2.1)]) hx hb dX2_runs_88 hl (by decide) rfl (fun ls hl => ?_)
        refine lv_goto (tgt := 170) hx hb dX2_runs_90 (by decide) ?_
        refine lv_iinc (v := st.2.1 + nI 1) (lv' := [(5, .int (st.2.1 + nI 1)), (4, .int (st.1 + (nI 1))), (0, .ref h), (1, .int x1), (3, .int x3)]) hx hb dX2_runs_170 hl (k := 4) rfl rfl (by decide) rfl (fun ls hl => ?_)
        refine lv_goto (tgt := 12) hx hb dX2_runs_173 (by decide) ?_
        cases hf
        exact hk _ _ _ (lv_sub hl [2, 3, 4, 1, 0] rfl) hP hS
    · have hf := ite_f kc3 hf
      refine lv_aload_n hx hb dX2_runs_34 rfl (lv_at hl 0 rfl) ?_
      refine m_ga E hK hP 21 (by decide) rfl q1434 rfl dX2_runs_35 ?_
      refine lv_iload hx hb dX2_runs_38 (lv_at hl 4 rfl) ?_
      obtain ⟨v11, hv11, hf⟩ := ob hf
      refine m_ald E hK hP (by decide) rfl rfl hv11 dX2_runs_40 ?_
      refine lv_iconst (v := nI 1) hx hb dX2_runs_41 rfl ?_
      refine lv_icmp_ne (tgt := 93) hx hb dX2_runs_42 (by decide) (fun kc12 => ?_) (fun kc12 => ?_)
      · have hf := ite_f kc12 hf
        refine lv_aload_n hx hb dX2_runs_93 rfl (lv_at hl 0 rfl) ?_
        refine m_ga E hK hP 21 (by decide) rfl q1434 rfl dX2_runs_94 ?_
        refine lv_iload hx hb dX2_runs_97 (lv_at hl 4 rfl) ?_
        obtain ⟨v13, hv13, hf⟩ := ob hf
        refine m_ald E hK hP (by decide) rfl rfl hv13 dX2_runs_99 ?_
        refine lv_bipush (v := nI 9) hx hb dX2_runs_100 rfl ?_
        refine lv_icmp_ne (tgt := 128) hx hb dX2_runs_102 (by decide) (fun kc14 => ?_) (fun kc14 => ?_)
        · have hf := ite_f kc14 hf
          refine lv_iload hx hb dX2_runs_128 (lv_at hl 3 rfl) ?_
          refine lv_iconst (v := nI 1) hx hb dX2_runs_130 rfl ?_
          refine lv_isub hx hb dX2_runs_131 ?_
          refine lv_istore (lv' := [(4, .int (st.1 - (nI 1))), (0, .ref h), (1, .int x1), (3, .int x3), (5, .int st.2.1)]) hx hb dX2_runs_132 hl (by decide) rfl (fun ls hl => ?_)
          refine lv_aload_n hx hb dX2_runs_134 rfl (lv_at hl 1 rfl) ?_
          refine m_ga E hK hP 39 (by decide) rfl q1452 rfl dX2_runs_135 ?_
          refine lv_iload hx hb dX2_runs_138 (lv_at hl 0 rfl) ?_
          refine lv_iconst (v := nI 1) hx hb dX2_runs_140 rfl ?_
          refine lv_isub hx hb dX2_runs_141 ?_
          refine lv_aload_n hx hb dX2_runs_142 rfl (lv_at hl 1 rfl) ?_
          refine lv_aload_n hx hb dX2_runs_143 rfl (lv_at hl 1 rfl) ?_
          refine m_ga E hK hP 21 (by decide) rfl q1434 rfl dX2_runs_144 ?_
          refine lv_iload hx hb dX2_runs_147 (lv_at hl 4 rfl) ?_
          obtain ⟨v15, hv15, hf⟩ := ob hf
          refine m_ald E hK hP (by decide) rfl rfl hv15 dX2_runs_149 ?_
          refine lv_aload_n hx hb dX2_runs_150 rfl (lv_at hl 1 rfl) ?_
          refine m_ga E hK hP 39 (by decide) rfl q1452 rfl dX2_runs_151 ?_
          refine lv_iload hx hb dX2_runs_154 (lv_at hl 0 rfl) ?_
          refine lv_iconst (v := nI 1) hx hb dX2_runs_156 rfl ?_
          refine lv_isub hx hb dX2_runs_157 ?_
          obtain ⟨v16, hv16, hf⟩ := ob hf
          refine m_ald E hK hP (by decide) rfl rfl hv16 dX2_runs_158 ?_
          refine lv_aload_n hx hb dX2_runs_159 rfl (lv_at hl 1 rfl) ?_
          refine m_ga E hK hP 39 (by decide) rfl q1452 rfl dX2_runs_160 ?_
          refine lv_iload hx hb dX2_runs_163 (lv_at hl 0 rfl) ?_
          obtain ⟨v17, hv17, hf⟩ := ob hf
          refine m_ald E hK hP (by decide) rfl rfl hv17 dX2_runs_165 ?_
          obtain ⟨v19, hc18, hf⟩ := ob hf
          refine m_calli E hK hP hS (As := [.int v15, .int v16, .int v17]) (tm_twoOf l D dT h v15 v16 v17 st.2.2 _ hc18) (lw_V q1833 q1835 qs116 q166 q1836) dm_twoOf rfl (by decide) (by decide) hl rfl (Nat.le_of_ble_eq_true rfl) dX2_runs_166 (fun H locs hP hS => ?_)
          obtain ⟨μ20, hμ20, hf⟩ := ob hf
          refine m_ast E hK hP hS (by decide) rfl rfl hμ20 dX2_runs_169 (fun H locs hP hS => ?_)
          refine lv_iinc (v := st.2.1 + nI 1) (lv' := [(5, .int (st.2.1 + nI 1)), (4, .int (st.1 - (nI 1))), (0, .ref h), (1, .int x1), (3, .int x3)]) hx hb dX2_runs_170 hl (k := 4) rfl rfl (by decide) rfl (fun ls hl => ?_)
          refine lv_goto (tgt := 12) hx hb dX2_runs_173 (by decide) ?_
          cases hf
          exact hk _ _ _ (lv_sub hl [2, 3, 4, 1, 0] rfl) hP hS
        · have hf := ite_t kc14 hf
          refine lv_aload_n hx hb dX2_runs_105 rfl (lv_at hl 0 rfl) ?_
          refine m_ga E hK hP 39 (by decide) rfl q1452 rfl dX2_runs_106 ?_
          refine lv_iload hx hb dX2_runs_109 (lv_at hl 3 rfl) ?_
          refine lv_iconst (v := nI 1) hx hb dX2_runs_111 rfl ?_
          refine lv_isub hx hb dX2_runs_112 ?_
          refine lv_iconst (v := nI 1) hx hb dX2_runs_113 rfl ?_
          refine lv_aload_n hx hb dX2_runs_114 rfl (lv_at hl 0 rfl) ?_
          refine m_ga E hK hP 39 (by decide) rfl q1452 rfl dX2_runs_115 ?_
          refine lv_iload hx hb dX2_runs_118 (lv_at hl 3 rfl) ?_
          refine lv_iconst (v := nI 1) hx hb dX2_runs_120 rfl ?_
          refine lv_isub hx hb dX2_runs_121 ?_
          obtain ⟨v21, hv21, hf⟩ := ob hf
          refine m_ald E hK hP (by decide) rfl rfl hv21 dX2_runs_122 ?_
          refine lv_isub hx hb dX2_runs_123 ?_
          obtain ⟨μ22, hμ22, hf⟩ := ob hf
          refine m_ast E hK hP hS (by decide) rfl rfl hμ22 dX2_runs_124 (fun H locs hP hS => ?_)
          refine lv_goto (tgt := 170) hx hb dX2_runs_125 (by decide) ?_
          refine lv_iinc (v := st.2.1 + nI 1) (lv' := [(5, .int (st.2.1 + nI 1)), (0, .ref h), (1, .int x1), (3, .int x3), (4, .int st.1)]) hx hb dX2_runs_170 hl (k := 4) rfl rfl (by decide) rfl (fun ls hl => ?_)
          refine lv_goto (tgt := 12) hx hb dX2_runs_173 (by decide) ?_
          cases hf
          exact hk _ _ _ (lv_sub hl [1, 2, 3, 4, 0] rfl) hP hS
      · have hf := ite_t kc12 hf
        refine lv_aload_n hx hb dX2_runs_45 rfl (lv_at hl 0 rfl) ?_
        refine m_ga E hK hP 39 (by decide) rfl q1452 rfl dX2_runs_46 ?_
        refine lv_iload hx hb dX2_runs_49 (lv_at hl 3 rfl) ?_
        refine lv_aload_n hx hb dX2_runs_51 rfl (lv_at hl 0 rfl) ?_
        refine m_ga E hK hP 21 (by decide) rfl q1434 rfl dX2_runs_52 ?_
        refine lv_iload hx hb dX2_runs_55 (lv_at hl 4 rfl) ?_
        obtain ⟨v23, hv23, hf⟩ := ob hf
        refine m_ald E hK hP (by decide) rfl rfl hv23 dX2_runs_57 ?_
        refine lv_if_ne (tgt := 71) hx hb dX2_runs_58 (by decide) (fun kc24 => ?_) (fun kc24 => ?_)
        · have hf := ite_f kc24 hf
          refine lv_aload_n hx hb dX2_runs_71 rfl (lv_at hl 0 rfl) ?_
          refine m_ga E hK hP 38 (by decide) rfl q1451 rfl dX2_runs_72 ?_
          refine lv_aload_n hx hb dX2_runs_75 rfl (lv_at hl 0 rfl) ?_
          refine m_ga E hK hP 22 (by decide) rfl q1435 rfl dX2_runs_76 ?_
          refine lv_iload hx hb dX2_runs_79 (lv_at hl 4 rfl) ?_
          obtain ⟨v25, hv25, hf⟩ := ob hf
          refine m_ald E hK hP (by decide) rfl rfl hv25 dX2_runs_81 ?_
          obtain ⟨v26, hv26, hf⟩ := ob hf
          refine m_ald E hK hP (by decide) rfl rfl hv26 dX2_runs_82 ?_
          obtain ⟨μ27, hμ27, hf⟩ := ob hf
          refine m_ast E hK hP hS (by decide) rfl rfl hμ27 dX2_runs_83 (fun H locs hP hS => ?_)
          refine lv_iload hx hb dX2_runs_84 (lv_at hl 3 rfl) ?_
          refine lv_iconst (v := nI 1) hx hb dX2_runs_86 rfl ?_
          refine lv_iadd hx hb dX2_runs_87 ?_
          refine lv_istore (lv' := [(4, .int (st.1 + (nI 1))), (0, .ref h), (1, .int x1), (3, .int x3), (5, .int st.2.1)]) hx hb dX2_runs_88 hl (by decide) rfl (fun ls hl => ?_)
          refine lv_goto (tgt := 170) hx hb dX2_runs_90 (by decide) ?_
          refine lv_iinc (v := st.2.1 + nI 1) (lv' := [(5, .int (st.2.1 + nI 1)), (4, .int (st.1 + (nI 1))), (0, .ref h), (1, .int x1), (3, .int x3)]) hx hb dX2_runs_170 hl (k := 4) rfl rfl (by decide) rfl (fun ls hl => ?_)
          refine lv_goto (tgt := 12) hx hb dX2_runs_173 (by decide) ?_
          cases hf
          exact hk _ _ _ (lv_sub hl [2, 3, 4, 1, 0] rfl) hP hS
        · have hf := ite_t kc24 hf
          refine lv_aload_n hx hb dX2_runs_61 rfl (lv_at hl 0 rfl) ?_
          refine m_ga E hK hP 22 (by decide) rfl q1435 rfl dX2_runs_62 ?_
          refine lv_iload hx hb dX2_runs_65 (lv_at hl 4 rfl) ?_
          obtain ⟨v28, hv28, hf⟩ := ob hf
          refine m_ald E hK hP (by decide) rfl rfl hv28 dX2_runs_67 ?_
          refine lv_goto (tgt := 83) hx hb dX2_runs_68 (by decide) ?_
          obtain ⟨μ29, hμ29, hf⟩ := ob hf
          refine m_ast E hK hP hS (by decide) rfl rfl hμ29 dX2_runs_83 (fun H locs hP hS => ?_)
          refine lv_iload hx hb dX2_runs_84 (lv_at hl 3 rfl) ?_
          refine lv_iconst (v := nI 1) hx hb dX2_runs_86 rfl ?_
          refine lv_iadd hx hb dX2_runs_87 ?_
          refine lv_istore (lv' := [(4, .int (st.1 + (nI 1))), (0, .ref h), (1, .int x1), (3, .int x3), (5, .int st.2.1)]) hx hb dX2_runs_88 hl (by decide) rfl (fun ls hl => ?_)
          refine lv_goto (tgt := 170) hx hb dX2_runs_90 (by decide) ?_
          refine lv_iinc (v := st.2.1 + nI 1) (lv' := [(5, .int (st.2.1 + nI 1)), (4, .int (st.1 + (nI 1))), (0, .ref h), (1, .int x1), (3, .int x3)]) hx hb dX2_runs_170 hl (k := 4) rfl rfl (by decide) rfl (fun ls hl => ?_)
          refine lv_goto (tgt := 12) hx hb dX2_runs_173 (by decide) ?_
          cases hf
          exact hk _ _ _ (lv_sub hl [2, 3, 4, 1, 0] rfl) hP hS
set_option maxHeartbeats 4000000 in
theorem dm_runs : yX2_runs.cls = RX2 ∧ yX2_runs.cls ≠ "java/lang/invoke/MethodHandle" ∧ yX2_runs.cls ≠ "java/lang/invoke/VarHandle" ∧ (parseMethodDescriptor yX2_runs.desc).map (fun d => d.parameters.length) = some 3 := ⟨rfl, by decide +kernel, by decide +kernel, by decide +kernel⟩
set_option maxHeartbeats 4000000 in
theorem tm_runs (l : Launch) (D : va_G) (dT : Nat → ClassId) (h : Nat) (x1 : Int32) (x2 : Int32) (x3 : Int32) (μ : nwM) (res : Int32 × nwM) (hf : fm_runs x1 x2 x3 μ = some res) : Met l yX2_runs (ws_ yX2_runs cX2_runs 6 (some .int)) (rmd 1) (mPc D dT h μ [.int x1, .int x2, .int x3]) (mQi D dT h res.2 res.1) 0 0 (mA h) := by
  refine m_met (by decide) rfl (Nat.le_of_ble_eq_true rfl) ?_
  intro p e s m below meth c ls E hK hr hlk hl hP
  have hS : va_S (mA h) s.heap s.heap [] := va_S.rf
  obtain ⟨hx, hb, -, hown, hts⟩ := id E
  have hl : lv_has ls 6 [(0, .ref h), (1, .int x1), (2, .int x2), (3, .int x3)] := hl
  unfold fm_runs at hf
  refine lv_iconst (v := nI 0) hx hb dX2_runs_0 rfl ?_
  refine lv_istore (lv' := [(4, .int (nI 0)), (0, .ref h), (1, .int x1), (2, .int x2), (3, .int x3)]) hx hb dX2_runs_1 hl (by decide) rfl (fun ls hl => ?_)
  refine lv_sipush (v := nI 400) hx hb dX2_runs_3 rfl ?_
  refine lv_iload_n hx hb dX2_runs_6 rfl (lv_at hl 2 rfl) ?_
  refine lv_imul hx hb dX2_runs_7 ?_
  refine lv_iload_n hx hb dX2_runs_8 rfl (lv_at hl 3 rfl) ?_
  refine lv_iadd hx hb dX2_runs_9 ?_
  refine lv_istore (lv' := [(5, .int (((nI 400) * x1) + x2)), (4, .int (nI 0)), (0, .ref h), (1, .int x1), (2, .int x2), (3, .int x3)]) hx hb dX2_runs_10 hl (by decide) rfl (fun ls hl => ?_)
  obtain ⟨x30, hx30, hf⟩ := ob hf
  refine fm_runs_L12_w E hK x1 x3 hx30 (fun ls H locs hl hP hS => ?_) _ _ _ (lv_sub hl [2, 3, 5, 1, 0] rfl) hP hS
  refine lv_aload_n hx hb dX2_runs_176 rfl (lv_at hl 0 rfl) ?_
  refine m_ga E hK hP 39 (by decide) rfl q1452 rfl dX2_runs_177 ?_
  refine lv_iconst (v := nI 0) hx hb dX2_runs_180 rfl ?_
  obtain ⟨v31, hv31, hf⟩ := ob hf
  refine m_ald E hK hP (by decide) rfl rfl hv31 dX2_runs_181 ?_
  cases hf
  exact m_iret E hr hlk hP hS rfl dX2_runs_182
set_option maxHeartbeats 4000000 in
noncomputable def fm_lineOf_L2 (x1 : Int32) : (Int32 × nwM) → Option ((Int32 × nwM) ⊕ (Int32 × nwM)) := fun st => (rd_ st.2 16 2 (nI 0)).bind fun v1 => (if v1 ≤ st.1 then some (.inr ((-1), st.2)) else (rd_ st.2 17 48 st.1).bind fun v3 => (if v3 = x1 then (rd_ st.2 19 48 st.1).bind fun v5 => (rd_ st.2 20 48 st.1).bind fun v6 => (if v5 = v6 then some (.inr (st.1, st.2)) else (rd_ st.2 19 48 st.1).bind fun v8 => (rd_ st.2 20 48 st.1).bind fun v9 => bd2 (fm_runs (nI 0) v8 v9 st.2) fun v11 μ12 => (if v11 = 0 then some (.inl (st.1 + nI 1, μ12)) else some (.inr (st.1, μ12)))) else some (.inl (st.1 + nI 1, st.2))))
set_option maxHeartbeats 4000000 in
noncomputable def fm_lineOf (x1 : Int32) (μ : nwM) : Option (Int32 × nwM) := wh_ (fm_lineOf_L2 x1) (nI 0, μ)
set_option maxHeartbeats 4000000 in
theorem fm_lineOf_L2_w {p : Program} {l : Launch} {e : Env} {s : State} {m : MethodId} {args : Array Value} {below : List Frame} {meth : Method} {c : Code} {D : va_G} {dT : Nat → ClassId} {h : Nat} (E : CallFix p m c cX2_lineOf 3 s args lw_all RX2) (hK : va_K D nwCl (nwT dT) s) (hr : meth.sig.returnType = (some .int)) (hlk : meth.locks = false) (x1 : Int32) {res : Int32 × nwM} {st : Int32 × nwM} {x : Int32 × nwM} (hw : wh_ (fm_lineOf_L2 x1) st = some x) (hk : (fun r : Int32 × nwM => r = res) x) : (fun st : Int32 × nwM => ∀ (ls : Array Slot) (H : Heap) (locs : List Loc), lv_has ls 3 [(0, .ref h), (1, .int x1), (2, .int st.1)] → PM D dT h st.2 H → va_S (mA h) s.heap H locs → W p l e (rmd 2) s m args below meth c H locs 0 0 (MQ below (mQi D dT h res.2 res.1) args s 0 0 (mA h)) (F0 m 2 ls [])) st := by
  obtain ⟨hx, hb, -, hown, hts⟩ := id E
  refine wh_run (P := (fun st : Int32 × nwM => ∀ (ls : Array Slot) (H : Heap) (locs : List Loc), lv_has ls 3 [(0, .ref h), (1, .int x1), (2, .int st.1)] → PM D dT h st.2 H → va_S (mA h) s.heap H locs → W p l e (rmd 2) s m args below meth c H locs 0 0 (MQ below (mQi D dT h res.2 res.1) args s 0 0 (mA h)) (F0 m 2 ls []))) (PE := (fun r : Int32 × nwM => r = res)) ?_ hw hk
  clear hw hk
  intro st x hf hk ls H locs hl hP hS
  refine lv_iload_n hx hb dX2_lineOf_2 rfl (lv_at hl 2 rfl) ?_
  refine lv_aload_n hx hb dX2_lineOf_3 rfl (lv_at hl 0 rfl) ?_
  refine m_ga E hK hP 16 (by decide) rfl q1429 rfl dX2_lineOf_4 ?_
  refine lv_iconst (v := nI 0) hx hb dX2_lineOf_7 rfl ?_
  obtain ⟨v1, hv1, hf⟩ := ob hf
  refine m_ald E hK hP (by decide) rfl rfl hv1 dX2_lineOf_8 ?_
  refine lv_icmp_ge (tgt := 65) hx hb dX2_lineOf_9 (by decide) (fun kc2 => ?_) (fun kc2 => ?_)
  · have hf := ite_t kc2 hf
    refine lv_iconst (v := (-1)) hx hb dX2_lineOf_65 rfl ?_
    cases hf
    have hk : ((-1), st.2) = res := hk
    subst hk
    exact m_iret E hr hlk hP hS rfl dX2_lineOf_66
  · have hf := ite_f kc2 hf
    refine lv_aload_n hx hb dX2_lineOf_12 rfl (lv_at hl 0 rfl) ?_
    refine m_ga E hK hP 17 (by decide) rfl q1430 rfl dX2_lineOf_13 ?_
    refine lv_iload_n hx hb dX2_lineOf_16 rfl (lv_at hl 2 rfl) ?_
    obtain ⟨v3, hv3, hf⟩ := ob hf
    refine m_ald E hK hP (by decide) rfl rfl hv3 dX2_lineOf_17 ?_
    refine lv_iload_n hx hb dX2_lineOf_18 rfl (lv_at hl 1 rfl) ?_
    refine lv_icmp_ne (tgt := 59) hx hb dX2_lineOf_19 (by decide) (fun kc4 => ?_) (fun kc4 => ?_)
    · have hf := ite_f kc4 hf
      refine lv_iinc (v := st.1 + nI 1) (lv' := [(2, .int (st.1 + nI 1)), (0, .ref h), (1, .int x1)]) hx hb dX2_lineOf_59 hl (k := 2) rfl rfl (by decide) rfl (fun ls hl => ?_)
      refine lv_goto (tgt := 2) hx hb dX2_lineOf_62 (by decide) ?_
      cases hf
      exact hk _ _ _ (lv_sub hl [1, 2, 0] rfl) hP hS
    · have hf := ite_t kc4 hf
      refine lv_aload_n hx hb dX2_lineOf_22 rfl (lv_at hl 0 rfl) ?_
      refine m_ga E hK hP 19 (by decide) rfl q1432 rfl dX2_lineOf_23 ?_
      refine lv_iload_n hx hb dX2_lineOf_26 rfl (lv_at hl 2 rfl) ?_
      obtain ⟨v5, hv5, hf⟩ := ob hf
      refine m_ald E hK hP (by decide) rfl rfl hv5 dX2_lineOf_27 ?_
      refine lv_aload_n hx hb dX2_lineOf_28 rfl (lv_at hl 0 rfl) ?_
      refine m_ga E hK hP 20 (by decide) rfl q1433 rfl dX2_lineOf_29 ?_
      refine lv_iload_n hx hb dX2_lineOf_32 rfl (lv_at hl 2 rfl) ?_
      obtain ⟨v6, hv6, hf⟩ := ob hf
      refine m_ald E hK hP (by decide) rfl rfl hv6 dX2_lineOf_33 ?_
      refine lv_icmp_eq (tgt := 57) hx hb dX2_lineOf_34 (by decide) (fun kc7 => ?_) (fun kc7 => ?_)
      · have hf := ite_t kc7 hf
        refine lv_iload_n hx hb dX2_lineOf_57 rfl (lv_at hl 2 rfl) ?_
        cases hf
        have hk : (st.1, st.2) = res := hk
        subst hk
        exact m_iret E hr hlk hP hS rfl dX2_lineOf_58
      · have hf := ite_f kc7 hf
        refine lv_aload_n hx hb dX2_lineOf_37 rfl (lv_at hl 0 rfl) ?_
        refine lv_iconst (v := nI 0) hx hb dX2_lineOf_38 rfl ?_
        refine lv_aload_n hx hb dX2_lineOf_39 rfl (lv_at hl 0 rfl) ?_
        refine m_ga E hK hP 19 (by decide) rfl q1432 rfl dX2_lineOf_40 ?_
        refine lv_iload_n hx hb dX2_lineOf_43 rfl (lv_at hl 2 rfl) ?_
        obtain ⟨v8, hv8, hf⟩ := ob hf
        refine m_ald E hK hP (by decide) rfl rfl hv8 dX2_lineOf_44 ?_
        refine lv_aload_n hx hb dX2_lineOf_45 rfl (lv_at hl 0 rfl) ?_
        refine m_ga E hK hP 20 (by decide) rfl q1433 rfl dX2_lineOf_46 ?_
        refine lv_iload_n hx hb dX2_lineOf_49 rfl (lv_at hl 2 rfl) ?_
        obtain ⟨v9, hv9, hf⟩ := ob hf
        refine m_ald E hK hP (by decide) rfl rfl hv9 dX2_lineOf_50 ?_
        obtain ⟨v11, μ12, hc10, hf⟩ := ob2 hf
        refine m_calli E hK hP hS (As := [.int (nI 0), .int v8, .int v9]) (tm_runs l D dT h (nI 0) v8 v9 st.2 _ hc10) (lw_V q1829 q1831 qs115 q166 q1832) dm_runs rfl (by decide) (by decide) hl rfl (Nat.le_of_ble_eq_true rfl) dX2_lineOf_51 (fun H locs hP hS => ?_)
        refine lv_if_eq (tgt := 59) hx hb dX2_lineOf_54 (by decide) (fun kc13 => ?_) (fun kc13 => ?_)
        · have hf := ite_t kc13 hf
          refine lv_iinc (v := st.1 + nI 1) (lv' := [(2, .int (st.1 + nI 1)), (0, .ref h), (1, .int x1)]) hx hb dX2_lineOf_59 hl (k := 2) rfl rfl (by decide) rfl (fun ls hl => ?_)
          refine lv_goto (tgt := 2) hx hb dX2_lineOf_62 (by decide) ?_
          cases hf
          exact hk _ _ _ (lv_sub hl [1, 2, 0] rfl) hP hS
        · have hf := ite_f kc13 hf
          refine lv_iload_n hx hb dX2_lineOf_57 rfl (lv_at hl 2 rfl) ?_
          cases hf
          have hk : (st.1, μ12) = res := hk
          subst hk
          exact m_iret E hr hlk hP hS rfl dX2_lineOf_58
set_option maxHeartbeats 4000000 in
theorem dm_lineOf : yX2_lineOf.cls = RX2 ∧ yX2_lineOf.cls ≠ "java/lang/invoke/MethodHandle" ∧ yX2_lineOf.cls ≠ "java/lang/invoke/VarHandle" ∧ (parseMethodDescriptor yX2_lineOf.desc).map (fun d => d.parameters.length) = some 1 := ⟨rfl, by decide +kernel, by decide +kernel, by decide +kernel⟩
set_option maxHeartbeats 4000000 in
theorem tm_lineOf (l : Launch) (D : va_G) (dT : Nat → ClassId) (h : Nat) (x1 : Int32) (μ : nwM) (res : Int32 × nwM) (hf : fm_lineOf x1 μ = some res) : Met l yX2_lineOf (ws_ yX2_lineOf cX2_lineOf 3 (some .int)) (rmd 2) (mPc D dT h μ [.int x1]) (mQi D dT h res.2 res.1) 0 0 (mA h) := by
  refine m_met (by decide) rfl (Nat.le_of_ble_eq_true rfl) ?_
  intro p e s m below meth c ls E hK hr hlk hl hP
  have hS : va_S (mA h) s.heap s.heap [] := va_S.rf
  obtain ⟨hx, hb, -, hown, hts⟩ := id E
  have hl : lv_has ls 3 [(0, .ref h), (1, .int x1)] := hl
  unfold fm_lineOf at hf
  refine lv_iconst (v := nI 0) hx hb dX2_lineOf_0 rfl ?_
  refine lv_istore_n (lv' := [(2, .int (nI 0)), (0, .ref h), (1, .int x1)]) hx hb dX2_lineOf_1 rfl hl (by decide) rfl (fun ls hl => ?_)
  exact fm_lineOf_L2_w E hK hr hlk x1 hf rfl _ _ _ (lv_sub hl [1, 2, 0] rfl) hP hS
set_option maxHeartbeats 4000000 in
def fm_allAt_L4 (x1 : Int32) (μ : nwM) : (Int32 × Int32) → Option ((Int32 × Int32) ⊕ (Int32)) := fun st => (if (nI 5) ≤ st.2 then some (.inr st.1) else (fm_skyAt x1 st.2 μ).bind fun v3 => some (.inl (st.1 + v3, st.2 + nI 1)))
set_option maxHeartbeats 4000000 in
noncomputable def fm_allAt (x1 : Int32) (μ : nwM) : Option (Int32) := (wh_ (fm_allAt_L4 x1 μ) (nI 0, nI 0)).bind fun x4 => some x4
set_option maxHeartbeats 4000000 in
theorem fm_allAt_L4_w {p : Program} {l : Launch} {e : Env} {s : State} {m : MethodId} {args : Array Value} {below : List Frame} {meth : Method} {c : Code} {Q : State → Prop} {D : va_G} {dT : Nat → ClassId} {h : Nat} (E : CallFix p m c cX2_allAt 4 s args lw_all RX2) (hK : va_K D nwCl (nwT dT) s) (x1 : Int32) (μ : nwM) {st : Int32 × Int32} {x : Int32} (hw : wh_ (fm_allAt_L4 x1 μ) st = some x) (hk : (fun x : Int32 => ∀ (ls : Array Slot) (H : Heap) (locs : List Loc), lv_has ls 4 [(2, .int x)] → PM D dT h μ H → va_S (mA h) s.heap H locs → W p l e (rmd 1) s m args below meth c H locs 0 0 Q (F0 m 24 ls [])) x) : (fun st : Int32 × Int32 => ∀ (ls : Array Slot) (H : Heap) (locs : List Loc), lv_has ls 4 [(0, .ref h), (1, .int x1), (2, .int st.1), (3, .int st.2)] → PM D dT h μ H → va_S (mA h) s.heap H locs → W p l e (rmd 1) s m args below meth c H locs 0 0 Q (F0 m 4 ls [])) st := by
  obtain ⟨hx, hb, -, hown, hts⟩ := id E
  refine wh_run (P := (fun st : Int32 × Int32 => ∀ (ls : Array Slot) (H : Heap) (locs : List Loc), lv_has ls 4 [(0, .ref h), (1, .int x1), (2, .int st.1), (3, .int st.2)] → PM D dT h μ H → va_S (mA h) s.heap H locs → W p l e (rmd 1) s m args below meth c H locs 0 0 Q (F0 m 4 ls []))) (PE := (fun x : Int32 => ∀ (ls : Array Slot) (H : Heap) (locs : List Loc), lv_has ls 4 [(2, .int x)] → PM D dT h μ H → va_S (mA h) s.heap H locs → W p l e (rmd 1) s m args below meth c H locs 0 0 Q (F0 m 24 ls []))) ?_ hw hk
  clear hw hk
  intro st x hf hk ls H locs hl hP hS
  refine lv_iload_n hx hb dX2_allAt_4 rfl (lv_at hl 3 rfl) ?_
  refine lv_iconst (v := nI 5) hx hb dX2_allAt_5 rfl ?_
  refine lv_icmp_ge (tgt := 24) hx hb dX2_allAt_6 (by decide) (fun kc1 => ?_) (fun kc1 => ?_)
  · have hf := ite_t kc1 hf
    cases hf
    exact hk _ _ _ (lv_sub hl [2] rfl) hP hS
  · have hf := ite_f kc1 hf
    refine lv_iload_n hx hb dX2_allAt_9 rfl (lv_at hl 2 rfl) ?_
    refine lv_aload_n hx hb dX2_allAt_10 rfl (lv_at hl 0 rfl) ?_
    refine lv_iload_n hx hb dX2_allAt_11 rfl (lv_at hl 1 rfl) ?_
    refine lv_iload_n hx hb dX2_allAt_12 rfl (lv_at hl 3 rfl) ?_
    obtain ⟨v3, hc2, hf⟩ := ob hf
    refine m_calli E hK hP hS (As := [.int x1, .int st.2]) (tm_skyAt l D dT h x1 st.2 μ _ hc2) (lw_V q1793 q1795 qs106 q166 q1796) dm_skyAt rfl (by decide) (by decide) hl rfl (Nat.le_of_ble_eq_true rfl) dX2_allAt_13 (fun H locs hP hS => ?_)
    refine lv_iadd hx hb dX2_allAt_16 ?_
    refine lv_istore_n (lv' := [(2, .int (st.1 + v3)), (0, .ref h), (1, .int x1), (3, .int st.2)]) hx hb dX2_allAt_17 rfl hl (by decide) rfl (fun ls hl => ?_)
    refine lv_iinc (v := st.2 + nI 1) (lv' := [(3, .int (st.2 + nI 1)), (2, .int (st.1 + v3)), (0, .ref h), (1, .int x1)]) hx hb dX2_allAt_18 hl (k := 3) rfl rfl (by decide) rfl (fun ls hl => ?_)
    refine lv_goto (tgt := 4) hx hb dX2_allAt_21 (by decide) ?_
    cases hf
    exact hk _ _ _ (lv_sub hl [2, 3, 1, 0] rfl) hP hS
set_option maxHeartbeats 4000000 in
theorem dm_allAt : yX2_allAt.cls = RX2 ∧ yX2_allAt.cls ≠ "java/lang/invoke/MethodHandle" ∧ yX2_allAt.cls ≠ "java/lang/invoke/VarHandle" ∧ (parseMethodDescriptor yX2_allAt.desc).map (fun d => d.parameters.length) = some 1 := ⟨rfl, by decide +kernel, by decide +kernel, by decide +kernel⟩
set_option maxHeartbeats 4000000 in
theorem tm_allAt (l : Launch) (D : va_G) (dT : Nat → ClassId) (h : Nat) (x1 : Int32) (μ : nwM) (res : Int32) (hf : fm_allAt x1 μ = some res) : Met l yX2_allAt (ws_ yX2_allAt cX2_allAt 4 (some .int)) (rmd 1) (mPc D dT h μ [.int x1]) (mQi D dT h μ res) 0 0 (mA h) := by
  refine m_met (by decide) rfl (Nat.le_of_ble_eq_true rfl) ?_
  intro p e s m below meth c ls E hK hr hlk hl hP
  have hS : va_S (mA h) s.heap s.heap [] := va_S.rf
  obtain ⟨hx, hb, -, hown, hts⟩ := id E
  have hl : lv_has ls 4 [(0, .ref h), (1, .int x1)] := hl
  unfold fm_allAt at hf
  refine lv_iconst (v := nI 0) hx hb dX2_allAt_0 rfl ?_
  refine lv_istore_n (lv' := [(2, .int (nI 0)), (0, .ref h), (1, .int x1)]) hx hb dX2_allAt_1 rfl hl (by decide) rfl (fun ls hl => ?_)
  refine lv_iconst (v := nI 0) hx hb dX2_allAt_2 rfl ?_
  refine lv_istore_n (lv' := [(3, .int (nI 0)), (2, .int (nI 0)), (0, .ref h), (1, .int x1)]) hx hb dX2_allAt_3 rfl hl (by decide) rfl (fun ls hl => ?_)
  obtain ⟨x4, hx4, hf⟩ := ob hf
  refine fm_allAt_L4_w E hK x1 μ hx4 (fun ls H locs hl hP hS => ?_) _ _ _ (lv_sub hl [2, 3, 1, 0] rfl) hP hS
  refine lv_iload_n hx hb dX2_allAt_24 rfl (lv_at hl 0 rfl) ?_
  cases hf
  exact m_iret E hr hlk hP hS rfl dX2_allAt_25
set_option maxHeartbeats 4000000 in
def fm_thereAt_L5 (x1 : Int32) (x2 : Int32) (μ : nwM) : (Int32 × Int32) → Option ((Int32 × Int32) ⊕ (Int32)) := fun st => (rd_ μ 1 105 (nI 4)).bind fun v1 => (if v1 ≤ st.2 then some (.inr st.1) else (rd_ μ 1 105 ((nI 69) + st.2)).bind fun v3 => (if v3 = x1 then (rd_ μ 1 105 ((nI 81) + st.2)).bind fun v5 => (if v5 = x2 then some (.inl (st.1 ||| ((nI 1) <<< (st.2 &&& 31)), st.2 + nI 1)) else some (.inl (st.1, st.2 + nI 1))) else some (.inl (st.1, st.2 + nI 1))))
set_option maxHeartbeats 4000000 in
noncomputable def fm_thereAt (x1 : Int32) (x2 : Int32) (μ : nwM) : Option (Int32) := (wh_ (fm_thereAt_L5 x1 x2 μ) (nI 0, nI 0)).bind fun x7 => some x7
set_option maxHeartbeats 4000000 in
theorem fm_thereAt_L5_w {p : Program} {l : Launch} {e : Env} {s : State} {m : MethodId} {args : Array Value} {below : List Frame} {meth : Method} {c : Code} {Q : State → Prop} {D : va_G} {dT : Nat → ClassId} {h : Nat} (E : CallFix p m c cX2_thereAt 5 s args lw_all RX2) (hK : va_K D nwCl (nwT dT) s) (x1 : Int32) (x2 : Int32) (μ : nwM) {st : Int32 × Int32} {x : Int32} (hw : wh_ (fm_thereAt_L5 x1 x2 μ) st = some x) (hk : (fun x : Int32 => ∀ (ls : Array Slot) (H : Heap) (locs : List Loc), lv_has ls 5 [(3, .int x)] → PM D dT h μ H → va_S (mA h) s.heap H locs → W p l e (rmd 0) s m args below meth c H locs 0 0 Q (F0 m 57 ls [])) x) : (fun st : Int32 × Int32 => ∀ (ls : Array Slot) (H : Heap) (locs : List Loc), lv_has ls 5 [(0, .ref h), (1, .int x1), (2, .int x2), (3, .int st.1), (4, .int st.2)] → PM D dT h μ H → va_S (mA h) s.heap H locs → W p l e (rmd 0) s m args below meth c H locs 0 0 Q (F0 m 5 ls [])) st := by
  obtain ⟨hx, hb, -, hown, hts⟩ := id E
  refine wh_run (P := (fun st : Int32 × Int32 => ∀ (ls : Array Slot) (H : Heap) (locs : List Loc), lv_has ls 5 [(0, .ref h), (1, .int x1), (2, .int x2), (3, .int st.1), (4, .int st.2)] → PM D dT h μ H → va_S (mA h) s.heap H locs → W p l e (rmd 0) s m args below meth c H locs 0 0 Q (F0 m 5 ls []))) (PE := (fun x : Int32 => ∀ (ls : Array Slot) (H : Heap) (locs : List Loc), lv_has ls 5 [(3, .int x)] → PM D dT h μ H → va_S (mA h) s.heap H locs → W p l e (rmd 0) s m args below meth c H locs 0 0 Q (F0 m 57 ls []))) ?_ hw hk
  clear hw hk
  intro st x hf hk ls H locs hl hP hS
  refine lv_iload hx hb dX2_thereAt_5 (lv_at hl 4 rfl) ?_
  refine lv_aload_n hx hb dX2_thereAt_7 rfl (lv_at hl 0 rfl) ?_
  refine m_ga E hK hP 1 (by decide) rfl q1414 rfl dX2_thereAt_8 ?_
  refine lv_iconst (v := nI 4) hx hb dX2_thereAt_11 rfl ?_
  obtain ⟨v1, hv1, hf⟩ := ob hf
  refine m_ald E hK hP (by decide) rfl rfl hv1 dX2_thereAt_12 ?_
  refine lv_icmp_ge (tgt := 57) hx hb dX2_thereAt_13 (by decide) (fun kc2 => ?_) (fun kc2 => ?_)
  · have hf := ite_t kc2 hf
    cases hf
    exact hk _ _ _ (lv_sub hl [3] rfl) hP hS
  · have hf := ite_f kc2 hf
    refine lv_aload_n hx hb dX2_thereAt_16 rfl (lv_at hl 0 rfl) ?_
    refine m_ga E hK hP 1 (by decide) rfl q1414 rfl dX2_thereAt_17 ?_
    refine lv_bipush (v := nI 69) hx hb dX2_thereAt_20 rfl ?_
    refine lv_iload hx hb dX2_thereAt_22 (lv_at hl 4 rfl) ?_
    refine lv_iadd hx hb dX2_thereAt_24 ?_
    obtain ⟨v3, hv3, hf⟩ := ob hf
    refine m_ald E hK hP (by decide) rfl rfl hv3 dX2_thereAt_25 ?_
    refine lv_iload_n hx hb dX2_thereAt_26 rfl (lv_at hl 1 rfl) ?_
    refine lv_icmp_ne (tgt := 51) hx hb dX2_thereAt_27 (by decide) (fun kc4 => ?_) (fun kc4 => ?_)
    · have hf := ite_f kc4 hf
      refine lv_iinc (v := st.2 + nI 1) (lv' := [(4, .int (st.2 + nI 1)), (0, .ref h), (1, .int x1), (2, .int x2), (3, .int st.1)]) hx hb dX2_thereAt_51 hl (k := 4) rfl rfl (by decide) rfl (fun ls hl => ?_)
      refine lv_goto (tgt := 5) hx hb dX2_thereAt_54 (by decide) ?_
      cases hf
      exact hk _ _ _ (lv_sub hl [1, 2, 3, 4, 0] rfl) hP hS
    · have hf := ite_t kc4 hf
      refine lv_aload_n hx hb dX2_thereAt_30 rfl (lv_at hl 0 rfl) ?_
      refine m_ga E hK hP 1 (by decide) rfl q1414 rfl dX2_thereAt_31 ?_
      refine lv_bipush (v := nI 81) hx hb dX2_thereAt_34 rfl ?_
      refine lv_iload hx hb dX2_thereAt_36 (lv_at hl 4 rfl) ?_
      refine lv_iadd hx hb dX2_thereAt_38 ?_
      obtain ⟨v5, hv5, hf⟩ := ob hf
      refine m_ald E hK hP (by decide) rfl rfl hv5 dX2_thereAt_39 ?_
      refine lv_iload_n hx hb dX2_thereAt_40 rfl (lv_at hl 2 rfl) ?_
      refine lv_icmp_ne (tgt := 51) hx hb dX2_thereAt_41 (by decide) (fun kc6 => ?_) (fun kc6 => ?_)
      · have hf := ite_f kc6 hf
        refine lv_iinc (v := st.2 + nI 1) (lv' := [(4, .int (st.2 + nI 1)), (0, .ref h), (1, .int x1), (2, .int x2), (3, .int st.1)]) hx hb dX2_thereAt_51 hl (k := 4) rfl rfl (by decide) rfl (fun ls hl => ?_)
        refine lv_goto (tgt := 5) hx hb dX2_thereAt_54 (by decide) ?_
        cases hf
        exact hk _ _ _ (lv_sub hl [1, 2, 3, 4, 0] rfl) hP hS
      · have hf := ite_t kc6 hf
        refine lv_iload_n hx hb dX2_thereAt_44 rfl (lv_at hl 3 rfl) ?_
        refine lv_iconst (v := nI 1) hx hb dX2_thereAt_45 rfl ?_
        refine lv_iload hx hb dX2_thereAt_46 (lv_at hl 4 rfl) ?_
        refine lv_ishl hx hb dX2_thereAt_48 ?_
        refine lv_ior hx hb dX2_thereAt_49 ?_
        refine lv_istore_n (lv' := [(3, .int (st.1 ||| ((nI 1) <<< (st.2 &&& 31)))), (0, .ref h), (1, .int x1), (2, .int x2), (4, .int st.2)]) hx hb dX2_thereAt_50 rfl hl (by decide) rfl (fun ls hl => ?_)
        refine lv_iinc (v := st.2 + nI 1) (lv' := [(4, .int (st.2 + nI 1)), (3, .int (st.1 ||| ((nI 1) <<< (st.2 &&& 31)))), (0, .ref h), (1, .int x1), (2, .int x2)]) hx hb dX2_thereAt_51 hl (k := 4) rfl rfl (by decide) rfl (fun ls hl => ?_)
        refine lv_goto (tgt := 5) hx hb dX2_thereAt_54 (by decide) ?_
        cases hf
        exact hk _ _ _ (lv_sub hl [2, 3, 4, 1, 0] rfl) hP hS
set_option maxHeartbeats 4000000 in
theorem dm_thereAt : yX2_thereAt.cls = RX2 ∧ yX2_thereAt.cls ≠ "java/lang/invoke/MethodHandle" ∧ yX2_thereAt.cls ≠ "java/lang/invoke/VarHandle" ∧ (parseMethodDescriptor yX2_thereAt.desc).map (fun d => d.parameters.length) = some 2 := ⟨rfl, by decide +kernel, by decide +kernel, by decide +kernel⟩
set_option maxHeartbeats 4000000 in
theorem tm_thereAt (l : Launch) (D : va_G) (dT : Nat → ClassId) (h : Nat) (x1 : Int32) (x2 : Int32) (μ : nwM) (res : Int32) (hf : fm_thereAt x1 x2 μ = some res) : Met l yX2_thereAt (ws_ yX2_thereAt cX2_thereAt 5 (some .int)) (rmd 0) (mPc D dT h μ [.int x1, .int x2]) (mQi D dT h μ res) 0 0 (mA h) := by
  refine m_met (by decide) rfl (Nat.le_of_ble_eq_true rfl) ?_
  intro p e s m below meth c ls E hK hr hlk hl hP
  have hS : va_S (mA h) s.heap s.heap [] := va_S.rf
  obtain ⟨hx, hb, -, hown, hts⟩ := id E
  have hl : lv_has ls 5 [(0, .ref h), (1, .int x1), (2, .int x2)] := hl
  unfold fm_thereAt at hf
  refine lv_iconst (v := nI 0) hx hb dX2_thereAt_0 rfl ?_
  refine lv_istore_n (lv' := [(3, .int (nI 0)), (0, .ref h), (1, .int x1), (2, .int x2)]) hx hb dX2_thereAt_1 rfl hl (by decide) rfl (fun ls hl => ?_)
  refine lv_iconst (v := nI 0) hx hb dX2_thereAt_2 rfl ?_
  refine lv_istore (lv' := [(4, .int (nI 0)), (3, .int (nI 0)), (0, .ref h), (1, .int x1), (2, .int x2)]) hx hb dX2_thereAt_3 hl (by decide) rfl (fun ls hl => ?_)
  obtain ⟨x7, hx7, hf⟩ := ob hf
  refine fm_thereAt_L5_w E hK x1 x2 μ hx7 (fun ls H locs hl hP hS => ?_) _ _ _ (lv_sub hl [2, 3, 4, 1, 0] rfl) hP hS
  refine lv_iload_n hx hb dX2_thereAt_57 rfl (lv_at hl 0 rfl) ?_
  cases hf
  exact m_iret E hr hlk hP hS rfl dX2_thereAt_58
