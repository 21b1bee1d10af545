/-! walks of NamesWeatherModel, written by genm.py -/
set_option maxRecDepth 100000
set_option maxHeartbeats 4000000 in
noncomputable def fm_child (x1 : Int32) (x2 : Int32) (x3 : Int32) (μ : nwM) : Option (Int32 × nwM) := (wf_ μ 0 (nI 0)).bind fun μ1 => (fm_isIsland x1 μ1).bind fun v3 => (if v3 = 0 then some ((-1), μ1) else (fm_isIn x2 (nI 0) (nI 60) μ1).bind fun v6 => (if v6 = 0 then some ((-1), μ1) else (fm_isIn x3 (nI 0) (nI 1) μ1).bind fun v9 => (if v9 = 0 then some ((-1), μ1) else (fm_thinks μ1).bind fun μ12 => (fm_goesFor x2 μ12).bind fun μ14 => (fm_allAt x1 μ14).bind fun v16 => (if v16 = 0 then (fm_endsThought μ14).bind fun μ28 => some ((-1), μ28) else (if x3 = 0 then (fm_mostAt x1 μ14).bind fun v24 => (fm_endsThought μ14).bind fun μ26 => some (v24, μ26) else (fm_strengthAt x1 μ14).bind fun v20 => (fm_endsThought μ14).bind fun μ22 => some (v20, μ22))))))
set_option maxHeartbeats 4000000 in
theorem dm_child : yX2_child.cls = RX2 ∧ yX2_child.cls ≠ "java/lang/invoke/MethodHandle" ∧ yX2_child.cls ≠ "java/lang/invoke/VarHandle" ∧ (parseMethodDescriptor yX2_child.desc).map (fun d => d.parameters.length) = some 3 := ⟨rfl, by decide +kernel, by decide +kernel, by decide +kernel⟩
set_option maxHeartbeats 4000000 in
theorem tm_child (l : Launch) (D : va_G) (dT : Nat → ClassId) (h : Nat) (x1 : Int32) (x2 : Int32) (x3 : Int32) (μ : nwM) (res : Int32 × nwM) (hf : fm_child x1 x2 x3 μ = some res) : Met l yX2_child (ws_ yX2_child cX2_child 5 (some .int)) (rmd 9) (mPc D dT h μ [.int x1, .int x2, .int x3]) (mQi D dT h res.2 res.1) 0 0 (mA h) := by
  refine m_met (by decide) rfl (Nat.le_of_ble_eq_true rfl) ?_
  intro p e s m below meth c ls E hK hr hlk hl hP
  have hS : va_S (mA h) s.heap s.heap [] := va_S.rf
  obtain ⟨hx, hb, -, hown, hts⟩ := id E
  have hl : lv_has ls 5 [(0, .ref h), (1, .int x1), (2, .int x2), (3, .int x3)] := hl
  unfold fm_child at hf
  refine lv_aload_n hx hb dX2_child_0 rfl (lv_at hl 0 rfl) ?_
  refine lv_iconst (v := nI 0) hx hb dX2_child_1 rfl ?_
  obtain ⟨μ1, hμ1, hf⟩ := ob hf
  refine m_put E hK hP hS 0 (by decide) rfl q1413 rfl rfl rfl hμ1 dX2_child_2 (fun H locs hP hS => ?_)
  refine lv_aload_n hx hb dX2_child_5 rfl (lv_at hl 0 rfl) ?_
  refine lv_iload_n hx hb dX2_child_6 rfl (lv_at hl 1 rfl) ?_
  obtain ⟨v3, hc2, hf⟩ := ob hf
  refine m_calli E hK hP hS (As := [.int x1]) (tm_isIsland l D dT h x1 μ1 _ hc2) (lw_V q1577 q1579 qs60 q166 q1580) dm_isIsland rfl (by decide) (by decide) hl rfl (Nat.le_of_ble_eq_true rfl) dX2_child_7 (fun H locs hP hS => ?_)
  refine lv_if_eq (tgt := 34) hx hb dX2_child_10 (by decide) (fun kc4 => ?_) (fun kc4 => ?_)
  · have hf := ite_t kc4 hf
    refine lv_iconst (v := (-1)) hx hb dX2_child_34 rfl ?_
    cases hf
    exact m_iret E hr hlk hP hS rfl dX2_child_35
  · have hf := ite_f kc4 hf
    refine lv_aload_n hx hb dX2_child_13 rfl (lv_at hl 0 rfl) ?_
    refine lv_iload_n hx hb dX2_child_14 rfl (lv_at hl 2 rfl) ?_
    refine lv_iconst (v := nI 0) hx hb dX2_child_15 rfl ?_
    refine lv_bipush (v := nI 60) hx hb dX2_child_16 rfl ?_
    obtain ⟨v6, hc5, hf⟩ := ob hf
    refine m_calli E hK hP hS (As := [.int x2, .int (nI 0), .int (nI 60)]) (tm_isIn l D dT h x2 (nI 0) (nI 60) μ1 _ hc5) (lw_V q1573 q1575 qs59 q166 q1576) dm_isIn rfl (by decide) (by decide) hl rfl (Nat.le_of_ble_eq_true rfl) dX2_child_18 (fun H locs hP hS => ?_)
    refine lv_if_eq (tgt := 34) hx hb dX2_child_21 (by decide) (fun kc7 => ?_) (fun kc7 => ?_)
    · have hf := ite_t kc7 hf
      refine lv_iconst (v := (-1)) hx hb dX2_child_34 rfl ?_
      cases hf
      exact m_iret E hr hlk hP hS rfl dX2_child_35
    · have hf := ite_f kc7 hf
      refine lv_aload_n hx hb dX2_child_24 rfl (lv_at hl 0 rfl) ?_
      refine lv_iload_n hx hb dX2_child_25 rfl (lv_at hl 3 rfl) ?_
      refine lv_iconst (v := nI 0) hx hb dX2_child_26 rfl ?_
      refine lv_iconst (v := nI 1) hx hb dX2_child_27 rfl ?_
      obtain ⟨v9, hc8, hf⟩ := ob hf
      refine m_calli E hK hP hS (As := [.int x3, .int (nI 0), .int (nI 1)]) (tm_isIn l D dT h x3 (nI 0) (nI 1) μ1 _ hc8) (lw_V q1573 q1575 qs59 q166 q1576) dm_isIn rfl (by decide) (by decide) hl rfl (Nat.le_of_ble_eq_true rfl) dX2_child_28 (fun H locs hP hS => ?_)
      refine lv_if_ne (tgt := 36) hx hb dX2_child_31 (by decide) (fun kc10 => ?_) (fun kc10 => ?_)
      · have hf := ite_f kc10 hf
        refine lv_aload_n hx hb dX2_child_36 rfl (lv_at hl 0 rfl) ?_
        obtain ⟨μ12, hc11, hf⟩ := ob hf
        refine m_callv E hK hP hS (As := []) (tm_thinks l D dT h μ1 _ hc11) (lw_V q1935 q1937 qs135 q166 q1938) dm_thinks rfl (by decide) (by decide) hl rfl (Nat.le_of_ble_eq_true rfl) dX2_child_37 (fun H locs hP hS => ?_)
        refine lv_aload_n hx hb dX2_child_40 rfl (lv_at hl 0 rfl) ?_
        refine lv_iload_n hx hb dX2_child_41 rfl (lv_at hl 2 rfl) ?_
        obtain ⟨μ14, hc13, hf⟩ := ob hf
        refine m_callv E hK hP hS (As := [.int x2]) (tm_goesFor l D dT h x2 μ12 _ hc13) (lw_V q1939 q1941 qs136 q166 q1942) dm_goesFor rfl (by decide) (by decide) hl rfl (Nat.le_of_ble_eq_true rfl) dX2_child_42 (fun H locs hP hS => ?_)
        refine lv_aload_n hx hb dX2_child_45 rfl (lv_at hl 0 rfl) ?_
        refine lv_iload_n hx hb dX2_child_46 rfl (lv_at hl 1 rfl) ?_
        obtain ⟨v16, hc15, hf⟩ := ob hf
        refine m_calli E hK hP hS (As := [.int x1]) (tm_allAt l D dT h x1 μ14 _ hc15) (lw_V q1809 q1811 qs110 q166 q1812) dm_allAt rfl (by decide) (by decide) hl rfl (Nat.le_of_ble_eq_true rfl) dX2_child_47 (fun H locs hP hS => ?_)
        refine lv_if_ne (tgt := 57) hx hb dX2_child_50 (by decide) (fun kc17 => ?_) (fun kc17 => ?_)
        · have hf := ite_f kc17 hf
          refine lv_iload_n hx hb dX2_child_57 rfl (lv_at hl 3 rfl) ?_
          refine lv_if_ne (tgt := 69) hx hb dX2_child_58 (by decide) (fun kc18 => ?_) (fun kc18 => ?_)
          · have hf := ite_f kc18 hf
            refine lv_aload_n hx hb dX2_child_69 rfl (lv_at hl 0 rfl) ?_
            refine lv_iload_n hx hb dX2_child_70 rfl (lv_at hl 1 rfl) ?_
            obtain ⟨v20, hc19, hf⟩ := ob hf
            refine m_calli E hK hP hS (As := [.int x1]) (tm_strengthAt l D dT h x1 μ14 _ hc19) (lw_V q1869 q1871 qs122 q166 q1872) dm_strengthAt rfl (by decide) (by decide) hl rfl (Nat.le_of_ble_eq_true rfl) dX2_child_71 (fun H locs hP hS => ?_)
            refine lv_istore (lv' := [(4, .int v20), (0, .ref h), (1, .int x1), (2, .int x2), (3, .int x3)]) hx hb dX2_child_74 hl (by decide) rfl (fun ls hl => ?_)
            refine lv_aload_n hx hb dX2_child_76 rfl (lv_at hl 1 rfl) ?_
            obtain ⟨μ22, hc21, hf⟩ := ob hf
            refine m_callv E hK hP hS (As := []) (tm_endsThought l D dT h μ14 _ hc21) (lw_V q1943 q1945 qs137 q166 q1946) dm_endsThought rfl (by decide) (by decide) hl rfl (Nat.le_of_ble_eq_true rfl) dX2_child_77 (fun H locs hP hS => ?_)
            refine lv_iload hx hb dX2_child_80 (lv_at hl 0 rfl) ?_
            cases hf
            exact m_iret E hr hlk hP hS rfl dX2_child_82
          · have hf := ite_t kc18 hf
            refine lv_aload_n hx hb dX2_child_61 rfl (lv_at hl 0 rfl) ?_
            refine lv_iload_n hx hb dX2_child_62 rfl (lv_at hl 1 rfl) ?_
            obtain ⟨v24, hc23, hf⟩ := ob hf
            refine m_calli E hK hP hS (As := [.int x1]) (tm_mostAt l D dT h x1 μ14 _ hc23) (lw_V q1865 q1867 qs121 q166 q1868) dm_mostAt rfl (by decide) (by decide) hl rfl (Nat.le_of_ble_eq_true rfl) dX2_child_63 (fun H locs hP hS => ?_)
            refine lv_goto (tgt := 74) hx hb dX2_child_66 (by decide) ?_
            refine lv_istore (lv' := [(4, .int v24), (0, .ref h), (1, .int x1), (2, .int x2), (3, .int x3)]) hx hb dX2_child_74 hl (by decide) rfl (fun ls hl => ?_)
            refine lv_aload_n hx hb dX2_child_76 rfl (lv_at hl 1 rfl) ?_
            obtain ⟨μ26, hc25, hf⟩ := ob hf
            refine m_callv E hK hP hS (As := []) (tm_endsThought l D dT h μ14 _ hc25) (lw_V q1943 q1945 qs137 q166 q1946) dm_endsThought rfl (by decide) (by decide) hl rfl (Nat.le_of_ble_eq_true rfl) dX2_child_77 (fun H locs hP hS => ?_)
            refine lv_iload hx hb dX2_child_80 (lv_at hl 0 rfl) ?_
            cases hf
            exact m_iret E hr hlk hP hS rfl dX2_child_82
        · have hf := ite_t kc17 hf
          refine lv_iconst (v := (-1)) hx hb dX2_child_53 rfl ?_
          refine lv_goto (tgt := 74) hx hb dX2_child_54 (by decide) ?_
          refine lv_istore (lv' := [(4, .int (-1)), (0, .ref h), (1, .int x1), (2, .int x2), (3, .int x3)]) hx hb dX2_child_74 hl (by decide) rfl (fun ls hl => ?_)
          refine lv_aload_n hx hb dX2_child_76 rfl (lv_at hl 1 rfl) ?_
          obtain ⟨μ28, hc27, hf⟩ := ob hf
          refine m_callv E hK hP hS (As := []) (tm_endsThought l D dT h μ14 _ hc27) (lw_V q1943 q1945 qs137 q166 q1946) dm_endsThought rfl (by decide) (by decide) hl rfl (Nat.le_of_ble_eq_true rfl) dX2_child_77 (fun H locs hP hS => ?_)
          refine lv_iload hx hb dX2_child_80 (lv_at hl 0 rfl) ?_
          cases hf
          exact m_iret E hr hlk hP hS rfl dX2_child_82
      · have hf := ite_t kc10 hf
        refine lv_iconst (v := (-1)) hx hb dX2_child_34 rfl ?_
        cases hf
        exact m_iret E hr hlk hP hS rfl dX2_child_35
set_option maxHeartbeats 4000000 in
noncomputable def fm_areAtPeace_L14 (x1 : Int32) (x2 : Int32) (μ : nwM) : Int32 → Option ((Int32) ⊕ ((Int32) ⊕ (Int32))) := fun st => (if x2 ≤ st then some (.inr (.inl (x2 + nI 1))) else (if ((x1 >>> (x2 &&& 31)) &&& (nI 1)) = (nI 1) then (if ((x1 >>> (st &&& 31)) &&& (nI 1)) = (nI 1) then (rd_ μ 1 105 ((nI 69) + x2)).bind fun v6 => (rd_ μ 1 105 ((nI 69) + st)).bind fun v7 => (if v6 = v7 then (rd_ μ 1 105 ((nI 45) + x2)).bind fun v9 => (rd_ μ 1 105 ((nI 45) + st)).bind fun v10 => (fm_doClash v9 v10 μ).bind fun v12 => (if v12 = 0 then some (.inl (st + nI 1)) else some (.inr (.inr (nI 0)))) else some (.inl (st + nI 1))) else some (.inl (st + nI 1))) else some (.inl (st + nI 1))))
set_option maxHeartbeats 4000000 in
noncomputable def fm_areAtPeace_L2 (x1 : Int32) (μ : nwM) : Int32 → Option ((Int32) ⊕ (Int32)) := fun st => (rd_ μ 1 105 (nI 4)).bind fun v1 => (if v1 ≤ st then some (.inr (nI 1)) else wh_ (fm_areAtPeace_L14 x1 st μ) (nI 0))
set_option maxHeartbeats 4000000 in
noncomputable def fm_areAtPeace (x1 : Int32) (μ : nwM) : Option (Int32) := wh_ (fm_areAtPeace_L2 x1 μ) (nI 0)
set_option maxHeartbeats 4000000 in
theorem fm_areAtPeace_L14_w {p : Program} {l : Launch} {e : Env} {s : State} {m : MethodId} {args : Array Value} {below : List Frame} {meth : Method} {c : Code} {D : va_G} {dT : Nat → ClassId} {h : Nat} (E : CallFix p m c cX2_areAtPeace 4 s args lw_all RX2) (hK : va_K D nwCl (nwT dT) s) (hr : meth.sig.returnType = (some .boolean)) (hlk : meth.locks = false) (x1 : Int32) (x2 : Int32) (μ : nwM) {res : Int32} {st : Int32} {x : (Int32) ⊕ (Int32)} (hw : wh_ (fm_areAtPeace_L14 x1 x2 μ) st = some x) (hk : (Sum.elim (fun st : Int32 => ∀ (ls : Array Slot) (H : Heap) (locs : List Loc), lv_has ls 4 [(0, .ref h), (1, .int x1), (2, .int st)] → PM D dT h μ H → va_S (mA h) s.heap H locs → W p l e (rmd 1) s m args below meth c H locs 0 0 (MQ below (mQi D dT h μ res) args s 0 0 (mA h)) (F0 m 2 ls [])) (fun r : Int32 => r = res)) x) : (fun st : Int32 => ∀ (ls : Array Slot) (H : Heap) (locs : List Loc), lv_has ls 4 [(0, .ref h), (1, .int x1), (2, .int x2), (3, .int st)] → PM D dT h μ H → va_S (mA h) s.heap H locs → W p l e (rmd 1) s m args below meth c H locs 0 0 (MQ below (mQi D dT h μ res) args s 0 0 (mA h)) (F0 m 14 ls [])) st := by
  obtain ⟨hx, hb, -, hown, hts⟩ := id E
  refine wh_run (P := (fun st : Int32 => ∀ (ls : Array Slot) (H : Heap) (locs : List Loc), lv_has ls 4 [(0, .ref h), (1, .int x1), (2, .int x2), (3, .int st)] → PM D dT h μ H → va_S (mA h) s.heap H locs → W p l e (rmd 1) s m args below meth c H locs 0 0 (MQ below (mQi D dT h μ res) args s 0 0 (mA h)) (F0 m 14 ls []))) (PE := (Sum.elim (fun st : Int32 => ∀ (ls : Array Slot) (H : Heap) (locs : List Loc), lv_has ls 4 [(0, .ref h), (1, .int x1), (2, .int st)] → PM D dT h μ H → va_S (mA h) s.heap H locs → W p l e (rmd 1) s m args below meth c H locs 0 0 (MQ below (mQi D dT h μ res) args s 0 0 (mA h)) (F0 m 2 ls [])) (fun r : Int32 => r = res))) ?_ hw hk
  clear hw hk
  intro st x hf hk ls H locs hl hP hS
  refine lv_iload_n hx hb dX2_areAtPeace_14 rfl (lv_at hl 3 rfl) ?_
  refine lv_iload_n hx hb dX2_areAtPeace_15 rfl (lv_at hl 2 rfl) ?_
  refine lv_icmp_ge (tgt := 91) hx hb dX2_areAtPeace_16 (by decide) (fun kc3 => ?_) (fun kc3 => ?_)
  · have hf := ite_t kc3 hf
    refine lv_iinc (v := x2 + nI 1) (lv' := [(2, .int (x2 + nI 1)), (0, .ref h), (1, .int x1), (3, .int st)]) hx hb dX2_areAtPeace_91 hl (k := 2) rfl rfl (by decide) rfl (fun ls hl => ?_)
    refine lv_goto (tgt := 2) hx hb dX2_areAtPeace_94 (by decide) ?_
    cases hf
    exact hk _ _ _ (lv_sub hl [1, 2, 0] rfl) hP hS
  · have hf := ite_f kc3 hf
    refine lv_iload_n hx hb dX2_areAtPeace_19 rfl (lv_at hl 1 rfl) ?_
    refine lv_iload_n hx hb dX2_areAtPeace_20 rfl (lv_at hl 2 rfl) ?_
    refine lv_ishr hx hb dX2_areAtPeace_21 ?_
    refine lv_iconst (v := nI 1) hx hb dX2_areAtPeace_22 rfl ?_
    refine lv_iand hx hb dX2_areAtPeace_23 ?_
    refine lv_iconst (v := nI 1) hx hb dX2_areAtPeace_24 rfl ?_
    refine lv_icmp_ne (tgt := 85) hx hb dX2_areAtPeace_25 (by decide) (fun kc4 => ?_) (fun kc4 => ?_)
    · have hf := ite_f kc4 hf
      refine lv_iinc (v := st + nI 1) (lv' := [(3, .int (st + nI 1)), (0, .ref h), (1, .int x1), (2, .int x2)]) hx hb dX2_areAtPeace_85 hl (k := 3) rfl rfl (by decide) rfl (fun ls hl => ?_)
      refine lv_goto (tgt := 14) hx hb dX2_areAtPeace_88 (by decide) ?_
      cases hf
      exact hk _ _ _ (lv_sub hl [1, 2, 3, 0] rfl) hP hS
    · have hf := ite_t kc4 hf
      refine lv_iload_n hx hb dX2_areAtPeace_28 rfl (lv_at hl 1 rfl) ?_
      refine lv_iload_n hx hb dX2_areAtPeace_29 rfl (lv_at hl 3 rfl) ?_
      refine lv_ishr hx hb dX2_areAtPeace_30 ?_
      refine lv_iconst (v := nI 1) hx hb dX2_areAtPeace_31 rfl ?_
      refine lv_iand hx hb dX2_areAtPeace_32 ?_
      refine lv_iconst (v := nI 1) hx hb dX2_areAtPeace_33 rfl ?_
      refine lv_icmp_ne (tgt := 85) hx hb dX2_areAtPeace_34 (by decide) (fun kc5 => ?_) (fun kc5 => ?_)
      · have hf := ite_f kc5 hf
        refine lv_iinc (v := st + nI 1) (lv' := [(3, .int (st + nI 1)), (0, .ref h), (1, .int x1), (2, .int x2)]) hx hb dX2_areAtPeace_85 hl (k := 3) rfl rfl (by decide) rfl (fun ls hl => ?_)
        refine lv_goto (tgt := 14) hx hb dX2_areAtPeace_88 (by decide) ?_
        cases hf
        exact hk _ _ _ (lv_sub hl [1, 2, 3, 0] rfl) hP hS
      · have hf := ite_t kc5 hf
        refine lv_aload_n hx hb dX2_areAtPeace_37 rfl (lv_at hl 0 rfl) ?_
        refine m_ga E hK hP 1 (by decide) rfl q1414 rfl dX2_areAtPeace_38 ?_
        refine lv_bipush (v := nI 69) hx hb dX2_areAtPeace_41 rfl ?_
        refine lv_iload_n hx hb dX2_areAtPeace_43 rfl (lv_at hl 2 rfl) ?_
        refine lv_iadd hx hb dX2_areAtPeace_44 ?_
        obtain ⟨v6, hv6, hf⟩ := ob hf
        refine m_ald E hK hP (by decide) rfl rfl hv6 dX2_areAtPeace_45 ?_
        refine lv_aload_n hx hb dX2_areAtPeace_46 rfl (lv_at hl 0 rfl) ?_
        refine m_ga E hK hP 1 (by decide) rfl q1414 rfl dX2_areAtPeace_47 ?_
        refine lv_bipush (v := nI 69) hx hb dX2_areAtPeace_50 rfl ?_
        refine lv_iload_n hx hb dX2_areAtPeace_52 rfl (lv_at hl 3 rfl) ?_
        refine lv_iadd hx hb dX2_areAtPeace_53 ?_
        obtain ⟨v7, hv7, hf⟩ := ob hf
        refine m_ald E hK hP (by decide) rfl rfl hv7 dX2_areAtPeace_54 ?_
        refine lv_icmp_ne (tgt := 85) hx hb dX2_areAtPeace_55 (by decide) (fun kc8 => ?_) (fun kc8 => ?_)
        · have hf := ite_f kc8 hf
          refine lv_iinc (v := st + nI 1) (lv' := [(3, .int (st + nI 1)), (0, .ref h), (1, .int x1), (2, .int x2)]) hx hb dX2_areAtPeace_85 hl (k := 3) rfl rfl (by decide) rfl (fun ls hl => ?_)
          refine lv_goto (tgt := 14) hx hb dX2_areAtPeace_88 (by decide) ?_
          cases hf
          exact hk _ _ _ (lv_sub hl [1, 2, 3, 0] rfl) hP hS
        · have hf := ite_t kc8 hf
          refine lv_aload_n hx hb dX2_areAtPeace_58 rfl (lv_at hl 0 rfl) ?_
          refine lv_aload_n hx hb dX2_areAtPeace_59 rfl (lv_at hl 0 rfl) ?_
          refine m_ga E hK hP 1 (by decide) rfl q1414 rfl dX2_areAtPeace_60 ?_
          refine lv_bipush (v := nI 45) hx hb dX2_areAtPeace_63 rfl ?_
          refine lv_iload_n hx hb dX2_areAtPeace_65 rfl (lv_at hl 2 rfl) ?_
          refine lv_iadd hx hb dX2_areAtPeace_66 ?_
          obtain ⟨v9, hv9, hf⟩ := ob hf
          refine m_ald E hK hP (by decide) rfl rfl hv9 dX2_areAtPeace_67 ?_
          refine lv_aload_n hx hb dX2_areAtPeace_68 rfl (lv_at hl 0 rfl) ?_
          refine m_ga E hK hP 1 (by decide) rfl q1414 rfl dX2_areAtPeace_69 ?_
          refine lv_bipush (v := nI 45) hx hb dX2_areAtPeace_72 rfl ?_
          refine lv_iload_n hx hb dX2_areAtPeace_74 rfl (lv_at hl 3 rfl) ?_
          refine lv_iadd hx hb dX2_areAtPeace_75 ?_
          obtain ⟨v10, hv10, hf⟩ := ob hf
          refine m_ald E hK hP (by decide) rfl rfl hv10 dX2_areAtPeace_76 ?_
          obtain ⟨v12, hc11, hf⟩ := ob hf
          refine m_calli E hK hP hS (As := [.int v9, .int v10]) (tm_doClash l D dT h v9 v10 μ _ hc11) (lw_V q1955 q1957 qs138 q166 q1958) dm_doClash rfl (by decide) (by decide) hl rfl (Nat.le_of_ble_eq_true rfl) dX2_areAtPeace_77 (fun H locs hP hS => ?_)
          refine lv_if_eq (tgt := 85) hx hb dX2_areAtPeace_80 (by decide) (fun kc13 => ?_) (fun kc13 => ?_)
          · have hf := ite_t kc13 hf
            refine lv_iinc (v := st + nI 1) (lv' := [(3, .int (st + nI 1)), (0, .ref h), (1, .int x1), (2, .int x2)]) hx hb dX2_areAtPeace_85 hl (k := 3) rfl rfl (by decide) rfl (fun ls hl => ?_)
            refine lv_goto (tgt := 14) hx hb dX2_areAtPeace_88 (by decide) ?_
            cases hf
            exact hk _ _ _ (lv_sub hl [1, 2, 3, 0] rfl) hP hS
          · have hf := ite_f kc13 hf
            refine lv_iconst (v := nI 0) hx hb dX2_areAtPeace_83 rfl ?_
            cases hf
            have hk : nI 0 = res := hk
            subst hk
            exact m_zret E hr hlk hP hS rfl dX2_areAtPeace_84
set_option maxHeartbeats 4000000 in
theorem fm_areAtPeace_L2_w {p : Program} {l : Launch} {e : Env} {s : State} {m : MethodId} {args : Array Value} {below : List Frame} {meth : Method} {c : Code} {D : va_G} {dT : Nat → ClassId} {h : Nat} (E : CallFix p m c cX2_areAtPeace 4 s args lw_all RX2) (hK : va_K D nwCl (nwT dT) s) (hr : meth.sig.returnType = (some .boolean)) (hlk : meth.locks = false) (x1 : Int32) (μ : nwM) {res : Int32} {st : Int32} {x : Int32} (hw : wh_ (fm_areAtPeace_L2 x1 μ) st = some x) (hk : (fun r : Int32 => r = res) x) : (fun st : Int32 => ∀ (ls : Array Slot) (H : Heap) (locs : List Loc), lv_has ls 4 [(0, .ref h), (1, .int x1), (2, .int st)] → PM D dT h μ H → va_S (mA h) s.heap H locs → W p l e (rmd 1) s m args below meth c H locs 0 0 (MQ below (mQi D dT h μ res) args s 0 0 (mA h)) (F0 m 2 ls [])) st := by
  obtain ⟨hx, hb, -, hown, hts⟩ := id E
  refine wh_run (P := (fun st : Int32 => ∀ (ls : Array Slot) (H : Heap) (locs : List Loc), lv_has ls 4 [(0, .ref h), (1, .int x1), (2, .int st)] → PM D dT h μ H → va_S (mA h) s.heap H locs → W p l e (rmd 1) s m args below meth c H locs 0 0 (MQ below (mQi D dT h μ res) args s 0 0 (mA h)) (F0 m 2 ls []))) (PE := (fun r : Int32 => r = res)) ?_ hw hk
  clear hw hk
  intro st x hf hk ls H locs hl hP hS
  refine lv_iload_n hx hb dX2_areAtPeace_2 rfl (lv_at hl 2 rfl) ?_
  refine lv_aload_n hx hb dX2_areAtPeace_3 rfl (lv_at hl 0 rfl) ?_
  refine m_ga E hK hP 1 (by decide) rfl q1414 rfl dX2_areAtPeace_4 ?_
  refine lv_iconst (v := nI 4) hx hb dX2_areAtPeace_7 rfl ?_
  obtain ⟨v1, hv1, hf⟩ := ob hf
  refine m_ald E hK hP (by decide) rfl rfl hv1 dX2_areAtPeace_8 ?_
  refine lv_icmp_ge (tgt := 97) hx hb dX2_areAtPeace_9 (by decide) (fun kc2 => ?_) (fun kc2 => ?_)
  · have hf := ite_t kc2 hf
    refine lv_iconst (v := nI 1) hx hb dX2_areAtPeace_97 rfl ?_
    cases hf
    have hk : nI 1 = res := hk
    subst hk
    exact m_zret E hr hlk hP hS rfl dX2_areAtPeace_98
  · have hf := ite_f kc2 hf
    refine lv_iconst (v := nI 0) hx hb dX2_areAtPeace_12 rfl ?_
    refine lv_istore_n (lv' := [(3, .int (nI 0)), (0, .ref h), (1, .int x1), (2, .int st)]) hx hb dX2_areAtPeace_13 rfl hl (by decide) rfl (fun ls hl => ?_)
    exact fm_areAtPeace_L14_w E hK hr hlk x1 st μ hf hk _ _ _ (lv_sub hl [1, 2, 3, 0] rfl) hP hS
set_option maxHeartbeats 4000000 in
theorem dm_areAtPeace : yX2_areAtPeace.cls = RX2 ∧ yX2_areAtPeace.cls ≠ "java/lang/invoke/MethodHandle" ∧ yX2_areAtPeace.cls ≠ "java/lang/invoke/VarHandle" ∧ (parseMethodDescriptor yX2_areAtPeace.desc).map (fun d => d.parameters.length) = some 1 := ⟨rfl, by decide +kernel, by decide +kernel, by decide +kernel⟩
set_option maxHeartbeats 4000000 in
theorem tm_areAtPeace (l : Launch) (D : va_G) (dT : Nat → ClassId) (h : Nat) (x1 : Int32) (μ : nwM) (res : Int32) (hf : fm_areAtPeace x1 μ = some res) : Met l yX2_areAtPeace (ws_ yX2_areAtPeace cX2_areAtPeace 4 (some .boolean)) (rmd 1) (mPc D dT h μ [.int x1]) (mQi D dT h μ res) 0 0 (mA h) := by
  refine m_met (by decide) rfl (Nat.le_of_ble_eq_true rfl) ?_
  intro p e s m below meth c ls E hK hr hlk hl hP
  have hS : va_S (mA h) s.heap s.heap [] := va_S.rf
  obtain ⟨hx, hb, -, hown, hts⟩ := id E
  have hl : lv_has ls 4 [(0, .ref h), (1, .int x1)] := hl
  unfold fm_areAtPeace at hf
  refine lv_iconst (v := nI 0) hx hb dX2_areAtPeace_0 rfl ?_
  refine lv_istore_n (lv' := [(2, .int (nI 0)), (0, .ref h), (1, .int x1)]) hx hb dX2_areAtPeace_1 rfl hl (by decide) rfl (fun ls hl => ?_)
  exact fm_areAtPeace_L2_w E hK hr hlk x1 μ hf rfl _ _ _ (lv_sub hl [1, 2, 0] rfl) hP hS
set_option maxHeartbeats 4000000 in
noncomputable def fm_anew_L27 (x1 : Int32) (x2 : Int32) (μ : nwM) : (Int32 × Int32) → Option ((Int32 × Int32) ⊕ (Int32)) := fun st => (rd_ μ 1 105 (nI 4)).bind fun v7 => (if ((nI 1) <<< (v7 &&& 31)) ≤ st.2 then some (.inr st.1) else (if (st.2 &&& (x2 ^^^ (-1))) = 0 then (if st.1 = (-1) then (fm_areAtPeace (x2 &&& (st.2 ^^^ (-1))) μ).bind fun v12 => (if v12 = 0 then some (.inl (st.1, st.2 + nI 1)) else some (.inl (st.2, st.2 + nI 1))) else (fm_onesOf st.2 μ).bind fun v15 => (fm_onesOf st.1 μ).bind fun v17 => (if v17 ≤ v15 then some (.inl (st.1, st.2 + nI 1)) else (fm_areAtPeace (x2 &&& (st.2 ^^^ (-1))) μ).bind fun v20 => (if v20 = 0 then some (.inl (st.1, st.2 + nI 1)) else some (.inl (st.2, st.2 + nI 1))))) else some (.inl (st.1, st.2 + nI 1))))
set_option maxHeartbeats 4000000 in
noncomputable def fm_anew (x1 : Int32) (μ : nwM) : Option (Int32 × nwM) := (wf_ μ 0 (nI 0)).bind fun μ1 => (fm_isIn x1 (nI 0) (nI 1) μ1).bind fun v3 => (if v3 = 0 then some ((-1), μ1) else (fm_living μ1).bind fun v6 => (wh_ (fm_anew_L27 x1 v6 μ1) ((-1), nI 0)).bind fun x22 => (if x1 = 0 then (fm_onesOf x22 μ1).bind fun v25 => some (v25, μ1) else some (x22, μ1)))
set_option maxHeartbeats 4000000 in
theorem fm_anew_L27_w {p : Program} {l : Launch} {e : Env} {s : State} {m : MethodId} {args : Array Value} {below : List Frame} {meth : Method} {c : Code} {Q : State → Prop} {D : va_G} {dT : Nat → ClassId} {h : Nat} (E : CallFix p m c cX2_anew 5 s args lw_all RX2) (hK : va_K D nwCl (nwT dT) s) (x1 : Int32) (x2 : Int32) (μ : nwM) {st : Int32 × Int32} {x : Int32} (hw : wh_ (fm_anew_L27 x1 x2 μ) st = some x) (hk : (fun x : Int32 => ∀ (ls : Array Slot) (H : Heap) (locs : List Loc), lv_has ls 5 [(0, .ref h), (1, .int x1), (3, .int x)] → PM D dT h μ H → va_S (mA h) s.heap H locs → W p l e (rmd 2) s m args below meth c H locs 0 0 Q (F0 m 90 ls [])) x) : (fun st : Int32 × Int32 => ∀ (ls : Array Slot) (H : Heap) (locs : List Loc), lv_has ls 5 [(0, .ref h), (1, .int x1), (2, .int x2), (3, .int st.1), (4, .int st.2)] → PM D dT h μ H → va_S (mA h) s.heap H locs → W p l e (rmd 2) s m args below meth c H locs 0 0 Q (F0 m 27 ls [])) st := by
  obtain ⟨hx, hb, -, hown, hts⟩ := id E
  refine wh_run (P := (fun st : Int32 × Int32 => ∀ (ls : Array Slot) (H : Heap) (locs : List Loc), lv_has ls 5 [(0, .ref h), (1, .int x1), (2, .int x2), (3, .int st.1), (4, .int st.2)] → PM D dT h μ H → va_S (mA h) s.heap H locs → W p l e (rmd 2) s m args below meth c H locs 0 0 Q (F0 m 27 ls []))) (PE := (fun x : Int32 => ∀ (ls : Array Slot) (H : Heap) (locs : List Loc), lv_has ls 5 [(0, .ref h), (1, .int x1), (3, .int x)] → PM D dT h μ H → va_S (mA h) s.heap H locs → W p l e (rmd 2) s m args below meth c H locs 0 0 Q (F0 m 90 ls []))) ?_ hw hk
  clear hw hk
  intro st x hf hk ls H locs hl hP hS
  refine lv_iload hx hb dX2_anew_27 (lv_at hl 4 rfl) ?_
  refine lv_iconst (v := nI 1) hx hb dX2_anew_29 rfl ?_
  refine lv_aload_n hx hb dX2_anew_30 rfl (lv_at hl 0 rfl) ?_
  refine m_ga E hK hP 1 (by decide) rfl q1414 rfl dX2_anew_31 ?_
  refine lv_iconst (v := nI 4) hx hb dX2_anew_34 rfl ?_
  obtain ⟨v7, hv7, hf⟩ := ob hf
  refine m_ald E hK hP (by decide) rfl rfl hv7 dX2_anew_35 ?_
  refine lv_ishl hx hb dX2_anew_36 ?_
  refine lv_icmp_ge (tgt := 90) hx hb dX2_anew_37 (by decide) (fun kc8 => ?_) (fun kc8 => ?_)
  · have hf := ite_t kc8 hf
    cases hf
    exact hk _ _ _ (lv_sub hl [0, 1, 3] rfl) hP hS
  · have hf := ite_f kc8 hf
    refine lv_iload hx hb dX2_anew_40 (lv_at hl 4 rfl) ?_
    refine lv_iload_n hx hb dX2_anew_42 rfl (lv_at hl 2 rfl) ?_
    refine lv_iconst (v := (-1)) hx hb dX2_anew_43 rfl ?_
    refine lv_ixor hx hb dX2_anew_44 ?_
    refine lv_iand hx hb dX2_anew_45 ?_
    refine lv_if_ne (tgt := 84) hx hb dX2_anew_46 (by decide) (fun kc9 => ?_) (fun kc9 => ?_)
    · have hf := ite_f kc9 hf
      refine lv_iinc (v := st.2 + nI 1) (lv' := [(4, .int (st.2 + nI 1)), (0, .ref h), (1, .int x1), (2, .int x2), (3, .int st.1)]) hx hb dX2_anew_84 hl (k := 4) rfl rfl (by decide) rfl (fun ls hl => ?_)
      refine lv_goto (tgt := 27) hx hb dX2_anew_87 (by decide) ?_
      cases hf
      exact hk _ _ _ (lv_sub hl [1, 2, 3, 4, 0] rfl) hP hS
    · have hf := ite_t kc9 hf
      refine lv_iload_n hx hb dX2_anew_49 rfl (lv_at hl 3 rfl) ?_
      refine lv_iconst (v := (-1)) hx hb dX2_anew_50 rfl ?_
      refine lv_icmp_eq (tgt := 68) hx hb dX2_anew_51 (by decide) (fun kc10 => ?_) (fun kc10 => ?_)
      · have hf := ite_t kc10 hf
        refine lv_aload_n hx hb dX2_anew_68 rfl (lv_at hl 0 rfl) ?_
        refine lv_iload_n hx hb dX2_anew_69 rfl (lv_at hl 2 rfl) ?_
        refine lv_iload hx hb dX2_anew_70 (lv_at hl 4 rfl) ?_
        refine lv_iconst (v := (-1)) hx hb dX2_anew_72 rfl ?_
        refine lv_ixor hx hb dX2_anew_73 ?_
        refine lv_iand hx hb dX2_anew_74 ?_
        obtain ⟨v12, hc11, hf⟩ := ob hf
        refine m_calli E hK hP hS (As := [.int (x2 &&& (st.2 ^^^ (-1)))]) (tm_areAtPeace l D dT h (x2 &&& (st.2 ^^^ (-1))) μ _ hc11) (lw_V q2044 q2046 qs152 q166 q2047) dm_areAtPeace rfl (by decide) (by decide) hl rfl (Nat.le_of_ble_eq_true rfl) dX2_anew_75 (fun H locs hP hS => ?_)
        refine lv_if_eq (tgt := 84) hx hb dX2_anew_78 (by decide) (fun kc13 => ?_) (fun kc13 => ?_)
        · have hf := ite_t kc13 hf
          refine lv_iinc (v := st.2 + nI 1) (lv' := [(4, .int (st.2 + nI 1)), (0, .ref h), (1, .int x1), (2, .int x2), (3, .int st.1)]) hx hb dX2_anew_84 hl (k := 4) rfl rfl (by decide) rfl (fun ls hl => ?_)
          refine lv_goto (tgt := 27) hx hb dX2_anew_87 (by decide) ?_
          cases hf
          exact hk _ _ _ (lv_sub hl [1, 2, 3, 4, 0] rfl) hP hS
        · have hf := ite_f kc13 hf
          refine lv_iload hx hb dX2_anew_81 (lv_at hl 4 rfl) ?_
          refine lv_istore_n (lv' := [(3, .int st.2), (0, .ref h), (1, .int x1), (2, .int x2), (4, .int st.2)]) hx hb dX2_anew_83 rfl hl (by decide) rfl (fun ls hl => ?_)
          refine lv_iinc (v := st.2 + nI 1) (lv' := [(4, .int (st.2 + nI 1)), (3, .int st.2), (0, .ref h), (1, .int x1), (2, .int x2)]) hx hb dX2_anew_84 hl (k := 4) rfl rfl (by decide) rfl (fun ls hl => ?_)
          refine lv_goto (tgt := 27) hx hb dX2_anew_87 (by decide) ?_
          cases hf
          exact hk _ _ _ (lv_sub hl [2, 3, 4, 1, 0] rfl) hP hS
      · have hf := ite_f kc10 hf
        refine lv_aload_n hx hb dX2_anew_54 rfl (lv_at hl 0 rfl) ?_
        refine lv_iload hx hb dX2_anew_55 (lv_at hl 4 rfl) ?_
        obtain ⟨v15, hc14, hf⟩ := ob hf
        refine m_calli E hK hP hS (As := [.int st.2]) (tm_onesOf l D dT h st.2 μ _ hc14) (lw_V q1817 q1819 qs112 q166 q1820) dm_onesOf rfl (by decide) (by decide) hl rfl (Nat.le_of_ble_eq_true rfl) dX2_anew_57 (fun H locs hP hS => ?_)
        refine lv_aload_n hx hb dX2_anew_60 rfl (lv_at hl 0 rfl) ?_
        refine lv_iload_n hx hb dX2_anew_61 rfl (lv_at hl 3 rfl) ?_
        obtain ⟨v17, hc16, hf⟩ := ob hf
        refine m_calli E hK hP hS (As := [.int st.1]) (tm_onesOf l D dT h st.1 μ _ hc16) (lw_V q1817 q1819 qs112 q166 q1820) dm_onesOf rfl (by decide) (by decide) hl rfl (Nat.le_of_ble_eq_true rfl) dX2_anew_62 (fun H locs hP hS => ?_)
        refine lv_icmp_ge (tgt := 84) hx hb dX2_anew_65 (by decide) (fun kc18 => ?_) (fun kc18 => ?_)
        · have hf := ite_t kc18 hf
          refine lv_iinc (v := st.2 + nI 1) (lv' := [(4, .int (st.2 + nI 1)), (0, .ref h), (1, .int x1), (2, .int x2), (3, .int st.1)]) hx hb dX2_anew_84 hl (k := 4) rfl rfl (by decide) rfl (fun ls hl => ?_)
          refine lv_goto (tgt := 27) hx hb dX2_anew_87 (by decide) ?_
          cases hf
          exact hk _ _ _ (lv_sub hl [1, 2, 3, 4, 0] rfl) hP hS
        · have hf := ite_f kc18 hf
          refine lv_aload_n hx hb dX2_anew_68 rfl (lv_at hl 0 rfl) ?_
          refine lv_iload_n hx hb dX2_anew_69 rfl (lv_at hl 2 rfl) ?_
          refine lv_iload hx hb dX2_anew_70 (lv_at hl 4 rfl) ?_
          refine lv_iconst (v := (-1)) hx hb dX2_anew_72 rfl ?_
          refine lv_ixor hx hb dX2_anew_73 ?_
          refine lv_iand hx hb dX2_anew_74 ?_
          obtain ⟨v20, hc19, hf⟩ := ob hf
          refine m_calli E hK hP hS (As := [.int (x2 &&& (st.2 ^^^ (-1)))]) (tm_areAtPeace l D dT h (x2 &&& (st.2 ^^^ (-1))) μ _ hc19) (lw_V q2044 q2046 qs152 q166 q2047) dm_areAtPeace rfl (by decide) (by decide) hl rfl (Nat.le_of_ble_eq_true rfl) dX2_anew_75 (fun H locs hP hS => ?_)
          refine lv_if_eq (tgt := 84) hx hb dX2_anew_78 (by decide) (fun kc21 => ?_) (fun kc21 => ?_)
          · have hf := ite_t kc21 hf
            refine lv_iinc (v := st.2 + nI 1) (lv' := [(4, .int (st.2 + nI 1)), (0, .ref h), (1, .int x1), (2, .int x2), (3, .int st.1)]) hx hb dX2_anew_84 hl (k := 4) rfl rfl (by decide) rfl (fun ls hl => ?_)
            refine lv_goto (tgt := 27) hx hb dX2_anew_87 (by decide) ?_
            cases hf
            exact hk _ _ _ (lv_sub hl [1, 2, 3, 4, 0] rfl) hP hS
          · have hf := ite_f kc21 hf
            refine lv_iload hx hb dX2_anew_81 (lv_at hl 4 rfl) ?_
            refine lv_istore_n (lv' := [(3, .int st.2), (0, .ref h), (1, .int x1), (2, .int x2), (4, .int st.2)]) hx hb dX2_anew_83 rfl hl (by decide) rfl (fun ls hl => ?_)
            refine lv_iinc (v := st.2 + nI 1) (lv' := [(4, .int (st.2 + nI 1)), (3, .int st.2), (0, .ref h), (1, .int x1), (2, .int x2)]) hx hb dX2_anew_84 hl (k := 4) rfl rfl (by decide) rfl (fun ls hl => ?_)
            refine lv_goto (tgt := 27) hx hb dX2_anew_87 (by decide) ?_
            cases hf
            exact hk _ _ _ (lv_sub hl [2, 3, 4, 1, 0] rfl) hP hS
set_option maxHeartbeats 4000000 in
theorem dm_anew : yX2_anew.cls = RX2 ∧ yX2_anew.cls ≠ "java/lang/invoke/MethodHandle" ∧ yX2_anew.cls ≠ "java/lang/invoke/VarHandle" ∧ (parseMethodDescriptor yX2_anew.desc).map (fun d => d.parameters.length) = some 1 := ⟨rfl, by decide +kernel, by decide +kernel, by decide +kernel⟩
set_option maxHeartbeats 4000000 in
theorem tm_anew (l : Launch) (D : va_G) (dT : Nat → ClassId) (h : Nat) (x1 : Int32) (μ : nwM) (res : Int32 × nwM) (hf : fm_anew x1 μ = some res) : Met l yX2_anew (ws_ yX2_anew cX2_anew 5 (some .int)) (rmd 2) (mPc D dT h μ [.int x1]) (mQi D dT h res.2 res.1) 0 0 (mA h) := by
  refine m_met (by decide) rfl (Nat.le_of_ble_eq_true rfl) ?_
  intro p e s m below meth c ls E hK hr hlk hl hP
  have hS : va_S (mA h) s.heap s.heap [] := va_S.rf
  obtain ⟨hx, hb, -, hown, hts⟩ := id E
  have hl : lv_has ls 5 [(0, .ref h), (1, .int x1)] := hl
  unfold fm_anew at hf
  refine lv_aload_n hx hb dX2_anew_0 rfl (lv_at hl 0 rfl) ?_
  refine lv_iconst (v := nI 0) hx hb dX2_anew_1 rfl ?_
  obtain ⟨μ1, hμ1, hf⟩ := ob hf
  refine m_put E hK hP hS 0 (by decide) rfl q1413 rfl rfl rfl hμ1 dX2_anew_2 (fun H locs hP hS => ?_)
  refine lv_aload_n hx hb dX2_anew_5 rfl (lv_at hl 0 rfl) ?_
  refine lv_iload_n hx hb dX2_anew_6 rfl (lv_at hl 1 rfl) ?_
  refine lv_iconst (v := nI 0) hx hb dX2_anew_7 rfl ?_
  refine lv_iconst (v := nI 1) hx hb dX2_anew_8 rfl ?_
  obtain ⟨v3, hc2, hf⟩ := ob hf
  refine m_calli E hK hP hS (As := [.int x1, .int (nI 0), .int (nI 1)]) (tm_isIn l D dT h x1 (nI 0) (nI 1) μ1 _ hc2) (lw_V q1573 q1575 qs59 q166 q1576) dm_isIn rfl (by decide) (by decide) hl rfl (Nat.le_of_ble_eq_true rfl) dX2_anew_9 (fun H locs hP hS => ?_)
  refine lv_if_ne (tgt := 17) hx hb dX2_anew_12 (by decide) (fun kc4 => ?_) (fun kc4 => ?_)
  · have hf := ite_f kc4 hf
    refine lv_aload_n hx hb dX2_anew_17 rfl (lv_at hl 0 rfl) ?_
    obtain ⟨v6, hc5, hf⟩ := ob hf
    refine m_calli E hK hP hS (As := []) (tm_living l D dT h μ1 _ hc5) (lw_V q1999 q2001 qs145 q166 q2002) dm_living rfl (by decide) (by decide) hl rfl (Nat.le_of_ble_eq_true rfl) dX2_anew_18 (fun H locs hP hS => ?_)
    refine lv_istore_n (lv' := [(2, .int v6), (0, .ref h), (1, .int x1)]) hx hb dX2_anew_21 rfl hl (by decide) rfl (fun ls hl => ?_)
    refine lv_iconst (v := (-1)) hx hb dX2_anew_22 rfl ?_
    refine lv_istore_n (lv' := [(3, .int (-1)), (2, .int v6), (0, .ref h), (1, .int x1)]) hx hb dX2_anew_23 rfl hl (by decide) rfl (fun ls hl => ?_)
    refine lv_iconst (v := nI 0) hx hb dX2_anew_24 rfl ?_
    refine lv_istore (lv' := [(4, .int (nI 0)), (3, .int (-1)), (2, .int v6), (0, .ref h), (1, .int x1)]) hx hb dX2_anew_25 hl (by decide) rfl (fun ls hl => ?_)
    obtain ⟨x22, hx22, hf⟩ := ob hf
    refine fm_anew_L27_w E hK x1 v6 μ1 hx22 (fun ls H locs hl hP hS => ?_) _ _ _ (lv_sub hl [3, 4, 2, 1, 0] rfl) hP hS
    refine lv_iload_n hx hb dX2_anew_90 rfl (lv_at hl 1 rfl) ?_
    refine lv_if_ne (tgt := 102) hx hb dX2_anew_91 (by decide) (fun kc23 => ?_) (fun kc23 => ?_)
    · have hf := ite_f kc23 hf
      refine lv_iload_n hx hb dX2_anew_102 rfl (lv_at hl 2 rfl) ?_
      cases hf
      exact m_iret E hr hlk hP hS rfl dX2_anew_103
    · have hf := ite_t kc23 hf
      refine lv_aload_n hx hb dX2_anew_94 rfl (lv_at hl 0 rfl) ?_
      refine lv_iload_n hx hb dX2_anew_95 rfl (lv_at hl 2 rfl) ?_
      obtain ⟨v25, hc24, hf⟩ := ob hf
      refine m_calli E hK hP hS (As := [.int x22]) (tm_onesOf l D dT h x22 μ1 _ hc24) (lw_V q1817 q1819 qs112 q166 q1820) dm_onesOf rfl (by decide) (by decide) hl rfl (Nat.le_of_ble_eq_true rfl) dX2_anew_96 (fun H locs hP hS => ?_)
      refine lv_goto (tgt := 103) hx hb dX2_anew_99 (by decide) ?_
      cases hf
      exact m_iret E hr hlk hP hS rfl dX2_anew_103
  · have hf := ite_t kc4 hf
    refine lv_iconst (v := (-1)) hx hb dX2_anew_15 rfl ?_
    cases hf
    exact m_iret E hr hlk hP hS rfl dX2_anew_16
set_option maxHeartbeats 4000000 in
noncomputable def fm_dry_L54 (x1 : Int32) (x2 : Int32) (x3 : Int32) (x4 : Int32) : (Int32 × Int32 × Int32 × Int32 × nwM) → Option ((Int32 × Int32 × Int32 × Int32 × nwM) ⊕ (Int32 × Int32 × nwM)) := fun st => (if x3 ≤ st.2.2.2.1 then some (.inr (st.1, st.2.1, st.2.2.2.2)) else (fm_goesFor (nI 1) st.2.2.2.2).bind fun μ15 => (fm_skyAt x1 x2 μ15).bind fun v17 => (if v17 = 0 then (if (st.2.2.1 + (nI 1)) ≤ st.1 then some (.inl (st.1, st.2.1, st.2.2.1 + (nI 1), st.2.2.2.1 + nI 1, μ15)) else (rd_ μ15 1 105 (nI 0)).bind fun v22 => some (.inl (st.2.2.1 + (nI 1), v22 - (st.2.2.1 + (nI 1)), st.2.2.1 + (nI 1), st.2.2.2.1 + nI 1, μ15))) else (if (nI 0) ≤ st.1 then some (.inl (st.1, st.2.1, nI 0, st.2.2.2.1 + nI 1, μ15)) else (rd_ μ15 1 105 (nI 0)).bind fun v20 => some (.inl (nI 0, v20 - (nI 0), nI 0, st.2.2.2.1 + nI 1, μ15)))))
set_option maxHeartbeats 4000000 in
noncomputable def fm_dry (x1 : Int32) (x2 : Int32) (x3 : Int32) (x4 : Int32) (μ : nwM) : Option (Int32 × nwM) := (wf_ μ 0 (nI 0)).bind fun μ1 => (fm_isSky x1 x2 μ1).bind fun v3 => (if v3 = 0 then some ((-1), μ1) else (fm_isIn x3 (nI 1) (nI 60) μ1).bind fun v6 => (if v6 = 0 then some ((-1), μ1) else (fm_isIn x4 (nI 0) (nI 1) μ1).bind fun v9 => (if v9 = 0 then some ((-1), μ1) else (fm_thinks μ1).bind fun μ12 => (wh_ (fm_dry_L54 x1 x2 x3 x4) (nI 0, (-1), nI 0, nI 0, μ12)).bind fun x23 => (fm_endsThought x23.2.2).bind fun μ25 => (if x4 = 0 then some (x23.1, μ25) else some (x23.2.1, μ25)))))
set_option maxHeartbeats 4000000 in
theorem fm_dry_L54_w {p : Program} {l : Launch} {e : Env} {s : State} {m : MethodId} {args : Array Value} {below : List Frame} {meth : Method} {c : Code} {Q : State → Prop} {D : va_G} {dT : Nat → ClassId} {h : Nat} (E : CallFix p m c cX2_dry 9 s args lw_all RX2) (hK : va_K D nwCl (nwT dT) s) (x1 : Int32) (x2 : Int32) (x3 : Int32) (x4 : Int32) {st : Int32 × Int32 × Int32 × Int32 × nwM} {x : Int32 × Int32 × nwM} (hw : wh_ (fm_dry_L54 x1 x2 x3 x4) st = some x) (hk : (fun x : Int32 × Int32 × nwM => ∀ (ls : Array Slot) (H : Heap) (locs : List Loc), lv_has ls 9 [(0, .ref h), (4, .int x4), (5, .int x.1), (6, .int x.2.1)] → PM D dT h x.2.2 H → va_S (mA h) s.heap H locs → W p l e (rmd 9) s m args below meth c H locs 0 0 Q (F0 m 112 ls [])) x) : (fun st : Int32 × Int32 × Int32 × Int32 × nwM => ∀ (ls : Array Slot) (H : Heap) (locs : List Loc), lv_has ls 9 [(0, .ref h), (1, .int x1), (2, .int x2), (3, .int x3), (4, .int x4), (5, .int st.1), (6, .int st.2.1), (7, .int st.2.2.1), (8, .int st.2.2.2.1)] → PM D dT h st.2.2.2.2 H → va_S (mA h) s.heap H locs → W p l e (rmd 9) s m args below meth c H locs 0 0 Q (F0 m 54 ls [])) st := by
  obtain ⟨hx, hb, -, hown, hts⟩ := id E
  refine wh_run (P := (fun st : Int32 × Int32 × Int32 × Int32 × nwM => ∀ (ls : Array Slot) (H : Heap) (locs : List Loc), lv_has ls 9 [(0, .ref h), (1, .int x1), (2, .int x2), (3, .int x3), (4, .int x4), (5, .int st.1), (6, .int st.2.1), (7, .int st.2.2.1), (8, .int st.2.2.2.1)] → PM D dT h st.2.2.2.2 H → va_S (mA h) s.heap H locs → W p l e (rmd 9) s m args below meth c H locs 0 0 Q (F0 m 54 ls []))) (PE := (fun x : Int32 × Int32 × nwM => ∀ (ls : Array Slot) (H : Heap) (locs : List Loc), lv_has ls 9 [(0, .ref h), (4, .int x4), (5, .int x.1), (6, .int x.2.1)] → PM D dT h x.2.2 H → va_S (mA h) s.heap H locs → W p l e (rmd 9) s m args below meth c H locs 0 0 Q (F0 m 112 ls []))) ?_ hw hk
  clear hw hk
  intro st x hf hk ls H locs hl hP hS
  refine lv_iload hx hb dX2_dry_54 (lv_at hl 8 rfl) ?_
  refine lv_iload_n hx hb dX2_dry_56 rfl (lv_at hl 3 rfl) ?_
  refine lv_icmp_ge (tgt := 112) hx hb dX2_dry_57 (by decide) (fun kc13 => ?_) (fun kc13 => ?_)
  · have hf := ite_t kc13 hf
    cases hf
    exact hk _ _ _ (lv_sub hl [0, 4, 5, 6] rfl) hP hS
  · have hf := ite_f kc13 hf
    refine lv_aload_n hx hb dX2_dry_60 rfl (lv_at hl 0 rfl) ?_
    refine lv_iconst (v := nI 1) hx hb dX2_dry_61 rfl ?_
    obtain ⟨μ15, hc14, hf⟩ := ob hf
    refine m_callv E hK hP hS (As := [.int (nI 1)]) (tm_goesFor l D dT h (nI 1) st.2.2.2.2 _ hc14) (lw_V q1939 q1941 qs136 q166 q1942) dm_goesFor rfl (by decide) (by decide) hl rfl (Nat.le_of_ble_eq_true rfl) dX2_dry_62 (fun H locs hP hS => ?_)
    refine lv_aload_n hx hb dX2_dry_65 rfl (lv_at hl 0 rfl) ?_
    refine lv_iload_n hx hb dX2_dry_66 rfl (lv_at hl 1 rfl) ?_
    refine lv_iload_n hx hb dX2_dry_67 rfl (lv_at hl 2 rfl) ?_
    obtain ⟨v17, hc16, hf⟩ := ob hf
    refine m_calli E hK hP hS (As := [.int x1, .int x2]) (tm_skyAt l D dT h x1 x2 μ15 _ hc16) (lw_V q1793 q1795 qs106 q166 q1796) dm_skyAt rfl (by decide) (by decide) hl rfl (Nat.le_of_ble_eq_true rfl) dX2_dry_68 (fun H locs hP hS => ?_)
    refine lv_if_ne (tgt := 81) hx hb dX2_dry_71 (by decide) (fun kc18 => ?_) (fun kc18 => ?_)
    · have hf := ite_f kc18 hf
      refine lv_iconst (v := nI 0) hx hb dX2_dry_81 rfl ?_
      refine lv_istore (lv' := [(7, .int (nI 0)), (0, .ref h), (1, .int x1), (2, .int x2), (3, .int x3), (4, .int x4), (5, .int st.1), (6, .int st.2.1), (8, .int st.2.2.2.1)]) hx hb dX2_dry_82 hl (by decide) rfl (fun ls hl => ?_)
      refine lv_iload hx hb dX2_dry_84 (lv_at hl 0 rfl) ?_
      refine lv_iload hx hb dX2_dry_86 (lv_at hl 6 rfl) ?_
      refine lv_icmp_le (tgt := 106) hx hb dX2_dry_88 (by decide) (fun kc19 => ?_) (fun kc19 => ?_)
      · have hf := ite_t kc19 hf
        refine lv_iinc (v := st.2.2.2.1 + nI 1) (lv' := [(8, .int (st.2.2.2.1 + nI 1)), (7, .int (nI 0)), (0, .ref h), (1, .int x1), (2, .int x2), (3, .int x3), (4, .int x4), (5, .int st.1), (6, .int st.2.1)]) hx hb dX2_dry_106 hl (k := 8) rfl rfl (by decide) rfl (fun ls hl => ?_)
        refine lv_goto (tgt := 54) hx hb dX2_dry_109 (by decide) ?_
        cases hf
        exact hk _ _ _ (lv_sub hl [2, 3, 4, 5, 6, 7, 8, 1, 0] rfl) hP hS
      · have hf := ite_f kc19 hf
        refine lv_iload hx hb dX2_dry_91 (lv_at hl 0 rfl) ?_
        refine lv_istore (lv' := [(5, .int (nI 0)), (7, .int (nI 0)), (0, .ref h), (1, .int x1), (2, .int x2), (3, .int x3), (4, .int x4), (6, .int st.2.1), (8, .int st.2.2.2.1)]) hx hb dX2_dry_93 hl (by decide) rfl (fun ls hl => ?_)
        refine lv_aload_n hx hb dX2_dry_95 rfl (lv_at hl 2 rfl) ?_
        refine m_ga E hK hP 1 (by decide) rfl q1414 rfl dX2_dry_96 ?_
        refine lv_iconst (v := nI 0) hx hb dX2_dry_99 rfl ?_
        obtain ⟨v20, hv20, hf⟩ := ob hf
        refine m_ald E hK hP (by decide) rfl rfl hv20 dX2_dry_100 ?_
        refine lv_iload hx hb dX2_dry_101 (lv_at hl 1 rfl) ?_
        refine lv_isub hx hb dX2_dry_103 ?_
        refine lv_istore (lv' := [(6, .int (v20 - (nI 0))), (5, .int (nI 0)), (7, .int (nI 0)), (0, .ref h), (1, .int x1), (2, .int x2), (3, .int x3), (4, .int x4), (8, .int st.2.2.2.1)]) hx hb dX2_dry_104 hl (by decide) rfl (fun ls hl => ?_)
        refine lv_iinc (v := st.2.2.2.1 + nI 1) (lv' := [(8, .int (st.2.2.2.1 + nI 1)), (6, .int (v20 - (nI 0))), (5, .int (nI 0)), (7, .int (nI 0)), (0, .ref h), (1, .int x1), (2, .int x2), (3, .int x3), (4, .int x4)]) hx hb dX2_dry_106 hl (k := 8) rfl rfl (by decide) rfl (fun ls hl => ?_)
        refine lv_goto (tgt := 54) hx hb dX2_dry_109 (by decide) ?_
        cases hf
        exact hk _ _ _ (lv_sub hl [4, 5, 6, 7, 8, 2, 1, 3, 0] rfl) hP hS
    · have hf := ite_t kc18 hf
      refine lv_iload hx hb dX2_dry_74 (lv_at hl 7 rfl) ?_
      refine lv_iconst (v := nI 1) hx hb dX2_dry_76 rfl ?_
      refine lv_iadd hx hb dX2_dry_77 ?_
      refine lv_goto (tgt := 82) hx hb dX2_dry_78 (by decide) ?_
      refine lv_istore (lv' := [(7, .int (st.2.2.1 + (nI 1))), (0, .ref h), (1, .int x1), (2, .int x2), (3, .int x3), (4, .int x4), (5, .int st.1), (6, .int st.2.1), (8, .int st.2.2.2.1)]) hx hb dX2_dry_82 hl (by decide) rfl (fun ls hl => ?_)
      refine lv_iload hx hb dX2_dry_84 (lv_at hl 0 rfl) ?_
      refine lv_iload hx hb dX2_dry_86 (lv_at hl 6 rfl) ?_
      refine lv_icmp_le (tgt := 106) hx hb dX2_dry_88 (by decide) (fun kc21 => ?_) (fun kc21 => ?_)
      · have hf := ite_t kc21 hf
        refine lv_iinc (v := st.2.2.2.1 + nI 1) (lv' := [(8, .int (st.2.2.2.1 + nI 1)), (7, .int (st.2.2.1 + (nI 1))), (0, .ref h), (1, .int x1), (2, .int x2), (3, .int x3), (4, .int x4), (5, .int st.1), (6, .int st.2.1)]) hx hb dX2_dry_106 hl (k := 8) rfl rfl (by decide) rfl (fun ls hl => ?_)
        refine lv_goto (tgt := 54) hx hb dX2_dry_109 (by decide) ?_
        cases hf
        exact hk _ _ _ (lv_sub hl [2, 3, 4, 5, 6, 7, 8, 1, 0] rfl) hP hS
      · have hf := ite_f kc21 hf
        refine lv_iload hx hb dX2_dry_91 (lv_at hl 0 rfl) ?_
        refine lv_istore (lv' := [(5, .int (st.2.2.1 + (nI 1))), (7, .int (st.2.2.1 + (nI 1))), (0, .ref h), (1, .int x1), (2, .int x2), (3, .int x3), (4, .int x4), (6, .int st.2.1), (8, .int st.2.2.2.1)]) hx hb dX2_dry_93 hl (by decide) rfl (fun ls hl => ?_)
        refine lv_aload_n hx hb dX2_dry_95 rfl (lv_at hl 2 rfl) ?_
        refine m_ga E hK hP 1 (by decide) rfl q1414 rfl dX2_dry_96 ?_
        refine lv_iconst (v := nI 0) hx hb dX2_dry_99 rfl ?_
        obtain ⟨v22, hv22, hf⟩ := ob hf
        refine m_ald E hK hP (by decide) rfl rfl hv22 dX2_dry_100 ?_
        refine lv_iload hx hb dX2_dry_101 (lv_at hl 1 rfl) ?_
        refine lv_isub hx hb dX2_dry_103 ?_
        refine lv_istore (lv' := [(6, .int (v22 - (st.2.2.1 + (nI 1)))), (5, .int (st.2.2.1 + (nI 1))), (7, .int (st.2.2.1 + (nI 1))), (0, .ref h), (1, .int x1), (2, .int x2), (3, .int x3), (4, .int x4), (8, .int st.2.2.2.1)]) hx hb dX2_dry_104 hl (by decide) rfl (fun ls hl => ?_)
        refine lv_iinc (v := st.2.2.2.1 + nI 1) (lv' := [(8, .int (st.2.2.2.1 + nI 1)), (6, .int (v22 - (st.2.2.1 + (nI 1)))), (5, .int (st.2.2.1 + (nI 1))), (7, .int (st.2.2.1 + (nI 1))), (0, .ref h), (1, .int x1), (2, .int x2), (3, .int x3), (4, .int x4)]) hx hb dX2_dry_106 hl (k := 8) rfl rfl (by decide) rfl (fun ls hl => ?_)
        refine lv_goto (tgt := 54) hx hb dX2_dry_109 (by decide) ?_
        cases hf
        exact hk _ _ _ (lv_sub hl [4, 5, 6, 7, 8, 2, 1, 3, 0] rfl) hP hS
set_option maxHeartbeats 4000000 in
theorem dm_dry : yX2_dry.cls = RX2 ∧ yX2_dry.cls ≠ "java/lang/invoke/MethodHandle" ∧ yX2_dry.cls ≠ "java/lang/invoke/VarHandle" ∧ (parseMethodDescriptor yX2_dry.desc).map (fun d => d.parameters.length) = some 4 := ⟨rfl, by decide +kernel, by decide +kernel, by decide +kernel⟩
set_option maxHeartbeats 4000000 in
theorem tm_dry (l : Launch) (D : va_G) (dT : Nat → ClassId) (h : Nat) (x1 : Int32) (x2 : Int32) (x3 : Int32) (x4 : Int32) (μ : nwM) (res : Int32 × nwM) (hf : fm_dry x1 x2 x3 x4 μ = some res) : Met l yX2_dry (ws_ yX2_dry cX2_dry 9 (some .int)) (rmd 9) (mPc D dT h μ [.int x1, .int x2, .int x3, .int x4]) (mQi D dT h res.2 res.1) 0 0 (mA h) := by
  refine m_met (by decide) rfl (Nat.le_of_ble_eq_true rfl) ?_
  intro p e s m below meth c ls E hK hr hlk hl hP
  have hS : va_S (mA h) s.heap s.heap [] := va_S.rf
  obtain ⟨hx, hb, -, hown, hts⟩ := id E
  have hl : lv_has ls 9 [(0, .ref h), (1, .int x1), (2, .int x2), (3, .int x3), (4, .int x4)] := hl
  unfold fm_dry at hf
  refine lv_aload_n hx hb dX2_dry_0 rfl (lv_at hl 0 rfl) ?_
  refine lv_iconst (v := nI 0) hx hb dX2_dry_1 rfl ?_
  obtain ⟨μ1, hμ1, hf⟩ := ob hf
  refine m_put E hK hP hS 0 (by decide) rfl q1413 rfl rfl rfl hμ1 dX2_dry_2 (fun H locs hP hS => ?_)
  refine lv_aload_n hx hb dX2_dry_5 rfl (lv_at hl 0 rfl) ?_
  refine lv_iload_n hx hb dX2_dry_6 rfl (lv_at hl 1 rfl) ?_
  refine lv_iload_n hx hb dX2_dry_7 rfl (lv_at hl 2 rfl) ?_
  obtain ⟨v3, hc2, hf⟩ := ob hf
  refine m_calli E hK hP hS (As := [.int x1, .int x2]) (tm_isSky l D dT h x1 x2 μ1 _ hc2) (lw_V q1931 q1933 qs134 q166 q1934) dm_isSky rfl (by decide) (by decide) hl rfl (Nat.le_of_ble_eq_true rfl) dX2_dry_8 (fun H locs hP hS => ?_)
  refine lv_if_eq (tgt := 36) hx hb dX2_dry_11 (by decide) (fun kc4 => ?_) (fun kc4 => ?_)
  · have hf := ite_t kc4 hf
    refine lv_iconst (v := (-1)) hx hb dX2_dry_36 rfl ?_
    cases hf
    exact m_iret E hr hlk hP hS rfl dX2_dry_37
  · have hf := ite_f kc4 hf
    refine lv_aload_n hx hb dX2_dry_14 rfl (lv_at hl 0 rfl) ?_
    refine lv_iload_n hx hb dX2_dry_15 rfl (lv_at hl 3 rfl) ?_
    refine lv_iconst (v := nI 1) hx hb dX2_dry_16 rfl ?_
    refine lv_bipush (v := nI 60) hx hb dX2_dry_17 rfl ?_
    obtain ⟨v6, hc5, hf⟩ := ob hf
    refine m_calli E hK hP hS (As := [.int x3, .int (nI 1), .int (nI 60)]) (tm_isIn l D dT h x3 (nI 1) (nI 60) μ1 _ hc5) (lw_V q1573 q1575 qs59 q166 q1576) dm_isIn rfl (by decide) (by decide) hl rfl (Nat.le_of_ble_eq_true rfl) dX2_dry_19 (fun H locs hP hS => ?_)
    refine lv_if_eq (tgt := 36) hx hb dX2_dry_22 (by decide) (fun kc7 => ?_) (fun kc7 => ?_)
    · have hf := ite_t kc7 hf
      refine lv_iconst (v := (-1)) hx hb dX2_dry_36 rfl ?_
      cases hf
      exact m_iret E hr hlk hP hS rfl dX2_dry_37
    · have hf := ite_f kc7 hf
      refine lv_aload_n hx hb dX2_dry_25 rfl (lv_at hl 0 rfl) ?_
      refine lv_iload hx hb dX2_dry_26 (lv_at hl 4 rfl) ?_
      refine lv_iconst (v := nI 0) hx hb dX2_dry_28 rfl ?_
      refine lv_iconst (v := nI 1) hx hb dX2_dry_29 rfl ?_
      obtain ⟨v9, hc8, hf⟩ := ob hf
      refine m_calli E hK hP hS (As := [.int x4, .int (nI 0), .int (nI 1)]) (tm_isIn l D dT h x4 (nI 0) (nI 1) μ1 _ hc8) (lw_V q1573 q1575 qs59 q166 q1576) dm_isIn rfl (by decide) (by decide) hl rfl (Nat.le_of_ble_eq_true rfl) dX2_dry_30 (fun H locs hP hS => ?_)
      refine lv_if_ne (tgt := 38) hx hb dX2_dry_33 (by decide) (fun kc10 => ?_) (fun kc10 => ?_)
      · have hf := ite_f kc10 hf
        refine lv_iconst (v := nI 0) hx hb dX2_dry_38 rfl ?_
        refine lv_istore (lv' := [(5, .int (nI 0)), (0, .ref h), (1, .int x1), (2, .int x2), (3, .int x3), (4, .int x4)]) hx hb dX2_dry_39 hl (by decide) rfl (fun ls hl => ?_)
        refine lv_iconst (v := (-1)) hx hb dX2_dry_41 rfl ?_
        refine lv_istore (lv' := [(6, .int (-1)), (5, .int (nI 0)), (0, .ref h), (1, .int x1), (2, .int x2), (3, .int x3), (4, .int x4)]) hx hb dX2_dry_42 hl (by decide) rfl (fun ls hl => ?_)
        refine lv_iconst (v := nI 0) hx hb dX2_dry_44 rfl ?_
        refine lv_istore (lv' := [(7, .int (nI 0)), (6, .int (-1)), (5, .int (nI 0)), (0, .ref h), (1, .int x1), (2, .int x2), (3, .int x3), (4, .int x4)]) hx hb dX2_dry_45 hl (by decide) rfl (fun ls hl => ?_)
        refine lv_aload_n hx hb dX2_dry_47 rfl (lv_at hl 3 rfl) ?_
        obtain ⟨μ12, hc11, hf⟩ := ob hf
        refine m_callv E hK hP hS (As := []) (tm_thinks l D dT h μ1 _ hc11) (lw_V q1935 q1937 qs135 q166 q1938) dm_thinks rfl (by decide) (by decide) hl rfl (Nat.le_of_ble_eq_true rfl) dX2_dry_48 (fun H locs hP hS => ?_)
        refine lv_iconst (v := nI 0) hx hb dX2_dry_51 rfl ?_
        refine lv_istore (lv' := [(8, .int (nI 0)), (7, .int (nI 0)), (6, .int (-1)), (5, .int (nI 0)), (0, .ref h), (1, .int x1), (2, .int x2), (3, .int x3), (4, .int x4)]) hx hb dX2_dry_52 hl (by decide) rfl (fun ls hl => ?_)
        obtain ⟨x23, hx23, hf⟩ := ob hf
        refine fm_dry_L54_w E hK x1 x2 x3 x4 hx23 (fun ls H locs hl hP hS => ?_) _ _ _ (lv_sub hl [4, 5, 6, 7, 8, 3, 2, 1, 0] rfl) hP hS
        refine lv_aload_n hx hb dX2_dry_112 rfl (lv_at hl 0 rfl) ?_
        obtain ⟨μ25, hc24, hf⟩ := ob hf
        refine m_callv E hK hP hS (As := []) (tm_endsThought l D dT h x23.2.2 _ hc24) (lw_V q1943 q1945 qs137 q166 q1946) dm_endsThought rfl (by decide) (by decide) hl rfl (Nat.le_of_ble_eq_true rfl) dX2_dry_113 (fun H locs hP hS => ?_)
        refine lv_iload hx hb dX2_dry_116 (lv_at hl 1 rfl) ?_
        refine lv_if_ne (tgt := 126) hx hb dX2_dry_118 (by decide) (fun kc26 => ?_) (fun kc26 => ?_)
        · have hf := ite_f kc26 hf
          refine lv_iload hx hb dX2_dry_126 (lv_at hl 3 rfl) ?_
          cases hf
          exact m_iret E hr hlk hP hS rfl dX2_dry_128
        · have hf := ite_t kc26 hf
          refine lv_iload hx hb dX2_dry_121 (lv_at hl 2 rfl) ?_
          refine lv_goto (tgt := 128) hx hb dX2_dry_123 (by decide) ?_
          cases hf
          exact m_iret E hr hlk hP hS rfl dX2_dry_128
      · have hf := ite_t kc10 hf
        refine lv_iconst (v := (-1)) hx hb dX2_dry_36 rfl ?_
        cases hf
        exact m_iret E hr hlk hP hS rfl dX2_dry_37
set_option maxHeartbeats 4000000 in
def fm_strengthOf_L4 (x1 : Int32) (μ : nwM) : (Int32 × Int32) → Option ((Int32 × Int32) ⊕ (Int32)) := fun st => (rd_ μ 1 105 (nI 4)).bind fun v1 => (if v1 ≤ st.2 then some (.inr st.1) else (if ((x1 >>> (st.2 &&& 31)) &&& (nI 1)) = (nI 1) then (rd_ μ 1 105 ((nI 57) + st.2)).bind fun v4 => some (.inl (st.1 + v4, st.2 + nI 1)) else some (.inl (st.1, st.2 + nI 1))))
set_option maxHeartbeats 4000000 in
noncomputable def fm_strengthOf (x1 : Int32) (μ : nwM) : Option (Int32) := (wh_ (fm_strengthOf_L4 x1 μ) (nI 0, nI 0)).bind fun x5 => some x5
set_option maxHeartbeats 4000000 in
theorem fm_strengthOf_L4_w {p : Program} {l : Launch} {e : Env} {s : State} {m : MethodId} {args : Array Value} {below : List Frame} {meth : Method} {c : Code} {Q : State → Prop} {D : va_G} {dT : Nat → ClassId} {h : Nat} (E : CallFix p m c cX2_strengthOf 4 s args lw_all RX2) (hK : va_K D nwCl (nwT dT) s) (x1 : Int32) (μ : nwM) {st : Int32 × Int32} {x : Int32} (hw : wh_ (fm_strengthOf_L4 x1 μ) st = some x) (hk : (fun x : Int32 => ∀ (ls : Array Slot) (H : Heap) (locs : List Loc), lv_has ls 4 [(2, .int x)] → PM D dT h μ H → va_S (mA h) s.heap H locs → W p l e (rmd 0) s m args below meth c H locs 0 0 Q (F0 m 41 ls [])) x) : (fun st : Int32 × Int32 => ∀ (ls : Array Slot) (H : Heap) (locs : List Loc), lv_has ls 4 [(0, .ref h), (1, .int x1), (2, .int st.1), (3, .int st.2)] → PM D dT h μ H → va_S (mA h) s.heap H locs → W p l e (rmd 0) s m args below meth c H locs 0 0 Q (F0 m 4 ls [])) st := by
  obtain ⟨hx, hb, -, hown, hts⟩ := id E
  refine wh_run (P := (fun st : Int32 × Int32 => ∀ (ls : Array Slot) (H : Heap) (locs : List Loc), lv_has ls 4 [(0, .ref h), (1, .int x1), (2, .int st.1), (3, .int st.2)] → PM D dT h μ H → va_S (mA h) s.heap H locs → W p l e (rmd 0) s m args below meth c H locs 0 0 Q (F0 m 4 ls []))) (PE := (fun x : Int32 => ∀ (ls : Array Slot) (H : Heap) (locs : List Loc), lv_has ls 4 [(2, .int x)] → PM D dT h μ H → va_S (mA h) s.heap H locs → W p l e (rmd 0) s m args below meth c H locs 0 0 Q (F0 m 41 ls []))) ?_ hw hk
  clear hw hk
  intro st x hf hk ls H locs hl hP hS
  refine lv_iload_n hx hb dX2_strengthOf_4 rfl (lv_at hl 3 rfl) ?_
  refine lv_aload_n hx hb dX2_strengthOf_5 rfl (lv_at hl 0 rfl) ?_
  refine m_ga E hK hP 1 (by decide) rfl q1414 rfl dX2_strengthOf_6 ?_
  refine lv_iconst (v := nI 4) hx hb dX2_strengthOf_9 rfl ?_
  obtain ⟨v1, hv1, hf⟩ := ob hf
  refine m_ald E hK hP (by decide) rfl rfl hv1 dX2_strengthOf_10 ?_
  refine lv_icmp_ge (tgt := 41) hx hb dX2_strengthOf_11 (by decide) (fun kc2 => ?_) (fun kc2 => ?_)
  · have hf := ite_t kc2 hf
    cases hf
    exact hk _ _ _ (lv_sub hl [2] rfl) hP hS
  · have hf := ite_f kc2 hf
    refine lv_iload_n hx hb dX2_strengthOf_14 rfl (lv_at hl 1 rfl) ?_
    refine lv_iload_n hx hb dX2_strengthOf_15 rfl (lv_at hl 3 rfl) ?_
    refine lv_ishr hx hb dX2_strengthOf_16 ?_
    refine lv_iconst (v := nI 1) hx hb dX2_strengthOf_17 rfl ?_
    refine lv_iand hx hb dX2_strengthOf_18 ?_
    refine lv_iconst (v := nI 1) hx hb dX2_strengthOf_19 rfl ?_
    refine lv_icmp_ne (tgt := 35) hx hb dX2_strengthOf_20 (by decide) (fun kc3 => ?_) (fun kc3 => ?_)
    · have hf := ite_f kc3 hf
      refine lv_iinc (v := st.2 + nI 1) (lv' := [(3, .int (st.2 + nI 1)), (0, .ref h), (1, .int x1), (2, .int st.1)]) hx hb dX2_strengthOf_35 hl (k := 3) rfl rfl (by decide) rfl (fun ls hl => ?_)
      refine lv_goto (tgt := 4) hx hb dX2_strengthOf_38 (by decide) ?_
      cases hf
      exact hk _ _ _ (lv_sub hl [1, 2, 3, 0] rfl) hP hS
    · have hf := ite_t kc3 hf
      refine lv_iload_n hx hb dX2_strengthOf_23 rfl (lv_at hl 2 rfl) ?_
      refine lv_aload_n hx hb dX2_strengthOf_24 rfl (lv_at hl 0 rfl) ?_
      refine m_ga E hK hP 1 (by decide) rfl q1414 rfl dX2_strengthOf_25 ?_
      refine lv_bipush (v := nI 57) hx hb dX2_strengthOf_28 rfl ?_
      refine lv_iload_n hx hb dX2_strengthOf_30 rfl (lv_at hl 3 rfl) ?_
      refine lv_iadd hx hb dX2_strengthOf_31 ?_
      obtain ⟨v4, hv4, hf⟩ := ob hf
      refine m_ald E hK hP (by decide) rfl rfl hv4 dX2_strengthOf_32 ?_
      refine lv_iadd hx hb dX2_strengthOf_33 ?_
      refine lv_istore_n (lv' := [(2, .int (st.1 + v4)), (0, .ref h), (1, .int x1), (3, .int st.2)]) hx hb dX2_strengthOf_34 rfl hl (by decide) rfl (fun ls hl => ?_)
      refine lv_iinc (v := st.2 + nI 1) (lv' := [(3, .int (st.2 + nI 1)), (2, .int (st.1 + v4)), (0, .ref h), (1, .int x1)]) hx hb dX2_strengthOf_35 hl (k := 3) rfl rfl (by decide) rfl (fun ls hl => ?_)
      refine lv_goto (tgt := 4) hx hb dX2_strengthOf_38 (by decide) ?_
      cases hf
      exact hk _ _ _ (lv_sub hl [2, 3, 1, 0] rfl) hP hS
set_option maxHeartbeats 4000000 in
theorem dm_strengthOf : yX2_strengthOf.cls = RX2 ∧ yX2_strengthOf.cls ≠ "java/lang/invoke/MethodHandle" ∧ yX2_strengthOf.cls ≠ "java/lang/invoke/VarHandle" ∧ (parseMethodDescriptor yX2_strengthOf.desc).map (fun d => d.parameters.length) = some 1 := ⟨rfl, by decide +kernel, by decide +kernel, by decide +kernel⟩
set_option maxHeartbeats 4000000 in
theorem tm_strengthOf (l : Launch) (D : va_G) (dT : Nat → ClassId) (h : Nat) (x1 : Int32) (μ : nwM) (res : Int32) (hf : fm_strengthOf x1 μ = some res) : Met l yX2_strengthOf (ws_ yX2_strengthOf cX2_strengthOf 4 (some .int)) (rmd 0) (mPc D dT h μ [.int x1]) (mQi D dT h μ res) 0 0 (mA h) := by
  refine m_met (by decide) rfl (Nat.le_of_ble_eq_true rfl) ?_
  intro p e s m below meth c ls E hK hr hlk hl hP
  have hS : va_S (mA h) s.heap s.heap [] := va_S.rf
  obtain ⟨hx, hb, -, hown, hts⟩ := id E
  have hl : lv_has ls 4 [(0, .ref h), (1, .int x1)] := hl
  unfold fm_strengthOf at hf
  refine lv_iconst (v := nI 0) hx hb dX2_strengthOf_0 rfl ?_
  refine lv_istore_n (lv' := [(2, .int (nI 0)), (0, .ref h), (1, .int x1)]) hx hb dX2_strengthOf_1 rfl hl (by decide) rfl (fun ls hl => ?_)
  refine lv_iconst (v := nI 0) hx hb dX2_strengthOf_2 rfl ?_
  refine lv_istore_n (lv' := [(3, .int (nI 0)), (2, .int (nI 0)), (0, .ref h), (1, .int x1)]) hx hb dX2_strengthOf_3 rfl hl (by decide) rfl (fun ls hl => ?_)
  obtain ⟨x5, hx5, hf⟩ := ob hf
  refine fm_strengthOf_L4_w E hK x1 μ hx5 (fun ls H locs hl hP hS => ?_) _ _ _ (lv_sub hl [2, 3, 1, 0] rfl) hP hS
  refine lv_iload_n hx hb dX2_strengthOf_41 rfl (lv_at hl 0 rfl) ?_
  cases hf
  exact m_iret E hr hlk hP hS rfl dX2_strengthOf_42
set_option maxHeartbeats 4000000 in
noncomputable def fm_buys_L31 (x1 : Int32) (x2 : Int32) : (Int32 × nwM) → Option ((Int32 × nwM) ⊕ (nwM)) := fun st => (rd_ st.2 1 105 (nI 4)).bind fun v8 => (if v8 ≤ st.1 then some (.inr st.2) else bd2 (fm_costOf st.1 st.2) fun v11 μ12 => (wr_ μ12 41 12 st.1 v11).bind fun μ13 => some (.inl (st.1 + nI 1, μ13)))
set_option maxHeartbeats 4000000 in
noncomputable def fm_buys_L69 (x1 : Int32) (x2 : Int32) (x3 : Int32) (μ : nwM) : (Int32 × Int32) → Option ((Int32 × Int32) ⊕ (Int32)) := fun st => (rd_ μ 1 105 (nI 4)).bind fun v17 => (if ((nI 1) <<< (v17 &&& 31)) ≤ st.2 then some (.inr st.1) else (if (st.2 &&& (x3 ^^^ (-1))) = 0 then (fm_sumOf st.2 μ).bind fun v21 => (if v21 ≤ x1 then (fm_strengthOf st.2 μ).bind fun v24 => (fm_strengthOf st.1 μ).bind fun v26 => (if 0 < (v24 - v26) then some (.inl (st.2, st.2 + nI 1)) else (if (v24 - v26) = 0 then (fm_sumOf st.2 μ).bind fun v30 => (fm_sumOf st.1 μ).bind fun v32 => (if v32 ≤ v30 then some (.inl (st.1, st.2 + nI 1)) else some (.inl (st.2, st.2 + nI 1))) else some (.inl (st.1, st.2 + nI 1)))) else some (.inl (st.1, st.2 + nI 1))) else some (.inl (st.1, st.2 + nI 1))))
set_option maxHeartbeats 4000000 in
noncomputable def fm_buys (x1 : Int32) (x2 : Int32) (μ : nwM) : Option (Int32 × nwM) := (wf_ μ 0 (nI 0)).bind fun μ1 => (fm_isIn x1 (nI 0) (nI 9999) μ1).bind fun v3 => (if v3 = 0 then some ((-1), μ1) else (fm_isIn x2 (nI 0) (nI 1) μ1).bind fun v6 => (if v6 = 0 then some ((-1), μ1) else (wh_ (fm_buys_L31 x1 x2) (nI 0, μ1)).bind fun x14 => (fm_living x14).bind fun v16 => (wh_ (fm_buys_L69 x1 x2 v16 x14) (nI 0, nI 1)).bind fun x34 => (if x2 = 0 then (fm_strengthOf x34 x14).bind fun v37 => some (v37, x14) else some (x34, x14))))
set_option maxHeartbeats 4000000 in
theorem fm_buys_L31_w {p : Program} {l : Launch} {e : Env} {s : State} {m : MethodId} {args : Array Value} {below : List Frame} {meth : Method} {c : Code} {Q : State → Prop} {D : va_G} {dT : Nat → ClassId} {h : Nat} (E : CallFix p m c cX2_buys 7 s args lw_all RX2) (hK : va_K D nwCl (nwT dT) s) (x1 : Int32) (x2 : Int32) {st : Int32 × nwM} {x : nwM} (hw : wh_ (fm_buys_L31 x1 x2) st = some x) (hk : (fun x : nwM => ∀ (ls : Array Slot) (H : Heap) (locs : List Loc), lv_has ls 7 [(0, .ref h), (1, .int x1), (2, .int x2)] → PM D dT h x H → va_S (mA h) s.heap H locs → W p l e (rmd 5) s m args below meth c H locs 0 0 Q (F0 m 58 ls [])) x) : (fun st : Int32 × nwM => ∀ (ls : Array Slot) (H : Heap) (locs : List Loc), lv_has ls 7 [(0, .ref h), (1, .int x1), (2, .int x2), (3, .int st.1)] → PM D dT h st.2 H → va_S (mA h) s.heap H locs → W p l e (rmd 5) s m args below meth c H locs 0 0 Q (F0 m 31 ls [])) st := by
  obtain ⟨hx, hb, -, hown, hts⟩ := id E
  refine wh_run (P := (fun st : Int32 × nwM => ∀ (ls : Array Slot) (H : Heap) (locs : List Loc), lv_has ls 7 [(0, .ref h), (1, .int x1), (2, .int x2), (3, .int st.1)] → PM D dT h st.2 H → va_S (mA h) s.heap H locs → W p l e (rmd 5) s m args below meth c H locs 0 0 Q (F0 m 31 ls []))) (PE := (fun x : nwM => ∀ (ls : Array Slot) (H : Heap) (locs : List Loc), lv_has ls 7 [(0, .ref h), (1, .int x1), (2, .int x2)] → PM D dT h x H → va_S (mA h) s.heap H locs → W p l e (rmd 5) s m args below meth c H locs 0 0 Q (F0 m 58 ls []))) ?_ hw hk
  clear hw hk
  intro st x hf hk ls H locs hl hP hS
  refine lv_iload_n hx hb dX2_buys_31 rfl (lv_at hl 3 rfl) ?_
  refine lv_aload_n hx hb dX2_buys_32 rfl (lv_at hl 0 rfl) ?_
  refine m_ga E hK hP 1 (by decide) rfl q1414 rfl dX2_buys_33 ?_
  refine lv_iconst (v := nI 4) hx hb dX2_buys_36 rfl ?_
  obtain ⟨v8, hv8, hf⟩ := ob hf
  refine m_ald E hK hP (by decide) rfl rfl hv8 dX2_buys_37 ?_
  refine lv_icmp_ge (tgt := 58) hx hb dX2_buys_38 (by decide) (fun kc9 => ?_) (fun kc9 => ?_)
  · have hf := ite_t kc9 hf
    cases hf
    exact hk _ _ _ (lv_sub hl [0, 1, 2] rfl) hP hS
  · have hf := ite_f kc9 hf
    refine lv_aload_n hx hb dX2_buys_41 rfl (lv_at hl 0 rfl) ?_
    refine m_ga E hK hP 41 (by decide) rfl q1454 rfl dX2_buys_42 ?_
    refine lv_iload_n hx hb dX2_buys_45 rfl (lv_at hl 3 rfl) ?_
    refine lv_aload_n hx hb dX2_buys_46 rfl (lv_at hl 0 rfl) ?_
    refine lv_iload_n hx hb dX2_buys_47 rfl (lv_at hl 3 rfl) ?_
    obtain ⟨v11, μ12, hc10, hf⟩ := ob2 hf
    refine m_calli E hK hP hS (As := [.int st.1]) (tm_costOf l D dT h st.1 st.2 _ hc10) (lw_V q1923 q1925 qs133 q166 q1926) dm_costOf rfl (by decide) (by decide) hl rfl (Nat.le_of_ble_eq_true rfl) dX2_buys_48 (fun H locs hP hS => ?_)
    obtain ⟨μ13, hμ13, hf⟩ := ob hf
    refine m_ast E hK hP hS (by decide) rfl rfl hμ13 dX2_buys_51 (fun H locs hP hS => ?_)
    refine lv_iinc (v := st.1 + nI 1) (lv' := [(3, .int (st.1 + nI 1)), (0, .ref h), (1, .int x1), (2, .int x2)]) hx hb dX2_buys_52 hl (k := 3) rfl rfl (by decide) rfl (fun ls hl => ?_)
    refine lv_goto (tgt := 31) hx hb dX2_buys_55 (by decide) ?_
    cases hf
    exact hk _ _ _ (lv_sub hl [1, 2, 3, 0] rfl) hP hS
set_option maxHeartbeats 4000000 in
theorem fm_buys_L69_w {p : Program} {l : Launch} {e : Env} {s : State} {m : MethodId} {args : Array Value} {below : List Frame} {meth : Method} {c : Code} {Q : State → Prop} {D : va_G} {dT : Nat → ClassId} {h : Nat} (E : CallFix p m c cX2_buys 7 s args lw_all RX2) (hK : va_K D nwCl (nwT dT) s) (x1 : Int32) (x2 : Int32) (x3 : Int32) (μ : nwM) {st : Int32 × Int32} {x : Int32} (hw : wh_ (fm_buys_L69 x1 x2 x3 μ) st = some x) (hk : (fun x : Int32 => ∀ (ls : Array Slot) (H : Heap) (locs : List Loc), lv_has ls 7 [(0, .ref h), (2, .int x2), (4, .int x)] → PM D dT h μ H → va_S (mA h) s.heap H locs → W p l e (rmd 5) s m args below meth c H locs 0 0 Q (F0 m 154 ls [])) x) : (fun st : Int32 × Int32 => ∀ (ls : Array Slot) (H : Heap) (locs : List Loc), lv_has ls 7 [(0, .ref h), (1, .int x1), (2, .int x2), (3, .int x3), (4, .int st.1), (5, .int st.2)] → PM D dT h μ H → va_S (mA h) s.heap H locs → W p l e (rmd 5) s m args below meth c H locs 0 0 Q (F0 m 69 ls [])) st := by
  obtain ⟨hx, hb, -, hown, hts⟩ := id E
  refine wh_run (P := (fun st : Int32 × Int32 => ∀ (ls : Array Slot) (H : Heap) (locs : List Loc), lv_has ls 7 [(0, .ref h), (1, .int x1), (2, .int x2), (3, .int x3), (4, .int st.1), (5, .int st.2)] → PM D dT h μ H → va_S (mA h) s.heap H locs → W p l e (rmd 5) s m args below meth c H locs 0 0 Q (F0 m 69 ls []))) (PE := (fun x : Int32 => ∀ (ls : Array Slot) (H : Heap) (locs : List Loc), lv_has ls 7 [(0, .ref h), (2, .int x2), (4, .int x)] → PM D dT h μ H → va_S (mA h) s.heap H locs → W p l e (rmd 5) s m args below meth c H locs 0 0 Q (F0 m 154 ls []))) ?_ hw hk
  clear hw hk
  intro st x hf hk ls H locs hl hP hS
  refine lv_iload hx hb dX2_buys_69 (lv_at hl 5 rfl) ?_
  refine lv_iconst (v := nI 1) hx hb dX2_buys_71 rfl ?_
  refine lv_aload_n hx hb dX2_buys_72 rfl (lv_at hl 0 rfl) ?_
  refine m_ga E hK hP 1 (by decide) rfl q1414 rfl dX2_buys_73 ?_
  refine lv_iconst (v := nI 4) hx hb dX2_buys_76 rfl ?_
  obtain ⟨v17, hv17, hf⟩ := ob hf
  refine m_ald E hK hP (by decide) rfl rfl hv17 dX2_buys_77 ?_
  refine lv_ishl hx hb dX2_buys_78 ?_
  refine lv_icmp_ge (tgt := 154) hx hb dX2_buys_79 (by decide) (fun kc18 => ?_) (fun kc18 => ?_)
  · have hf := ite_t kc18 hf
    cases hf
    exact hk _ _ _ (lv_sub hl [0, 2, 4] rfl) hP hS
  · have hf := ite_f kc18 hf
    refine lv_iload hx hb dX2_buys_82 (lv_at hl 5 rfl) ?_
    refine lv_iload_n hx hb dX2_buys_84 rfl (lv_at hl 3 rfl) ?_
    refine lv_iconst (v := (-1)) hx hb dX2_buys_85 rfl ?_
    refine lv_ixor hx hb dX2_buys_86 ?_
    refine lv_iand hx hb dX2_buys_87 ?_
    refine lv_if_ne (tgt := 148) hx hb dX2_buys_88 (by decide) (fun kc19 => ?_) (fun kc19 => ?_)
    · have hf := ite_f kc19 hf
      refine lv_iinc (v := st.2 + nI 1) (lv' := [(5, .int (st.2 + nI 1)), (0, .ref h), (1, .int x1), (2, .int x2), (3, .int x3), (4, .int st.1)]) hx hb dX2_buys_148 hl (k := 5) rfl rfl (by decide) rfl (fun ls hl => ?_)
      refine lv_goto (tgt := 69) hx hb dX2_buys_151 (by decide) ?_
      cases hf
      exact hk _ _ _ (lv_sub hl [1, 2, 3, 4, 5, 0] rfl) hP hS
    · have hf := ite_t kc19 hf
      refine lv_aload_n hx hb dX2_buys_91 rfl (lv_at hl 0 rfl) ?_
      refine lv_iload hx hb dX2_buys_92 (lv_at hl 5 rfl) ?_
      obtain ⟨v21, hc20, hf⟩ := ob hf
      refine m_calli E hK hP hS (As := [.int st.2]) (tm_sumOf l D dT h st.2 μ _ hc20) (lw_V q1991 q1993 qs144 q166 q1994) dm_sumOf rfl (by decide) (by decide) hl rfl (Nat.le_of_ble_eq_true rfl) dX2_buys_94 (fun H locs hP hS => ?_)
      refine lv_iload_n hx hb dX2_buys_97 rfl (lv_at hl 1 rfl) ?_
      refine lv_icmp_le (tgt := 104) hx hb dX2_buys_98 (by decide) (fun kc22 => ?_) (fun kc22 => ?_)
      · have hf := ite_t kc22 hf
        refine lv_aload_n hx hb dX2_buys_104 rfl (lv_at hl 0 rfl) ?_
        refine lv_iload hx hb dX2_buys_105 (lv_at hl 5 rfl) ?_
        obtain ⟨v24, hc23, hf⟩ := ob hf
        refine m_calli E hK hP hS (As := [.int st.2]) (tm_strengthOf l D dT h st.2 μ _ hc23) (lw_V q2056 q2058 qs153 q166 q2059) dm_strengthOf rfl (by decide) (by decide) hl rfl (Nat.le_of_ble_eq_true rfl) dX2_buys_107 (fun H locs hP hS => ?_)
        refine lv_aload_n hx hb dX2_buys_110 rfl (lv_at hl 0 rfl) ?_
        refine lv_iload hx hb dX2_buys_111 (lv_at hl 4 rfl) ?_
        obtain ⟨v26, hc25, hf⟩ := ob hf
        refine m_calli E hK hP hS (As := [.int st.1]) (tm_strengthOf l D dT h st.1 μ _ hc25) (lw_V q2056 q2058 qs153 q166 q2059) dm_strengthOf rfl (by decide) (by decide) hl rfl (Nat.le_of_ble_eq_true rfl) dX2_buys_113 (fun H locs hP hS => ?_)
        refine lv_isub hx hb dX2_buys_116 ?_
        refine lv_istore (lv' := [(6, .int (v24 - v26)), (0, .ref h), (1, .int x1), (2, .int x2), (3, .int x3), (4, .int st.1), (5, .int st.2)]) hx hb dX2_buys_117 hl (by decide) rfl (fun ls hl => ?_)
        refine lv_iload hx hb dX2_buys_119 (lv_at hl 0 rfl) ?_
        refine lv_if_gt (tgt := 144) hx hb dX2_buys_121 (by decide) (fun kc27 => ?_) (fun kc27 => ?_)
        · have hf := ite_t kc27 hf
          refine lv_iload hx hb dX2_buys_144 (lv_at hl 6 rfl) ?_
          refine lv_istore (lv' := [(4, .int st.2), (6, .int (v24 - v26)), (0, .ref h), (1, .int x1), (2, .int x2), (3, .int x3), (5, .int st.2)]) hx hb dX2_buys_146 hl (by decide) rfl (fun ls hl => ?_)
          refine lv_iinc (v := st.2 + nI 1) (lv' := [(5, .int (st.2 + nI 1)), (4, .int st.2), (6, .int (v24 - v26)), (0, .ref h), (1, .int x1), (2, .int x2), (3, .int x3)]) hx hb dX2_buys_148 hl (k := 6) rfl rfl (by decide) rfl (fun ls hl => ?_)
          refine lv_goto (tgt := 69) hx hb dX2_buys_151 (by decide) ?_
          cases hf
          exact hk _ _ _ (lv_sub hl [3, 4, 5, 6, 1, 0] rfl) hP hS
        · have hf := ite_f kc27 hf
          refine lv_iload hx hb dX2_buys_124 (lv_at hl 0 rfl) ?_
          refine lv_if_ne (tgt := 148) hx hb dX2_buys_126 (by decide) (fun kc28 => ?_) (fun kc28 => ?_)
          · have hf := ite_f kc28 hf
            refine lv_iinc (v := st.2 + nI 1) (lv' := [(5, .int (st.2 + nI 1)), (6, .int (v24 - v26)), (0, .ref h), (1, .int x1), (2, .int x2), (3, .int x3), (4, .int st.1)]) hx hb dX2_buys_148 hl (k := 6) rfl rfl (by decide) rfl (fun ls hl => ?_)
            refine lv_goto (tgt := 69) hx hb dX2_buys_151 (by decide) ?_
            cases hf
            exact hk _ _ _ (lv_sub hl [2, 3, 4, 5, 6, 0] rfl) hP hS
          · have hf := ite_t kc28 hf
            refine lv_aload_n hx hb dX2_buys_129 rfl (lv_at hl 1 rfl) ?_
            refine lv_iload hx hb dX2_buys_130 (lv_at hl 6 rfl) ?_
            obtain ⟨v30, hc29, hf⟩ := ob hf
            refine m_calli E hK hP hS (As := [.int st.2]) (tm_sumOf l D dT h st.2 μ _ hc29) (lw_V q1991 q1993 qs144 q166 q1994) dm_sumOf rfl (by decide) (by decide) hl rfl (Nat.le_of_ble_eq_true rfl) dX2_buys_132 (fun H locs hP hS => ?_)
            refine lv_aload_n hx hb dX2_buys_135 rfl (lv_at hl 1 rfl) ?_
            refine lv_iload hx hb dX2_buys_136 (lv_at hl 5 rfl) ?_
            obtain ⟨v32, hc31, hf⟩ := ob hf
            refine m_calli E hK hP hS (As := [.int st.1]) (tm_sumOf l D dT h st.1 μ _ hc31) (lw_V q1991 q1993 qs144 q166 q1994) dm_sumOf rfl (by decide) (by decide) hl rfl (Nat.le_of_ble_eq_true rfl) dX2_buys_138 (fun H locs hP hS => ?_)
            refine lv_icmp_ge (tgt := 148) hx hb dX2_buys_141 (by decide) (fun kc33 => ?_) (fun kc33 => ?_)
            · have hf := ite_t kc33 hf
              refine lv_iinc (v := st.2 + nI 1) (lv' := [(5, .int (st.2 + nI 1)), (6, .int (v24 - v26)), (0, .ref h), (1, .int x1), (2, .int x2), (3, .int x3), (4, .int st.1)]) hx hb dX2_buys_148 hl (k := 6) rfl rfl (by decide) rfl (fun ls hl => ?_)
              refine lv_goto (tgt := 69) hx hb dX2_buys_151 (by decide) ?_
              cases hf
              exact hk _ _ _ (lv_sub hl [2, 3, 4, 5, 6, 0] rfl) hP hS
            · have hf := ite_f kc33 hf
              refine lv_iload hx hb dX2_buys_144 (lv_at hl 6 rfl) ?_
              refine lv_istore (lv' := [(4, .int st.2), (6, .int (v24 - v26)), (0, .ref h), (1, .int x1), (2, .int x2), (3, .int x3), (5, .int st.2)]) hx hb dX2_buys_146 hl (by decide) rfl (fun ls hl => ?_)
              refine lv_iinc (v := st.2 + nI 1) (lv' := [(5, .int (st.2 + nI 1)), (4, .int st.2), (6, .int (v24 - v26)), (0, .ref h), (1, .int x1), (2, .int x2), (3, .int x3)]) hx hb dX2_buys_148 hl (k := 6) rfl rfl (by decide) rfl (fun ls hl => ?_)
              refine lv_goto (tgt := 69) hx hb dX2_buys_151 (by decide) ?_
              cases hf
              exact hk _ _ _ (lv_sub hl [3, 4, 5, 6, 1, 0] rfl) hP hS
      · have hf := ite_f kc22 hf
        refine lv_goto (tgt := 148) hx hb dX2_buys_101 (by decide) ?_
        refine lv_iinc (v := st.2 + nI 1) (lv' := [(5, .int (st.2 + nI 1)), (0, .ref h), (1, .int x1), (2, .int x2), (3, .int x3), (4, .int st.1)]) hx hb dX2_buys_148 hl (k := 5) rfl rfl (by decide) rfl (fun ls hl => ?_)
        refine lv_goto (tgt := 69) hx hb dX2_buys_151 (by decide) ?_
        cases hf
        exact hk _ _ _ (lv_sub hl [1, 2, 3, 4, 5, 0] rfl) hP hS
set_option maxHeartbeats 4000000 in
theorem dm_buys : yX2_buys.cls = RX2 ∧ yX2_buys.cls ≠ "java/lang/invoke/MethodHandle" ∧ yX2_buys.cls ≠ "java/lang/invoke/VarHandle" ∧ (parseMethodDescriptor yX2_buys.desc).map (fun d => d.parameters.length) = some 2 := ⟨rfl, by decide +kernel, by decide +kernel, by decide +kernel⟩
set_option maxHeartbeats 4000000 in
theorem tm_buys (l : Launch) (D : va_G) (dT : Nat → ClassId) (h : Nat) (x1 : Int32) (x2 : Int32) (μ : nwM) (res : Int32 × nwM) (hf : fm_buys x1 x2 μ = some res) : Met l yX2_buys (ws_ yX2_buys cX2_buys 7 (some .int)) (rmd 5) (mPc D dT h μ [.int x1, .int x2]) (mQi D dT h res.2 res.1) 0 0 (mA h) := by
  refine m_met (by decide) rfl (Nat.le_of_ble_eq_true rfl) ?_
  intro p e s m below meth c ls E hK hr hlk hl hP
  have hS : va_S (mA h) s.heap s.heap [] := va_S.rf
  obtain ⟨hx, hb, -, hown, hts⟩ := id E
  have hl : lv_has ls 7 [(0, .ref h), (1, .int x1), (2, .int x2)] := hl
  unfold fm_buys at hf
  refine lv_aload_n hx hb dX2_buys_0 rfl (lv_at hl 0 rfl) ?_
  refine lv_iconst (v := nI 0) hx hb dX2_buys_1 rfl ?_
  obtain ⟨μ1, hμ1, hf⟩ := ob hf
  refine m_put E hK hP hS 0 (by decide) rfl q1413 rfl rfl rfl hμ1 dX2_buys_2 (fun H locs hP hS => ?_)
  refine lv_aload_n hx hb dX2_buys_5 rfl (lv_at hl 0 rfl) ?_
  refine lv_iload_n hx hb dX2_buys_6 rfl (lv_at hl 1 rfl) ?_
  refine lv_iconst (v := nI 0) hx hb dX2_buys_7 rfl ?_
  refine lv_sipush (v := nI 9999) hx hb dX2_buys_8 rfl ?_
  obtain ⟨v3, hc2, hf⟩ := ob hf
  refine m_calli E hK hP hS (As := [.int x1, .int (nI 0), .int (nI 9999)]) (tm_isIn l D dT h x1 (nI 0) (nI 9999) μ1 _ hc2) (lw_V q1573 q1575 qs59 q166 q1576) dm_isIn rfl (by decide) (by decide) hl rfl (Nat.le_of_ble_eq_true rfl) dX2_buys_11 (fun H locs hP hS => ?_)
  refine lv_if_eq (tgt := 27) hx hb dX2_buys_14 (by decide) (fun kc4 => ?_) (fun kc4 => ?_)
  · have hf := ite_t kc4 hf
    refine lv_iconst (v := (-1)) hx hb dX2_buys_27 rfl ?_
    cases hf
    exact m_iret E hr hlk hP hS rfl dX2_buys_28
  · have hf := ite_f kc4 hf
    refine lv_aload_n hx hb dX2_buys_17 rfl (lv_at hl 0 rfl) ?_
    refine lv_iload_n hx hb dX2_buys_18 rfl (lv_at hl 2 rfl) ?_
    refine lv_iconst (v := nI 0) hx hb dX2_buys_19 rfl ?_
    refine lv_iconst (v := nI 1) hx hb dX2_buys_20 rfl ?_
    obtain ⟨v6, hc5, hf⟩ := ob hf
    refine m_calli E hK hP hS (As := [.int x2, .int (nI 0), .int (nI 1)]) (tm_isIn l D dT h x2 (nI 0) (nI 1) μ1 _ hc5) (lw_V q1573 q1575 qs59 q166 q1576) dm_isIn rfl (by decide) (by decide) hl rfl (Nat.le_of_ble_eq_true rfl) dX2_buys_21 (fun H locs hP hS => ?_)
    refine lv_if_ne (tgt := 29) hx hb dX2_buys_24 (by decide) (fun kc7 => ?_) (fun kc7 => ?_)
    · have hf := ite_f kc7 hf
      refine lv_iconst (v := nI 0) hx hb dX2_buys_29 rfl ?_
      refine lv_istore_n (lv' := [(3, .int (nI 0)), (0, .ref h), (1, .int x1), (2, .int x2)]) hx hb dX2_buys_30 rfl hl (by decide) rfl (fun ls hl => ?_)
      obtain ⟨x14, hx14, hf⟩ := ob hf
      refine fm_buys_L31_w E hK x1 x2 hx14 (fun ls H locs hl hP hS => ?_) _ _ _ (lv_sub hl [1, 2, 3, 0] rfl) hP hS
      refine lv_aload_n hx hb dX2_buys_58 rfl (lv_at hl 0 rfl) ?_
      obtain ⟨v16, hc15, hf⟩ := ob hf
      refine m_calli E hK hP hS (As := []) (tm_living l D dT h x14 _ hc15) (lw_V q1999 q2001 qs145 q166 q2002) dm_living rfl (by decide) (by decide) hl rfl (Nat.le_of_ble_eq_true rfl) dX2_buys_59 (fun H locs hP hS => ?_)
      refine lv_istore_n (lv' := [(3, .int v16), (0, .ref h), (1, .int x1), (2, .int x2)]) hx hb dX2_buys_62 rfl hl (by decide) rfl (fun ls hl => ?_)
      refine lv_iconst (v := nI 0) hx hb dX2_buys_63 rfl ?_
      refine lv_istore (lv' := [(4, .int (nI 0)), (3, .int v16), (0, .ref h), (1, .int x1), (2, .int x2)]) hx hb dX2_buys_64 hl (by decide) rfl (fun ls hl => ?_)
      refine lv_iconst (v := nI 1) hx hb dX2_buys_66 rfl ?_
      refine lv_istore (lv' := [(5, .int (nI 1)), (4, .int (nI 0)), (3, .int v16), (0, .ref h), (1, .int x1), (2, .int x2)]) hx hb dX2_buys_67 hl (by decide) rfl (fun ls hl => ?_)
      obtain ⟨x34, hx34, hf⟩ := ob hf
      refine fm_buys_L69_w E hK x1 x2 v16 x14 hx34 (fun ls H locs hl hP hS => ?_) _ _ _ (lv_sub hl [3, 4, 5, 2, 1, 0] rfl) hP hS
      refine lv_iload_n hx hb dX2_buys_154 rfl (lv_at hl 1 rfl) ?_
      refine lv_if_ne (tgt := 167) hx hb dX2_buys_155 (by decide) (fun kc35 => ?_) (fun kc35 => ?_)
      · have hf := ite_f kc35 hf
        refine lv_iload hx hb dX2_buys_167 (lv_at hl 2 rfl) ?_
        cases hf
        exact m_iret E hr hlk hP hS rfl dX2_buys_169
      · have hf := ite_t kc35 hf
        refine lv_aload_n hx hb dX2_buys_158 rfl (lv_at hl 0 rfl) ?_
        refine lv_iload hx hb dX2_buys_159 (lv_at hl 2 rfl) ?_
        obtain ⟨v37, hc36, hf⟩ := ob hf
        refine m_calli E hK hP hS (As := [.int x34]) (tm_strengthOf l D dT h x34 x14 _ hc36) (lw_V q2056 q2058 qs153 q166 q2059) dm_strengthOf rfl (by decide) (by decide) hl rfl (Nat.le_of_ble_eq_true rfl) dX2_buys_161 (fun H locs hP hS => ?_)
        refine lv_goto (tgt := 169) hx hb dX2_buys_164 (by decide) ?_
        cases hf
        exact m_iret E hr hlk hP hS rfl dX2_buys_169
    · have hf := ite_t kc7 hf
      refine lv_iconst (v := (-1)) hx hb dX2_buys_27 rfl ?_
      cases hf
      exact m_iret E hr hlk hP hS rfl dX2_buys_28
set_option maxHeartbeats 4000000 in
def fm_leads_L5 (x2 : Int32) (μ : nwM) : (Int32 × Int32) → Option ((Int32 × Int32) ⊕ (Int32)) := fun st => (if (nI 8) < st.2 then some (.inr (-1)) else (if st.1 = x2 then some (.inr st.2) else (rd_ μ 7 8 st.1).bind fun v3 => (if v3 = 0 then some (.inr (-1)) else (rd_ μ 7 8 st.1).bind fun v5 => some (.inl (v5 - (nI 1), st.2 + nI 1)))))
set_option maxHeartbeats 4000000 in
noncomputable def fm_leads (x1 : Int32) (x2 : Int32) (μ : nwM) : Option (Int32) := wh_ (fm_leads_L5 x2 μ) (x1, nI 0)
set_option maxHeartbeats 4000000 in
theorem fm_leads_L5_w {p : Program} {l : Launch} {e : Env} {s : State} {m : MethodId} {args : Array Value} {below : List Frame} {meth : Method} {c : Code} {D : va_G} {dT : Nat → ClassId} {h : Nat} (E : CallFix p m c cX2_leads 5 s args lw_all RX2) (hK : va_K D nwCl (nwT dT) s) (hr : meth.sig.returnType = (some .int)) (hlk : meth.locks = false) (x2 : Int32) (μ : nwM) {res : Int32} {st : Int32 × Int32} {x : Int32} (hw : wh_ (fm_leads_L5 x2 μ) st = some x) (hk : (fun r : Int32 => r = res) x) : (fun st : Int32 × Int32 => ∀ (ls : Array Slot) (H : Heap) (locs : List Loc), lv_has ls 5 [(0, .ref h), (2, .int x2), (3, .int st.1), (4, .int st.2)] → PM D dT h μ H → va_S (mA h) s.heap H locs → W p l e (rmd 0) s m args below meth c H locs 0 0 (MQ below (mQi D dT h μ res) args s 0 0 (mA h)) (F0 m 5 ls [])) st := by
  obtain ⟨hx, hb, -, hown, hts⟩ := id E
  refine wh_run (P := (fun st : Int32 × Int32 => ∀ (ls : Array Slot) (H : Heap) (locs : List Loc), lv_has ls 5 [(0, .ref h), (2, .int x2), (3, .int st.1), (4, .int st.2)] → PM D dT h μ H → va_S (mA h) s.heap H locs → W p l e (rmd 0) s m args below meth c H locs 0 0 (MQ below (mQi D dT h μ res) args s 0 0 (mA h)) (F0 m 5 ls []))) (PE := (fun r : Int32 => r = res)) ?_ hw hk
  clear hw hk
  intro st x hf hk ls H locs hl hP hS
  refine lv_iload hx hb dX2_leads_5 (lv_at hl 3 rfl) ?_
  refine lv_bipush (v := nI 8) hx hb dX2_leads_7 rfl ?_
  refine lv_icmp_gt (tgt := 46) hx hb dX2_leads_9 (by decide) (fun kc1 => ?_) (fun kc1 => ?_)
  · have hf := ite_t kc1 hf
    refine lv_iconst (v := (-1)) hx hb dX2_leads_46 rfl ?_
    cases hf
    have hk : (-1) = res := hk
    subst hk
    exact m_iret E hr hlk hP hS rfl dX2_leads_47
  · have hf := ite_f kc1 hf
    refine lv_iload_n hx hb dX2_leads_12 rfl (lv_at hl 2 rfl) ?_
    refine lv_iload_n hx hb dX2_leads_13 rfl (lv_at hl 1 rfl) ?_
    refine lv_icmp_ne (tgt := 20) hx hb dX2_leads_14 (by decide) (fun kc2 => ?_) (fun kc2 => ?_)
    · have hf := ite_f kc2 hf
      refine lv_aload_n hx hb dX2_leads_20 rfl (lv_at hl 0 rfl) ?_
      refine m_ga E hK hP 7 (by decide) rfl q1420 rfl dX2_leads_21 ?_
      refine lv_iload_n hx hb dX2_leads_24 rfl (lv_at hl 2 rfl) ?_
      obtain ⟨v3, hv3, hf⟩ := ob hf
      refine m_ald E hK hP (by decide) rfl rfl hv3 dX2_leads_25 ?_
      refine lv_if_ne (tgt := 31) hx hb dX2_leads_26 (by decide) (fun kc4 => ?_) (fun kc4 => ?_)
      · have hf := ite_f kc4 hf
        refine lv_aload_n hx hb dX2_leads_31 rfl (lv_at hl 0 rfl) ?_
        refine m_ga E hK hP 7 (by decide) rfl q1420 rfl dX2_leads_32 ?_
        refine lv_iload_n hx hb dX2_leads_35 rfl (lv_at hl 2 rfl) ?_
        obtain ⟨v5, hv5, hf⟩ := ob hf
        refine m_ald E hK hP (by decide) rfl rfl hv5 dX2_leads_36 ?_
        refine lv_iconst (v := nI 1) hx hb dX2_leads_37 rfl ?_
        refine lv_isub hx hb dX2_leads_38 ?_
        refine lv_istore_n (lv' := [(3, .int (v5 - (nI 1))), (0, .ref h), (2, .int x2), (4, .int st.2)]) hx hb dX2_leads_39 rfl hl (by decide) rfl (fun ls hl => ?_)
        refine lv_iinc (v := st.2 + nI 1) (lv' := [(4, .int (st.2 + nI 1)), (3, .int (v5 - (nI 1))), (0, .ref h), (2, .int x2)]) hx hb dX2_leads_40 hl (k := 3) rfl rfl (by decide) rfl (fun ls hl => ?_)
        refine lv_goto (tgt := 5) hx hb dX2_leads_43 (by decide) ?_
        cases hf
        exact hk _ _ _ (lv_sub hl [2, 3, 1, 0] rfl) hP hS
      · have hf := ite_t kc4 hf
        refine lv_iconst (v := (-1)) hx hb dX2_leads_29 rfl ?_
        cases hf
        have hk : (-1) = res := hk
        subst hk
        exact m_iret E hr hlk hP hS rfl dX2_leads_30
    · have hf := ite_t kc2 hf
      refine lv_iload hx hb dX2_leads_17 (lv_at hl 3 rfl) ?_
      cases hf
      have hk : st.2 = res := hk
      subst hk
      exact m_iret E hr hlk hP hS rfl dX2_leads_19
set_option maxHeartbeats 4000000 in
theorem dm_leads : yX2_leads.cls = RX2 ∧ yX2_leads.cls ≠ "java/lang/invoke/MethodHandle" ∧ yX2_leads.cls ≠ "java/lang/invoke/VarHandle" ∧ (parseMethodDescriptor yX2_leads.desc).map (fun d => d.parameters.length) = some 2 := ⟨rfl, by decide +kernel, by decide +kernel, by decide +kernel⟩
set_option maxHeartbeats 4000000 in
theorem tm_leads (l : Launch) (D : va_G) (dT : Nat → ClassId) (h : Nat) (x1 : Int32) (x2 : Int32) (μ : nwM) (res : Int32) (hf : fm_leads x1 x2 μ = some res) : Met l yX2_leads (ws_ yX2_leads cX2_leads 5 (some .int)) (rmd 0) (mPc D dT h μ [.int x1, .int x2]) (mQi D dT h μ res) 0 0 (mA h) := by
  refine m_met (by decide) rfl (Nat.le_of_ble_eq_true rfl) ?_
  intro p e s m below meth c ls E hK hr hlk hl hP
  have hS : va_S (mA h) s.heap s.heap [] := va_S.rf
  obtain ⟨hx, hb, -, hown, hts⟩ := id E
  have hl : lv_has ls 5 [(0, .ref h), (1, .int x1), (2, .int x2)] := hl
  unfold fm_leads at hf
  refine lv_iload_n hx hb dX2_leads_0 rfl (lv_at hl 1 rfl) ?_
  refine lv_istore_n (lv' := [(3, .int x1), (0, .ref h), (1, .int x1), (2, .int x2)]) hx hb dX2_leads_1 rfl hl (by decide) rfl (fun ls hl => ?_)
  refine lv_iconst (v := nI 0) hx hb dX2_leads_2 rfl ?_
  refine lv_istore (lv' := [(4, .int (nI 0)), (3, .int x1), (0, .ref h), (1, .int x1), (2, .int x2)]) hx hb dX2_leads_3 hl (by decide) rfl (fun ls hl => ?_)
  exact fm_leads_L5_w E hK hr hlk x2 μ hf rfl _ _ _ (lv_sub hl [2, 4, 1, 0] rfl) hP hS
set_option maxHeartbeats 4000000 in
noncomputable def fm_carried (x1 : Int32) (x2 : Int32) (μ : nwM) : Option (Int32 × nwM) := (wf_ μ 0 (nI 0)).bind fun μ1 => (fm_isIsland x1 μ1).bind fun v3 => (if v3 = 0 then some ((-1), μ1) else (fm_isIsland x2 μ1).bind fun v6 => (if v6 = 0 then some ((-1), μ1) else (fm_leads x1 x2 μ1).bind fun v9 => some (v9, μ1)))
set_option maxHeartbeats 4000000 in
theorem dm_carried : yX2_carried.cls = RX2 ∧ yX2_carried.cls ≠ "java/lang/invoke/MethodHandle" ∧ yX2_carried.cls ≠ "java/lang/invoke/VarHandle" ∧ (parseMethodDescriptor yX2_carried.desc).map (fun d => d.parameters.length) = some 2 := ⟨rfl, by decide +kernel, by decide +kernel, by decide +kernel⟩
set_option maxHeartbeats 4000000 in
theorem tm_carried (l : Launch) (D : va_G) (dT : Nat → ClassId) (h : Nat) (x1 : Int32) (x2 : Int32) (μ : nwM) (res : Int32 × nwM) (hf : fm_carried x1 x2 μ = some res) : Met l yX2_carried (ws_ yX2_carried cX2_carried 3 (some .int)) (rmd 1) (mPc D dT h μ [.int x1, .int x2]) (mQi D dT h res.2 res.1) 0 0 (mA h) := by
  refine m_met (by decide) rfl (Nat.le_of_ble_eq_true rfl) ?_
  intro p e s m below meth c ls E hK hr hlk hl hP
  have hS : va_S (mA h) s.heap s.heap [] := va_S.rf
  obtain ⟨hx, hb, -, hown, hts⟩ := id E
  have hl : lv_has ls 3 [(0, .ref h), (1, .int x1), (2, .int x2)] := hl
  unfold fm_carried at hf
  refine lv_aload_n hx hb dX2_carried_0 rfl (lv_at hl 0 rfl) ?_
  refine lv_iconst (v := nI 0) hx hb dX2_carried_1 rfl ?_
  obtain ⟨μ1, hμ1, hf⟩ := ob hf
  refine m_put E hK hP hS 0 (by decide) rfl q1413 rfl rfl rfl hμ1 dX2_carried_2 (fun H locs hP hS => ?_)
  refine lv_aload_n hx hb dX2_carried_5 rfl (lv_at hl 0 rfl) ?_
  refine lv_iload_n hx hb dX2_carried_6 rfl (lv_at hl 1 rfl) ?_
  obtain ⟨v3, hc2, hf⟩ := ob hf
  refine m_calli E hK hP hS (As := [.int x1]) (tm_isIsland l D dT h x1 μ1 _ hc2) (lw_V q1577 q1579 qs60 q166 q1580) dm_isIsland rfl (by decide) (by decide) hl rfl (Nat.le_of_ble_eq_true rfl) dX2_carried_7 (fun H locs hP hS => ?_)
  refine lv_if_eq (tgt := 30) hx hb dX2_carried_10 (by decide) (fun kc4 => ?_) (fun kc4 => ?_)
  · have hf := ite_t kc4 hf
    refine lv_iconst (v := (-1)) hx hb dX2_carried_30 rfl ?_
    cases hf
    exact m_iret E hr hlk hP hS rfl dX2_carried_31
  · have hf := ite_f kc4 hf
    refine lv_aload_n hx hb dX2_carried_13 rfl (lv_at hl 0 rfl) ?_
    refine lv_iload_n hx hb dX2_carried_14 rfl (lv_at hl 2 rfl) ?_
    obtain ⟨v6, hc5, hf⟩ := ob hf
    refine m_calli E hK hP hS (As := [.int x2]) (tm_isIsland l D dT h x2 μ1 _ hc5) (lw_V q1577 q1579 qs60 q166 q1580) dm_isIsland rfl (by decide) (by decide) hl rfl (Nat.le_of_ble_eq_true rfl) dX2_carried_15 (fun H locs hP hS => ?_)
    refine lv_if_eq (tgt := 30) hx hb dX2_carried_18 (by decide) (fun kc7 => ?_) (fun kc7 => ?_)
    · have hf := ite_t kc7 hf
      refine lv_iconst (v := (-1)) hx hb dX2_carried_30 rfl ?_
      cases hf
      exact m_iret E hr hlk hP hS rfl dX2_carried_31
    · have hf := ite_f kc7 hf
      refine lv_aload_n hx hb dX2_carried_21 rfl (lv_at hl 0 rfl) ?_
      refine lv_iload_n hx hb dX2_carried_22 rfl (lv_at hl 1 rfl) ?_
      refine lv_iload_n hx hb dX2_carried_23 rfl (lv_at hl 2 rfl) ?_
      obtain ⟨v9, hc8, hf⟩ := ob hf
      refine m_calli E hK hP hS (As := [.int x1, .int x2]) (tm_leads l D dT h x1 x2 μ1 _ hc8) (lw_V q2064 q2066 qs154 q166 q2067) dm_leads rfl (by decide) (by decide) hl rfl (Nat.le_of_ble_eq_true rfl) dX2_carried_24 (fun H locs hP hS => ?_)
      refine lv_goto (tgt := 31) hx hb dX2_carried_27 (by decide) ?_
      cases hf
      exact m_iret E hr hlk hP hS rfl dX2_carried_31
set_option maxHeartbeats 4000000 in
noncomputable def fm_ring_L9 (μ : nwM) : (Int32 × Int32) → Option ((Int32 × Int32) ⊕ (Int32)) := fun st => (if (nI 8) ≤ st.2 then some (.inr st.1) else (rd_ μ 7 8 st.2).bind fun v3 => (if v3 = 0 then some (.inl (st.1, st.2 + nI 1)) else (rd_ μ 7 8 st.2).bind fun v5 => (fm_leads (v5 - (nI 1)) st.2 μ).bind fun v7 => (if v7 = (-1) then some (.inl (st.1, st.2 + nI 1)) else some (.inl (st.1 ||| ((nI 1) <<< (st.2 &&& 31)), st.2 + nI 1)))))
set_option maxHeartbeats 4000000 in
noncomputable def fm_ring (μ : nwM) : Option (Int32 × nwM) := (wf_ μ 0 (nI 0)).bind fun μ1 => (wh_ (fm_ring_L9 μ1) (nI 0, nI 0)).bind fun x9 => some (x9, μ1)
set_option maxHeartbeats 4000000 in
theorem fm_ring_L9_w {p : Program} {l : Launch} {e : Env} {s : State} {m : MethodId} {args : Array Value} {below : List Frame} {meth : Method} {c : Code} {Q : State → Prop} {D : va_G} {dT : Nat → ClassId} {h : Nat} (E : CallFix p m c cX2_ring 3 s args lw_all RX2) (hK : va_K D nwCl (nwT dT) s) (μ : nwM) {st : Int32 × Int32} {x : Int32} (hw : wh_ (fm_ring_L9 μ) st = some x) (hk : (fun x : Int32 => ∀ (ls : Array Slot) (H : Heap) (locs : List Loc), lv_has ls 3 [(1, .int x)] → PM D dT h μ H → va_S (mA h) s.heap H locs → W p l e (rmd 1) s m args below meth c H locs 0 0 Q (F0 m 53 ls [])) x) : (fun st : Int32 × Int32 => ∀ (ls : Array Slot) (H : Heap) (locs : List Loc), lv_has ls 3 [(0, .ref h), (1, .int st.1), (2, .int st.2)] → PM D dT h μ H → va_S (mA h) s.heap H locs → W p l e (rmd 1) s m args below meth c H locs 0 0 Q (F0 m 9 ls [])) st := by
  obtain ⟨hx, hb, -, hown, hts⟩ := id E
  refine wh_run (P := (fun st : Int32 × Int32 => ∀ (ls : Array Slot) (H : Heap) (locs : List Loc), lv_has ls 3 [(0, .ref h), (1, .int st.1), (2, .int st.2)] → PM D dT h μ H → va_S (mA h) s.heap H locs → W p l e (rmd 1) s m args below meth c H locs 0 0 Q (F0 m 9 ls []))) (PE := (fun x : Int32 => ∀ (ls : Array Slot) (H : Heap) (locs : List Loc), lv_has ls 3 [(1, .int x)] → PM D dT h μ H → va_S (mA h) s.heap H locs → W p l e (rmd 1) s m args below meth c H locs 0 0 Q (F0 m 53 ls []))) ?_ hw hk
  clear hw hk
  intro st x hf hk ls H locs hl hP hS
  refine lv_iload_n hx hb dX2_ring_9 rfl (lv_at hl 2 rfl) ?_
  refine lv_bipush (v := nI 8) hx hb dX2_ring_10 rfl ?_
  refine lv_icmp_ge (tgt := 53) hx hb dX2_ring_12 (by decide) (fun kc2 => ?_) (fun kc2 => ?_)
  · have hf := ite_t kc2 hf
    cases hf
    exact hk _ _ _ (lv_sub hl [1] rfl) hP hS
  · have hf := ite_f kc2 hf
    refine lv_aload_n hx hb dX2_ring_15 rfl (lv_at hl 0 rfl) ?_
    refine m_ga E hK hP 7 (by decide) rfl q1420 rfl dX2_ring_16 ?_
    refine lv_iload_n hx hb dX2_ring_19 rfl (lv_at hl 2 rfl) ?_
    obtain ⟨v3, hv3, hf⟩ := ob hf
    refine m_ald E hK hP (by decide) rfl rfl hv3 dX2_ring_20 ?_
    refine lv_if_eq (tgt := 47) hx hb dX2_ring_21 (by decide) (fun kc4 => ?_) (fun kc4 => ?_)
    · have hf := ite_t kc4 hf
      refine lv_iinc (v := st.2 + nI 1) (lv' := [(2, .int (st.2 + nI 1)), (0, .ref h), (1, .int st.1)]) hx hb dX2_ring_47 hl (k := 2) rfl rfl (by decide) rfl (fun ls hl => ?_)
      refine lv_goto (tgt := 9) hx hb dX2_ring_50 (by decide) ?_
      cases hf
      exact hk _ _ _ (lv_sub hl [1, 2, 0] rfl) hP hS
    · have hf := ite_f kc4 hf
      refine lv_aload_n hx hb dX2_ring_24 rfl (lv_at hl 0 rfl) ?_
      refine lv_aload_n hx hb dX2_ring_25 rfl (lv_at hl 0 rfl) ?_
      refine m_ga E hK hP 7 (by decide) rfl q1420 rfl dX2_ring_26 ?_
      refine lv_iload_n hx hb dX2_ring_29 rfl (lv_at hl 2 rfl) ?_
      obtain ⟨v5, hv5, hf⟩ := ob hf
      refine m_ald E hK hP (by decide) rfl rfl hv5 dX2_ring_30 ?_
      refine lv_iconst (v := nI 1) hx hb dX2_ring_31 rfl ?_
      refine lv_isub hx hb dX2_ring_32 ?_
      refine lv_iload_n hx hb dX2_ring_33 rfl (lv_at hl 2 rfl) ?_
      obtain ⟨v7, hc6, hf⟩ := ob hf
      refine m_calli E hK hP hS (As := [.int (v5 - (nI 1)), .int st.2]) (tm_leads l D dT h (v5 - (nI 1)) st.2 μ _ hc6) (lw_V q2064 q2066 qs154 q166 q2067) dm_leads rfl (by decide) (by decide) hl rfl (Nat.le_of_ble_eq_true rfl) dX2_ring_34 (fun H locs hP hS => ?_)
      refine lv_iconst (v := (-1)) hx hb dX2_ring_37 rfl ?_
      refine lv_icmp_eq (tgt := 47) hx hb dX2_ring_38 (by decide) (fun kc8 => ?_) (fun kc8 => ?_)
      · have hf := ite_t kc8 hf
        refine lv_iinc (v := st.2 + nI 1) (lv' := [(2, .int (st.2 + nI 1)), (0, .ref h), (1, .int st.1)]) hx hb dX2_ring_47 hl (k := 2) rfl rfl (by decide) rfl (fun ls hl => ?_)
        refine lv_goto (tgt := 9) hx hb dX2_ring_50 (by decide) ?_
        cases hf
        exact hk _ _ _ (lv_sub hl [1, 2, 0] rfl) hP hS
      · have hf := ite_f kc8 hf
        refine lv_iload_n hx hb dX2_ring_41 rfl (lv_at hl 1 rfl) ?_
        refine lv_iconst (v := nI 1) hx hb dX2_ring_42 rfl ?_
        refine lv_iload_n hx hb dX2_ring_43 rfl (lv_at hl 2 rfl) ?_
        refine lv_ishl hx hb dX2_ring_44 ?_
        refine lv_ior hx hb dX2_ring_45 ?_
        refine lv_istore_n (lv' := [(1, .int (st.1 ||| ((nI 1) <<< (st.2 &&& 31)))), (0, .ref h), (2, .int st.2)]) hx hb dX2_ring_46 rfl hl (by decide) rfl (fun ls hl => ?_)
        refine lv_iinc (v := st.2 + nI 1) (lv' := [(2, .int (st.2 + nI 1)), (1, .int (st.1 ||| ((nI 1) <<< (st.2 &&& 31)))), (0, .ref h)]) hx hb dX2_ring_47 hl (k := 2) rfl rfl (by decide) rfl (fun ls hl => ?_)
        refine lv_goto (tgt := 9) hx hb dX2_ring_50 (by decide) ?_
        cases hf
        exact hk _ _ _ (lv_sub hl [2, 1, 0] rfl) hP hS
set_option maxHeartbeats 4000000 in
theorem dm_ring : yX2_ring.cls = RX2 ∧ yX2_ring.cls ≠ "java/lang/invoke/MethodHandle" ∧ yX2_ring.cls ≠ "java/lang/invoke/VarHandle" ∧ (parseMethodDescriptor yX2_ring.desc).map (fun d => d.parameters.length) = some 0 := ⟨rfl, by decide +kernel, by decide +kernel, by decide +kernel⟩
set_option maxHeartbeats 4000000 in
theorem tm_ring (l : Launch) (D : va_G) (dT : Nat → ClassId) (h : Nat) (μ : nwM) (res : Int32 × nwM) (hf : fm_ring μ = some res) : Met l yX2_ring (ws_ yX2_ring cX2_ring 3 (some .int)) (rmd 1) (mPc D dT h μ []) (mQi D dT h res.2 res.1) 0 0 (mA h) := by
  refine m_met (by decide) rfl (Nat.le_of_ble_eq_true rfl) ?_
  intro p e s m below meth c ls E hK hr hlk hl hP
  have hS : va_S (mA h) s.heap s.heap [] := va_S.rf
  obtain ⟨hx, hb, -, hown, hts⟩ := id E
  have hl : lv_has ls 3 [(0, .ref h)] := hl
  unfold fm_ring at hf
  refine lv_aload_n hx hb dX2_ring_0 rfl (lv_at hl 0 rfl) ?_
  refine lv_iconst (v := nI 0) hx hb dX2_ring_1 rfl ?_
  obtain ⟨μ1, hμ1, hf⟩ := ob hf
  refine m_put E hK hP hS 0 (by decide) rfl q1413 rfl rfl rfl hμ1 dX2_ring_2 (fun H locs hP hS => ?_)
  refine lv_iconst (v := nI 0) hx hb dX2_ring_5 rfl ?_
  refine lv_istore_n (lv' := [(1, .int (nI 0)), (0, .ref h)]) hx hb dX2_ring_6 rfl hl (by decide) rfl (fun ls hl => ?_)
  refine lv_iconst (v := nI 0) hx hb dX2_ring_7 rfl ?_
  refine lv_istore_n (lv' := [(2, .int (nI 0)), (1, .int (nI 0)), (0, .ref h)]) hx hb dX2_ring_8 rfl hl (by decide) rfl (fun ls hl => ?_)
  obtain ⟨x9, hx9, hf⟩ := ob hf
  refine fm_ring_L9_w E hK μ1 hx9 (fun ls H locs hl hP hS => ?_) _ _ _ (lv_sub hl [2, 1, 0] rfl) hP hS
  refine lv_iload_n hx hb dX2_ring_53 rfl (lv_at hl 0 rfl) ?_
  cases hf
  exact m_iret E hr hlk hP hS rfl dX2_ring_54
