/-! walks of NamesWeatherModel, written by genm.py -/
set_option maxRecDepth 100000
set_option maxHeartbeats 4000000 in
noncomputable def fm_skyOf (x1 : Int32) (x2 : Int32) (x3 : Int32) (μ : nwM) : Option (Int32 × nwM) := (wf_ μ 0 (nI 0)).bind fun μ1 => (fm_isSky x1 x2 μ1).bind fun v3 => (if v3 = 0 then some ((-1), μ1) else (fm_isIn x3 (nI 0) (nI 60) μ1).bind fun v6 => (if v6 = 0 then some ((-1), μ1) else (fm_thinks μ1).bind fun μ9 => (fm_goesFor x3 μ9).bind fun μ11 => (fm_skyAt x1 x2 μ11).bind fun v13 => (fm_endsThought μ11).bind fun μ15 => some (v13, μ15)))
set_option maxHeartbeats 4000000 in
theorem dm_skyOf : yX2_skyOf.cls = RX2 ∧ yX2_skyOf.cls ≠ "java/lang/invoke/MethodHandle" ∧ yX2_skyOf.cls ≠ "java/lang/invoke/VarHandle" ∧ (parseMethodDescriptor yX2_skyOf.desc).map (fun d => d.parameters.length) = some 3 := ⟨rfl, by decide +kernel, by decide +kernel, by decide +kernel⟩
set_option maxHeartbeats 4000000 in
theorem tm_skyOf (l : Launch) (D : va_G) (dT : Nat → ClassId) (h : Nat) (x1 : Int32) (x2 : Int32) (x3 : Int32) (μ : nwM) (res : Int32 × nwM) (hf : fm_skyOf x1 x2 x3 μ = some res) : Met l yX2_skyOf (ws_ yX2_skyOf cX2_skyOf 5 (some .int)) (rmd 9) (mPc D dT h μ [.int x1, .int x2, .int x3]) (mQi D dT h res.2 res.1) 0 0 (mA h) := by
  refine m_met (by decide) rfl (Nat.le_of_ble_eq_true rfl) ?_
  intro p e s m below meth c ls E hK hr hlk hl hP
  have hS : va_S (mA h) s.heap s.heap [] := va_S.rf
  obtain ⟨hx, hb, -, hown, hts⟩ := id E
  have hl : lv_has ls 5 [(0, .ref h), (1, .int x1), (2, .int x2), (3, .int x3)] := hl
  unfold fm_skyOf at hf
  refine lv_aload_n hx hb dX2_skyOf_0 rfl (lv_at hl 0 rfl) ?_
  refine lv_iconst (v := nI 0) hx hb dX2_skyOf_1 rfl ?_
  obtain ⟨μ1, hμ1, hf⟩ := ob hf
  refine m_put E hK hP hS 0 (by decide) rfl q1413 rfl rfl rfl hμ1 dX2_skyOf_2 (fun H locs hP hS => ?_)
  refine lv_aload_n hx hb dX2_skyOf_5 rfl (lv_at hl 0 rfl) ?_
  refine lv_iload_n hx hb dX2_skyOf_6 rfl (lv_at hl 1 rfl) ?_
  refine lv_iload_n hx hb dX2_skyOf_7 rfl (lv_at hl 2 rfl) ?_
  obtain ⟨v3, hc2, hf⟩ := ob hf
  refine m_calli E hK hP hS (As := [.int x1, .int x2]) (tm_isSky l D dT h x1 x2 μ1 _ hc2) (lw_V q1931 q1933 qs134 q166 q1934) dm_isSky rfl (by decide) (by decide) hl rfl (Nat.le_of_ble_eq_true rfl) dX2_skyOf_8 (fun H locs hP hS => ?_)
  refine lv_if_eq (tgt := 25) hx hb dX2_skyOf_11 (by decide) (fun kc4 => ?_) (fun kc4 => ?_)
  · have hf := ite_t kc4 hf
    refine lv_iconst (v := (-1)) hx hb dX2_skyOf_25 rfl ?_
    cases hf
    exact m_iret E hr hlk hP hS rfl dX2_skyOf_26
  · have hf := ite_f kc4 hf
    refine lv_aload_n hx hb dX2_skyOf_14 rfl (lv_at hl 0 rfl) ?_
    refine lv_iload_n hx hb dX2_skyOf_15 rfl (lv_at hl 3 rfl) ?_
    refine lv_iconst (v := nI 0) hx hb dX2_skyOf_16 rfl ?_
    refine lv_bipush (v := nI 60) hx hb dX2_skyOf_17 rfl ?_
    obtain ⟨v6, hc5, hf⟩ := ob hf
    refine m_calli E hK hP hS (As := [.int x3, .int (nI 0), .int (nI 60)]) (tm_isIn l D dT h x3 (nI 0) (nI 60) μ1 _ hc5) (lw_V q1573 q1575 qs59 q166 q1576) dm_isIn rfl (by decide) (by decide) hl rfl (Nat.le_of_ble_eq_true rfl) dX2_skyOf_19 (fun H locs hP hS => ?_)
    refine lv_if_ne (tgt := 27) hx hb dX2_skyOf_22 (by decide) (fun kc7 => ?_) (fun kc7 => ?_)
    · have hf := ite_f kc7 hf
      refine lv_aload_n hx hb dX2_skyOf_27 rfl (lv_at hl 0 rfl) ?_
      obtain ⟨μ9, hc8, hf⟩ := ob hf
      refine m_callv E hK hP hS (As := []) (tm_thinks l D dT h μ1 _ hc8) (lw_V q1935 q1937 qs135 q166 q1938) dm_thinks rfl (by decide) (by decide) hl rfl (Nat.le_of_ble_eq_true rfl) dX2_skyOf_28 (fun H locs hP hS => ?_)
      refine lv_aload_n hx hb dX2_skyOf_31 rfl (lv_at hl 0 rfl) ?_
      refine lv_iload_n hx hb dX2_skyOf_32 rfl (lv_at hl 3 rfl) ?_
      obtain ⟨μ11, hc10, hf⟩ := ob hf
      refine m_callv E hK hP hS (As := [.int x3]) (tm_goesFor l D dT h x3 μ9 _ hc10) (lw_V q1939 q1941 qs136 q166 q1942) dm_goesFor rfl (by decide) (by decide) hl rfl (Nat.le_of_ble_eq_true rfl) dX2_skyOf_33 (fun H locs hP hS => ?_)
      refine lv_aload_n hx hb dX2_skyOf_36 rfl (lv_at hl 0 rfl) ?_
      refine lv_iload_n hx hb dX2_skyOf_37 rfl (lv_at hl 1 rfl) ?_
      refine lv_iload_n hx hb dX2_skyOf_38 rfl (lv_at hl 2 rfl) ?_
      obtain ⟨v13, hc12, hf⟩ := ob hf
      refine m_calli E hK hP hS (As := [.int x1, .int x2]) (tm_skyAt l D dT h x1 x2 μ11 _ hc12) (lw_V q1793 q1795 qs106 q166 q1796) dm_skyAt rfl (by decide) (by decide) hl rfl (Nat.le_of_ble_eq_true rfl) dX2_skyOf_39 (fun H locs hP hS => ?_)
      refine lv_istore (lv' := [(4, .int v13), (0, .ref h), (1, .int x1), (2, .int x2), (3, .int x3)]) hx hb dX2_skyOf_42 hl (by decide) rfl (fun ls hl => ?_)
      refine lv_aload_n hx hb dX2_skyOf_44 rfl (lv_at hl 1 rfl) ?_
      obtain ⟨μ15, hc14, hf⟩ := ob hf
      refine m_callv E hK hP hS (As := []) (tm_endsThought l D dT h μ11 _ hc14) (lw_V q1943 q1945 qs137 q166 q1946) dm_endsThought rfl (by decide) (by decide) hl rfl (Nat.le_of_ble_eq_true rfl) dX2_skyOf_45 (fun H locs hP hS => ?_)
      refine lv_iload hx hb dX2_skyOf_48 (lv_at hl 0 rfl) ?_
      cases hf
      exact m_iret E hr hlk hP hS rfl dX2_skyOf_50
    · have hf := ite_t kc7 hf
      refine lv_iconst (v := (-1)) hx hb dX2_skyOf_25 rfl ?_
      cases hf
      exact m_iret E hr hlk hP hS rfl dX2_skyOf_26
set_option maxHeartbeats 4000000 in
noncomputable def fm_at (x1 : Int32) (x2 : Int32) (μ : nwM) : Option (Int32 × nwM) := (wf_ μ 0 (nI 0)).bind fun μ1 => (fm_isIsland x1 μ1).bind fun v3 => (if v3 = 0 then some ((-2), μ1) else (if x2 = 0 then (rd_ μ1 7 8 x1).bind fun v21 => some (v21 - (nI 1), μ1) else (if x2 = (nI 1) then (fm_allAt x1 μ1).bind fun v20 => some (v20, μ1) else (if x2 = (nI 2) then (fm_thereAt x1 (nI 0) μ1).bind fun v18 => some (v18, μ1) else (if x2 = (nI 3) then (fm_thereAt x1 (nI 1) μ1).bind fun v16 => some (v16, μ1) else (fm_isIn x2 (nI 10) (nI 14) μ1).bind fun v10 => (if v10 = 0 then some ((-2), μ1) else bd2 (fm_fadeOf x1 (x2 - (nI 10)) μ1) fun v13 μ14 => some (v13, μ14)))))))
set_option maxHeartbeats 4000000 in
theorem dm_at : yX2_at.cls = RX2 ∧ yX2_at.cls ≠ "java/lang/invoke/MethodHandle" ∧ yX2_at.cls ≠ "java/lang/invoke/VarHandle" ∧ (parseMethodDescriptor yX2_at.desc).map (fun d => d.parameters.length) = some 2 := ⟨rfl, by decide +kernel, by decide +kernel, by decide +kernel⟩
set_option maxHeartbeats 4000000 in
theorem tm_at (l : Launch) (D : va_G) (dT : Nat → ClassId) (h : Nat) (x1 : Int32) (x2 : Int32) (μ : nwM) (res : Int32 × nwM) (hf : fm_at x1 x2 μ = some res) : Met l yX2_at (ws_ yX2_at cX2_at 3 (some .int)) (rmd 5) (mPc D dT h μ [.int x1, .int x2]) (mQi D dT h res.2 res.1) 0 0 (mA h) := by
  refine m_met (by decide) rfl (Nat.le_of_ble_eq_true rfl) ?_
  intro p e s m below meth c ls E hK hr hlk hl hP
  have hS : va_S (mA h) s.heap s.heap [] := va_S.rf
  obtain ⟨hx, hb, -, hown, hts⟩ := id E
  have hl : lv_has ls 3 [(0, .ref h), (1, .int x1), (2, .int x2)] := hl
  unfold fm_at at hf
  refine lv_aload_n hx hb dX2_at_0 rfl (lv_at hl 0 rfl) ?_
  refine lv_iconst (v := nI 0) hx hb dX2_at_1 rfl ?_
  obtain ⟨μ1, hμ1, hf⟩ := ob hf
  refine m_put E hK hP hS 0 (by decide) rfl q1413 rfl rfl rfl hμ1 dX2_at_2 (fun H locs hP hS => ?_)
  refine lv_aload_n hx hb dX2_at_5 rfl (lv_at hl 0 rfl) ?_
  refine lv_iload_n hx hb dX2_at_6 rfl (lv_at hl 1 rfl) ?_
  obtain ⟨v3, hc2, hf⟩ := ob hf
  refine m_calli E hK hP hS (As := [.int x1]) (tm_isIsland l D dT h x1 μ1 _ hc2) (lw_V q1577 q1579 qs60 q166 q1580) dm_isIsland rfl (by decide) (by decide) hl rfl (Nat.le_of_ble_eq_true rfl) dX2_at_7 (fun H locs hP hS => ?_)
  refine lv_if_ne (tgt := 16) hx hb dX2_at_10 (by decide) (fun kc4 => ?_) (fun kc4 => ?_)
  · have hf := ite_f kc4 hf
    refine lv_iload_n hx hb dX2_at_16 rfl (lv_at hl 2 rfl) ?_
    refine lv_if_ne (tgt := 29) hx hb dX2_at_17 (by decide) (fun kc5 => ?_) (fun kc5 => ?_)
    · have hf := ite_f kc5 hf
      refine lv_iload_n hx hb dX2_at_29 rfl (lv_at hl 2 rfl) ?_
      refine lv_iconst (v := nI 1) hx hb dX2_at_30 rfl ?_
      refine lv_icmp_ne (tgt := 40) hx hb dX2_at_31 (by decide) (fun kc6 => ?_) (fun kc6 => ?_)
      · have hf := ite_f kc6 hf
        refine lv_iload_n hx hb dX2_at_40 rfl (lv_at hl 2 rfl) ?_
        refine lv_iconst (v := nI 2) hx hb dX2_at_41 rfl ?_
        refine lv_icmp_ne (tgt := 52) hx hb dX2_at_42 (by decide) (fun kc7 => ?_) (fun kc7 => ?_)
        · have hf := ite_f kc7 hf
          refine lv_iload_n hx hb dX2_at_52 rfl (lv_at hl 2 rfl) ?_
          refine lv_iconst (v := nI 3) hx hb dX2_at_53 rfl ?_
          refine lv_icmp_ne (tgt := 64) hx hb dX2_at_54 (by decide) (fun kc8 => ?_) (fun kc8 => ?_)
          · have hf := ite_f kc8 hf
            refine lv_aload_n hx hb dX2_at_64 rfl (lv_at hl 0 rfl) ?_
            refine lv_iload_n hx hb dX2_at_65 rfl (lv_at hl 2 rfl) ?_
            refine lv_bipush (v := nI 10) hx hb dX2_at_66 rfl ?_
            refine lv_bipush (v := nI 14) hx hb dX2_at_68 rfl ?_
            obtain ⟨v10, hc9, hf⟩ := ob hf
            refine m_calli E hK hP hS (As := [.int x2, .int (nI 10), .int (nI 14)]) (tm_isIn l D dT h x2 (nI 10) (nI 14) μ1 _ hc9) (lw_V q1573 q1575 qs59 q166 q1576) dm_isIn rfl (by decide) (by decide) hl rfl (Nat.le_of_ble_eq_true rfl) dX2_at_70 (fun H locs hP hS => ?_)
            refine lv_if_eq (tgt := 88) hx hb dX2_at_73 (by decide) (fun kc11 => ?_) (fun kc11 => ?_)
            · have hf := ite_t kc11 hf
              refine lv_bipush (v := (-2)) hx hb dX2_at_88 rfl ?_
              cases hf
              exact m_iret E hr hlk hP hS rfl dX2_at_90
            · have hf := ite_f kc11 hf
              refine lv_aload_n hx hb dX2_at_76 rfl (lv_at hl 0 rfl) ?_
              refine lv_iload_n hx hb dX2_at_77 rfl (lv_at hl 1 rfl) ?_
              refine lv_iload_n hx hb dX2_at_78 rfl (lv_at hl 2 rfl) ?_
              refine lv_bipush (v := nI 10) hx hb dX2_at_79 rfl ?_
              refine lv_isub hx hb dX2_at_81 ?_
              obtain ⟨v13, μ14, hc12, hf⟩ := ob2 hf
              refine m_calli E hK hP hS (As := [.int x1, .int (x2 - (nI 10))]) (tm_fadeOf l D dT h x1 (x2 - (nI 10)) μ1 _ hc12) (lw_V q1901 q1903 qs129 q166 q1904) dm_fadeOf rfl (by decide) (by decide) hl rfl (Nat.le_of_ble_eq_true rfl) dX2_at_82 (fun H locs hP hS => ?_)
              refine lv_goto (tgt := 90) hx hb dX2_at_85 (by decide) ?_
              cases hf
              exact m_iret E hr hlk hP hS rfl dX2_at_90
          · have hf := ite_t kc8 hf
            refine lv_aload_n hx hb dX2_at_57 rfl (lv_at hl 0 rfl) ?_
            refine lv_iload_n hx hb dX2_at_58 rfl (lv_at hl 1 rfl) ?_
            refine lv_iconst (v := nI 1) hx hb dX2_at_59 rfl ?_
            obtain ⟨v16, hc15, hf⟩ := ob hf
            refine m_calli E hK hP hS (As := [.int x1, .int (nI 1)]) (tm_thereAt l D dT h x1 (nI 1) μ1 _ hc15) (lw_V q1813 q1815 qs111 q166 q1816) dm_thereAt rfl (by decide) (by decide) hl rfl (Nat.le_of_ble_eq_true rfl) dX2_at_60 (fun H locs hP hS => ?_)
            cases hf
            exact m_iret E hr hlk hP hS rfl dX2_at_63
        · have hf := ite_t kc7 hf
          refine lv_aload_n hx hb dX2_at_45 rfl (lv_at hl 0 rfl) ?_
          refine lv_iload_n hx hb dX2_at_46 rfl (lv_at hl 1 rfl) ?_
          refine lv_iconst (v := nI 0) hx hb dX2_at_47 rfl ?_
          obtain ⟨v18, hc17, hf⟩ := ob hf
          refine m_calli E hK hP hS (As := [.int x1, .int (nI 0)]) (tm_thereAt l D dT h x1 (nI 0) μ1 _ hc17) (lw_V q1813 q1815 qs111 q166 q1816) dm_thereAt rfl (by decide) (by decide) hl rfl (Nat.le_of_ble_eq_true rfl) dX2_at_48 (fun H locs hP hS => ?_)
          cases hf
          exact m_iret E hr hlk hP hS rfl dX2_at_51
      · have hf := ite_t kc6 hf
        refine lv_aload_n hx hb dX2_at_34 rfl (lv_at hl 0 rfl) ?_
        refine lv_iload_n hx hb dX2_at_35 rfl (lv_at hl 1 rfl) ?_
        obtain ⟨v20, hc19, hf⟩ := ob hf
        refine m_calli E hK hP hS (As := [.int x1]) (tm_allAt l D dT h x1 μ1 _ hc19) (lw_V q1809 q1811 qs110 q166 q1812) dm_allAt rfl (by decide) (by decide) hl rfl (Nat.le_of_ble_eq_true rfl) dX2_at_36 (fun H locs hP hS => ?_)
        cases hf
        exact m_iret E hr hlk hP hS rfl dX2_at_39
    · have hf := ite_t kc5 hf
      refine lv_aload_n hx hb dX2_at_20 rfl (lv_at hl 0 rfl) ?_
      refine m_ga E hK hP 7 (by decide) rfl q1420 rfl dX2_at_21 ?_
      refine lv_iload_n hx hb dX2_at_24 rfl (lv_at hl 1 rfl) ?_
      obtain ⟨v21, hv21, hf⟩ := ob hf
      refine m_ald E hK hP (by decide) rfl rfl hv21 dX2_at_25 ?_
      refine lv_iconst (v := nI 1) hx hb dX2_at_26 rfl ?_
      refine lv_isub hx hb dX2_at_27 ?_
      cases hf
      exact m_iret E hr hlk hP hS rfl dX2_at_28
  · have hf := ite_t kc4 hf
    refine lv_bipush (v := (-2)) hx hb dX2_at_13 rfl ?_
    cases hf
    exact m_iret E hr hlk hP hS rfl dX2_at_15
set_option maxHeartbeats 4000000 in
def fm_doClash_L2 (x1 : Int32) (x2 : Int32) (μ : nwM) : Int32 → Option ((Int32) ⊕ (Int32)) := fun st => (if (μ 32 0) ≤ st then some (.inr (nI 0)) else (rd_ μ 33 96 ((nI 3) * st)).bind fun v2 => (if v2 = x1 then (rd_ μ 33 96 (((nI 3) * st) + (nI 1))).bind fun v8 => (if v8 = x2 then some (.inr (nI 1)) else (rd_ μ 33 96 ((nI 3) * st)).bind fun v10 => (if v10 = x2 then (rd_ μ 33 96 (((nI 3) * st) + (nI 1))).bind fun v12 => (if v12 = x1 then some (.inr (nI 1)) else some (.inl (st + nI 1))) else some (.inl (st + nI 1)))) else (rd_ μ 33 96 ((nI 3) * st)).bind fun v4 => (if v4 = x2 then (rd_ μ 33 96 (((nI 3) * st) + (nI 1))).bind fun v6 => (if v6 = x1 then some (.inr (nI 1)) else some (.inl (st + nI 1))) else some (.inl (st + nI 1)))))
set_option maxHeartbeats 4000000 in
noncomputable def fm_doClash (x1 : Int32) (x2 : Int32) (μ : nwM) : Option (Int32) := wh_ (fm_doClash_L2 x1 x2 μ) (nI 0)
set_option maxHeartbeats 4000000 in
theorem fm_doClash_L2_w {p : Program} {l : Launch} {e : Env} {s : State} {m : MethodId} {args : Array Value} {below : List Frame} {meth : Method} {c : Code} {D : va_G} {dT : Nat → ClassId} {h : Nat} (E : CallFix p m c cX2_doClash 4 s args lw_all RX2) (hK : va_K D nwCl (nwT dT) s) (hr : meth.sig.returnType = (some .boolean)) (hlk : meth.locks = false) (x1 : Int32) (x2 : Int32) (μ : nwM) {res : Int32} {st : Int32} {x : Int32} (hw : wh_ (fm_doClash_L2 x1 x2 μ) st = some x) (hk : (fun r : Int32 => r = res) x) : (fun st : Int32 => ∀ (ls : Array Slot) (H : Heap) (locs : List Loc), lv_has ls 4 [(0, .ref h), (1, .int x1), (2, .int x2), (3, .int st)] → PM D dT h μ H → va_S (mA h) s.heap H locs → W p l e (rmd 0) s m args below meth c H locs 0 0 (MQ below (mQi D dT h μ res) args s 0 0 (mA h)) (F0 m 2 ls [])) st := by
  obtain ⟨hx, hb, -, hown, hts⟩ := id E
  refine wh_run (P := (fun st : Int32 => ∀ (ls : Array Slot) (H : Heap) (locs : List Loc), lv_has ls 4 [(0, .ref h), (1, .int x1), (2, .int x2), (3, .int st)] → PM D dT h μ H → va_S (mA h) s.heap H locs → W p l e (rmd 0) s m args below meth c H locs 0 0 (MQ below (mQi D dT h μ res) args s 0 0 (mA h)) (F0 m 2 ls []))) (PE := (fun r : Int32 => r = res)) ?_ hw hk
  clear hw hk
  intro st x hf hk ls H locs hl hP hS
  refine lv_iload_n hx hb dX2_doClash_2 rfl (lv_at hl 3 rfl) ?_
  refine lv_aload_n hx hb dX2_doClash_3 rfl (lv_at hl 0 rfl) ?_
  refine m_get E hK hP 32 (by decide) rfl q1445 rfl dX2_doClash_4 ?_
  refine lv_icmp_ge (tgt := 70) hx hb dX2_doClash_7 (by decide) (fun kc1 => ?_) (fun kc1 => ?_)
  · have hf := ite_t kc1 hf
    refine lv_iconst (v := nI 0) hx hb dX2_doClash_70 rfl ?_
    cases hf
    have hk : nI 0 = res := hk
    subst hk
    exact m_zret E hr hlk hP hS rfl dX2_doClash_71
  · have hf := ite_f kc1 hf
    refine lv_aload_n hx hb dX2_doClash_10 rfl (lv_at hl 0 rfl) ?_
    refine m_ga E hK hP 33 (by decide) rfl q1446 rfl dX2_doClash_11 ?_
    refine lv_iconst (v := nI 3) hx hb dX2_doClash_14 rfl ?_
    refine lv_iload_n hx hb dX2_doClash_15 rfl (lv_at hl 3 rfl) ?_
    refine lv_imul hx hb dX2_doClash_16 ?_
    obtain ⟨v2, hv2, hf⟩ := ob hf
    refine m_ald E hK hP (by decide) rfl rfl hv2 dX2_doClash_17 ?_
    refine lv_iload_n hx hb dX2_doClash_18 rfl (lv_at hl 1 rfl) ?_
    refine lv_icmp_ne (tgt := 36) hx hb dX2_doClash_19 (by decide) (fun kc3 => ?_) (fun kc3 => ?_)
    · have hf := ite_f kc3 hf
      refine lv_aload_n hx hb dX2_doClash_36 rfl (lv_at hl 0 rfl) ?_
      refine m_ga E hK hP 33 (by decide) rfl q1446 rfl dX2_doClash_37 ?_
      refine lv_iconst (v := nI 3) hx hb dX2_doClash_40 rfl ?_
      refine lv_iload_n hx hb dX2_doClash_41 rfl (lv_at hl 3 rfl) ?_
      refine lv_imul hx hb dX2_doClash_42 ?_
      obtain ⟨v4, hv4, hf⟩ := ob hf
      refine m_ald E hK hP (by decide) rfl rfl hv4 dX2_doClash_43 ?_
      refine lv_iload_n hx hb dX2_doClash_44 rfl (lv_at hl 2 rfl) ?_
      refine lv_icmp_ne (tgt := 64) hx hb dX2_doClash_45 (by decide) (fun kc5 => ?_) (fun kc5 => ?_)
      · have hf := ite_f kc5 hf
        refine lv_iinc (v := st + nI 1) (lv' := [(3, .int (st + nI 1)), (0, .ref h), (1, .int x1), (2, .int x2)]) hx hb dX2_doClash_64 hl (k := 3) rfl rfl (by decide) rfl (fun ls hl => ?_)
        refine lv_goto (tgt := 2) hx hb dX2_doClash_67 (by decide) ?_
        cases hf
        exact hk _ _ _ (lv_sub hl [1, 2, 3, 0] rfl) hP hS
      · have hf := ite_t kc5 hf
        refine lv_aload_n hx hb dX2_doClash_48 rfl (lv_at hl 0 rfl) ?_
        refine m_ga E hK hP 33 (by decide) rfl q1446 rfl dX2_doClash_49 ?_
        refine lv_iconst (v := nI 3) hx hb dX2_doClash_52 rfl ?_
        refine lv_iload_n hx hb dX2_doClash_53 rfl (lv_at hl 3 rfl) ?_
        refine lv_imul hx hb dX2_doClash_54 ?_
        refine lv_iconst (v := nI 1) hx hb dX2_doClash_55 rfl ?_
        refine lv_iadd hx hb dX2_doClash_56 ?_
        obtain ⟨v6, hv6, hf⟩ := ob hf
        refine m_ald E hK hP (by decide) rfl rfl hv6 dX2_doClash_57 ?_
        refine lv_iload_n hx hb dX2_doClash_58 rfl (lv_at hl 1 rfl) ?_
        refine lv_icmp_ne (tgt := 64) hx hb dX2_doClash_59 (by decide) (fun kc7 => ?_) (fun kc7 => ?_)
        · have hf := ite_f kc7 hf
          refine lv_iinc (v := st + nI 1) (lv' := [(3, .int (st + nI 1)), (0, .ref h), (1, .int x1), (2, .int x2)]) hx hb dX2_doClash_64 hl (k := 3) rfl rfl (by decide) rfl (fun ls hl => ?_)
          refine lv_goto (tgt := 2) hx hb dX2_doClash_67 (by decide) ?_
          cases hf
          exact hk _ _ _ (lv_sub hl [1, 2, 3, 0] rfl) hP hS
        · have hf := ite_t kc7 hf
          refine lv_iconst (v := nI 1) hx hb dX2_doClash_62 rfl ?_
          cases hf
          have hk : nI 1 = res := hk
          subst hk
          exact m_zret E hr hlk hP hS rfl dX2_doClash_63
    · have hf := ite_t kc3 hf
      refine lv_aload_n hx hb dX2_doClash_22 rfl (lv_at hl 0 rfl) ?_
      refine m_ga E hK hP 33 (by decide) rfl q1446 rfl dX2_doClash_23 ?_
      refine lv_iconst (v := nI 3) hx hb dX2_doClash_26 rfl ?_
      refine lv_iload_n hx hb dX2_doClash_27 rfl (lv_at hl 3 rfl) ?_
      refine lv_imul hx hb dX2_doClash_28 ?_
      refine lv_iconst (v := nI 1) hx hb dX2_doClash_29 rfl ?_
      refine lv_iadd hx hb dX2_doClash_30 ?_
      obtain ⟨v8, hv8, hf⟩ := ob hf
      refine m_ald E hK hP (by decide) rfl rfl hv8 dX2_doClash_31 ?_
      refine lv_iload_n hx hb dX2_doClash_32 rfl (lv_at hl 2 rfl) ?_
      refine lv_icmp_eq (tgt := 62) hx hb dX2_doClash_33 (by decide) (fun kc9 => ?_) (fun kc9 => ?_)
      · have hf := ite_t kc9 hf
        refine lv_iconst (v := nI 1) hx hb dX2_doClash_62 rfl ?_
        cases hf
        have hk : nI 1 = res := hk
        subst hk
        exact m_zret E hr hlk hP hS rfl dX2_doClash_63
      · have hf := ite_f kc9 hf
        refine lv_aload_n hx hb dX2_doClash_36 rfl (lv_at hl 0 rfl) ?_
        refine m_ga E hK hP 33 (by decide) rfl q1446 rfl dX2_doClash_37 ?_
        refine lv_iconst (v := nI 3) hx hb dX2_doClash_40 rfl ?_
        refine lv_iload_n hx hb dX2_doClash_41 rfl (lv_at hl 3 rfl) ?_
        refine lv_imul hx hb dX2_doClash_42 ?_
        obtain ⟨v10, hv10, hf⟩ := ob hf
        refine m_ald E hK hP (by decide) rfl rfl hv10 dX2_doClash_43 ?_
        refine lv_iload_n hx hb dX2_doClash_44 rfl (lv_at hl 2 rfl) ?_
        refine lv_icmp_ne (tgt := 64) hx hb dX2_doClash_45 (by decide) (fun kc11 => ?_) (fun kc11 => ?_)
        · have hf := ite_f kc11 hf
          refine lv_iinc (v := st + nI 1) (lv' := [(3, .int (st + nI 1)), (0, .ref h), (1, .int x1), (2, .int x2)]) hx hb dX2_doClash_64 hl (k := 3) rfl rfl (by decide) rfl (fun ls hl => ?_)
          refine lv_goto (tgt := 2) hx hb dX2_doClash_67 (by decide) ?_
          cases hf
          exact hk _ _ _ (lv_sub hl [1, 2, 3, 0] rfl) hP hS
        · have hf := ite_t kc11 hf
          refine lv_aload_n hx hb dX2_doClash_48 rfl (lv_at hl 0 rfl) ?_
          refine m_ga E hK hP 33 (by decide) rfl q1446 rfl dX2_doClash_49 ?_
          refine lv_iconst (v := nI 3) hx hb dX2_doClash_52 rfl ?_
          refine lv_iload_n hx hb dX2_doClash_53 rfl (lv_at hl 3 rfl) ?_
          refine lv_imul hx hb dX2_doClash_54 ?_
          refine lv_iconst (v := nI 1) hx hb dX2_doClash_55 rfl ?_
          refine lv_iadd hx hb dX2_doClash_56 ?_
          obtain ⟨v12, hv12, hf⟩ := ob hf
          refine m_ald E hK hP (by decide) rfl rfl hv12 dX2_doClash_57 ?_
          refine lv_iload_n hx hb dX2_doClash_58 rfl (lv_at hl 1 rfl) ?_
          refine lv_icmp_ne (tgt := 64) hx hb dX2_doClash_59 (by decide) (fun kc13 => ?_) (fun kc13 => ?_)
          · have hf := ite_f kc13 hf
            refine lv_iinc (v := st + nI 1) (lv' := [(3, .int (st + nI 1)), (0, .ref h), (1, .int x1), (2, .int x2)]) hx hb dX2_doClash_64 hl (k := 3) rfl rfl (by decide) rfl (fun ls hl => ?_)
            refine lv_goto (tgt := 2) hx hb dX2_doClash_67 (by decide) ?_
            cases hf
            exact hk _ _ _ (lv_sub hl [1, 2, 3, 0] rfl) hP hS
          · have hf := ite_t kc13 hf
            refine lv_iconst (v := nI 1) hx hb dX2_doClash_62 rfl ?_
            cases hf
            have hk : nI 1 = res := hk
            subst hk
            exact m_zret E hr hlk hP hS rfl dX2_doClash_63
set_option maxHeartbeats 4000000 in
theorem dm_doClash : yX2_doClash.cls = RX2 ∧ yX2_doClash.cls ≠ "java/lang/invoke/MethodHandle" ∧ yX2_doClash.cls ≠ "java/lang/invoke/VarHandle" ∧ (parseMethodDescriptor yX2_doClash.desc).map (fun d => d.parameters.length) = some 2 := ⟨rfl, by decide +kernel, by decide +kernel, by decide +kernel⟩
set_option maxHeartbeats 4000000 in
theorem tm_doClash (l : Launch) (D : va_G) (dT : Nat → ClassId) (h : Nat) (x1 : Int32) (x2 : Int32) (μ : nwM) (res : Int32) (hf : fm_doClash x1 x2 μ = some res) : Met l yX2_doClash (ws_ yX2_doClash cX2_doClash 4 (some .boolean)) (rmd 0) (mPc D dT h μ [.int x1, .int x2]) (mQi D dT h μ res) 0 0 (mA h) := by
  refine m_met (by decide) rfl (Nat.le_of_ble_eq_true rfl) ?_
  intro p e s m below meth c ls E hK hr hlk hl hP
  have hS : va_S (mA h) s.heap s.heap [] := va_S.rf
  obtain ⟨hx, hb, -, hown, hts⟩ := id E
  have hl : lv_has ls 4 [(0, .ref h), (1, .int x1), (2, .int x2)] := hl
  unfold fm_doClash at hf
  refine lv_iconst (v := nI 0) hx hb dX2_doClash_0 rfl ?_
  refine lv_istore_n (lv' := [(3, .int (nI 0)), (0, .ref h), (1, .int x1), (2, .int x2)]) hx hb dX2_doClash_1 rfl hl (by decide) rfl (fun ls hl => ?_)
  exact fm_doClash_L2_w E hK hr hlk x1 x2 μ hf rfl _ _ _ (lv_sub hl [1, 2, 3, 0] rfl) hP hS
set_option maxHeartbeats 4000000 in
noncomputable def fm_clash (x1 : Int32) (x2 : Int32) (μ : nwM) : Option (Int32 × nwM) := (wf_ μ 0 (nI 0)).bind fun μ1 => (fm_isSky (nI 0) x1 μ1).bind fun v3 => (if v3 = 0 then some ((-1), μ1) else (fm_isSky (nI 0) x2 μ1).bind fun v6 => (if v6 = 0 then some ((-1), μ1) else (fm_doClash x1 x2 μ1).bind fun v9 => (if v9 = 0 then some (nI 0, μ1) else some (nI 1, μ1))))
set_option maxHeartbeats 4000000 in
theorem dm_clash : yX2_clash.cls = RX2 ∧ yX2_clash.cls ≠ "java/lang/invoke/MethodHandle" ∧ yX2_clash.cls ≠ "java/lang/invoke/VarHandle" ∧ (parseMethodDescriptor yX2_clash.desc).map (fun d => d.parameters.length) = some 2 := ⟨rfl, by decide +kernel, by decide +kernel, by decide +kernel⟩
set_option maxHeartbeats 4000000 in
theorem tm_clash (l : Launch) (D : va_G) (dT : Nat → ClassId) (h : Nat) (x1 : Int32) (x2 : Int32) (μ : nwM) (res : Int32 × nwM) (hf : fm_clash x1 x2 μ = some res) : Met l yX2_clash (ws_ yX2_clash cX2_clash 3 (some .int)) (rmd 2) (mPc D dT h μ [.int x1, .int x2]) (mQi D dT h res.2 res.1) 0 0 (mA h) := by
  refine m_met (by decide) rfl (Nat.le_of_ble_eq_true rfl) ?_
  intro p e s m below meth c ls E hK hr hlk hl hP
  have hS : va_S (mA h) s.heap s.heap [] := va_S.rf
  obtain ⟨hx, hb, -, hown, hts⟩ := id E
  have hl : lv_has ls 3 [(0, .ref h), (1, .int x1), (2, .int x2)] := hl
  unfold fm_clash at hf
  refine lv_aload_n hx hb dX2_clash_0 rfl (lv_at hl 0 rfl) ?_
  refine lv_iconst (v := nI 0) hx hb dX2_clash_1 rfl ?_
  obtain ⟨μ1, hμ1, hf⟩ := ob hf
  refine m_put E hK hP hS 0 (by decide) rfl q1413 rfl rfl rfl hμ1 dX2_clash_2 (fun H locs hP hS => ?_)
  refine lv_aload_n hx hb dX2_clash_5 rfl (lv_at hl 0 rfl) ?_
  refine lv_iconst (v := nI 0) hx hb dX2_clash_6 rfl ?_
  refine lv_iload_n hx hb dX2_clash_7 rfl (lv_at hl 1 rfl) ?_
  obtain ⟨v3, hc2, hf⟩ := ob hf
  refine m_calli E hK hP hS (As := [.int (nI 0), .int x1]) (tm_isSky l D dT h (nI 0) x1 μ1 _ hc2) (lw_V q1931 q1933 qs134 q166 q1934) dm_isSky rfl (by decide) (by decide) hl rfl (Nat.le_of_ble_eq_true rfl) dX2_clash_8 (fun H locs hP hS => ?_)
  refine lv_if_eq (tgt := 40) hx hb dX2_clash_11 (by decide) (fun kc4 => ?_) (fun kc4 => ?_)
  · have hf := ite_t kc4 hf
    refine lv_iconst (v := (-1)) hx hb dX2_clash_40 rfl ?_
    cases hf
    exact m_iret E hr hlk hP hS rfl dX2_clash_41
  · have hf := ite_f kc4 hf
    refine lv_aload_n hx hb dX2_clash_14 rfl (lv_at hl 0 rfl) ?_
    refine lv_iconst (v := nI 0) hx hb dX2_clash_15 rfl ?_
    refine lv_iload_n hx hb dX2_clash_16 rfl (lv_at hl 2 rfl) ?_
    obtain ⟨v6, hc5, hf⟩ := ob hf
    refine m_calli E hK hP hS (As := [.int (nI 0), .int x2]) (tm_isSky l D dT h (nI 0) x2 μ1 _ hc5) (lw_V q1931 q1933 qs134 q166 q1934) dm_isSky rfl (by decide) (by decide) hl rfl (Nat.le_of_ble_eq_true rfl) dX2_clash_17 (fun H locs hP hS => ?_)
    refine lv_if_eq (tgt := 40) hx hb dX2_clash_20 (by decide) (fun kc7 => ?_) (fun kc7 => ?_)
    · have hf := ite_t kc7 hf
      refine lv_iconst (v := (-1)) hx hb dX2_clash_40 rfl ?_
      cases hf
      exact m_iret E hr hlk hP hS rfl dX2_clash_41
    · have hf := ite_f kc7 hf
      refine lv_aload_n hx hb dX2_clash_23 rfl (lv_at hl 0 rfl) ?_
      refine lv_iload_n hx hb dX2_clash_24 rfl (lv_at hl 1 rfl) ?_
      refine lv_iload_n hx hb dX2_clash_25 rfl (lv_at hl 2 rfl) ?_
      obtain ⟨v9, hc8, hf⟩ := ob hf
      refine m_calli E hK hP hS (As := [.int x1, .int x2]) (tm_doClash l D dT h x1 x2 μ1 _ hc8) (lw_V q1955 q1957 qs138 q166 q1958) dm_doClash rfl (by decide) (by decide) hl rfl (Nat.le_of_ble_eq_true rfl) dX2_clash_26 (fun H locs hP hS => ?_)
      refine lv_if_eq (tgt := 36) hx hb dX2_clash_29 (by decide) (fun kc10 => ?_) (fun kc10 => ?_)
      · have hf := ite_t kc10 hf
        refine lv_iconst (v := nI 0) hx hb dX2_clash_36 rfl ?_
        refine lv_goto (tgt := 41) hx hb dX2_clash_37 (by decide) ?_
        cases hf
        exact m_iret E hr hlk hP hS rfl dX2_clash_41
      · have hf := ite_f kc10 hf
        refine lv_iconst (v := nI 1) hx hb dX2_clash_32 rfl ?_
        refine lv_goto (tgt := 41) hx hb dX2_clash_33 (by decide) ?_
        cases hf
        exact m_iret E hr hlk hP hS rfl dX2_clash_41
set_option maxHeartbeats 4000000 in
def fm_book (x1 : Int32) (x2 : Int32) (μ : nwM) : Option (Int32 × nwM) := (wf_ μ 0 (nI 0)).bind fun μ1 => (rd_ μ1 1 105 (nI 2)).bind fun v2 => (fm_isIn x1 (nI 0) (v2 - (nI 1)) μ1).bind fun v4 => (if v4 = 0 then some ((-1), μ1) else (fm_isIn x2 (nI 0) (nI 4) μ1).bind fun v7 => (if v7 = 0 then some ((-1), μ1) else (rd_ μ1 8 750 (((nI 5) * x1) + x2)).bind fun v9 => some (v9, μ1)))
set_option maxHeartbeats 4000000 in
theorem dm_book : yX2_book.cls = RX2 ∧ yX2_book.cls ≠ "java/lang/invoke/MethodHandle" ∧ yX2_book.cls ≠ "java/lang/invoke/VarHandle" ∧ (parseMethodDescriptor yX2_book.desc).map (fun d => d.parameters.length) = some 2 := ⟨rfl, by decide +kernel, by decide +kernel, by decide +kernel⟩
set_option maxHeartbeats 4000000 in
theorem tm_book (l : Launch) (D : va_G) (dT : Nat → ClassId) (h : Nat) (x1 : Int32) (x2 : Int32) (μ : nwM) (res : Int32 × nwM) (hf : fm_book x1 x2 μ = some res) : Met l yX2_book (ws_ yX2_book cX2_book 3 (some .int)) (rmd 1) (mPc D dT h μ [.int x1, .int x2]) (mQi D dT h res.2 res.1) 0 0 (mA h) := by
  refine m_met (by decide) rfl (Nat.le_of_ble_eq_true rfl) ?_
  intro p e s m below meth c ls E hK hr hlk hl hP
  have hS : va_S (mA h) s.heap s.heap [] := va_S.rf
  obtain ⟨hx, hb, -, hown, hts⟩ := id E
  have hl : lv_has ls 3 [(0, .ref h), (1, .int x1), (2, .int x2)] := hl
  unfold fm_book at hf
  refine lv_aload_n hx hb dX2_book_0 rfl (lv_at hl 0 rfl) ?_
  refine lv_iconst (v := nI 0) hx hb dX2_book_1 rfl ?_
  obtain ⟨μ1, hμ1, hf⟩ := ob hf
  refine m_put E hK hP hS 0 (by decide) rfl q1413 rfl rfl rfl hμ1 dX2_book_2 (fun H locs hP hS => ?_)
  refine lv_aload_n hx hb dX2_book_5 rfl (lv_at hl 0 rfl) ?_
  refine lv_iload_n hx hb dX2_book_6 rfl (lv_at hl 1 rfl) ?_
  refine lv_iconst (v := nI 0) hx hb dX2_book_7 rfl ?_
  refine lv_aload_n hx hb dX2_book_8 rfl (lv_at hl 0 rfl) ?_
  refine m_ga E hK hP 1 (by decide) rfl q1414 rfl dX2_book_9 ?_
  refine lv_iconst (v := nI 2) hx hb dX2_book_12 rfl ?_
  obtain ⟨v2, hv2, hf⟩ := ob hf
  refine m_ald E hK hP (by decide) rfl rfl hv2 dX2_book_13 ?_
  refine lv_iconst (v := nI 1) hx hb dX2_book_14 rfl ?_
  refine lv_isub hx hb dX2_book_15 ?_
  obtain ⟨v4, hc3, hf⟩ := ob hf
  refine m_calli E hK hP hS (As := [.int x1, .int (nI 0), .int (v2 - (nI 1))]) (tm_isIn l D dT h x1 (nI 0) (v2 - (nI 1)) μ1 _ hc3) (lw_V q1573 q1575 qs59 q166 q1576) dm_isIn rfl (by decide) (by decide) hl rfl (Nat.le_of_ble_eq_true rfl) dX2_book_16 (fun H locs hP hS => ?_)
  refine lv_if_eq (tgt := 45) hx hb dX2_book_19 (by decide) (fun kc5 => ?_) (fun kc5 => ?_)
  · have hf := ite_t kc5 hf
    refine lv_iconst (v := (-1)) hx hb dX2_book_45 rfl ?_
    cases hf
    exact m_iret E hr hlk hP hS rfl dX2_book_46
  · have hf := ite_f kc5 hf
    refine lv_aload_n hx hb dX2_book_22 rfl (lv_at hl 0 rfl) ?_
    refine lv_iload_n hx hb dX2_book_23 rfl (lv_at hl 2 rfl) ?_
    refine lv_iconst (v := nI 0) hx hb dX2_book_24 rfl ?_
    refine lv_iconst (v := nI 4) hx hb dX2_book_25 rfl ?_
    obtain ⟨v7, hc6, hf⟩ := ob hf
    refine m_calli E hK hP hS (As := [.int x2, .int (nI 0), .int (nI 4)]) (tm_isIn l D dT h x2 (nI 0) (nI 4) μ1 _ hc6) (lw_V q1573 q1575 qs59 q166 q1576) dm_isIn rfl (by decide) (by decide) hl rfl (Nat.le_of_ble_eq_true rfl) dX2_book_26 (fun H locs hP hS => ?_)
    refine lv_if_eq (tgt := 45) hx hb dX2_book_29 (by decide) (fun kc8 => ?_) (fun kc8 => ?_)
    · have hf := ite_t kc8 hf
      refine lv_iconst (v := (-1)) hx hb dX2_book_45 rfl ?_
      cases hf
      exact m_iret E hr hlk hP hS rfl dX2_book_46
    · have hf := ite_f kc8 hf
      refine lv_aload_n hx hb dX2_book_32 rfl (lv_at hl 0 rfl) ?_
      refine m_ga E hK hP 8 (by decide) rfl q1421 rfl dX2_book_33 ?_
      refine lv_iconst (v := nI 5) hx hb dX2_book_36 rfl ?_
      refine lv_iload_n hx hb dX2_book_37 rfl (lv_at hl 1 rfl) ?_
      refine lv_imul hx hb dX2_book_38 ?_
      refine lv_iload_n hx hb dX2_book_39 rfl (lv_at hl 2 rfl) ?_
      refine lv_iadd hx hb dX2_book_40 ?_
      obtain ⟨v9, hv9, hf⟩ := ob hf
      refine m_ald E hK hP (by decide) rfl rfl hv9 dX2_book_41 ?_
      refine lv_goto (tgt := 46) hx hb dX2_book_42 (by decide) ?_
      cases hf
      exact m_iret E hr hlk hP hS rfl dX2_book_46
set_option maxHeartbeats 4000000 in
def fm_ofWant (x1 : Int32) (x2 : Int32) (μ : nwM) : Option (Int32) := (rd_ μ 35 100 (((nI 5) * x1) + x2)).bind fun v1 => some v1
set_option maxHeartbeats 4000000 in
theorem dm_ofWant : yX2_ofWant.cls = RX2 ∧ yX2_ofWant.cls ≠ "java/lang/invoke/MethodHandle" ∧ yX2_ofWant.cls ≠ "java/lang/invoke/VarHandle" ∧ (parseMethodDescriptor yX2_ofWant.desc).map (fun d => d.parameters.length) = some 2 := ⟨rfl, by decide +kernel, by decide +kernel, by decide +kernel⟩
set_option maxHeartbeats 4000000 in
theorem tm_ofWant (l : Launch) (D : va_G) (dT : Nat → ClassId) (h : Nat) (x1 : Int32) (x2 : Int32) (μ : nwM) (res : Int32) (hf : fm_ofWant x1 x2 μ = some res) : Met l yX2_ofWant (ws_ yX2_ofWant cX2_ofWant 3 (some .int)) (rmd 0) (mPc D dT h μ [.int x1, .int x2]) (mQi D dT h μ res) 0 0 (mA h) := by
  refine m_met (by decide) rfl (Nat.le_of_ble_eq_true rfl) ?_
  intro p e s m below meth c ls E hK hr hlk hl hP
  have hS : va_S (mA h) s.heap s.heap [] := va_S.rf
  obtain ⟨hx, hb, -, hown, hts⟩ := id E
  have hl : lv_has ls 3 [(0, .ref h), (1, .int x1), (2, .int x2)] := hl
  unfold fm_ofWant at hf
  refine lv_aload_n hx hb dX2_ofWant_0 rfl (lv_at hl 0 rfl) ?_
  refine m_ga E hK hP 35 (by decide) rfl q1448 rfl dX2_ofWant_1 ?_
  refine lv_iconst (v := nI 5) hx hb dX2_ofWant_4 rfl ?_
  refine lv_iload_n hx hb dX2_ofWant_5 rfl (lv_at hl 1 rfl) ?_
  refine lv_imul hx hb dX2_ofWant_6 ?_
  refine lv_iload_n hx hb dX2_ofWant_7 rfl (lv_at hl 2 rfl) ?_
  refine lv_iadd hx hb dX2_ofWant_8 ?_
  obtain ⟨v1, hv1, hf⟩ := ob hf
  refine m_ald E hK hP (by decide) rfl rfl hv1 dX2_ofWant_9 ?_
  cases hf
  exact m_iret E hr hlk hP hS rfl dX2_ofWant_10
set_option maxHeartbeats 4000000 in
noncomputable def fm_isMet (x1 : Int32) (μ : nwM) : Option (Int32) := (fm_ofWant x1 (nI 0) μ).bind fun v2 => (if v2 = (nI 5) then (fm_ofWant x1 (nI 2) μ).bind fun v14 => (fm_allAt v14 μ).bind fun v16 => (if v16 = 0 then some (nI 1) else some (nI 0)) else (fm_ofWant x1 (nI 2) μ).bind fun v5 => (fm_ofWant x1 (nI 0) μ).bind fun v7 => (fm_skyAt v5 v7 μ).bind fun v9 => (fm_ofWant x1 (nI 1) μ).bind fun v11 => (if v9 < v11 then some (nI 0) else some (nI 1)))
set_option maxHeartbeats 4000000 in
theorem dm_isMet : yX2_isMet.cls = RX2 ∧ yX2_isMet.cls ≠ "java/lang/invoke/MethodHandle" ∧ yX2_isMet.cls ≠ "java/lang/invoke/VarHandle" ∧ (parseMethodDescriptor yX2_isMet.desc).map (fun d => d.parameters.length) = some 1 := ⟨rfl, by decide +kernel, by decide +kernel, by decide +kernel⟩
set_option maxHeartbeats 4000000 in
theorem tm_isMet (l : Launch) (D : va_G) (dT : Nat → ClassId) (h : Nat) (x1 : Int32) (μ : nwM) (res : Int32) (hf : fm_isMet x1 μ = some res) : Met l yX2_isMet (ws_ yX2_isMet cX2_isMet 2 (some .boolean)) (rmd 2) (mPc D dT h μ [.int x1]) (mQi D dT h μ res) 0 0 (mA h) := by
  refine m_met (by decide) rfl (Nat.le_of_ble_eq_true rfl) ?_
  intro p e s m below meth c ls E hK hr hlk hl hP
  have hS : va_S (mA h) s.heap s.heap [] := va_S.rf
  obtain ⟨hx, hb, -, hown, hts⟩ := id E
  have hl : lv_has ls 2 [(0, .ref h), (1, .int x1)] := hl
  unfold fm_isMet at hf
  refine lv_aload_n hx hb dX2_isMet_0 rfl (lv_at hl 0 rfl) ?_
  refine lv_iload_n hx hb dX2_isMet_1 rfl (lv_at hl 1 rfl) ?_
  refine lv_iconst (v := nI 0) hx hb dX2_isMet_2 rfl ?_
  obtain ⟨v2, hc1, hf⟩ := ob hf
  refine m_calli E hK hP hS (As := [.int x1, .int (nI 0)]) (tm_ofWant l D dT h x1 (nI 0) μ _ hc1) (lw_V q1971 q1973 qs140 q166 q1974) dm_ofWant rfl (by decide) (by decide) hl rfl (Nat.le_of_ble_eq_true rfl) dX2_isMet_3 (fun H locs hP hS => ?_)
  refine lv_iconst (v := nI 5) hx hb dX2_isMet_6 rfl ?_
  refine lv_icmp_ne (tgt := 31) hx hb dX2_isMet_7 (by decide) (fun kc3 => ?_) (fun kc3 => ?_)
  · have hf := ite_f kc3 hf
    refine lv_aload_n hx hb dX2_isMet_31 rfl (lv_at hl 0 rfl) ?_
    refine lv_aload_n hx hb dX2_isMet_32 rfl (lv_at hl 0 rfl) ?_
    refine lv_iload_n hx hb dX2_isMet_33 rfl (lv_at hl 1 rfl) ?_
    refine lv_iconst (v := nI 2) hx hb dX2_isMet_34 rfl ?_
    obtain ⟨v5, hc4, hf⟩ := ob hf
    refine m_calli E hK hP hS (As := [.int x1, .int (nI 2)]) (tm_ofWant l D dT h x1 (nI 2) μ _ hc4) (lw_V q1971 q1973 qs140 q166 q1974) dm_ofWant rfl (by decide) (by decide) hl rfl (Nat.le_of_ble_eq_true rfl) dX2_isMet_35 (fun H locs hP hS => ?_)
    refine lv_aload_n hx hb dX2_isMet_38 rfl (lv_at hl 0 rfl) ?_
    refine lv_iload_n hx hb dX2_isMet_39 rfl (lv_at hl 1 rfl) ?_
    refine lv_iconst (v := nI 0) hx hb dX2_isMet_40 rfl ?_
    obtain ⟨v7, hc6, hf⟩ := ob hf
    refine m_calli E hK hP hS (As := [.int x1, .int (nI 0)]) (tm_ofWant l D dT h x1 (nI 0) μ _ hc6) (lw_V q1971 q1973 qs140 q166 q1974) dm_ofWant rfl (by decide) (by decide) hl rfl (Nat.le_of_ble_eq_true rfl) dX2_isMet_41 (fun H locs hP hS => ?_)
    obtain ⟨v9, hc8, hf⟩ := ob hf
    refine m_calli E hK hP hS (As := [.int v5, .int v7]) (tm_skyAt l D dT h v5 v7 μ _ hc8) (lw_V q1793 q1795 qs106 q166 q1796) dm_skyAt rfl (by decide) (by decide) hl rfl (Nat.le_of_ble_eq_true rfl) dX2_isMet_44 (fun H locs hP hS => ?_)
    refine lv_aload_n hx hb dX2_isMet_47 rfl (lv_at hl 0 rfl) ?_
    refine lv_iload_n hx hb dX2_isMet_48 rfl (lv_at hl 1 rfl) ?_
    refine lv_iconst (v := nI 1) hx hb dX2_isMet_49 rfl ?_
    obtain ⟨v11, hc10, hf⟩ := ob hf
    refine m_calli E hK hP hS (As := [.int x1, .int (nI 1)]) (tm_ofWant l D dT h x1 (nI 1) μ _ hc10) (lw_V q1971 q1973 qs140 q166 q1974) dm_ofWant rfl (by decide) (by decide) hl rfl (Nat.le_of_ble_eq_true rfl) dX2_isMet_50 (fun H locs hP hS => ?_)
    refine lv_icmp_lt (tgt := 60) hx hb dX2_isMet_53 (by decide) (fun kc12 => ?_) (fun kc12 => ?_)
    · have hf := ite_t kc12 hf
      refine lv_iconst (v := nI 0) hx hb dX2_isMet_60 rfl ?_
      cases hf
      exact m_zret E hr hlk hP hS rfl dX2_isMet_61
    · have hf := ite_f kc12 hf
      refine lv_iconst (v := nI 1) hx hb dX2_isMet_56 rfl ?_
      refine lv_goto (tgt := 61) hx hb dX2_isMet_57 (by decide) ?_
      cases hf
      exact m_zret E hr hlk hP hS rfl dX2_isMet_61
  · have hf := ite_t kc3 hf
    refine lv_aload_n hx hb dX2_isMet_10 rfl (lv_at hl 0 rfl) ?_
    refine lv_aload_n hx hb dX2_isMet_11 rfl (lv_at hl 0 rfl) ?_
    refine lv_iload_n hx hb dX2_isMet_12 rfl (lv_at hl 1 rfl) ?_
    refine lv_iconst (v := nI 2) hx hb dX2_isMet_13 rfl ?_
    obtain ⟨v14, hc13, hf⟩ := ob hf
    refine m_calli E hK hP hS (As := [.int x1, .int (nI 2)]) (tm_ofWant l D dT h x1 (nI 2) μ _ hc13) (lw_V q1971 q1973 qs140 q166 q1974) dm_ofWant rfl (by decide) (by decide) hl rfl (Nat.le_of_ble_eq_true rfl) dX2_isMet_14 (fun H locs hP hS => ?_)
    obtain ⟨v16, hc15, hf⟩ := ob hf
    refine m_calli E hK hP hS (As := [.int v14]) (tm_allAt l D dT h v14 μ _ hc15) (lw_V q1809 q1811 qs110 q166 q1812) dm_allAt rfl (by decide) (by decide) hl rfl (Nat.le_of_ble_eq_true rfl) dX2_isMet_17 (fun H locs hP hS => ?_)
    refine lv_if_ne (tgt := 27) hx hb dX2_isMet_20 (by decide) (fun kc17 => ?_) (fun kc17 => ?_)
    · have hf := ite_f kc17 hf
      refine lv_iconst (v := nI 0) hx hb dX2_isMet_27 rfl ?_
      refine lv_goto (tgt := 61) hx hb dX2_isMet_28 (by decide) ?_
      cases hf
      exact m_zret E hr hlk hP hS rfl dX2_isMet_61
    · have hf := ite_t kc17 hf
      refine lv_iconst (v := nI 1) hx hb dX2_isMet_23 rfl ?_
      refine lv_goto (tgt := 61) hx hb dX2_isMet_24 (by decide) ?_
      cases hf
      exact m_zret E hr hlk hP hS rfl dX2_isMet_61
set_option maxHeartbeats 4000000 in
def fm_lastWanted_L4 (μ : nwM) : (Int32 × Int32) → Option ((Int32 × Int32) ⊕ (Int32)) := fun st => (if (μ 34 0) ≤ st.2 then some (.inr st.1) else (fm_ofWant st.2 (nI 3) μ).bind fun v3 => (fm_greater st.1 v3 μ).bind fun v5 => some (.inl (v5, st.2 + nI 1)))
set_option maxHeartbeats 4000000 in
noncomputable def fm_lastWanted (μ : nwM) : Option (Int32) := (wh_ (fm_lastWanted_L4 μ) ((-1), nI 0)).bind fun x6 => some x6
set_option maxHeartbeats 4000000 in
theorem fm_lastWanted_L4_w {p : Program} {l : Launch} {e : Env} {s : State} {m : MethodId} {args : Array Value} {below : List Frame} {meth : Method} {c : Code} {Q : State → Prop} {D : va_G} {dT : Nat → ClassId} {h : Nat} (E : CallFix p m c cX2_lastWanted 3 s args lw_all RX2) (hK : va_K D nwCl (nwT dT) s) (μ : nwM) {st : Int32 × Int32} {x : Int32} (hw : wh_ (fm_lastWanted_L4 μ) st = some x) (hk : (fun x : Int32 => ∀ (ls : Array Slot) (H : Heap) (locs : List Loc), lv_has ls 3 [(1, .int x)] → PM D dT h μ H → va_S (mA h) s.heap H locs → W p l e (rmd 1) s m args below meth c H locs 0 0 Q (F0 m 30 ls [])) x) : (fun st : Int32 × Int32 => ∀ (ls : Array Slot) (H : Heap) (locs : List Loc), lv_has ls 3 [(0, .ref h), (1, .int st.1), (2, .int st.2)] → PM D dT h μ H → va_S (mA h) s.heap H locs → W p l e (rmd 1) s m args below meth c H locs 0 0 Q (F0 m 4 ls [])) st := by
  obtain ⟨hx, hb, -, hown, hts⟩ := id E
  refine wh_run (P := (fun st : Int32 × Int32 => ∀ (ls : Array Slot) (H : Heap) (locs : List Loc), lv_has ls 3 [(0, .ref h), (1, .int st.1), (2, .int st.2)] → PM D dT h μ H → va_S (mA h) s.heap H locs → W p l e (rmd 1) s m args below meth c H locs 0 0 Q (F0 m 4 ls []))) (PE := (fun x : Int32 => ∀ (ls : Array Slot) (H : Heap) (locs : List Loc), lv_has ls 3 [(1, .int x)] → PM D dT h μ H → va_S (mA h) s.heap H locs → W p l e (rmd 1) s m args below meth c H locs 0 0 Q (F0 m 30 ls []))) ?_ hw hk
  clear hw hk
  intro st x hf hk ls H locs hl hP hS
  refine lv_iload_n hx hb dX2_lastWanted_4 rfl (lv_at hl 2 rfl) ?_
  refine lv_aload_n hx hb dX2_lastWanted_5 rfl (lv_at hl 0 rfl) ?_
  refine m_get E hK hP 34 (by decide) rfl q1447 rfl dX2_lastWanted_6 ?_
  refine lv_icmp_ge (tgt := 30) hx hb dX2_lastWanted_9 (by decide) (fun kc1 => ?_) (fun kc1 => ?_)
  · have hf := ite_t kc1 hf
    cases hf
    exact hk _ _ _ (lv_sub hl [1] rfl) hP hS
  · have hf := ite_f kc1 hf
    refine lv_aload_n hx hb dX2_lastWanted_12 rfl (lv_at hl 0 rfl) ?_
    refine lv_iload_n hx hb dX2_lastWanted_13 rfl (lv_at hl 1 rfl) ?_
    refine lv_aload_n hx hb dX2_lastWanted_14 rfl (lv_at hl 0 rfl) ?_
    refine lv_iload_n hx hb dX2_lastWanted_15 rfl (lv_at hl 2 rfl) ?_
    refine lv_iconst (v := nI 3) hx hb dX2_lastWanted_16 rfl ?_
    obtain ⟨v3, hc2, hf⟩ := ob hf
    refine m_calli E hK hP hS (As := [.int st.2, .int (nI 3)]) (tm_ofWant l D dT h st.2 (nI 3) μ _ hc2) (lw_V q1971 q1973 qs140 q166 q1974) dm_ofWant rfl (by decide) (by decide) hl rfl (Nat.le_of_ble_eq_true rfl) dX2_lastWanted_17 (fun H locs hP hS => ?_)
    obtain ⟨v5, hc4, hf⟩ := ob hf
    refine m_calli E hK hP hS (As := [.int st.1, .int v3]) (tm_greater l D dT h st.1 v3 μ _ hc4) (lw_V q1975 q1977 qs141 q166 q1978) dm_greater rfl (by decide) (by decide) hl rfl (Nat.le_of_ble_eq_true rfl) dX2_lastWanted_20 (fun H locs hP hS => ?_)
    refine lv_istore_n (lv' := [(1, .int v5), (0, .ref h), (2, .int st.2)]) hx hb dX2_lastWanted_23 rfl hl (by decide) rfl (fun ls hl => ?_)
    refine lv_iinc (v := st.2 + nI 1) (lv' := [(2, .int (st.2 + nI 1)), (1, .int v5), (0, .ref h)]) hx hb dX2_lastWanted_24 hl (k := 2) rfl rfl (by decide) rfl (fun ls hl => ?_)
    refine lv_goto (tgt := 4) hx hb dX2_lastWanted_27 (by decide) ?_
    cases hf
    exact hk _ _ _ (lv_sub hl [2, 1, 0] rfl) hP hS
set_option maxHeartbeats 4000000 in
theorem dm_lastWanted : yX2_lastWanted.cls = RX2 ∧ yX2_lastWanted.cls ≠ "java/lang/invoke/MethodHandle" ∧ yX2_lastWanted.cls ≠ "java/lang/invoke/VarHandle" ∧ (parseMethodDescriptor yX2_lastWanted.desc).map (fun d => d.parameters.length) = some 0 := ⟨rfl, by decide +kernel, by decide +kernel, by decide +kernel⟩
set_option maxHeartbeats 4000000 in
theorem tm_lastWanted (l : Launch) (D : va_G) (dT : Nat → ClassId) (h : Nat) (μ : nwM) (res : Int32) (hf : fm_lastWanted μ = some res) : Met l yX2_lastWanted (ws_ yX2_lastWanted cX2_lastWanted 3 (some .int)) (rmd 1) (mPc D dT h μ []) (mQi D dT h μ res) 0 0 (mA h) := by
  refine m_met (by decide) rfl (Nat.le_of_ble_eq_true rfl) ?_
  intro p e s m below meth c ls E hK hr hlk hl hP
  have hS : va_S (mA h) s.heap s.heap [] := va_S.rf
  obtain ⟨hx, hb, -, hown, hts⟩ := id E
  have hl : lv_has ls 3 [(0, .ref h)] := hl
  unfold fm_lastWanted at hf
  refine lv_iconst (v := (-1)) hx hb dX2_lastWanted_0 rfl ?_
  refine lv_istore_n (lv' := [(1, .int (-1)), (0, .ref h)]) hx hb dX2_lastWanted_1 rfl hl (by decide) rfl (fun ls hl => ?_)
  refine lv_iconst (v := nI 0) hx hb dX2_lastWanted_2 rfl ?_
  refine lv_istore_n (lv' := [(2, .int (nI 0)), (1, .int (-1)), (0, .ref h)]) hx hb dX2_lastWanted_3 rfl hl (by decide) rfl (fun ls hl => ?_)
  obtain ⟨x6, hx6, hf⟩ := ob hf
  refine fm_lastWanted_L4_w E hK μ hx6 (fun ls H locs hl hP hS => ?_) _ _ _ (lv_sub hl [2, 1, 0] rfl) hP hS
  refine lv_iload_n hx hb dX2_lastWanted_30 rfl (lv_at hl 0 rfl) ?_
  cases hf
  exact m_iret E hr hlk hP hS rfl dX2_lastWanted_31
set_option maxHeartbeats 4000000 in
noncomputable def fm_meets_L69 (x1 : Int32) (x4 : Int32) (μ : nwM) : (Int32 × Int32 × Int32) → Option ((Int32 × Int32 × Int32) ⊕ (Int32 × Int32)) := fun st => (if (μ 34 0) ≤ st.2.2 then some (.inr (st.1, st.2.1)) else (fm_ofWant st.2.2 (nI 3) μ).bind fun v17 => (rd_ μ 1 105 (nI 0)).bind fun v18 => (if v17 = v18 then (fm_isMet st.2.2 μ).bind fun v21 => (if v21 = 0 then (if st.2.1 = (-1) then some (.inl (st.1, st.2.2, st.2.2 + nI 1)) else some (.inl (st.1, st.2.1, st.2.2 + nI 1))) else (fm_ofWant st.2.2 (nI 4) μ).bind fun v25 => some (.inl (st.1 + v25, st.2.1, st.2.2 + nI 1))) else some (.inl (st.1, st.2.1, st.2.2 + nI 1))))
set_option maxHeartbeats 4000000 in
noncomputable def fm_meets_L51 (x1 : Int32) (x4 : Int32) : (Int32 × Int32 × nwM) → Option ((Int32 × Int32 × nwM) ⊕ (Int32 × Int32 × nwM)) := fun st => (rd_ st.2.2 1 105 (nI 0)).bind fun v11 => (if x4 < v11 then some (.inr (st.1, st.2.1, st.2.2)) else (fm_goesIn st.2.2).bind fun μ14 => (wh_ (fm_meets_L69 x1 x4 μ14) (st.1, st.2.1, nI 0)).bind fun x26 => bd2 (fm_goesOut μ14) fun v28 μ29 => some (.inl (x26.1, x26.2, μ29)))
set_option maxHeartbeats 4000000 in
noncomputable def fm_meets (x1 : Int32) (μ : nwM) : Option (Int32 × nwM) := (wf_ μ 0 (nI 0)).bind fun μ1 => (fm_isIn x1 (nI 0) (nI 1) μ1).bind fun v3 => (if v3 = 0 then some ((-1), μ1) else (rd_ μ1 1 105 (nI 0)).bind fun v5 => (fm_lastWanted μ1).bind fun v7 => (if (v5 + (nI 99)) ≤ v7 then (fm_thinks μ1).bind fun μ10 => (wh_ (fm_meets_L51 x1 (v5 + (nI 99))) (nI 0, (-1), μ10)).bind fun x30 => (fm_endsThought x30.2.2).bind fun μ32 => (if x1 = 0 then some (x30.1, μ32) else some (x30.2.1, μ32)) else (fm_lastWanted μ1).bind fun v35 => (fm_thinks μ1).bind fun μ37 => (wh_ (fm_meets_L51 x1 v35) (nI 0, (-1), μ37)).bind fun x38 => (fm_endsThought x38.2.2).bind fun μ40 => (if x1 = 0 then some (x38.1, μ40) else some (x38.2.1, μ40))))
set_option maxHeartbeats 4000000 in
theorem fm_meets_L69_w {p : Program} {l : Launch} {e : Env} {s : State} {m : MethodId} {args : Array Value} {below : List Frame} {meth : Method} {c : Code} {Q : State → Prop} {D : va_G} {dT : Nat → ClassId} {h : Nat} (E : CallFix p m c cX2_meets 6 s args lw_all RX2) (hK : va_K D nwCl (nwT dT) s) (x1 : Int32) (x4 : Int32) (μ : nwM) {st : Int32 × Int32 × Int32} {x : Int32 × Int32} (hw : wh_ (fm_meets_L69 x1 x4 μ) st = some x) (hk : (fun x : Int32 × Int32 => ∀ (ls : Array Slot) (H : Heap) (locs : List Loc), lv_has ls 6 [(0, .ref h), (1, .int x1), (2, .int x.1), (3, .int x.2), (4, .int x4)] → PM D dT h μ H → va_S (mA h) s.heap H locs → W p l e (rmd 8) s m args below meth c H locs 0 0 Q (F0 m 133 ls [])) x) : (fun st : Int32 × Int32 × Int32 => ∀ (ls : Array Slot) (H : Heap) (locs : List Loc), lv_has ls 6 [(0, .ref h), (1, .int x1), (2, .int st.1), (3, .int st.2.1), (4, .int x4), (5, .int st.2.2)] → PM D dT h μ H → va_S (mA h) s.heap H locs → W p l e (rmd 8) s m args below meth c H locs 0 0 Q (F0 m 69 ls [])) st := by
  obtain ⟨hx, hb, -, hown, hts⟩ := id E
  refine wh_run (P := (fun st : Int32 × Int32 × Int32 => ∀ (ls : Array Slot) (H : Heap) (locs : List Loc), lv_has ls 6 [(0, .ref h), (1, .int x1), (2, .int st.1), (3, .int st.2.1), (4, .int x4), (5, .int st.2.2)] → PM D dT h μ H → va_S (mA h) s.heap H locs → W p l e (rmd 8) s m args below meth c H locs 0 0 Q (F0 m 69 ls []))) (PE := (fun x : Int32 × Int32 => ∀ (ls : Array Slot) (H : Heap) (locs : List Loc), lv_has ls 6 [(0, .ref h), (1, .int x1), (2, .int x.1), (3, .int x.2), (4, .int x4)] → PM D dT h μ H → va_S (mA h) s.heap H locs → W p l e (rmd 8) s m args below meth c H locs 0 0 Q (F0 m 133 ls []))) ?_ hw hk
  clear hw hk
  intro st x hf hk ls H locs hl hP hS
  refine lv_iload hx hb dX2_meets_69 (lv_at hl 5 rfl) ?_
  refine lv_aload_n hx hb dX2_meets_71 rfl (lv_at hl 0 rfl) ?_
  refine m_get E hK hP 34 (by decide) rfl q1447 rfl dX2_meets_72 ?_
  refine lv_icmp_ge (tgt := 133) hx hb dX2_meets_75 (by decide) (fun kc15 => ?_) (fun kc15 => ?_)
  · have hf := ite_t kc15 hf
    cases hf
    exact hk _ _ _ (lv_sub hl [0, 1, 2, 3, 4] rfl) hP hS
  · have hf := ite_f kc15 hf
    refine lv_aload_n hx hb dX2_meets_78 rfl (lv_at hl 0 rfl) ?_
    refine lv_iload hx hb dX2_meets_79 (lv_at hl 5 rfl) ?_
    refine lv_iconst (v := nI 3) hx hb dX2_meets_81 rfl ?_
    obtain ⟨v17, hc16, hf⟩ := ob hf
    refine m_calli E hK hP hS (As := [.int st.2.2, .int (nI 3)]) (tm_ofWant l D dT h st.2.2 (nI 3) μ _ hc16) (lw_V q1971 q1973 qs140 q166 q1974) dm_ofWant rfl (by decide) (by decide) hl rfl (Nat.le_of_ble_eq_true rfl) dX2_meets_82 (fun H locs hP hS => ?_)
    refine lv_aload_n hx hb dX2_meets_85 rfl (lv_at hl 0 rfl) ?_
    refine m_ga E hK hP 1 (by decide) rfl q1414 rfl dX2_meets_86 ?_
    refine lv_iconst (v := nI 0) hx hb dX2_meets_89 rfl ?_
    obtain ⟨v18, hv18, hf⟩ := ob hf
    refine m_ald E hK hP (by decide) rfl rfl hv18 dX2_meets_90 ?_
    refine lv_icmp_eq (tgt := 97) hx hb dX2_meets_91 (by decide) (fun kc19 => ?_) (fun kc19 => ?_)
    · have hf := ite_t kc19 hf
      refine lv_aload_n hx hb dX2_meets_97 rfl (lv_at hl 0 rfl) ?_
      refine lv_iload hx hb dX2_meets_98 (lv_at hl 5 rfl) ?_
      obtain ⟨v21, hc20, hf⟩ := ob hf
      refine m_calli E hK hP hS (As := [.int st.2.2]) (tm_isMet l D dT h st.2.2 μ _ hc20) (lw_V q1979 q1981 qs142 q166 q1982) dm_isMet rfl (by decide) (by decide) hl rfl (Nat.le_of_ble_eq_true rfl) dX2_meets_100 (fun H locs hP hS => ?_)
      refine lv_if_eq (tgt := 119) hx hb dX2_meets_103 (by decide) (fun kc22 => ?_) (fun kc22 => ?_)
      · have hf := ite_t kc22 hf
        refine lv_iload_n hx hb dX2_meets_119 rfl (lv_at hl 3 rfl) ?_
        refine lv_iconst (v := (-1)) hx hb dX2_meets_120 rfl ?_
        refine lv_icmp_ne (tgt := 127) hx hb dX2_meets_121 (by decide) (fun kc23 => ?_) (fun kc23 => ?_)
        · have hf := ite_f kc23 hf
          refine lv_iinc (v := st.2.2 + nI 1) (lv' := [(5, .int (st.2.2 + nI 1)), (0, .ref h), (1, .int x1), (2, .int st.1), (3, .int st.2.1), (4, .int x4)]) hx hb dX2_meets_127 hl (k := 5) rfl rfl (by decide) rfl (fun ls hl => ?_)
          refine lv_goto (tgt := 69) hx hb dX2_meets_130 (by decide) ?_
          cases hf
          exact hk _ _ _ (lv_sub hl [1, 2, 3, 4, 5, 0] rfl) hP hS
        · have hf := ite_t kc23 hf
          refine lv_iload hx hb dX2_meets_124 (lv_at hl 5 rfl) ?_
          refine lv_istore_n (lv' := [(3, .int st.2.2), (0, .ref h), (1, .int x1), (2, .int st.1), (4, .int x4), (5, .int st.2.2)]) hx hb dX2_meets_126 rfl hl (by decide) rfl (fun ls hl => ?_)
          refine lv_iinc (v := st.2.2 + nI 1) (lv' := [(5, .int (st.2.2 + nI 1)), (3, .int st.2.2), (0, .ref h), (1, .int x1), (2, .int st.1), (4, .int x4)]) hx hb dX2_meets_127 hl (k := 5) rfl rfl (by decide) rfl (fun ls hl => ?_)
          refine lv_goto (tgt := 69) hx hb dX2_meets_130 (by decide) ?_
          cases hf
          exact hk _ _ _ (lv_sub hl [2, 3, 4, 1, 5, 0] rfl) hP hS
      · have hf := ite_f kc22 hf
        refine lv_iload_n hx hb dX2_meets_106 rfl (lv_at hl 2 rfl) ?_
        refine lv_aload_n hx hb dX2_meets_107 rfl (lv_at hl 0 rfl) ?_
        refine lv_iload hx hb dX2_meets_108 (lv_at hl 5 rfl) ?_
        refine lv_iconst (v := nI 4) hx hb dX2_meets_110 rfl ?_
        obtain ⟨v25, hc24, hf⟩ := ob hf
        refine m_calli E hK hP hS (As := [.int st.2.2, .int (nI 4)]) (tm_ofWant l D dT h st.2.2 (nI 4) μ _ hc24) (lw_V q1971 q1973 qs140 q166 q1974) dm_ofWant rfl (by decide) (by decide) hl rfl (Nat.le_of_ble_eq_true rfl) dX2_meets_111 (fun H locs hP hS => ?_)
        refine lv_iadd hx hb dX2_meets_114 ?_
        refine lv_istore_n (lv' := [(2, .int (st.1 + v25)), (0, .ref h), (1, .int x1), (3, .int st.2.1), (4, .int x4), (5, .int st.2.2)]) hx hb dX2_meets_115 rfl hl (by decide) rfl (fun ls hl => ?_)
        refine lv_goto (tgt := 127) hx hb dX2_meets_116 (by decide) ?_
        refine lv_iinc (v := st.2.2 + nI 1) (lv' := [(5, .int (st.2.2 + nI 1)), (2, .int (st.1 + v25)), (0, .ref h), (1, .int x1), (3, .int st.2.1), (4, .int x4)]) hx hb dX2_meets_127 hl (k := 5) rfl rfl (by decide) rfl (fun ls hl => ?_)
        refine lv_goto (tgt := 69) hx hb dX2_meets_130 (by decide) ?_
        cases hf
        exact hk _ _ _ (lv_sub hl [2, 3, 1, 4, 5, 0] rfl) hP hS
    · have hf := ite_f kc19 hf
      refine lv_goto (tgt := 127) hx hb dX2_meets_94 (by decide) ?_
      refine lv_iinc (v := st.2.2 + nI 1) (lv' := [(5, .int (st.2.2 + nI 1)), (0, .ref h), (1, .int x1), (2, .int st.1), (3, .int st.2.1), (4, .int x4)]) hx hb dX2_meets_127 hl (k := 5) rfl rfl (by decide) rfl (fun ls hl => ?_)
      refine lv_goto (tgt := 69) hx hb dX2_meets_130 (by decide) ?_
      cases hf
      exact hk _ _ _ (lv_sub hl [1, 2, 3, 4, 5, 0] rfl) hP hS
set_option maxHeartbeats 4000000 in
theorem fm_meets_L51_w {p : Program} {l : Launch} {e : Env} {s : State} {m : MethodId} {args : Array Value} {below : List Frame} {meth : Method} {c : Code} {Q : State → Prop} {D : va_G} {dT : Nat → ClassId} {h : Nat} (E : CallFix p m c cX2_meets 6 s args lw_all RX2) (hK : va_K D nwCl (nwT dT) s) (x1 : Int32) (x4 : Int32) {st : Int32 × Int32 × nwM} {x : Int32 × Int32 × nwM} (hw : wh_ (fm_meets_L51 x1 x4) st = some x) (hk : (fun x : Int32 × Int32 × nwM => ∀ (ls : Array Slot) (H : Heap) (locs : List Loc), lv_has ls 6 [(0, .ref h), (1, .int x1), (2, .int x.1), (3, .int x.2.1)] → PM D dT h x.2.2 H → va_S (mA h) s.heap H locs → W p l e (rmd 8) s m args below meth c H locs 0 0 Q (F0 m 141 ls [])) x) : (fun st : Int32 × Int32 × nwM => ∀ (ls : Array Slot) (H : Heap) (locs : List Loc), lv_has ls 6 [(0, .ref h), (1, .int x1), (2, .int st.1), (3, .int st.2.1), (4, .int x4)] → PM D dT h st.2.2 H → va_S (mA h) s.heap H locs → W p l e (rmd 8) s m args below meth c H locs 0 0 Q (F0 m 51 ls [])) st := by
  obtain ⟨hx, hb, -, hown, hts⟩ := id E
  refine wh_run (P := (fun st : Int32 × Int32 × nwM => ∀ (ls : Array Slot) (H : Heap) (locs : List Loc), lv_has ls 6 [(0, .ref h), (1, .int x1), (2, .int st.1), (3, .int st.2.1), (4, .int x4)] → PM D dT h st.2.2 H → va_S (mA h) s.heap H locs → W p l e (rmd 8) s m args below meth c H locs 0 0 Q (F0 m 51 ls []))) (PE := (fun x : Int32 × Int32 × nwM => ∀ (ls : Array Slot) (H : Heap) (locs : List Loc), lv_has ls 6 [(0, .ref h), (1, .int x1), (2, .int x.1), (3, .int x.2.1)] → PM D dT h x.2.2 H → va_S (mA h) s.heap H locs → W p l e (rmd 8) s m args below meth c H locs 0 0 Q (F0 m 141 ls []))) ?_ hw hk
  clear hw hk
  intro st x hf hk ls H locs hl hP hS
  refine lv_aload_n hx hb dX2_meets_51 rfl (lv_at hl 0 rfl) ?_
  refine m_ga E hK hP 1 (by decide) rfl q1414 rfl dX2_meets_52 ?_
  refine lv_iconst (v := nI 0) hx hb dX2_meets_55 rfl ?_
  obtain ⟨v11, hv11, hf⟩ := ob hf
  refine m_ald E hK hP (by decide) rfl rfl hv11 dX2_meets_56 ?_
  refine lv_iload hx hb dX2_meets_57 (lv_at hl 4 rfl) ?_
  refine lv_icmp_gt (tgt := 141) hx hb dX2_meets_59 (by decide) (fun kc12 => ?_) (fun kc12 => ?_)
  · have hf := ite_t kc12 hf
    cases hf
    exact hk _ _ _ (lv_sub hl [0, 1, 2, 3] rfl) hP hS
  · have hf := ite_f kc12 hf
    refine lv_aload_n hx hb dX2_meets_62 rfl (lv_at hl 0 rfl) ?_
    obtain ⟨μ14, hc13, hf⟩ := ob hf
    refine m_callv E hK hP hS (As := []) (tm_goesIn l D dT h st.2.2 _ hc13) (lw_V q1877 q1879 qs123 q166 q1880) dm_goesIn rfl (by decide) (by decide) hl rfl (Nat.le_of_ble_eq_true rfl) dX2_meets_63 (fun H locs hP hS => ?_)
    refine lv_iconst (v := nI 0) hx hb dX2_meets_66 rfl ?_
    refine lv_istore (lv' := [(5, .int (nI 0)), (0, .ref h), (1, .int x1), (2, .int st.1), (3, .int st.2.1), (4, .int x4)]) hx hb dX2_meets_67 hl (by decide) rfl (fun ls hl => ?_)
    obtain ⟨x26, hx26, hf⟩ := ob hf
    refine fm_meets_L69_w E hK x1 x4 μ14 hx26 (fun ls H locs hl hP hS => ?_) _ _ _ (lv_sub hl [1, 2, 3, 4, 5, 0] rfl) hP hS
    refine lv_aload_n hx hb dX2_meets_133 rfl (lv_at hl 0 rfl) ?_
    obtain ⟨v28, μ29, hc27, hf⟩ := ob2 hf
    refine m_calli E hK hP hS (As := []) (tm_goesOut l D dT h μ14 _ hc27) (lw_V q1889 q1891 qs126 q166 q1892) dm_goesOut rfl (by decide) (by decide) hl rfl (Nat.le_of_ble_eq_true rfl) dX2_meets_134 (fun H locs hP hS => ?_)
    refine lv_pop hx hb dX2_meets_137 rfl ?_
    refine lv_goto (tgt := 51) hx hb dX2_meets_138 (by decide) ?_
    cases hf
    exact hk _ _ _ (lv_sub hl [0, 1, 2, 3, 4] rfl) hP hS
set_option maxHeartbeats 4000000 in
theorem dm_meets : yX2_meets.cls = RX2 ∧ yX2_meets.cls ≠ "java/lang/invoke/MethodHandle" ∧ yX2_meets.cls ≠ "java/lang/invoke/VarHandle" ∧ (parseMethodDescriptor yX2_meets.desc).map (fun d => d.parameters.length) = some 1 := ⟨rfl, by decide +kernel, by decide +kernel, by decide +kernel⟩
set_option maxHeartbeats 4000000 in
theorem tm_meets (l : Launch) (D : va_G) (dT : Nat → ClassId) (h : Nat) (x1 : Int32) (μ : nwM) (res : Int32 × nwM) (hf : fm_meets x1 μ = some res) : Met l yX2_meets (ws_ yX2_meets cX2_meets 6 (some .int)) (rmd 8) (mPc D dT h μ [.int x1]) (mQi D dT h res.2 res.1) 0 0 (mA h) := by
  refine m_met (by decide) rfl (Nat.le_of_ble_eq_true rfl) ?_
  intro p e s m below meth c ls E hK hr hlk hl hP
  have hS : va_S (mA h) s.heap s.heap [] := va_S.rf
  obtain ⟨hx, hb, -, hown, hts⟩ := id E
  have hl : lv_has ls 6 [(0, .ref h), (1, .int x1)] := hl
  unfold fm_meets at hf
  refine lv_aload_n hx hb dX2_meets_0 rfl (lv_at hl 0 rfl) ?_
  refine lv_iconst (v := nI 0) hx hb dX2_meets_1 rfl ?_
  obtain ⟨μ1, hμ1, hf⟩ := ob hf
  refine m_put E hK hP hS 0 (by decide) rfl q1413 rfl rfl rfl hμ1 dX2_meets_2 (fun H locs hP hS => ?_)
  refine lv_aload_n hx hb dX2_meets_5 rfl (lv_at hl 0 rfl) ?_
  refine lv_iload_n hx hb dX2_meets_6 rfl (lv_at hl 1 rfl) ?_
  refine lv_iconst (v := nI 0) hx hb dX2_meets_7 rfl ?_
  refine lv_iconst (v := nI 1) hx hb dX2_meets_8 rfl ?_
  obtain ⟨v3, hc2, hf⟩ := ob hf
  refine m_calli E hK hP hS (As := [.int x1, .int (nI 0), .int (nI 1)]) (tm_isIn l D dT h x1 (nI 0) (nI 1) μ1 _ hc2) (lw_V q1573 q1575 qs59 q166 q1576) dm_isIn rfl (by decide) (by decide) hl rfl (Nat.le_of_ble_eq_true rfl) dX2_meets_9 (fun H locs hP hS => ?_)
  refine lv_if_ne (tgt := 17) hx hb dX2_meets_12 (by decide) (fun kc4 => ?_) (fun kc4 => ?_)
  · have hf := ite_f kc4 hf
    refine lv_iconst (v := nI 0) hx hb dX2_meets_17 rfl ?_
    refine lv_istore_n (lv' := [(2, .int (nI 0)), (0, .ref h), (1, .int x1)]) hx hb dX2_meets_18 rfl hl (by decide) rfl (fun ls hl => ?_)
    refine lv_iconst (v := (-1)) hx hb dX2_meets_19 rfl ?_
    refine lv_istore_n (lv' := [(3, .int (-1)), (2, .int (nI 0)), (0, .ref h), (1, .int x1)]) hx hb dX2_meets_20 rfl hl (by decide) rfl (fun ls hl => ?_)
    refine lv_aload_n hx hb dX2_meets_21 rfl (lv_at hl 2 rfl) ?_
    refine m_ga E hK hP 1 (by decide) rfl q1414 rfl dX2_meets_22 ?_
    refine lv_iconst (v := nI 0) hx hb dX2_meets_25 rfl ?_
    obtain ⟨v5, hv5, hf⟩ := ob hf
    refine m_ald E hK hP (by decide) rfl rfl hv5 dX2_meets_26 ?_
    refine lv_bipush (v := nI 99) hx hb dX2_meets_27 rfl ?_
    refine lv_iadd hx hb dX2_meets_29 ?_
    refine lv_istore (lv' := [(4, .int (v5 + (nI 99))), (3, .int (-1)), (2, .int (nI 0)), (0, .ref h), (1, .int x1)]) hx hb dX2_meets_30 hl (by decide) rfl (fun ls hl => ?_)
    refine lv_aload_n hx hb dX2_meets_32 rfl (lv_at hl 3 rfl) ?_
    obtain ⟨v7, hc6, hf⟩ := ob hf
    refine m_calli E hK hP hS (As := []) (tm_lastWanted l D dT h μ1 _ hc6) (lw_V q1967 q1969 qs139 q166 q1970) dm_lastWanted rfl (by decide) (by decide) hl rfl (Nat.le_of_ble_eq_true rfl) dX2_meets_33 (fun H locs hP hS => ?_)
    refine lv_iload hx hb dX2_meets_36 (lv_at hl 0 rfl) ?_
    refine lv_icmp_ge (tgt := 47) hx hb dX2_meets_38 (by decide) (fun kc8 => ?_) (fun kc8 => ?_)
    · have hf := ite_t kc8 hf
      refine lv_aload_n hx hb dX2_meets_47 rfl (lv_at hl 3 rfl) ?_
      obtain ⟨μ10, hc9, hf⟩ := ob hf
      refine m_callv E hK hP hS (As := []) (tm_thinks l D dT h μ1 _ hc9) (lw_V q1935 q1937 qs135 q166 q1938) dm_thinks rfl (by decide) (by decide) hl rfl (Nat.le_of_ble_eq_true rfl) dX2_meets_48 (fun H locs hP hS => ?_)
      obtain ⟨x30, hx30, hf⟩ := ob hf
      refine fm_meets_L51_w E hK x1 (v5 + (nI 99)) hx30 (fun ls H locs hl hP hS => ?_) _ _ _ (lv_sub hl [3, 4, 2, 1, 0] rfl) hP hS
      refine lv_aload_n hx hb dX2_meets_141 rfl (lv_at hl 0 rfl) ?_
      obtain ⟨μ32, hc31, hf⟩ := ob hf
      refine m_callv E hK hP hS (As := []) (tm_endsThought l D dT h x30.2.2 _ hc31) (lw_V q1943 q1945 qs137 q166 q1946) dm_endsThought rfl (by decide) (by decide) hl rfl (Nat.le_of_ble_eq_true rfl) dX2_meets_142 (fun H locs hP hS => ?_)
      refine lv_iload_n hx hb dX2_meets_145 rfl (lv_at hl 1 rfl) ?_
      refine lv_if_ne (tgt := 153) hx hb dX2_meets_146 (by decide) (fun kc33 => ?_) (fun kc33 => ?_)
      · have hf := ite_f kc33 hf
        refine lv_iload_n hx hb dX2_meets_153 rfl (lv_at hl 3 rfl) ?_
        cases hf
        exact m_iret E hr hlk hP hS rfl dX2_meets_154
      · have hf := ite_t kc33 hf
        refine lv_iload_n hx hb dX2_meets_149 rfl (lv_at hl 2 rfl) ?_
        refine lv_goto (tgt := 154) hx hb dX2_meets_150 (by decide) ?_
        cases hf
        exact m_iret E hr hlk hP hS rfl dX2_meets_154
    · have hf := ite_f kc8 hf
      refine lv_aload_n hx hb dX2_meets_41 rfl (lv_at hl 3 rfl) ?_
      obtain ⟨v35, hc34, hf⟩ := ob hf
      refine m_calli E hK hP hS (As := []) (tm_lastWanted l D dT h μ1 _ hc34) (lw_V q1967 q1969 qs139 q166 q1970) dm_lastWanted rfl (by decide) (by decide) hl rfl (Nat.le_of_ble_eq_true rfl) dX2_meets_42 (fun H locs hP hS => ?_)
      refine lv_istore (lv' := [(4, .int v35), (3, .int (-1)), (2, .int (nI 0)), (0, .ref h), (1, .int x1)]) hx hb dX2_meets_45 hl (by decide) rfl (fun ls hl => ?_)
      refine lv_aload_n hx hb dX2_meets_47 rfl (lv_at hl 3 rfl) ?_
      obtain ⟨μ37, hc36, hf⟩ := ob hf
      refine m_callv E hK hP hS (As := []) (tm_thinks l D dT h μ1 _ hc36) (lw_V q1935 q1937 qs135 q166 q1938) dm_thinks rfl (by decide) (by decide) hl rfl (Nat.le_of_ble_eq_true rfl) dX2_meets_48 (fun H locs hP hS => ?_)
      obtain ⟨x38, hx38, hf⟩ := ob hf
      refine fm_meets_L51_w E hK x1 v35 hx38 (fun ls H locs hl hP hS => ?_) _ _ _ (lv_sub hl [3, 4, 2, 1, 0] rfl) hP hS
      refine lv_aload_n hx hb dX2_meets_141 rfl (lv_at hl 0 rfl) ?_
      obtain ⟨μ40, hc39, hf⟩ := ob hf
      refine m_callv E hK hP hS (As := []) (tm_endsThought l D dT h x38.2.2 _ hc39) (lw_V q1943 q1945 qs137 q166 q1946) dm_endsThought rfl (by decide) (by decide) hl rfl (Nat.le_of_ble_eq_true rfl) dX2_meets_142 (fun H locs hP hS => ?_)
      refine lv_iload_n hx hb dX2_meets_145 rfl (lv_at hl 1 rfl) ?_
      refine lv_if_ne (tgt := 153) hx hb dX2_meets_146 (by decide) (fun kc41 => ?_) (fun kc41 => ?_)
      · have hf := ite_f kc41 hf
        refine lv_iload_n hx hb dX2_meets_153 rfl (lv_at hl 3 rfl) ?_
        cases hf
        exact m_iret E hr hlk hP hS rfl dX2_meets_154
      · have hf := ite_t kc41 hf
        refine lv_iload_n hx hb dX2_meets_149 rfl (lv_at hl 2 rfl) ?_
        refine lv_goto (tgt := 154) hx hb dX2_meets_150 (by decide) ?_
        cases hf
        exact m_iret E hr hlk hP hS rfl dX2_meets_154
  · have hf := ite_t kc4 hf
    refine lv_iconst (v := (-1)) hx hb dX2_meets_15 rfl ?_
    cases hf
    exact m_iret E hr hlk hP hS rfl dX2_meets_16
set_option maxHeartbeats 4000000 in
def fm_sumOf_L4 (x1 : Int32) (μ : nwM) : (Int32 × Int32) → Option ((Int32 × Int32) ⊕ (Int32)) := fun st => (rd_ μ 1 105 (nI 4)).bind fun v1 => (if v1 ≤ st.2 then some (.inr st.1) else (if ((x1 >>> (st.2 &&& 31)) &&& (nI 1)) = (nI 1) then (rd_ μ 41 12 st.2).bind fun v4 => some (.inl (st.1 + v4, st.2 + nI 1)) else some (.inl (st.1, st.2 + nI 1))))
set_option maxHeartbeats 4000000 in
noncomputable def fm_sumOf (x1 : Int32) (μ : nwM) : Option (Int32) := (wh_ (fm_sumOf_L4 x1 μ) (nI 0, nI 0)).bind fun x5 => some x5
set_option maxHeartbeats 4000000 in
theorem fm_sumOf_L4_w {p : Program} {l : Launch} {e : Env} {s : State} {m : MethodId} {args : Array Value} {below : List Frame} {meth : Method} {c : Code} {Q : State → Prop} {D : va_G} {dT : Nat → ClassId} {h : Nat} (E : CallFix p m c cX2_sumOf 4 s args lw_all RX2) (hK : va_K D nwCl (nwT dT) s) (x1 : Int32) (μ : nwM) {st : Int32 × Int32} {x : Int32} (hw : wh_ (fm_sumOf_L4 x1 μ) st = some x) (hk : (fun x : Int32 => ∀ (ls : Array Slot) (H : Heap) (locs : List Loc), lv_has ls 4 [(2, .int x)] → PM D dT h μ H → va_S (mA h) s.heap H locs → W p l e (rmd 0) s m args below meth c H locs 0 0 Q (F0 m 38 ls [])) x) : (fun st : Int32 × Int32 => ∀ (ls : Array Slot) (H : Heap) (locs : List Loc), lv_has ls 4 [(0, .ref h), (1, .int x1), (2, .int st.1), (3, .int st.2)] → PM D dT h μ H → va_S (mA h) s.heap H locs → W p l e (rmd 0) s m args below meth c H locs 0 0 Q (F0 m 4 ls [])) st := by
  obtain ⟨hx, hb, -, hown, hts⟩ := id E
  refine wh_run (P := (fun st : Int32 × Int32 => ∀ (ls : Array Slot) (H : Heap) (locs : List Loc), lv_has ls 4 [(0, .ref h), (1, .int x1), (2, .int st.1), (3, .int st.2)] → PM D dT h μ H → va_S (mA h) s.heap H locs → W p l e (rmd 0) s m args below meth c H locs 0 0 Q (F0 m 4 ls []))) (PE := (fun x : Int32 => ∀ (ls : Array Slot) (H : Heap) (locs : List Loc), lv_has ls 4 [(2, .int x)] → PM D dT h μ H → va_S (mA h) s.heap H locs → W p l e (rmd 0) s m args below meth c H locs 0 0 Q (F0 m 38 ls []))) ?_ hw hk
  clear hw hk
  intro st x hf hk ls H locs hl hP hS
  refine lv_iload_n hx hb dX2_sumOf_4 rfl (lv_at hl 3 rfl) ?_
  refine lv_aload_n hx hb dX2_sumOf_5 rfl (lv_at hl 0 rfl) ?_
  refine m_ga E hK hP 1 (by decide) rfl q1414 rfl dX2_sumOf_6 ?_
  refine lv_iconst (v := nI 4) hx hb dX2_sumOf_9 rfl ?_
  obtain ⟨v1, hv1, hf⟩ := ob hf
  refine m_ald E hK hP (by decide) rfl rfl hv1 dX2_sumOf_10 ?_
  refine lv_icmp_ge (tgt := 38) hx hb dX2_sumOf_11 (by decide) (fun kc2 => ?_) (fun kc2 => ?_)
  · have hf := ite_t kc2 hf
    cases hf
    exact hk _ _ _ (lv_sub hl [2] rfl) hP hS
  · have hf := ite_f kc2 hf
    refine lv_iload_n hx hb dX2_sumOf_14 rfl (lv_at hl 1 rfl) ?_
    refine lv_iload_n hx hb dX2_sumOf_15 rfl (lv_at hl 3 rfl) ?_
    refine lv_ishr hx hb dX2_sumOf_16 ?_
    refine lv_iconst (v := nI 1) hx hb dX2_sumOf_17 rfl ?_
    refine lv_iand hx hb dX2_sumOf_18 ?_
    refine lv_iconst (v := nI 1) hx hb dX2_sumOf_19 rfl ?_
    refine lv_icmp_ne (tgt := 32) hx hb dX2_sumOf_20 (by decide) (fun kc3 => ?_) (fun kc3 => ?_)
    · have hf := ite_f kc3 hf
      refine lv_iinc (v := st.2 + nI 1) (lv' := [(3, .int (st.2 + nI 1)), (0, .ref h), (1, .int x1), (2, .int st.1)]) hx hb dX2_sumOf_32 hl (k := 3) rfl rfl (by decide) rfl (fun ls hl => ?_)
      refine lv_goto (tgt := 4) hx hb dX2_sumOf_35 (by decide) ?_
      cases hf
      exact hk _ _ _ (lv_sub hl [1, 2, 3, 0] rfl) hP hS
    · have hf := ite_t kc3 hf
      refine lv_iload_n hx hb dX2_sumOf_23 rfl (lv_at hl 2 rfl) ?_
      refine lv_aload_n hx hb dX2_sumOf_24 rfl (lv_at hl 0 rfl) ?_
      refine m_ga E hK hP 41 (by decide) rfl q1454 rfl dX2_sumOf_25 ?_
      refine lv_iload_n hx hb dX2_sumOf_28 rfl (lv_at hl 3 rfl) ?_
      obtain ⟨v4, hv4, hf⟩ := ob hf
      refine m_ald E hK hP (by decide) rfl rfl hv4 dX2_sumOf_29 ?_
      refine lv_iadd hx hb dX2_sumOf_30 ?_
      refine lv_istore_n (lv' := [(2, .int (st.1 + v4)), (0, .ref h), (1, .int x1), (3, .int st.2)]) hx hb dX2_sumOf_31 rfl hl (by decide) rfl (fun ls hl => ?_)
      refine lv_iinc (v := st.2 + nI 1) (lv' := [(3, .int (st.2 + nI 1)), (2, .int (st.1 + v4)), (0, .ref h), (1, .int x1)]) hx hb dX2_sumOf_32 hl (k := 3) rfl rfl (by decide) rfl (fun ls hl => ?_)
      refine lv_goto (tgt := 4) hx hb dX2_sumOf_35 (by decide) ?_
      cases hf
      exact hk _ _ _ (lv_sub hl [2, 3, 1, 0] rfl) hP hS
set_option maxHeartbeats 4000000 in
theorem dm_sumOf : yX2_sumOf.cls = RX2 ∧ yX2_sumOf.cls ≠ "java/lang/invoke/MethodHandle" ∧ yX2_sumOf.cls ≠ "java/lang/invoke/VarHandle" ∧ (parseMethodDescriptor yX2_sumOf.desc).map (fun d => d.parameters.length) = some 1 := ⟨rfl, by decide +kernel, by decide +kernel, by decide +kernel⟩
set_option maxHeartbeats 4000000 in
theorem tm_sumOf (l : Launch) (D : va_G) (dT : Nat → ClassId) (h : Nat) (x1 : Int32) (μ : nwM) (res : Int32) (hf : fm_sumOf x1 μ = some res) : Met l yX2_sumOf (ws_ yX2_sumOf cX2_sumOf 4 (some .int)) (rmd 0) (mPc D dT h μ [.int x1]) (mQi D dT h μ res) 0 0 (mA h) := by
  refine m_met (by decide) rfl (Nat.le_of_ble_eq_true rfl) ?_
  intro p e s m below meth c ls E hK hr hlk hl hP
  have hS : va_S (mA h) s.heap s.heap [] := va_S.rf
  obtain ⟨hx, hb, -, hown, hts⟩ := id E
  have hl : lv_has ls 4 [(0, .ref h), (1, .int x1)] := hl
  unfold fm_sumOf at hf
  refine lv_iconst (v := nI 0) hx hb dX2_sumOf_0 rfl ?_
  refine lv_istore_n (lv' := [(2, .int (nI 0)), (0, .ref h), (1, .int x1)]) hx hb dX2_sumOf_1 rfl hl (by decide) rfl (fun ls hl => ?_)
  refine lv_iconst (v := nI 0) hx hb dX2_sumOf_2 rfl ?_
  refine lv_istore_n (lv' := [(3, .int (nI 0)), (2, .int (nI 0)), (0, .ref h), (1, .int x1)]) hx hb dX2_sumOf_3 rfl hl (by decide) rfl (fun ls hl => ?_)
  obtain ⟨x5, hx5, hf⟩ := ob hf
  refine fm_sumOf_L4_w E hK x1 μ hx5 (fun ls H locs hl hP hS => ?_) _ _ _ (lv_sub hl [2, 3, 1, 0] rfl) hP hS
  refine lv_iload_n hx hb dX2_sumOf_38 rfl (lv_at hl 0 rfl) ?_
  cases hf
  exact m_iret E hr hlk hP hS rfl dX2_sumOf_39
set_option maxHeartbeats 4000000 in
noncomputable def fm_callersAt_L5 (x1 : Int32) (x2 : Int32) : (Int32 × Int32 × nwM) → Option ((Int32 × Int32 × nwM) ⊕ (Int32 × nwM)) := fun st => (rd_ st.2.2 1 105 (nI 4)).bind fun v1 => (if v1 ≤ st.2.1 then some (.inr (st.1, st.2.2)) else (rd_ st.2.2 1 105 ((nI 45) + st.2.1)).bind fun v3 => (if v3 = x2 then (fm_canCall st.2.1 x1 st.2.2).bind fun v6 => (if v6 = 0 then some (.inl (st.1, st.2.1 + nI 1, st.2.2)) else bd2 (fm_addOf st.2.1 x1 st.2.2) fun v9 μ10 => (wr_ μ10 41 12 st.2.1 v9).bind fun μ11 => some (.inl (st.1 ||| ((nI 1) <<< (st.2.1 &&& 31)), st.2.1 + nI 1, μ11))) else some (.inl (st.1, st.2.1 + nI 1, st.2.2))))
set_option maxHeartbeats 4000000 in
noncomputable def fm_callersAt (x1 : Int32) (x2 : Int32) (μ : nwM) : Option (Int32 × nwM) := (wh_ (fm_callersAt_L5 x1 x2) (nI 0, nI 0, μ)).bind fun x12 => some (x12.1, x12.2)
set_option maxHeartbeats 4000000 in
theorem fm_callersAt_L5_w {p : Program} {l : Launch} {e : Env} {s : State} {m : MethodId} {args : Array Value} {below : List Frame} {meth : Method} {c : Code} {Q : State → Prop} {D : va_G} {dT : Nat → ClassId} {h : Nat} (E : CallFix p m c cX2_callersAt 5 s args lw_all RX2) (hK : va_K D nwCl (nwT dT) s) (x1 : Int32) (x2 : Int32) {st : Int32 × Int32 × nwM} {x : Int32 × nwM} (hw : wh_ (fm_callersAt_L5 x1 x2) st = some x) (hk : (fun x : Int32 × nwM => ∀ (ls : Array Slot) (H : Heap) (locs : List Loc), lv_has ls 5 [(3, .int x.1)] → PM D dT h x.2 H → va_S (mA h) s.heap H locs → W p l e (rmd 5) s m args below meth c H locs 0 0 Q (F0 m 70 ls [])) x) : (fun st : Int32 × Int32 × nwM => ∀ (ls : Array Slot) (H : Heap) (locs : List Loc), lv_has ls 5 [(0, .ref h), (1, .int x1), (2, .int x2), (3, .int st.1), (4, .int st.2.1)] → PM D dT h st.2.2 H → va_S (mA h) s.heap H locs → W p l e (rmd 5) s m args below meth c H locs 0 0 Q (F0 m 5 ls [])) st := by
  obtain ⟨hx, hb, -, hown, hts⟩ := id E
  refine wh_run (P := (fun st : Int32 × Int32 × nwM => ∀ (ls : Array Slot) (H : Heap) (locs : List Loc), lv_has ls 5 [(0, .ref h), (1, .int x1), (2, .int x2), (3, .int st.1), (4, .int st.2.1)] → PM D dT h st.2.2 H → va_S (mA h) s.heap H locs → W p l e (rmd 5) s m args below meth c H locs 0 0 Q (F0 m 5 ls []))) (PE := (fun x : Int32 × nwM => ∀ (ls : Array Slot) (H : Heap) (locs : List Loc), lv_has ls 5 [(3, .int x.1)] → PM D dT h x.2 H → va_S (mA h) s.heap H locs → W p l e (rmd 5) s m args below meth c H locs 0 0 Q (F0 m 70 ls []))) ?_ hw hk
  clear hw hk
  intro st x hf hk ls H locs hl hP hS
  refine lv_iload hx hb dX2_callersAt_5 (lv_at hl 4 rfl) ?_
  refine lv_aload_n hx hb dX2_callersAt_7 rfl (lv_at hl 0 rfl) ?_
  refine m_ga E hK hP 1 (by decide) rfl q1414 rfl dX2_callersAt_8 ?_
  refine lv_iconst (v := nI 4) hx hb dX2_callersAt_11 rfl ?_
  obtain ⟨v1, hv1, hf⟩ := ob hf
  refine m_ald E hK hP (by decide) rfl rfl hv1 dX2_callersAt_12 ?_
  refine lv_icmp_ge (tgt := 70) hx hb dX2_callersAt_13 (by decide) (fun kc2 => ?_) (fun kc2 => ?_)
  · have hf := ite_t kc2 hf
    cases hf
    exact hk _ _ _ (lv_sub hl [3] rfl) hP hS
  · have hf := ite_f kc2 hf
    refine lv_aload_n hx hb dX2_callersAt_16 rfl (lv_at hl 0 rfl) ?_
    refine m_ga E hK hP 1 (by decide) rfl q1414 rfl dX2_callersAt_17 ?_
    refine lv_bipush (v := nI 45) hx hb dX2_callersAt_20 rfl ?_
    refine lv_iload hx hb dX2_callersAt_22 (lv_at hl 4 rfl) ?_
    refine lv_iadd hx hb dX2_callersAt_24 ?_
    obtain ⟨v3, hv3, hf⟩ := ob hf
    refine m_ald E hK hP (by decide) rfl rfl hv3 dX2_callersAt_25 ?_
    refine lv_iload_n hx hb dX2_callersAt_26 rfl (lv_at hl 2 rfl) ?_
    refine lv_icmp_ne (tgt := 64) hx hb dX2_callersAt_27 (by decide) (fun kc4 => ?_) (fun kc4 => ?_)
    · have hf := ite_f kc4 hf
      refine lv_iinc (v := st.2.1 + nI 1) (lv' := [(4, .int (st.2.1 + nI 1)), (0, .ref h), (1, .int x1), (2, .int x2), (3, .int st.1)]) hx hb dX2_callersAt_64 hl (k := 4) rfl rfl (by decide) rfl (fun ls hl => ?_)
      refine lv_goto (tgt := 5) hx hb dX2_callersAt_67 (by decide) ?_
      cases hf
      exact hk _ _ _ (lv_sub hl [1, 2, 3, 4, 0] rfl) hP hS
    · have hf := ite_t kc4 hf
      refine lv_aload_n hx hb dX2_callersAt_30 rfl (lv_at hl 0 rfl) ?_
      refine lv_iload hx hb dX2_callersAt_31 (lv_at hl 4 rfl) ?_
      refine lv_iload_n hx hb dX2_callersAt_33 rfl (lv_at hl 1 rfl) ?_
      obtain ⟨v6, hc5, hf⟩ := ob hf
      refine m_calli E hK hP hS (As := [.int st.2.1, .int x1]) (tm_canCall l D dT h st.2.1 x1 st.2.2 _ hc5) (lw_V q1773 q1775 qs101 q166 q1776) dm_canCall rfl (by decide) (by decide) hl rfl (Nat.le_of_ble_eq_true rfl) dX2_callersAt_34 (fun H locs hP hS => ?_)
      refine lv_if_ne (tgt := 43) hx hb dX2_callersAt_37 (by decide) (fun kc7 => ?_) (fun kc7 => ?_)
      · have hf := ite_f kc7 hf
        refine lv_aload_n hx hb dX2_callersAt_43 rfl (lv_at hl 0 rfl) ?_
        refine m_ga E hK hP 41 (by decide) rfl q1454 rfl dX2_callersAt_44 ?_
        refine lv_iload hx hb dX2_callersAt_47 (lv_at hl 4 rfl) ?_
        refine lv_aload_n hx hb dX2_callersAt_49 rfl (lv_at hl 0 rfl) ?_
        refine lv_iload hx hb dX2_callersAt_50 (lv_at hl 4 rfl) ?_
        refine lv_iload_n hx hb dX2_callersAt_52 rfl (lv_at hl 1 rfl) ?_
        obtain ⟨v9, μ10, hc8, hf⟩ := ob2 hf
        refine m_calli E hK hP hS (As := [.int st.2.1, .int x1]) (tm_addOf l D dT h st.2.1 x1 st.2.2 _ hc8) (lw_V q1797 q1799 qs107 q166 q1800) dm_addOf rfl (by decide) (by decide) hl rfl (Nat.le_of_ble_eq_true rfl) dX2_callersAt_53 (fun H locs hP hS => ?_)
        obtain ⟨μ11, hμ11, hf⟩ := ob hf
        refine m_ast E hK hP hS (by decide) rfl rfl hμ11 dX2_callersAt_56 (fun H locs hP hS => ?_)
        refine lv_iload_n hx hb dX2_callersAt_57 rfl (lv_at hl 3 rfl) ?_
        refine lv_iconst (v := nI 1) hx hb dX2_callersAt_58 rfl ?_
        refine lv_iload hx hb dX2_callersAt_59 (lv_at hl 4 rfl) ?_
        refine lv_ishl hx hb dX2_callersAt_61 ?_
        refine lv_ior hx hb dX2_callersAt_62 ?_
        refine lv_istore_n (lv' := [(3, .int (st.1 ||| ((nI 1) <<< (st.2.1 &&& 31)))), (0, .ref h), (1, .int x1), (2, .int x2), (4, .int st.2.1)]) hx hb dX2_callersAt_63 rfl hl (by decide) rfl (fun ls hl => ?_)
        refine lv_iinc (v := st.2.1 + nI 1) (lv' := [(4, .int (st.2.1 + nI 1)), (3, .int (st.1 ||| ((nI 1) <<< (st.2.1 &&& 31)))), (0, .ref h), (1, .int x1), (2, .int x2)]) hx hb dX2_callersAt_64 hl (k := 4) rfl rfl (by decide) rfl (fun ls hl => ?_)
        refine lv_goto (tgt := 5) hx hb dX2_callersAt_67 (by decide) ?_
        cases hf
        exact hk _ _ _ (lv_sub hl [2, 3, 4, 1, 0] rfl) hP hS
      · have hf := ite_t kc7 hf
        refine lv_goto (tgt := 64) hx hb dX2_callersAt_40 (by decide) ?_
        refine lv_iinc (v := st.2.1 + nI 1) (lv' := [(4, .int (st.2.1 + nI 1)), (0, .ref h), (1, .int x1), (2, .int x2), (3, .int st.1)]) hx hb dX2_callersAt_64 hl (k := 4) rfl rfl (by decide) rfl (fun ls hl => ?_)
        refine lv_goto (tgt := 5) hx hb dX2_callersAt_67 (by decide) ?_
        cases hf
        exact hk _ _ _ (lv_sub hl [1, 2, 3, 4, 0] rfl) hP hS
set_option maxHeartbeats 4000000 in
theorem dm_callersAt : yX2_callersAt.cls = RX2 ∧ yX2_callersAt.cls ≠ "java/lang/invoke/MethodHandle" ∧ yX2_callersAt.cls ≠ "java/lang/invoke/VarHandle" ∧ (parseMethodDescriptor yX2_callersAt.desc).map (fun d => d.parameters.length) = some 2 := ⟨rfl, by decide +kernel, by decide +kernel, by decide +kernel⟩
set_option maxHeartbeats 4000000 in
theorem tm_callersAt (l : Launch) (D : va_G) (dT : Nat → ClassId) (h : Nat) (x1 : Int32) (x2 : Int32) (μ : nwM) (res : Int32 × nwM) (hf : fm_callersAt x1 x2 μ = some res) : Met l yX2_callersAt (ws_ yX2_callersAt cX2_callersAt 5 (some .int)) (rmd 5) (mPc D dT h μ [.int x1, .int x2]) (mQi D dT h res.2 res.1) 0 0 (mA h) := by
  refine m_met (by decide) rfl (Nat.le_of_ble_eq_true rfl) ?_
  intro p e s m below meth c ls E hK hr hlk hl hP
  have hS : va_S (mA h) s.heap s.heap [] := va_S.rf
  obtain ⟨hx, hb, -, hown, hts⟩ := id E
  have hl : lv_has ls 5 [(0, .ref h), (1, .int x1), (2, .int x2)] := hl
  unfold fm_callersAt at hf
  refine lv_iconst (v := nI 0) hx hb dX2_callersAt_0 rfl ?_
  refine lv_istore_n (lv' := [(3, .int (nI 0)), (0, .ref h), (1, .int x1), (2, .int x2)]) hx hb dX2_callersAt_1 rfl hl (by decide) rfl (fun ls hl => ?_)
  refine lv_iconst (v := nI 0) hx hb dX2_callersAt_2 rfl ?_
  refine lv_istore (lv' := [(4, .int (nI 0)), (3, .int (nI 0)), (0, .ref h), (1, .int x1), (2, .int x2)]) hx hb dX2_callersAt_3 hl (by decide) rfl (fun ls hl => ?_)
  obtain ⟨x12, hx12, hf⟩ := ob hf
  refine fm_callersAt_L5_w E hK x1 x2 hx12 (fun ls H locs hl hP hS => ?_) _ _ _ (lv_sub hl [2, 3, 4, 1, 0] rfl) hP hS
  refine lv_iload_n hx hb dX2_callersAt_70 rfl (lv_at hl 0 rfl) ?_
  cases hf
  exact m_iret E hr hlk hP hS rfl dX2_callersAt_71
set_option maxHeartbeats 4000000 in
noncomputable def fm_calls_L88 (x2 : Int32) (x4 : Int32) (x5 : Int32) (μ : nwM) : (Int32 × Int32) → Option ((Int32 × Int32) ⊕ (Int32)) := fun st => (rd_ μ 1 105 (nI 4)).bind fun v24 => (if ((nI 1) <<< (v24 &&& 31)) ≤ st.2 then some (.inr st.1) else (if (st.2 &&& (x4 ^^^ (-1))) = 0 then (if st.1 = (-1) then (fm_sumOf st.2 μ).bind fun v29 => (if v29 < x5 then some (.inl (st.1, st.2 + nI 1)) else some (.inl (st.2, st.2 + nI 1))) else (fm_onesOf st.2 μ).bind fun v32 => (fm_onesOf st.1 μ).bind fun v34 => (if v34 ≤ v32 then some (.inl (st.1, st.2 + nI 1)) else (fm_sumOf st.2 μ).bind fun v37 => (if v37 < x5 then some (.inl (st.1, st.2 + nI 1)) else some (.inl (st.2, st.2 + nI 1))))) else some (.inl (st.1, st.2 + nI 1))))
set_option maxHeartbeats 4000000 in
noncomputable def fm_calls (x1 : Int32) (x2 : Int32) (μ : nwM) : Option (Int32 × nwM) := (wf_ μ 0 (nI 0)).bind fun μ1 => (fm_isIn x1 (nI 0) ((μ1 34 0) - (nI 1)) μ1).bind fun v3 => (if v3 = 0 then some ((-1), μ1) else (fm_ofWant x1 (nI 0) μ1).bind fun v6 => (if v6 = (nI 5) then some ((-1), μ1) else (fm_isIn x2 (nI 0) (nI 1) μ1).bind fun v9 => (if v9 = 0 then some ((-1), μ1) else (fm_ofWant x1 (nI 2) μ1).bind fun v12 => (fm_ofWant x1 (nI 0) μ1).bind fun v14 => bd2 (fm_callersAt v12 v14 μ1) fun v16 μ17 => (fm_ofWant x1 (nI 1) μ17).bind fun v19 => (fm_ofWant x1 (nI 0) μ17).bind fun v21 => (fm_skyAt v12 v21 μ17).bind fun v23 => (wh_ (fm_calls_L88 x2 v16 (v19 - v23) μ17) ((-1), nI 0)).bind fun x39 => (if x39 = (-1) then some (x39, μ17) else (if x2 = (nI 1) then some (x39, μ17) else (fm_onesOf x39 μ17).bind fun v43 => some (v43, μ17))))))
set_option maxHeartbeats 4000000 in
theorem fm_calls_L88_w {p : Program} {l : Launch} {e : Env} {s : State} {m : MethodId} {args : Array Value} {below : List Frame} {meth : Method} {c : Code} {Q : State → Prop} {D : va_G} {dT : Nat → ClassId} {h : Nat} (E : CallFix p m c cX2_calls 8 s args lw_all RX2) (hK : va_K D nwCl (nwT dT) s) (x2 : Int32) (x4 : Int32) (x5 : Int32) (μ : nwM) {st : Int32 × Int32} {x : Int32} (hw : wh_ (fm_calls_L88 x2 x4 x5 μ) st = some x) (hk : (fun x : Int32 => ∀ (ls : Array Slot) (H : Heap) (locs : List Loc), lv_has ls 8 [(0, .ref h), (2, .int x2), (6, .int x)] → PM D dT h μ H → va_S (mA h) s.heap H locs → W p l e (rmd 6) s m args below meth c H locs 0 0 Q (F0 m 153 ls [])) x) : (fun st : Int32 × Int32 => ∀ (ls : Array Slot) (H : Heap) (locs : List Loc), lv_has ls 8 [(0, .ref h), (2, .int x2), (4, .int x4), (5, .int x5), (6, .int st.1), (7, .int st.2)] → PM D dT h μ H → va_S (mA h) s.heap H locs → W p l e (rmd 6) s m args below meth c H locs 0 0 Q (F0 m 88 ls [])) st := by
  obtain ⟨hx, hb, -, hown, hts⟩ := id E
  refine wh_run (P := (fun st : Int32 × Int32 => ∀ (ls : Array Slot) (H : Heap) (locs : List Loc), lv_has ls 8 [(0, .ref h), (2, .int x2), (4, .int x4), (5, .int x5), (6, .int st.1), (7, .int st.2)] → PM D dT h μ H → va_S (mA h) s.heap H locs → W p l e (rmd 6) s m args below meth c H locs 0 0 Q (F0 m 88 ls []))) (PE := (fun x : Int32 => ∀ (ls : Array Slot) (H : Heap) (locs : List Loc), lv_has ls 8 [(0, .ref h), (2, .int x2), (6, .int x)] → PM D dT h μ H → va_S (mA h) s.heap H locs → W p l e (rmd 6) s m args below meth c H locs 0 0 Q (F0 m 153 ls []))) ?_ hw hk
  clear hw hk
  intro st x hf hk ls H locs hl hP hS
  refine lv_iload hx hb dX2_calls_88 (lv_at hl 5 rfl) ?_
  refine lv_iconst (v := nI 1) hx hb dX2_calls_90 rfl ?_
  refine lv_aload_n hx hb dX2_calls_91 rfl (lv_at hl 0 rfl) ?_
  refine m_ga E hK hP 1 (by decide) rfl q1414 rfl dX2_calls_92 ?_
  refine lv_iconst (v := nI 4) hx hb dX2_calls_95 rfl ?_
  obtain ⟨v24, hv24, hf⟩ := ob hf
  refine m_ald E hK hP (by decide) rfl rfl hv24 dX2_calls_96 ?_
  refine lv_ishl hx hb dX2_calls_97 ?_
  refine lv_icmp_ge (tgt := 153) hx hb dX2_calls_98 (by decide) (fun kc25 => ?_) (fun kc25 => ?_)
  · have hf := ite_t kc25 hf
    cases hf
    exact hk _ _ _ (lv_sub hl [0, 1, 4] rfl) hP hS
  · have hf := ite_f kc25 hf
    refine lv_iload hx hb dX2_calls_101 (lv_at hl 5 rfl) ?_
    refine lv_iload hx hb dX2_calls_103 (lv_at hl 2 rfl) ?_
    refine lv_iconst (v := (-1)) hx hb dX2_calls_105 rfl ?_
    refine lv_ixor hx hb dX2_calls_106 ?_
    refine lv_iand hx hb dX2_calls_107 ?_
    refine lv_if_ne (tgt := 147) hx hb dX2_calls_108 (by decide) (fun kc26 => ?_) (fun kc26 => ?_)
    · have hf := ite_f kc26 hf
      refine lv_iinc (v := st.2 + nI 1) (lv' := [(7, .int (st.2 + nI 1)), (0, .ref h), (2, .int x2), (4, .int x4), (5, .int x5), (6, .int st.1)]) hx hb dX2_calls_147 hl (k := 5) rfl rfl (by decide) rfl (fun ls hl => ?_)
      refine lv_goto (tgt := 88) hx hb dX2_calls_150 (by decide) ?_
      cases hf
      exact hk _ _ _ (lv_sub hl [1, 2, 3, 4, 5, 0] rfl) hP hS
    · have hf := ite_t kc26 hf
      refine lv_iload hx hb dX2_calls_111 (lv_at hl 4 rfl) ?_
      refine lv_iconst (v := (-1)) hx hb dX2_calls_113 rfl ?_
      refine lv_icmp_eq (tgt := 132) hx hb dX2_calls_114 (by decide) (fun kc27 => ?_) (fun kc27 => ?_)
      · have hf := ite_t kc27 hf
        refine lv_aload_n hx hb dX2_calls_132 rfl (lv_at hl 0 rfl) ?_
        refine lv_iload hx hb dX2_calls_133 (lv_at hl 5 rfl) ?_
        obtain ⟨v29, hc28, hf⟩ := ob hf
        refine m_calli E hK hP hS (As := [.int st.2]) (tm_sumOf l D dT h st.2 μ _ hc28) (lw_V q1991 q1993 qs144 q166 q1994) dm_sumOf rfl (by decide) (by decide) hl rfl (Nat.le_of_ble_eq_true rfl) dX2_calls_135 (fun H locs hP hS => ?_)
        refine lv_iload hx hb dX2_calls_138 (lv_at hl 3 rfl) ?_
        refine lv_icmp_lt (tgt := 147) hx hb dX2_calls_140 (by decide) (fun kc30 => ?_) (fun kc30 => ?_)
        · have hf := ite_t kc30 hf
          refine lv_iinc (v := st.2 + nI 1) (lv' := [(7, .int (st.2 + nI 1)), (0, .ref h), (2, .int x2), (4, .int x4), (5, .int x5), (6, .int st.1)]) hx hb dX2_calls_147 hl (k := 5) rfl rfl (by decide) rfl (fun ls hl => ?_)
          refine lv_goto (tgt := 88) hx hb dX2_calls_150 (by decide) ?_
          cases hf
          exact hk _ _ _ (lv_sub hl [1, 2, 3, 4, 5, 0] rfl) hP hS
        · have hf := ite_f kc30 hf
          refine lv_iload hx hb dX2_calls_143 (lv_at hl 5 rfl) ?_
          refine lv_istore (lv' := [(6, .int st.2), (0, .ref h), (2, .int x2), (4, .int x4), (5, .int x5), (7, .int st.2)]) hx hb dX2_calls_145 hl (by decide) rfl (fun ls hl => ?_)
          refine lv_iinc (v := st.2 + nI 1) (lv' := [(7, .int (st.2 + nI 1)), (6, .int st.2), (0, .ref h), (2, .int x2), (4, .int x4), (5, .int x5)]) hx hb dX2_calls_147 hl (k := 5) rfl rfl (by decide) rfl (fun ls hl => ?_)
          refine lv_goto (tgt := 88) hx hb dX2_calls_150 (by decide) ?_
          cases hf
          exact hk _ _ _ (lv_sub hl [2, 3, 4, 5, 1, 0] rfl) hP hS
      · have hf := ite_f kc27 hf
        refine lv_aload_n hx hb dX2_calls_117 rfl (lv_at hl 0 rfl) ?_
        refine lv_iload hx hb dX2_calls_118 (lv_at hl 5 rfl) ?_
        obtain ⟨v32, hc31, hf⟩ := ob hf
        refine m_calli E hK hP hS (As := [.int st.2]) (tm_onesOf l D dT h st.2 μ _ hc31) (lw_V q1817 q1819 qs112 q166 q1820) dm_onesOf rfl (by decide) (by decide) hl rfl (Nat.le_of_ble_eq_true rfl) dX2_calls_120 (fun H locs hP hS => ?_)
        refine lv_aload_n hx hb dX2_calls_123 rfl (lv_at hl 0 rfl) ?_
        refine lv_iload hx hb dX2_calls_124 (lv_at hl 4 rfl) ?_
        obtain ⟨v34, hc33, hf⟩ := ob hf
        refine m_calli E hK hP hS (As := [.int st.1]) (tm_onesOf l D dT h st.1 μ _ hc33) (lw_V q1817 q1819 qs112 q166 q1820) dm_onesOf rfl (by decide) (by decide) hl rfl (Nat.le_of_ble_eq_true rfl) dX2_calls_126 (fun H locs hP hS => ?_)
        refine lv_icmp_ge (tgt := 147) hx hb dX2_calls_129 (by decide) (fun kc35 => ?_) (fun kc35 => ?_)
        · have hf := ite_t kc35 hf
          refine lv_iinc (v := st.2 + nI 1) (lv' := [(7, .int (st.2 + nI 1)), (0, .ref h), (2, .int x2), (4, .int x4), (5, .int x5), (6, .int st.1)]) hx hb dX2_calls_147 hl (k := 5) rfl rfl (by decide) rfl (fun ls hl => ?_)
          refine lv_goto (tgt := 88) hx hb dX2_calls_150 (by decide) ?_
          cases hf
          exact hk _ _ _ (lv_sub hl [1, 2, 3, 4, 5, 0] rfl) hP hS
        · have hf := ite_f kc35 hf
          refine lv_aload_n hx hb dX2_calls_132 rfl (lv_at hl 0 rfl) ?_
          refine lv_iload hx hb dX2_calls_133 (lv_at hl 5 rfl) ?_
          obtain ⟨v37, hc36, hf⟩ := ob hf
          refine m_calli E hK hP hS (As := [.int st.2]) (tm_sumOf l D dT h st.2 μ _ hc36) (lw_V q1991 q1993 qs144 q166 q1994) dm_sumOf rfl (by decide) (by decide) hl rfl (Nat.le_of_ble_eq_true rfl) dX2_calls_135 (fun H locs hP hS => ?_)
          refine lv_iload hx hb dX2_calls_138 (lv_at hl 3 rfl) ?_
          refine lv_icmp_lt (tgt := 147) hx hb dX2_calls_140 (by decide) (fun kc38 => ?_) (fun kc38 => ?_)
          · have hf := ite_t kc38 hf
            refine lv_iinc (v := st.2 + nI 1) (lv' := [(7, .int (st.2 + nI 1)), (0, .ref h), (2, .int x2), (4, .int x4), (5, .int x5), (6, .int st.1)]) hx hb dX2_calls_147 hl (k := 5) rfl rfl (by decide) rfl (fun ls hl => ?_)
            refine lv_goto (tgt := 88) hx hb dX2_calls_150 (by decide) ?_
            cases hf
            exact hk _ _ _ (lv_sub hl [1, 2, 3, 4, 5, 0] rfl) hP hS
          · have hf := ite_f kc38 hf
            refine lv_iload hx hb dX2_calls_143 (lv_at hl 5 rfl) ?_
            refine lv_istore (lv' := [(6, .int st.2), (0, .ref h), (2, .int x2), (4, .int x4), (5, .int x5), (7, .int st.2)]) hx hb dX2_calls_145 hl (by decide) rfl (fun ls hl => ?_)
            refine lv_iinc (v := st.2 + nI 1) (lv' := [(7, .int (st.2 + nI 1)), (6, .int st.2), (0, .ref h), (2, .int x2), (4, .int x4), (5, .int x5)]) hx hb dX2_calls_147 hl (k := 5) rfl rfl (by decide) rfl (fun ls hl => ?_)
            refine lv_goto (tgt := 88) hx hb dX2_calls_150 (by decide) ?_
            cases hf
            exact hk _ _ _ (lv_sub hl [2, 3, 4, 5, 1, 0] rfl) hP hS
set_option maxHeartbeats 4000000 in
theorem dm_calls : yX2_calls.cls = RX2 ∧ yX2_calls.cls ≠ "java/lang/invoke/MethodHandle" ∧ yX2_calls.cls ≠ "java/lang/invoke/VarHandle" ∧ (parseMethodDescriptor yX2_calls.desc).map (fun d => d.parameters.length) = some 2 := ⟨rfl, by decide +kernel, by decide +kernel, by decide +kernel⟩
set_option maxHeartbeats 4000000 in
theorem tm_calls (l : Launch) (D : va_G) (dT : Nat → ClassId) (h : Nat) (x1 : Int32) (x2 : Int32) (μ : nwM) (res : Int32 × nwM) (hf : fm_calls x1 x2 μ = some res) : Met l yX2_calls (ws_ yX2_calls cX2_calls 8 (some .int)) (rmd 6) (mPc D dT h μ [.int x1, .int x2]) (mQi D dT h res.2 res.1) 0 0 (mA h) := by
  refine m_met (by decide) rfl (Nat.le_of_ble_eq_true rfl) ?_
  intro p e s m below meth c ls E hK hr hlk hl hP
  have hS : va_S (mA h) s.heap s.heap [] := va_S.rf
  obtain ⟨hx, hb, -, hown, hts⟩ := id E
  have hl : lv_has ls 8 [(0, .ref h), (1, .int x1), (2, .int x2)] := hl
  unfold fm_calls at hf
  refine lv_aload_n hx hb dX2_calls_0 rfl (lv_at hl 0 rfl) ?_
  refine lv_iconst (v := nI 0) hx hb dX2_calls_1 rfl ?_
  obtain ⟨μ1, hμ1, hf⟩ := ob hf
  refine m_put E hK hP hS 0 (by decide) rfl q1413 rfl rfl rfl hμ1 dX2_calls_2 (fun H locs hP hS => ?_)
  refine lv_aload_n hx hb dX2_calls_5 rfl (lv_at hl 0 rfl) ?_
  refine lv_iload_n hx hb dX2_calls_6 rfl (lv_at hl 1 rfl) ?_
  refine lv_iconst (v := nI 0) hx hb dX2_calls_7 rfl ?_
  refine lv_aload_n hx hb dX2_calls_8 rfl (lv_at hl 0 rfl) ?_
  refine m_get E hK hP 34 (by decide) rfl q1447 rfl dX2_calls_9 ?_
  refine lv_iconst (v := nI 1) hx hb dX2_calls_12 rfl ?_
  refine lv_isub hx hb dX2_calls_13 ?_
  obtain ⟨v3, hc2, hf⟩ := ob hf
  refine m_calli E hK hP hS (As := [.int x1, .int (nI 0), .int ((μ1 34 0) - (nI 1))]) (tm_isIn l D dT h x1 (nI 0) ((μ1 34 0) - (nI 1)) μ1 _ hc2) (lw_V q1573 q1575 qs59 q166 q1576) dm_isIn rfl (by decide) (by decide) hl rfl (Nat.le_of_ble_eq_true rfl) dX2_calls_14 (fun H locs hP hS => ?_)
  refine lv_if_eq (tgt := 40) hx hb dX2_calls_17 (by decide) (fun kc4 => ?_) (fun kc4 => ?_)
  · have hf := ite_t kc4 hf
    refine lv_iconst (v := (-1)) hx hb dX2_calls_40 rfl ?_
    cases hf
    exact m_iret E hr hlk hP hS rfl dX2_calls_41
  · have hf := ite_f kc4 hf
    refine lv_aload_n hx hb dX2_calls_20 rfl (lv_at hl 0 rfl) ?_
    refine lv_iload_n hx hb dX2_calls_21 rfl (lv_at hl 1 rfl) ?_
    refine lv_iconst (v := nI 0) hx hb dX2_calls_22 rfl ?_
    obtain ⟨v6, hc5, hf⟩ := ob hf
    refine m_calli E hK hP hS (As := [.int x1, .int (nI 0)]) (tm_ofWant l D dT h x1 (nI 0) μ1 _ hc5) (lw_V q1971 q1973 qs140 q166 q1974) dm_ofWant rfl (by decide) (by decide) hl rfl (Nat.le_of_ble_eq_true rfl) dX2_calls_23 (fun H locs hP hS => ?_)
    refine lv_iconst (v := nI 5) hx hb dX2_calls_26 rfl ?_
    refine lv_icmp_eq (tgt := 40) hx hb dX2_calls_27 (by decide) (fun kc7 => ?_) (fun kc7 => ?_)
    · have hf := ite_t kc7 hf
      refine lv_iconst (v := (-1)) hx hb dX2_calls_40 rfl ?_
      cases hf
      exact m_iret E hr hlk hP hS rfl dX2_calls_41
    · have hf := ite_f kc7 hf
      refine lv_aload_n hx hb dX2_calls_30 rfl (lv_at hl 0 rfl) ?_
      refine lv_iload_n hx hb dX2_calls_31 rfl (lv_at hl 2 rfl) ?_
      refine lv_iconst (v := nI 0) hx hb dX2_calls_32 rfl ?_
      refine lv_iconst (v := nI 1) hx hb dX2_calls_33 rfl ?_
      obtain ⟨v9, hc8, hf⟩ := ob hf
      refine m_calli E hK hP hS (As := [.int x2, .int (nI 0), .int (nI 1)]) (tm_isIn l D dT h x2 (nI 0) (nI 1) μ1 _ hc8) (lw_V q1573 q1575 qs59 q166 q1576) dm_isIn rfl (by decide) (by decide) hl rfl (Nat.le_of_ble_eq_true rfl) dX2_calls_34 (fun H locs hP hS => ?_)
      refine lv_if_ne (tgt := 42) hx hb dX2_calls_37 (by decide) (fun kc10 => ?_) (fun kc10 => ?_)
      · have hf := ite_f kc10 hf
        refine lv_aload_n hx hb dX2_calls_42 rfl (lv_at hl 0 rfl) ?_
        refine lv_iload_n hx hb dX2_calls_43 rfl (lv_at hl 1 rfl) ?_
        refine lv_iconst (v := nI 2) hx hb dX2_calls_44 rfl ?_
        obtain ⟨v12, hc11, hf⟩ := ob hf
        refine m_calli E hK hP hS (As := [.int x1, .int (nI 2)]) (tm_ofWant l D dT h x1 (nI 2) μ1 _ hc11) (lw_V q1971 q1973 qs140 q166 q1974) dm_ofWant rfl (by decide) (by decide) hl rfl (Nat.le_of_ble_eq_true rfl) dX2_calls_45 (fun H locs hP hS => ?_)
        refine lv_istore_n (lv' := [(3, .int v12), (0, .ref h), (1, .int x1), (2, .int x2)]) hx hb dX2_calls_48 rfl hl (by decide) rfl (fun ls hl => ?_)
        refine lv_aload_n hx hb dX2_calls_49 rfl (lv_at hl 1 rfl) ?_
        refine lv_iload_n hx hb dX2_calls_50 rfl (lv_at hl 0 rfl) ?_
        refine lv_aload_n hx hb dX2_calls_51 rfl (lv_at hl 1 rfl) ?_
        refine lv_iload_n hx hb dX2_calls_52 rfl (lv_at hl 2 rfl) ?_
        refine lv_iconst (v := nI 0) hx hb dX2_calls_53 rfl ?_
        obtain ⟨v14, hc13, hf⟩ := ob hf
        refine m_calli E hK hP hS (As := [.int x1, .int (nI 0)]) (tm_ofWant l D dT h x1 (nI 0) μ1 _ hc13) (lw_V q1971 q1973 qs140 q166 q1974) dm_ofWant rfl (by decide) (by decide) hl rfl (Nat.le_of_ble_eq_true rfl) dX2_calls_54 (fun H locs hP hS => ?_)
        obtain ⟨v16, μ17, hc15, hf⟩ := ob2 hf
        refine m_calli E hK hP hS (As := [.int v12, .int v14]) (tm_callersAt l D dT h v12 v14 μ1 _ hc15) (lw_V q1987 q1989 qs143 q166 q1990) dm_callersAt rfl (by decide) (by decide) hl rfl (Nat.le_of_ble_eq_true rfl) dX2_calls_57 (fun H locs hP hS => ?_)
        refine lv_istore (lv' := [(4, .int v16), (3, .int v12), (0, .ref h), (1, .int x1), (2, .int x2)]) hx hb dX2_calls_60 hl (by decide) rfl (fun ls hl => ?_)
        refine lv_aload_n hx hb dX2_calls_62 rfl (lv_at hl 2 rfl) ?_
        refine lv_iload_n hx hb dX2_calls_63 rfl (lv_at hl 3 rfl) ?_
        refine lv_iconst (v := nI 1) hx hb dX2_calls_64 rfl ?_
        obtain ⟨v19, hc18, hf⟩ := ob hf
        refine m_calli E hK hP hS (As := [.int x1, .int (nI 1)]) (tm_ofWant l D dT h x1 (nI 1) μ17 _ hc18) (lw_V q1971 q1973 qs140 q166 q1974) dm_ofWant rfl (by decide) (by decide) hl rfl (Nat.le_of_ble_eq_true rfl) dX2_calls_65 (fun H locs hP hS => ?_)
        refine lv_aload_n hx hb dX2_calls_68 rfl (lv_at hl 2 rfl) ?_
        refine lv_iload_n hx hb dX2_calls_69 rfl (lv_at hl 1 rfl) ?_
        refine lv_aload_n hx hb dX2_calls_70 rfl (lv_at hl 2 rfl) ?_
        refine lv_iload_n hx hb dX2_calls_71 rfl (lv_at hl 3 rfl) ?_
        refine lv_iconst (v := nI 0) hx hb dX2_calls_72 rfl ?_
        obtain ⟨v21, hc20, hf⟩ := ob hf
        refine m_calli E hK hP hS (As := [.int x1, .int (nI 0)]) (tm_ofWant l D dT h x1 (nI 0) μ17 _ hc20) (lw_V q1971 q1973 qs140 q166 q1974) dm_ofWant rfl (by decide) (by decide) hl rfl (Nat.le_of_ble_eq_true rfl) dX2_calls_73 (fun H locs hP hS => ?_)
        obtain ⟨v23, hc22, hf⟩ := ob hf
        refine m_calli E hK hP hS (As := [.int v12, .int v21]) (tm_skyAt l D dT h v12 v21 μ17 _ hc22) (lw_V q1793 q1795 qs106 q166 q1796) dm_skyAt rfl (by decide) (by decide) hl rfl (Nat.le_of_ble_eq_true rfl) dX2_calls_76 (fun H locs hP hS => ?_)
        refine lv_isub hx hb dX2_calls_79 ?_
        refine lv_istore (lv' := [(5, .int (v19 - v23)), (4, .int v16), (3, .int v12), (0, .ref h), (1, .int x1), (2, .int x2)]) hx hb dX2_calls_80 hl (by decide) rfl (fun ls hl => ?_)
        refine lv_iconst (v := (-1)) hx hb dX2_calls_82 rfl ?_
        refine lv_istore (lv' := [(6, .int (-1)), (5, .int (v19 - v23)), (4, .int v16), (3, .int v12), (0, .ref h), (1, .int x1), (2, .int x2)]) hx hb dX2_calls_83 hl (by decide) rfl (fun ls hl => ?_)
        refine lv_iconst (v := nI 0) hx hb dX2_calls_85 rfl ?_
        refine lv_istore (lv' := [(7, .int (nI 0)), (6, .int (-1)), (5, .int (v19 - v23)), (4, .int v16), (3, .int v12), (0, .ref h), (1, .int x1), (2, .int x2)]) hx hb dX2_calls_86 hl (by decide) rfl (fun ls hl => ?_)
        obtain ⟨x39, hx39, hf⟩ := ob hf
        refine fm_calls_L88_w E hK x2 v16 (v19 - v23) μ17 hx39 (fun ls H locs hl hP hS => ?_) _ _ _ (lv_sub hl [5, 7, 3, 2, 1, 0] rfl) hP hS
        refine lv_iload hx hb dX2_calls_153 (lv_at hl 2 rfl) ?_
        refine lv_iconst (v := (-1)) hx hb dX2_calls_155 rfl ?_
        refine lv_icmp_eq (tgt := 164) hx hb dX2_calls_156 (by decide) (fun kc40 => ?_) (fun kc40 => ?_)
        · have hf := ite_t kc40 hf
          refine lv_iload hx hb dX2_calls_164 (lv_at hl 2 rfl) ?_
          refine lv_goto (tgt := 175) hx hb dX2_calls_166 (by decide) ?_
          cases hf
          exact m_iret E hr hlk hP hS rfl dX2_calls_175
        · have hf := ite_f kc40 hf
          refine lv_iload_n hx hb dX2_calls_159 rfl (lv_at hl 1 rfl) ?_
          refine lv_iconst (v := nI 1) hx hb dX2_calls_160 rfl ?_
          refine lv_icmp_ne (tgt := 169) hx hb dX2_calls_161 (by decide) (fun kc41 => ?_) (fun kc41 => ?_)
          · have hf := ite_f kc41 hf
            refine lv_aload_n hx hb dX2_calls_169 rfl (lv_at hl 0 rfl) ?_
            refine lv_iload hx hb dX2_calls_170 (lv_at hl 2 rfl) ?_
            obtain ⟨v43, hc42, hf⟩ := ob hf
            refine m_calli E hK hP hS (As := [.int x39]) (tm_onesOf l D dT h x39 μ17 _ hc42) (lw_V q1817 q1819 qs112 q166 q1820) dm_onesOf rfl (by decide) (by decide) hl rfl (Nat.le_of_ble_eq_true rfl) dX2_calls_172 (fun H locs hP hS => ?_)
            cases hf
            exact m_iret E hr hlk hP hS rfl dX2_calls_175
          · have hf := ite_t kc41 hf
            refine lv_iload hx hb dX2_calls_164 (lv_at hl 2 rfl) ?_
            refine lv_goto (tgt := 175) hx hb dX2_calls_166 (by decide) ?_
            cases hf
            exact m_iret E hr hlk hP hS rfl dX2_calls_175
      · have hf := ite_t kc10 hf
        refine lv_iconst (v := (-1)) hx hb dX2_calls_40 rfl ?_
        cases hf
        exact m_iret E hr hlk hP hS rfl dX2_calls_41
