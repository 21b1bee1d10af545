/-! walks of NamesWeatherModel, written by genm.py -/
set_option maxRecDepth 100000
set_option maxHeartbeats 4000000 in
noncomputable def fm_asks (x1 : Int32) (x2 : Int32) (μ : nwM) : Option (nwM) := (wr_ μ 38 9 (nI 0) x1).bind fun μ1 => (wr_ μ1 38 9 (nI 1) (nI 0)).bind fun μ2 => (fm_skyAt x2 x1 μ2).bind fun v4 => (wr_ μ2 38 9 (nI 2) v4).bind fun μ5 => (fm_allAt x2 μ5).bind fun v7 => (wr_ μ5 38 9 (nI 3) v7).bind fun μ8 => (rd_ μ8 1 105 (nI 0)).bind fun v9 => (wr_ μ8 38 9 (nI 4) v9).bind fun μ10 => (wr_ μ10 38 9 (nI 5) (nI 0)).bind fun μ11 => (wr_ μ11 38 9 (nI 6) (nI 0)).bind fun μ12 => (rd_ μ12 1 105 (nI 3)).bind fun v13 => (wr_ μ12 38 9 (nI 7) v13).bind fun μ14 => (fm_thereAt x2 (nI 0) μ14).bind fun v16 => (fm_onesOf v16 μ14).bind fun v18 => (wr_ μ14 38 9 (nI 8) v18).bind fun μ19 => some μ19
set_option maxHeartbeats 4000000 in
theorem dm_asks : yX2_asks.cls = RX2 ∧ yX2_asks.cls ≠ "java/lang/invoke/MethodHandle" ∧ yX2_asks.cls ≠ "java/lang/invoke/VarHandle" ∧ (parseMethodDescriptor yX2_asks.desc).map (fun d => d.parameters.length) = some 2 := ⟨rfl, by decide +kernel, by decide +kernel, by decide +kernel⟩
set_option maxHeartbeats 4000000 in
theorem tm_asks (l : Launch) (D : va_G) (dT : Nat → ClassId) (h : Nat) (x1 : Int32) (x2 : Int32) (μ : nwM) (res : nwM) (hf : fm_asks x1 x2 μ = some res) : Met l yX2_asks (ws_ yX2_asks cX2_asks 3 none) (rmd 2) (mPc D dT h μ [.int x1, .int x2]) (mQv D dT h res) 0 0 (mA h) := by
  refine m_met (by decide) rfl (Nat.le_of_ble_eq_true rfl) ?_
  intro p e s m below meth c ls E hK hr hlk hl hP
  have hS : va_S (mA h) s.heap s.heap [] := va_S.rf
  obtain ⟨hx, hb, -, hown, hts⟩ := id E
  have hl : lv_has ls 3 [(0, .ref h), (1, .int x1), (2, .int x2)] := hl
  unfold fm_asks at hf
  refine lv_aload_n hx hb dX2_asks_0 rfl (lv_at hl 0 rfl) ?_
  refine m_ga E hK hP 38 (by decide) rfl q1451 rfl dX2_asks_1 ?_
  refine lv_iconst (v := nI 0) hx hb dX2_asks_4 rfl ?_
  refine lv_iload_n hx hb dX2_asks_5 rfl (lv_at hl 1 rfl) ?_
  obtain ⟨μ1, hμ1, hf⟩ := ob hf
  refine m_ast E hK hP hS (by decide) rfl rfl hμ1 dX2_asks_6 (fun H locs hP hS => ?_)
  refine lv_aload_n hx hb dX2_asks_7 rfl (lv_at hl 0 rfl) ?_
  refine m_ga E hK hP 38 (by decide) rfl q1451 rfl dX2_asks_8 ?_
  refine lv_iconst (v := nI 1) hx hb dX2_asks_11 rfl ?_
  refine lv_iconst (v := nI 0) hx hb dX2_asks_12 rfl ?_
  obtain ⟨μ2, hμ2, hf⟩ := ob hf
  refine m_ast E hK hP hS (by decide) rfl rfl hμ2 dX2_asks_13 (fun H locs hP hS => ?_)
  refine lv_aload_n hx hb dX2_asks_14 rfl (lv_at hl 0 rfl) ?_
  refine m_ga E hK hP 38 (by decide) rfl q1451 rfl dX2_asks_15 ?_
  refine lv_iconst (v := nI 2) hx hb dX2_asks_18 rfl ?_
  refine lv_aload_n hx hb dX2_asks_19 rfl (lv_at hl 0 rfl) ?_
  refine lv_iload_n hx hb dX2_asks_20 rfl (lv_at hl 2 rfl) ?_
  refine lv_iload_n hx hb dX2_asks_21 rfl (lv_at hl 1 rfl) ?_
  obtain ⟨v4, hc3, hf⟩ := ob hf
  refine m_calli E hK hP hS (As := [.int x2, .int x1]) (tm_skyAt l D dT h x2 x1 μ2 _ hc3) (lw_V q1793 q1795 qs106 q166 q1796) dm_skyAt rfl (by decide) (by decide) hl rfl (Nat.le_of_ble_eq_true rfl) dX2_asks_22 (fun H locs hP hS => ?_)
  obtain ⟨μ5, hμ5, hf⟩ := ob hf
  refine m_ast E hK hP hS (by decide) rfl rfl hμ5 dX2_asks_25 (fun H locs hP hS => ?_)
  refine lv_aload_n hx hb dX2_asks_26 rfl (lv_at hl 0 rfl) ?_
  refine m_ga E hK hP 38 (by decide) rfl q1451 rfl dX2_asks_27 ?_
  refine lv_iconst (v := nI 3) hx hb dX2_asks_30 rfl ?_
  refine lv_aload_n hx hb dX2_asks_31 rfl (lv_at hl 0 rfl) ?_
  refine lv_iload_n hx hb dX2_asks_32 rfl (lv_at hl 2 rfl) ?_
  obtain ⟨v7, hc6, hf⟩ := ob hf
  refine m_calli E hK hP hS (As := [.int x2]) (tm_allAt l D dT h x2 μ5 _ hc6) (lw_V q1809 q1811 qs110 q166 q1812) dm_allAt rfl (by decide) (by decide) hl rfl (Nat.le_of_ble_eq_true rfl) dX2_asks_33 (fun H locs hP hS => ?_)
  obtain ⟨μ8, hμ8, hf⟩ := ob hf
  refine m_ast E hK hP hS (by decide) rfl rfl hμ8 dX2_asks_36 (fun H locs hP hS => ?_)
  refine lv_aload_n hx hb dX2_asks_37 rfl (lv_at hl 0 rfl) ?_
  refine m_ga E hK hP 38 (by decide) rfl q1451 rfl dX2_asks_38 ?_
  refine lv_iconst (v := nI 4) hx hb dX2_asks_41 rfl ?_
  refine lv_aload_n hx hb dX2_asks_42 rfl (lv_at hl 0 rfl) ?_
  refine m_ga E hK hP 1 (by decide) rfl q1414 rfl dX2_asks_43 ?_
  refine lv_iconst (v := nI 0) hx hb dX2_asks_46 rfl ?_
  obtain ⟨v9, hv9, hf⟩ := ob hf
  refine m_ald E hK hP (by decide) rfl rfl hv9 dX2_asks_47 ?_
  obtain ⟨μ10, hμ10, hf⟩ := ob hf
  refine m_ast E hK hP hS (by decide) rfl rfl hμ10 dX2_asks_48 (fun H locs hP hS => ?_)
  refine lv_aload_n hx hb dX2_asks_49 rfl (lv_at hl 0 rfl) ?_
  refine m_ga E hK hP 38 (by decide) rfl q1451 rfl dX2_asks_50 ?_
  refine lv_iconst (v := nI 5) hx hb dX2_asks_53 rfl ?_
  refine lv_iconst (v := nI 0) hx hb dX2_asks_54 rfl ?_
  obtain ⟨μ11, hμ11, hf⟩ := ob hf
  refine m_ast E hK hP hS (by decide) rfl rfl hμ11 dX2_asks_55 (fun H locs hP hS => ?_)
  refine lv_aload_n hx hb dX2_asks_56 rfl (lv_at hl 0 rfl) ?_
  refine m_ga E hK hP 38 (by decide) rfl q1451 rfl dX2_asks_57 ?_
  refine lv_bipush (v := nI 6) hx hb dX2_asks_60 rfl ?_
  refine lv_iconst (v := nI 0) hx hb dX2_asks_62 rfl ?_
  obtain ⟨μ12, hμ12, hf⟩ := ob hf
  refine m_ast E hK hP hS (by decide) rfl rfl hμ12 dX2_asks_63 (fun H locs hP hS => ?_)
  refine lv_aload_n hx hb dX2_asks_64 rfl (lv_at hl 0 rfl) ?_
  refine m_ga E hK hP 38 (by decide) rfl q1451 rfl dX2_asks_65 ?_
  refine lv_bipush (v := nI 7) hx hb dX2_asks_68 rfl ?_
  refine lv_aload_n hx hb dX2_asks_70 rfl (lv_at hl 0 rfl) ?_
  refine m_ga E hK hP 1 (by decide) rfl q1414 rfl dX2_asks_71 ?_
  refine lv_iconst (v := nI 3) hx hb dX2_asks_74 rfl ?_
  obtain ⟨v13, hv13, hf⟩ := ob hf
  refine m_ald E hK hP (by decide) rfl rfl hv13 dX2_asks_75 ?_
  obtain ⟨μ14, hμ14, hf⟩ := ob hf
  refine m_ast E hK hP hS (by decide) rfl rfl hμ14 dX2_asks_76 (fun H locs hP hS => ?_)
  refine lv_aload_n hx hb dX2_asks_77 rfl (lv_at hl 0 rfl) ?_
  refine m_ga E hK hP 38 (by decide) rfl q1451 rfl dX2_asks_78 ?_
  refine lv_bipush (v := nI 8) hx hb dX2_asks_81 rfl ?_
  refine lv_aload_n hx hb dX2_asks_83 rfl (lv_at hl 0 rfl) ?_
  refine lv_aload_n hx hb dX2_asks_84 rfl (lv_at hl 0 rfl) ?_
  refine lv_iload_n hx hb dX2_asks_85 rfl (lv_at hl 2 rfl) ?_
  refine lv_iconst (v := nI 0) hx hb dX2_asks_86 rfl ?_
  obtain ⟨v16, hc15, hf⟩ := ob hf
  refine m_calli E hK hP hS (As := [.int x2, .int (nI 0)]) (tm_thereAt l D dT h x2 (nI 0) μ14 _ hc15) (lw_V q1813 q1815 qs111 q166 q1816) dm_thereAt rfl (by decide) (by decide) hl rfl (Nat.le_of_ble_eq_true rfl) dX2_asks_87 (fun H locs hP hS => ?_)
  obtain ⟨v18, hc17, hf⟩ := ob hf
  refine m_calli E hK hP hS (As := [.int v16]) (tm_onesOf l D dT h v16 μ14 _ hc17) (lw_V q1817 q1819 qs112 q166 q1820) dm_onesOf rfl (by decide) (by decide) hl rfl (Nat.le_of_ble_eq_true rfl) dX2_asks_90 (fun H locs hP hS => ?_)
  obtain ⟨μ19, hμ19, hf⟩ := ob hf
  refine m_ast E hK hP hS (by decide) rfl rfl hμ19 dX2_asks_93 (fun H locs hP hS => ?_)
  cases hf
  exact m_vret E hr hlk hP hS dX2_asks_94
set_option maxHeartbeats 4000000 in
noncomputable def fm_asksOf (x1 : Int32) (x2 : Int32) (μ : nwM) : Option (nwM) := (rd_ μ 1 105 ((nI 45) + x1)).bind fun v1 => (fm_asks v1 x2 μ).bind fun μ3 => (rd_ μ3 1 105 ((nI 57) + x1)).bind fun v4 => (wr_ μ3 38 9 (nI 1) v4).bind fun μ5 => (rd_ μ5 1 105 ((nI 81) + x1)).bind fun v6 => (wr_ μ5 38 9 (nI 5) v6).bind fun μ7 => (rd_ μ7 1 105 ((nI 93) + x1)).bind fun v8 => (wr_ μ7 38 9 (nI 6) v8).bind fun μ9 => some μ9
set_option maxHeartbeats 4000000 in
theorem dm_asksOf : yX2_asksOf.cls = RX2 ∧ yX2_asksOf.cls ≠ "java/lang/invoke/MethodHandle" ∧ yX2_asksOf.cls ≠ "java/lang/invoke/VarHandle" ∧ (parseMethodDescriptor yX2_asksOf.desc).map (fun d => d.parameters.length) = some 2 := ⟨rfl, by decide +kernel, by decide +kernel, by decide +kernel⟩
set_option maxHeartbeats 4000000 in
theorem tm_asksOf (l : Launch) (D : va_G) (dT : Nat → ClassId) (h : Nat) (x1 : Int32) (x2 : Int32) (μ : nwM) (res : nwM) (hf : fm_asksOf x1 x2 μ = some res) : Met l yX2_asksOf (ws_ yX2_asksOf cX2_asksOf 3 none) (rmd 3) (mPc D dT h μ [.int x1, .int x2]) (mQv D dT h res) 0 0 (mA h) := by
  refine m_met (by decide) rfl (Nat.le_of_ble_eq_true rfl) ?_
  intro p e s m below meth c ls E hK hr hlk hl hP
  have hS : va_S (mA h) s.heap s.heap [] := va_S.rf
  obtain ⟨hx, hb, -, hown, hts⟩ := id E
  have hl : lv_has ls 3 [(0, .ref h), (1, .int x1), (2, .int x2)] := hl
  unfold fm_asksOf at hf
  refine lv_aload_n hx hb dX2_asksOf_0 rfl (lv_at hl 0 rfl) ?_
  refine lv_aload_n hx hb dX2_asksOf_1 rfl (lv_at hl 0 rfl) ?_
  refine m_ga E hK hP 1 (by decide) rfl q1414 rfl dX2_asksOf_2 ?_
  refine lv_bipush (v := nI 45) hx hb dX2_asksOf_5 rfl ?_
  refine lv_iload_n hx hb dX2_asksOf_7 rfl (lv_at hl 1 rfl) ?_
  refine lv_iadd hx hb dX2_asksOf_8 ?_
  obtain ⟨v1, hv1, hf⟩ := ob hf
  refine m_ald E hK hP (by decide) rfl rfl hv1 dX2_asksOf_9 ?_
  refine lv_iload_n hx hb dX2_asksOf_10 rfl (lv_at hl 2 rfl) ?_
  obtain ⟨μ3, hc2, hf⟩ := ob hf
  refine m_callv E hK hP hS (As := [.int v1, .int x2]) (tm_asks l D dT h v1 x2 μ _ hc2) (lw_V q1805 q1807 qs109 q166 q1808) dm_asks rfl (by decide) (by decide) hl rfl (Nat.le_of_ble_eq_true rfl) dX2_asksOf_11 (fun H locs hP hS => ?_)
  refine lv_aload_n hx hb dX2_asksOf_14 rfl (lv_at hl 0 rfl) ?_
  refine m_ga E hK hP 38 (by decide) rfl q1451 rfl dX2_asksOf_15 ?_
  refine lv_iconst (v := nI 1) hx hb dX2_asksOf_18 rfl ?_
  refine lv_aload_n hx hb dX2_asksOf_19 rfl (lv_at hl 0 rfl) ?_
  refine m_ga E hK hP 1 (by decide) rfl q1414 rfl dX2_asksOf_20 ?_
  refine lv_bipush (v := nI 57) hx hb dX2_asksOf_23 rfl ?_
  refine lv_iload_n hx hb dX2_asksOf_25 rfl (lv_at hl 1 rfl) ?_
  refine lv_iadd hx hb dX2_asksOf_26 ?_
  obtain ⟨v4, hv4, hf⟩ := ob hf
  refine m_ald E hK hP (by decide) rfl rfl hv4 dX2_asksOf_27 ?_
  obtain ⟨μ5, hμ5, hf⟩ := ob hf
  refine m_ast E hK hP hS (by decide) rfl rfl hμ5 dX2_asksOf_28 (fun H locs hP hS => ?_)
  refine lv_aload_n hx hb dX2_asksOf_29 rfl (lv_at hl 0 rfl) ?_
  refine m_ga E hK hP 38 (by decide) rfl q1451 rfl dX2_asksOf_30 ?_
  refine lv_iconst (v := nI 5) hx hb dX2_asksOf_33 rfl ?_
  refine lv_aload_n hx hb dX2_asksOf_34 rfl (lv_at hl 0 rfl) ?_
  refine m_ga E hK hP 1 (by decide) rfl q1414 rfl dX2_asksOf_35 ?_
  refine lv_bipush (v := nI 81) hx hb dX2_asksOf_38 rfl ?_
  refine lv_iload_n hx hb dX2_asksOf_40 rfl (lv_at hl 1 rfl) ?_
  refine lv_iadd hx hb dX2_asksOf_41 ?_
  obtain ⟨v6, hv6, hf⟩ := ob hf
  refine m_ald E hK hP (by decide) rfl rfl hv6 dX2_asksOf_42 ?_
  obtain ⟨μ7, hμ7, hf⟩ := ob hf
  refine m_ast E hK hP hS (by decide) rfl rfl hμ7 dX2_asksOf_43 (fun H locs hP hS => ?_)
  refine lv_aload_n hx hb dX2_asksOf_44 rfl (lv_at hl 0 rfl) ?_
  refine m_ga E hK hP 38 (by decide) rfl q1451 rfl dX2_asksOf_45 ?_
  refine lv_bipush (v := nI 6) hx hb dX2_asksOf_48 rfl ?_
  refine lv_aload_n hx hb dX2_asksOf_50 rfl (lv_at hl 0 rfl) ?_
  refine m_ga E hK hP 1 (by decide) rfl q1414 rfl dX2_asksOf_51 ?_
  refine lv_bipush (v := nI 93) hx hb dX2_asksOf_54 rfl ?_
  refine lv_iload_n hx hb dX2_asksOf_56 rfl (lv_at hl 1 rfl) ?_
  refine lv_iadd hx hb dX2_asksOf_57 ?_
  obtain ⟨v8, hv8, hf⟩ := ob hf
  refine m_ald E hK hP (by decide) rfl rfl hv8 dX2_asksOf_58 ?_
  obtain ⟨μ9, hμ9, hf⟩ := ob hf
  refine m_ast E hK hP hS (by decide) rfl rfl hμ9 dX2_asksOf_59 (fun H locs hP hS => ?_)
  cases hf
  exact m_vret E hr hlk hP hS dX2_asksOf_60
set_option maxHeartbeats 4000000 in
noncomputable def fm_lawTells (x1 : Int32) (x2 : Int32) (x3 : Int32) (μ : nwM) : Option (Int32 × nwM) := bd2 (fm_lineOf x1 μ) fun v2 μ3 => (if v2 = (-1) then (fm_held x2 (nI 0) x3 μ3).bind fun v13 => some (v13, μ3) else (rd_ μ3 18 48 v2).bind fun v5 => (rd_ μ3 19 48 v2).bind fun v6 => bd2 (fm_runs (nI 0) v5 v6 μ3) fun v8 μ9 => (fm_held v8 (nI 0) x3 μ9).bind fun v11 => some (v11, μ9))
set_option maxHeartbeats 4000000 in
theorem dm_lawTells : yX2_lawTells.cls = RX2 ∧ yX2_lawTells.cls ≠ "java/lang/invoke/MethodHandle" ∧ yX2_lawTells.cls ≠ "java/lang/invoke/VarHandle" ∧ (parseMethodDescriptor yX2_lawTells.desc).map (fun d => d.parameters.length) = some 3 := ⟨rfl, by decide +kernel, by decide +kernel, by decide +kernel⟩
set_option maxHeartbeats 4000000 in
theorem tm_lawTells (l : Launch) (D : va_G) (dT : Nat → ClassId) (h : Nat) (x1 : Int32) (x2 : Int32) (x3 : Int32) (μ : nwM) (res : Int32 × nwM) (hf : fm_lawTells x1 x2 x3 μ = some res) : Met l yX2_lawTells (ws_ yX2_lawTells cX2_lawTells 5 (some .int)) (rmd 3) (mPc D dT h μ [.int x1, .int x2, .int x3]) (mQi D dT h res.2 res.1) 0 0 (mA h) := by
  refine m_met (by decide) rfl (Nat.le_of_ble_eq_true rfl) ?_
  intro p e s m below meth c ls E hK hr hlk hl hP
  have hS : va_S (mA h) s.heap s.heap [] := va_S.rf
  obtain ⟨hx, hb, -, hown, hts⟩ := id E
  have hl : lv_has ls 5 [(0, .ref h), (1, .int x1), (2, .int x2), (3, .int x3)] := hl
  unfold fm_lawTells at hf
  refine lv_aload_n hx hb dX2_lawTells_0 rfl (lv_at hl 0 rfl) ?_
  refine lv_iload_n hx hb dX2_lawTells_1 rfl (lv_at hl 1 rfl) ?_
  obtain ⟨v2, μ3, hc1, hf⟩ := ob2 hf
  refine m_calli E hK hP hS (As := [.int x1]) (tm_lineOf l D dT h x1 μ _ hc1) (lw_V q1825 q1827 qs114 q166 q1828) dm_lineOf rfl (by decide) (by decide) hl rfl (Nat.le_of_ble_eq_true rfl) dX2_lawTells_2 (fun H locs hP hS => ?_)
  refine lv_istore (lv' := [(4, .int v2), (0, .ref h), (1, .int x1), (2, .int x2), (3, .int x3)]) hx hb dX2_lawTells_5 hl (by decide) rfl (fun ls hl => ?_)
  refine lv_aload_n hx hb dX2_lawTells_7 rfl (lv_at hl 1 rfl) ?_
  refine lv_iload hx hb dX2_lawTells_8 (lv_at hl 0 rfl) ?_
  refine lv_iconst (v := (-1)) hx hb dX2_lawTells_10 rfl ?_
  refine lv_icmp_ne (tgt := 18) hx hb dX2_lawTells_11 (by decide) (fun kc4 => ?_) (fun kc4 => ?_)
  · have hf := ite_f kc4 hf
    refine lv_aload_n hx hb dX2_lawTells_18 rfl (lv_at hl 1 rfl) ?_
    refine lv_iconst (v := nI 0) hx hb dX2_lawTells_19 rfl ?_
    refine lv_aload_n hx hb dX2_lawTells_20 rfl (lv_at hl 1 rfl) ?_
    refine m_ga E hK hP 18 (by decide) rfl q1431 rfl dX2_lawTells_21 ?_
    refine lv_iload hx hb dX2_lawTells_24 (lv_at hl 0 rfl) ?_
    obtain ⟨v5, hv5, hf⟩ := ob hf
    refine m_ald E hK hP (by decide) rfl rfl hv5 dX2_lawTells_26 ?_
    refine lv_aload_n hx hb dX2_lawTells_27 rfl (lv_at hl 1 rfl) ?_
    refine m_ga E hK hP 19 (by decide) rfl q1432 rfl dX2_lawTells_28 ?_
    refine lv_iload hx hb dX2_lawTells_31 (lv_at hl 0 rfl) ?_
    obtain ⟨v6, hv6, hf⟩ := ob hf
    refine m_ald E hK hP (by decide) rfl rfl hv6 dX2_lawTells_33 ?_
    obtain ⟨v8, μ9, hc7, hf⟩ := ob2 hf
    refine m_calli E hK hP hS (As := [.int (nI 0), .int v5, .int v6]) (tm_runs l D dT h (nI 0) v5 v6 μ3 _ hc7) (lw_V q1829 q1831 qs115 q166 q1832) dm_runs rfl (by decide) (by decide) hl rfl (Nat.le_of_ble_eq_true rfl) dX2_lawTells_34 (fun H locs hP hS => ?_)
    refine lv_iconst (v := nI 0) hx hb dX2_lawTells_37 rfl ?_
    refine lv_iload_n hx hb dX2_lawTells_38 rfl (lv_at hl 4 rfl) ?_
    obtain ⟨v11, hc10, hf⟩ := ob hf
    refine m_calli E hK hP hS (As := [.int v8, .int (nI 0), .int x3]) (tm_held l D dT h v8 (nI 0) x3 μ9 _ hc10) (lw_V q1593 q1595 qs63 q166 q1596) dm_held rfl (by decide) (by decide) hl rfl (Nat.le_of_ble_eq_true rfl) dX2_lawTells_39 (fun H locs hP hS => ?_)
    cases hf
    exact m_iret E hr hlk hP hS rfl dX2_lawTells_42
  · have hf := ite_t kc4 hf
    refine lv_iload_n hx hb dX2_lawTells_14 rfl (lv_at hl 3 rfl) ?_
    refine lv_goto (tgt := 37) hx hb dX2_lawTells_15 (by decide) ?_
    refine lv_iconst (v := nI 0) hx hb dX2_lawTells_37 rfl ?_
    refine lv_iload_n hx hb dX2_lawTells_38 rfl (lv_at hl 4 rfl) ?_
    obtain ⟨v13, hc12, hf⟩ := ob hf
    refine m_calli E hK hP hS (As := [.int x2, .int (nI 0), .int x3]) (tm_held l D dT h x2 (nI 0) x3 μ3 _ hc12) (lw_V q1593 q1595 qs63 q166 q1596) dm_held rfl (by decide) (by decide) hl rfl (Nat.le_of_ble_eq_true rfl) dX2_lawTells_39 (fun H locs hP hS => ?_)
    cases hf
    exact m_iret E hr hlk hP hS rfl dX2_lawTells_42
set_option maxHeartbeats 4000000 in
noncomputable def fm_addOf (x1 : Int32) (x2 : Int32) (μ : nwM) : Option (Int32 × nwM) := (fm_asksOf x1 x2 μ).bind fun μ2 => (rd_ μ2 38 9 (nI 1)).bind fun v3 => bd2 (fm_lawTells (nI 5) ((nI 3) * v3) (nI 99) μ2) fun v5 μ6 => some (v5, μ6)
set_option maxHeartbeats 4000000 in
theorem dm_addOf : yX2_addOf.cls = RX2 ∧ yX2_addOf.cls ≠ "java/lang/invoke/MethodHandle" ∧ yX2_addOf.cls ≠ "java/lang/invoke/VarHandle" ∧ (parseMethodDescriptor yX2_addOf.desc).map (fun d => d.parameters.length) = some 2 := ⟨rfl, by decide +kernel, by decide +kernel, by decide +kernel⟩
set_option maxHeartbeats 4000000 in
theorem tm_addOf (l : Launch) (D : va_G) (dT : Nat → ClassId) (h : Nat) (x1 : Int32) (x2 : Int32) (μ : nwM) (res : Int32 × nwM) (hf : fm_addOf x1 x2 μ = some res) : Met l yX2_addOf (ws_ yX2_addOf cX2_addOf 3 (some .int)) (rmd 4) (mPc D dT h μ [.int x1, .int x2]) (mQi D dT h res.2 res.1) 0 0 (mA h) := by
  refine m_met (by decide) rfl (Nat.le_of_ble_eq_true rfl) ?_
  intro p e s m below meth c ls E hK hr hlk hl hP
  have hS : va_S (mA h) s.heap s.heap [] := va_S.rf
  obtain ⟨hx, hb, -, hown, hts⟩ := id E
  have hl : lv_has ls 3 [(0, .ref h), (1, .int x1), (2, .int x2)] := hl
  unfold fm_addOf at hf
  refine lv_aload_n hx hb dX2_addOf_0 rfl (lv_at hl 0 rfl) ?_
  refine lv_iload_n hx hb dX2_addOf_1 rfl (lv_at hl 1 rfl) ?_
  refine lv_iload_n hx hb dX2_addOf_2 rfl (lv_at hl 2 rfl) ?_
  obtain ⟨μ2, hc1, hf⟩ := ob hf
  refine m_callv E hK hP hS (As := [.int x1, .int x2]) (tm_asksOf l D dT h x1 x2 μ _ hc1) (lw_V q1801 q1803 qs108 q166 q1804) dm_asksOf rfl (by decide) (by decide) hl rfl (Nat.le_of_ble_eq_true rfl) dX2_addOf_3 (fun H locs hP hS => ?_)
  refine lv_aload_n hx hb dX2_addOf_6 rfl (lv_at hl 0 rfl) ?_
  refine lv_iconst (v := nI 5) hx hb dX2_addOf_7 rfl ?_
  refine lv_iconst (v := nI 3) hx hb dX2_addOf_8 rfl ?_
  refine lv_aload_n hx hb dX2_addOf_9 rfl (lv_at hl 0 rfl) ?_
  refine m_ga E hK hP 38 (by decide) rfl q1451 rfl dX2_addOf_10 ?_
  refine lv_iconst (v := nI 1) hx hb dX2_addOf_13 rfl ?_
  obtain ⟨v3, hv3, hf⟩ := ob hf
  refine m_ald E hK hP (by decide) rfl rfl hv3 dX2_addOf_14 ?_
  refine lv_imul hx hb dX2_addOf_15 ?_
  refine lv_bipush (v := nI 99) hx hb dX2_addOf_16 rfl ?_
  obtain ⟨v5, μ6, hc4, hf⟩ := ob2 hf
  refine m_calli E hK hP hS (As := [.int (nI 5), .int ((nI 3) * v3), .int (nI 99)]) (tm_lawTells l D dT h (nI 5) ((nI 3) * v3) (nI 99) μ2 _ hc4) (lw_V q1821 q1823 qs113 q166 q1824) dm_lawTells rfl (by decide) (by decide) hl rfl (Nat.le_of_ble_eq_true rfl) dX2_addOf_18 (fun H locs hP hS => ?_)
  cases hf
  exact m_iret E hr hlk hP hS rfl dX2_addOf_21
set_option maxHeartbeats 4000000 in
noncomputable def fm_costOf (x1 : Int32) (μ : nwM) : Option (Int32 × nwM) := (rd_ μ 1 105 ((nI 69) + x1)).bind fun v1 => (fm_asksOf x1 v1 μ).bind fun μ3 => (rd_ μ3 38 9 (nI 1)).bind fun v4 => bd2 (fm_lawTells (nI 7) v4 (nI 999) μ3) fun v6 μ7 => some (v6, μ7)
set_option maxHeartbeats 4000000 in
theorem dm_costOf : yX2_costOf.cls = RX2 ∧ yX2_costOf.cls ≠ "java/lang/invoke/MethodHandle" ∧ yX2_costOf.cls ≠ "java/lang/invoke/VarHandle" ∧ (parseMethodDescriptor yX2_costOf.desc).map (fun d => d.parameters.length) = some 1 := ⟨rfl, by decide +kernel, by decide +kernel, by decide +kernel⟩
set_option maxHeartbeats 4000000 in
theorem tm_costOf (l : Launch) (D : va_G) (dT : Nat → ClassId) (h : Nat) (x1 : Int32) (μ : nwM) (res : Int32 × nwM) (hf : fm_costOf x1 μ = some res) : Met l yX2_costOf (ws_ yX2_costOf cX2_costOf 2 (some .int)) (rmd 4) (mPc D dT h μ [.int x1]) (mQi D dT h res.2 res.1) 0 0 (mA h) := by
  refine m_met (by decide) rfl (Nat.le_of_ble_eq_true rfl) ?_
  intro p e s m below meth c ls E hK hr hlk hl hP
  have hS : va_S (mA h) s.heap s.heap [] := va_S.rf
  obtain ⟨hx, hb, -, hown, hts⟩ := id E
  have hl : lv_has ls 2 [(0, .ref h), (1, .int x1)] := hl
  unfold fm_costOf at hf
  refine lv_aload_n hx hb dX2_costOf_0 rfl (lv_at hl 0 rfl) ?_
  refine lv_iload_n hx hb dX2_costOf_1 rfl (lv_at hl 1 rfl) ?_
  refine lv_aload_n hx hb dX2_costOf_2 rfl (lv_at hl 0 rfl) ?_
  refine m_ga E hK hP 1 (by decide) rfl q1414 rfl dX2_costOf_3 ?_
  refine lv_bipush (v := nI 69) hx hb dX2_costOf_6 rfl ?_
  refine lv_iload_n hx hb dX2_costOf_8 rfl (lv_at hl 1 rfl) ?_
  refine lv_iadd hx hb dX2_costOf_9 ?_
  obtain ⟨v1, hv1, hf⟩ := ob hf
  refine m_ald E hK hP (by decide) rfl rfl hv1 dX2_costOf_10 ?_
  obtain ⟨μ3, hc2, hf⟩ := ob hf
  refine m_callv E hK hP hS (As := [.int x1, .int v1]) (tm_asksOf l D dT h x1 v1 μ _ hc2) (lw_V q1801 q1803 qs108 q166 q1804) dm_asksOf rfl (by decide) (by decide) hl rfl (Nat.le_of_ble_eq_true rfl) dX2_costOf_11 (fun H locs hP hS => ?_)
  refine lv_aload_n hx hb dX2_costOf_14 rfl (lv_at hl 0 rfl) ?_
  refine lv_bipush (v := nI 7) hx hb dX2_costOf_15 rfl ?_
  refine lv_aload_n hx hb dX2_costOf_17 rfl (lv_at hl 0 rfl) ?_
  refine m_ga E hK hP 38 (by decide) rfl q1451 rfl dX2_costOf_18 ?_
  refine lv_iconst (v := nI 1) hx hb dX2_costOf_21 rfl ?_
  obtain ⟨v4, hv4, hf⟩ := ob hf
  refine m_ald E hK hP (by decide) rfl rfl hv4 dX2_costOf_22 ?_
  refine lv_sipush (v := nI 999) hx hb dX2_costOf_23 rfl ?_
  obtain ⟨v6, μ7, hc5, hf⟩ := ob2 hf
  refine m_calli E hK hP hS (As := [.int (nI 7), .int v4, .int (nI 999)]) (tm_lawTells l D dT h (nI 7) v4 (nI 999) μ3 _ hc5) (lw_V q1821 q1823 qs113 q166 q1824) dm_lawTells rfl (by decide) (by decide) hl rfl (Nat.le_of_ble_eq_true rfl) dX2_costOf_26 (fun H locs hP hS => ?_)
  cases hf
  exact m_iret E hr hlk hP hS rfl dX2_costOf_29
set_option maxHeartbeats 4000000 in
noncomputable def fm_fadeOf (x1 : Int32) (x2 : Int32) (μ : nwM) : Option (Int32 × nwM) := (fm_asks x2 x1 μ).bind fun μ2 => bd2 (fm_lawTells (nI 6) (nI 1) (nI 99) μ2) fun v4 μ5 => some (v4, μ5)
set_option maxHeartbeats 4000000 in
theorem dm_fadeOf : yX2_fadeOf.cls = RX2 ∧ yX2_fadeOf.cls ≠ "java/lang/invoke/MethodHandle" ∧ yX2_fadeOf.cls ≠ "java/lang/invoke/VarHandle" ∧ (parseMethodDescriptor yX2_fadeOf.desc).map (fun d => d.parameters.length) = some 2 := ⟨rfl, by decide +kernel, by decide +kernel, by decide +kernel⟩
set_option maxHeartbeats 4000000 in
theorem tm_fadeOf (l : Launch) (D : va_G) (dT : Nat → ClassId) (h : Nat) (x1 : Int32) (x2 : Int32) (μ : nwM) (res : Int32 × nwM) (hf : fm_fadeOf x1 x2 μ = some res) : Met l yX2_fadeOf (ws_ yX2_fadeOf cX2_fadeOf 3 (some .int)) (rmd 4) (mPc D dT h μ [.int x1, .int x2]) (mQi D dT h res.2 res.1) 0 0 (mA h) := by
  refine m_met (by decide) rfl (Nat.le_of_ble_eq_true rfl) ?_
  intro p e s m below meth c ls E hK hr hlk hl hP
  have hS : va_S (mA h) s.heap s.heap [] := va_S.rf
  obtain ⟨hx, hb, -, hown, hts⟩ := id E
  have hl : lv_has ls 3 [(0, .ref h), (1, .int x1), (2, .int x2)] := hl
  unfold fm_fadeOf at hf
  refine lv_aload_n hx hb dX2_fadeOf_0 rfl (lv_at hl 0 rfl) ?_
  refine lv_iload_n hx hb dX2_fadeOf_1 rfl (lv_at hl 2 rfl) ?_
  refine lv_iload_n hx hb dX2_fadeOf_2 rfl (lv_at hl 1 rfl) ?_
  obtain ⟨μ2, hc1, hf⟩ := ob hf
  refine m_callv E hK hP hS (As := [.int x2, .int x1]) (tm_asks l D dT h x2 x1 μ _ hc1) (lw_V q1805 q1807 qs109 q166 q1808) dm_asks rfl (by decide) (by decide) hl rfl (Nat.le_of_ble_eq_true rfl) dX2_fadeOf_3 (fun H locs hP hS => ?_)
  refine lv_aload_n hx hb dX2_fadeOf_6 rfl (lv_at hl 0 rfl) ?_
  refine lv_bipush (v := nI 6) hx hb dX2_fadeOf_7 rfl ?_
  refine lv_iconst (v := nI 1) hx hb dX2_fadeOf_9 rfl ?_
  refine lv_bipush (v := nI 99) hx hb dX2_fadeOf_10 rfl ?_
  obtain ⟨v4, μ5, hc3, hf⟩ := ob2 hf
  refine m_calli E hK hP hS (As := [.int (nI 6), .int (nI 1), .int (nI 99)]) (tm_lawTells l D dT h (nI 6) (nI 1) (nI 99) μ2 _ hc3) (lw_V q1821 q1823 qs113 q166 q1824) dm_lawTells rfl (by decide) (by decide) hl rfl (Nat.le_of_ble_eq_true rfl) dX2_fadeOf_12 (fun H locs hP hS => ?_)
  cases hf
  exact m_iret E hr hlk hP hS rfl dX2_fadeOf_15
set_option maxHeartbeats 4000000 in
def fm_notes (x1 : Int32) (x2 : Int32) (x3 : Int32) (x4 : Int32) (μ : nwM) : Option (nwM) := (if (μ 5 0) = 0 then (rd_ μ 1 105 (nI 2)).bind fun v2 => (if v2 = (nI 150) then some μ else (rd_ μ 1 105 (nI 2)).bind fun v4 => (rd_ μ 1 105 (nI 0)).bind fun v5 => (wr_ μ 8 750 ((nI 5) * v4) v5).bind fun μ6 => (wr_ μ6 8 750 (((nI 5) * v4) + (nI 1)) x1).bind fun μ7 => (wr_ μ7 8 750 (((nI 5) * v4) + (nI 2)) x2).bind fun μ8 => (wr_ μ8 8 750 (((nI 5) * v4) + (nI 3)) x3).bind fun μ9 => (wr_ μ9 8 750 (((nI 5) * v4) + (nI 4)) x4).bind fun μ10 => (rd_ μ10 1 105 (nI 2)).bind fun v11 => (wr_ μ10 1 105 (nI 2) (v11 + (nI 1))).bind fun μ12 => some μ12) else some μ)
set_option maxHeartbeats 4000000 in
theorem dm_notes : yX2_notes.cls = RX2 ∧ yX2_notes.cls ≠ "java/lang/invoke/MethodHandle" ∧ yX2_notes.cls ≠ "java/lang/invoke/VarHandle" ∧ (parseMethodDescriptor yX2_notes.desc).map (fun d => d.parameters.length) = some 4 := ⟨rfl, by decide +kernel, by decide +kernel, by decide +kernel⟩
set_option maxHeartbeats 4000000 in
theorem tm_notes (l : Launch) (D : va_G) (dT : Nat → ClassId) (h : Nat) (x1 : Int32) (x2 : Int32) (x3 : Int32) (x4 : Int32) (μ : nwM) (res : nwM) (hf : fm_notes x1 x2 x3 x4 μ = some res) : Met l yX2_notes (ws_ yX2_notes cX2_notes 6 none) (rmd 0) (mPc D dT h μ [.int x1, .int x2, .int x3, .int x4]) (mQv D dT h res) 0 0 (mA h) := by
  refine m_met (by decide) rfl (Nat.le_of_ble_eq_true rfl) ?_
  intro p e s m below meth c ls E hK hr hlk hl hP
  have hS : va_S (mA h) s.heap s.heap [] := va_S.rf
  obtain ⟨hx, hb, -, hown, hts⟩ := id E
  have hl : lv_has ls 6 [(0, .ref h), (1, .int x1), (2, .int x2), (3, .int x3), (4, .int x4)] := hl
  unfold fm_notes at hf
  refine lv_aload_n hx hb dX2_notes_0 rfl (lv_at hl 0 rfl) ?_
  refine m_get E hK hP 5 (by decide) rfl q1418 rfl dX2_notes_1 ?_
  refine lv_if_ne (tgt := 19) hx hb dX2_notes_4 (by decide) (fun kc1 => ?_) (fun kc1 => ?_)
  · have hf := ite_f kc1 hf
    cases hf
    exact m_vret E hr hlk hP hS dX2_notes_19
  · have hf := ite_t kc1 hf
    refine lv_aload_n hx hb dX2_notes_7 rfl (lv_at hl 0 rfl) ?_
    refine m_ga E hK hP 1 (by decide) rfl q1414 rfl dX2_notes_8 ?_
    refine lv_iconst (v := nI 2) hx hb dX2_notes_11 rfl ?_
    obtain ⟨v2, hv2, hf⟩ := ob hf
    refine m_ald E hK hP (by decide) rfl rfl hv2 dX2_notes_12 ?_
    refine lv_sipush (v := nI 150) hx hb dX2_notes_13 rfl ?_
    refine lv_icmp_ne (tgt := 20) hx hb dX2_notes_16 (by decide) (fun kc3 => ?_) (fun kc3 => ?_)
    · have hf := ite_f kc3 hf
      refine lv_iconst (v := nI 5) hx hb dX2_notes_20 rfl ?_
      refine lv_aload_n hx hb dX2_notes_21 rfl (lv_at hl 0 rfl) ?_
      refine m_ga E hK hP 1 (by decide) rfl q1414 rfl dX2_notes_22 ?_
      refine lv_iconst (v := nI 2) hx hb dX2_notes_25 rfl ?_
      obtain ⟨v4, hv4, hf⟩ := ob hf
      refine m_ald E hK hP (by decide) rfl rfl hv4 dX2_notes_26 ?_
      refine lv_imul hx hb dX2_notes_27 ?_
      refine lv_istore (lv' := [(5, .int ((nI 5) * v4)), (0, .ref h), (1, .int x1), (2, .int x2), (3, .int x3), (4, .int x4)]) hx hb dX2_notes_28 hl (by decide) rfl (fun ls hl => ?_)
      refine lv_aload_n hx hb dX2_notes_30 rfl (lv_at hl 1 rfl) ?_
      refine m_ga E hK hP 8 (by decide) rfl q1421 rfl dX2_notes_31 ?_
      refine lv_iload hx hb dX2_notes_34 (lv_at hl 0 rfl) ?_
      refine lv_aload_n hx hb dX2_notes_36 rfl (lv_at hl 1 rfl) ?_
      refine m_ga E hK hP 1 (by decide) rfl q1414 rfl dX2_notes_37 ?_
      refine lv_iconst (v := nI 0) hx hb dX2_notes_40 rfl ?_
      obtain ⟨v5, hv5, hf⟩ := ob hf
      refine m_ald E hK hP (by decide) rfl rfl hv5 dX2_notes_41 ?_
      obtain ⟨μ6, hμ6, hf⟩ := ob hf
      refine m_ast E hK hP hS (by decide) rfl rfl hμ6 dX2_notes_42 (fun H locs hP hS => ?_)
      refine lv_aload_n hx hb dX2_notes_43 rfl (lv_at hl 1 rfl) ?_
      refine m_ga E hK hP 8 (by decide) rfl q1421 rfl dX2_notes_44 ?_
      refine lv_iload hx hb dX2_notes_47 (lv_at hl 0 rfl) ?_
      refine lv_iconst (v := nI 1) hx hb dX2_notes_49 rfl ?_
      refine lv_iadd hx hb dX2_notes_50 ?_
      refine lv_iload_n hx hb dX2_notes_51 rfl (lv_at hl 2 rfl) ?_
      obtain ⟨μ7, hμ7, hf⟩ := ob hf
      refine m_ast E hK hP hS (by decide) rfl rfl hμ7 dX2_notes_52 (fun H locs hP hS => ?_)
      refine lv_aload_n hx hb dX2_notes_53 rfl (lv_at hl 1 rfl) ?_
      refine m_ga E hK hP 8 (by decide) rfl q1421 rfl dX2_notes_54 ?_
      refine lv_iload hx hb dX2_notes_57 (lv_at hl 0 rfl) ?_
      refine lv_iconst (v := nI 2) hx hb dX2_notes_59 rfl ?_
      refine lv_iadd hx hb dX2_notes_60 ?_
      refine lv_iload_n hx hb dX2_notes_61 rfl (lv_at hl 3 rfl) ?_
      obtain ⟨μ8, hμ8, hf⟩ := ob hf
      refine m_ast E hK hP hS (by decide) rfl rfl hμ8 dX2_notes_62 (fun H locs hP hS => ?_)
      refine lv_aload_n hx hb dX2_notes_63 rfl (lv_at hl 1 rfl) ?_
      refine m_ga E hK hP 8 (by decide) rfl q1421 rfl dX2_notes_64 ?_
      refine lv_iload hx hb dX2_notes_67 (lv_at hl 0 rfl) ?_
      refine lv_iconst (v := nI 3) hx hb dX2_notes_69 rfl ?_
      refine lv_iadd hx hb dX2_notes_70 ?_
      refine lv_iload_n hx hb dX2_notes_71 rfl (lv_at hl 4 rfl) ?_
      obtain ⟨μ9, hμ9, hf⟩ := ob hf
      refine m_ast E hK hP hS (by decide) rfl rfl hμ9 dX2_notes_72 (fun H locs hP hS => ?_)
      refine lv_aload_n hx hb dX2_notes_73 rfl (lv_at hl 1 rfl) ?_
      refine m_ga E hK hP 8 (by decide) rfl q1421 rfl dX2_notes_74 ?_
      refine lv_iload hx hb dX2_notes_77 (lv_at hl 0 rfl) ?_
      refine lv_iconst (v := nI 4) hx hb dX2_notes_79 rfl ?_
      refine lv_iadd hx hb dX2_notes_80 ?_
      refine lv_iload hx hb dX2_notes_81 (lv_at hl 5 rfl) ?_
      obtain ⟨μ10, hμ10, hf⟩ := ob hf
      refine m_ast E hK hP hS (by decide) rfl rfl hμ10 dX2_notes_83 (fun H locs hP hS => ?_)
      refine lv_aload_n hx hb dX2_notes_84 rfl (lv_at hl 1 rfl) ?_
      refine m_ga E hK hP 1 (by decide) rfl q1414 rfl dX2_notes_85 ?_
      refine lv_iconst (v := nI 2) hx hb dX2_notes_88 rfl ?_
      refine lv_aload_n hx hb dX2_notes_89 rfl (lv_at hl 1 rfl) ?_
      refine m_ga E hK hP 1 (by decide) rfl q1414 rfl dX2_notes_90 ?_
      refine lv_iconst (v := nI 2) hx hb dX2_notes_93 rfl ?_
      obtain ⟨v11, hv11, hf⟩ := ob hf
      refine m_ald E hK hP (by decide) rfl rfl hv11 dX2_notes_94 ?_
      refine lv_iconst (v := nI 1) hx hb dX2_notes_95 rfl ?_
      refine lv_iadd hx hb dX2_notes_96 ?_
      obtain ⟨μ12, hμ12, hf⟩ := ob hf
      refine m_ast E hK hP hS (by decide) rfl rfl hμ12 dX2_notes_97 (fun H locs hP hS => ?_)
      cases hf
      exact m_vret E hr hlk hP hS dX2_notes_98
    · have hf := ite_t kc3 hf
      cases hf
      exact m_vret E hr hlk hP hS dX2_notes_19
set_option maxHeartbeats 4000000 in
def fm_canCall (x1 : Int32) (x2 : Int32) (μ : nwM) : Option (Int32) := (fm_isOne x1 μ).bind fun v2 => (if v2 = 0 then some (nI 0) else (fm_isIsland x2 μ).bind fun v5 => (if v5 = 0 then some (nI 0) else (fm_isDead x1 μ).bind fun v8 => (if v8 = 0 then some (nI 1) else (rd_ μ 1 105 ((nI 69) + x1)).bind fun v10 => (if v10 = x2 then some (nI 1) else some (nI 0)))))
set_option maxHeartbeats 4000000 in
theorem dm_canCall : yX2_canCall.cls = RX2 ∧ yX2_canCall.cls ≠ "java/lang/invoke/MethodHandle" ∧ yX2_canCall.cls ≠ "java/lang/invoke/VarHandle" ∧ (parseMethodDescriptor yX2_canCall.desc).map (fun d => d.parameters.length) = some 2 := ⟨rfl, by decide +kernel, by decide +kernel, by decide +kernel⟩
set_option maxHeartbeats 4000000 in
theorem tm_canCall (l : Launch) (D : va_G) (dT : Nat → ClassId) (h : Nat) (x1 : Int32) (x2 : Int32) (μ : nwM) (res : Int32) (hf : fm_canCall x1 x2 μ = some res) : Met l yX2_canCall (ws_ yX2_canCall cX2_canCall 3 (some .boolean)) (rmd 1) (mPc D dT h μ [.int x1, .int x2]) (mQi D dT h μ res) 0 0 (mA h) := by
  refine m_met (by decide) rfl (Nat.le_of_ble_eq_true rfl) ?_
  intro p e s m below meth c ls E hK hr hlk hl hP
  have hS : va_S (mA h) s.heap s.heap [] := va_S.rf
  obtain ⟨hx, hb, -, hown, hts⟩ := id E
  have hl : lv_has ls 3 [(0, .ref h), (1, .int x1), (2, .int x2)] := hl
  unfold fm_canCall at hf
  refine lv_aload_n hx hb dX2_canCall_0 rfl (lv_at hl 0 rfl) ?_
  refine lv_iload_n hx hb dX2_canCall_1 rfl (lv_at hl 1 rfl) ?_
  obtain ⟨v2, hc1, hf⟩ := ob hf
  refine m_calli E hK hP hS (As := [.int x1]) (tm_isOne l D dT h x1 μ _ hc1) (lw_V q1777 q1779 qs102 q166 q1780) dm_isOne rfl (by decide) (by decide) hl rfl (Nat.le_of_ble_eq_true rfl) dX2_canCall_2 (fun H locs hP hS => ?_)
  refine lv_if_eq (tgt := 41) hx hb dX2_canCall_5 (by decide) (fun kc3 => ?_) (fun kc3 => ?_)
  · have hf := ite_t kc3 hf
    refine lv_iconst (v := nI 0) hx hb dX2_canCall_41 rfl ?_
    cases hf
    exact m_zret E hr hlk hP hS rfl dX2_canCall_42
  · have hf := ite_f kc3 hf
    refine lv_aload_n hx hb dX2_canCall_8 rfl (lv_at hl 0 rfl) ?_
    refine lv_iload_n hx hb dX2_canCall_9 rfl (lv_at hl 2 rfl) ?_
    obtain ⟨v5, hc4, hf⟩ := ob hf
    refine m_calli E hK hP hS (As := [.int x2]) (tm_isIsland l D dT h x2 μ _ hc4) (lw_V q1577 q1579 qs60 q166 q1580) dm_isIsland rfl (by decide) (by decide) hl rfl (Nat.le_of_ble_eq_true rfl) dX2_canCall_10 (fun H locs hP hS => ?_)
    refine lv_if_eq (tgt := 41) hx hb dX2_canCall_13 (by decide) (fun kc6 => ?_) (fun kc6 => ?_)
    · have hf := ite_t kc6 hf
      refine lv_iconst (v := nI 0) hx hb dX2_canCall_41 rfl ?_
      cases hf
      exact m_zret E hr hlk hP hS rfl dX2_canCall_42
    · have hf := ite_f kc6 hf
      refine lv_aload_n hx hb dX2_canCall_16 rfl (lv_at hl 0 rfl) ?_
      refine lv_iload_n hx hb dX2_canCall_17 rfl (lv_at hl 1 rfl) ?_
      obtain ⟨v8, hc7, hf⟩ := ob hf
      refine m_calli E hK hP hS (As := [.int x1]) (tm_isDead l D dT h x1 μ _ hc7) (lw_V q1781 q1783 qs103 q166 q1784) dm_isDead rfl (by decide) (by decide) hl rfl (Nat.le_of_ble_eq_true rfl) dX2_canCall_18 (fun H locs hP hS => ?_)
      refine lv_if_eq (tgt := 37) hx hb dX2_canCall_21 (by decide) (fun kc9 => ?_) (fun kc9 => ?_)
      · have hf := ite_t kc9 hf
        refine lv_iconst (v := nI 1) hx hb dX2_canCall_37 rfl ?_
        refine lv_goto (tgt := 42) hx hb dX2_canCall_38 (by decide) ?_
        cases hf
        exact m_zret E hr hlk hP hS rfl dX2_canCall_42
      · have hf := ite_f kc9 hf
        refine lv_aload_n hx hb dX2_canCall_24 rfl (lv_at hl 0 rfl) ?_
        refine m_ga E hK hP 1 (by decide) rfl q1414 rfl dX2_canCall_25 ?_
        refine lv_bipush (v := nI 69) hx hb dX2_canCall_28 rfl ?_
        refine lv_iload_n hx hb dX2_canCall_30 rfl (lv_at hl 1 rfl) ?_
        refine lv_iadd hx hb dX2_canCall_31 ?_
        obtain ⟨v10, hv10, hf⟩ := ob hf
        refine m_ald E hK hP (by decide) rfl rfl hv10 dX2_canCall_32 ?_
        refine lv_iload_n hx hb dX2_canCall_33 rfl (lv_at hl 2 rfl) ?_
        refine lv_icmp_ne (tgt := 41) hx hb dX2_canCall_34 (by decide) (fun kc11 => ?_) (fun kc11 => ?_)
        · have hf := ite_f kc11 hf
          refine lv_iconst (v := nI 0) hx hb dX2_canCall_41 rfl ?_
          cases hf
          exact m_zret E hr hlk hP hS rfl dX2_canCall_42
        · have hf := ite_t kc11 hf
          refine lv_iconst (v := nI 1) hx hb dX2_canCall_37 rfl ?_
          refine lv_goto (tgt := 42) hx hb dX2_canCall_38 (by decide) ?_
          cases hf
          exact m_zret E hr hlk hP hS rfl dX2_canCall_42
set_option maxHeartbeats 4000000 in
noncomputable def fm_calledAt (x1 : Int32) (x2 : Int32) (x3 : Int32) (μ : nwM) : Option (Int32 × nwM) := (rd_ μ 1 105 ((nI 45) + x1)).bind fun v1 => (fm_skyAt x2 v1 μ).bind fun v3 => bd2 (fm_addOf x1 x2 μ) fun v5 μ6 => (fm_skyBe x2 v1 (v3 + v5) μ6).bind fun μ8 => (rd_ μ8 1 105 ((nI 93) + x1)).bind fun v9 => (fm_held (v9 + (nI 1)) (nI 0) (nI 999) μ8).bind fun v11 => (wr_ μ8 1 105 ((nI 93) + x1) v11).bind fun μ12 => (rd_ μ12 1 105 (nI 3)).bind fun v13 => (fm_held (v13 + (nI 1)) (nI 0) (nI 999) μ12).bind fun v15 => (wr_ μ12 1 105 (nI 3) v15).bind fun μ16 => (fm_skyAt x2 v1 μ16).bind fun v18 => (fm_notes x3 x1 x2 (v18 - v3) μ16).bind fun μ20 => (fm_skyAt x2 v1 μ20).bind fun v22 => some (v22 - v3, μ20)
set_option maxHeartbeats 4000000 in
theorem dm_calledAt : yX2_calledAt.cls = RX2 ∧ yX2_calledAt.cls ≠ "java/lang/invoke/MethodHandle" ∧ yX2_calledAt.cls ≠ "java/lang/invoke/VarHandle" ∧ (parseMethodDescriptor yX2_calledAt.desc).map (fun d => d.parameters.length) = some 3 := ⟨rfl, by decide +kernel, by decide +kernel, by decide +kernel⟩
set_option maxHeartbeats 4000000 in
theorem tm_calledAt (l : Launch) (D : va_G) (dT : Nat → ClassId) (h : Nat) (x1 : Int32) (x2 : Int32) (x3 : Int32) (μ : nwM) (res : Int32 × nwM) (hf : fm_calledAt x1 x2 x3 μ = some res) : Met l yX2_calledAt (ws_ yX2_calledAt cX2_calledAt 6 (some .int)) (rmd 5) (mPc D dT h μ [.int x1, .int x2, .int x3]) (mQi D dT h res.2 res.1) 0 0 (mA h) := by
  refine m_met (by decide) rfl (Nat.le_of_ble_eq_true rfl) ?_
  intro p e s m below meth c ls E hK hr hlk hl hP
  have hS : va_S (mA h) s.heap s.heap [] := va_S.rf
  obtain ⟨hx, hb, -, hown, hts⟩ := id E
  have hl : lv_has ls 6 [(0, .ref h), (1, .int x1), (2, .int x2), (3, .int x3)] := hl
  unfold fm_calledAt at hf
  refine lv_aload_n hx hb dX2_calledAt_0 rfl (lv_at hl 0 rfl) ?_
  refine m_ga E hK hP 1 (by decide) rfl q1414 rfl dX2_calledAt_1 ?_
  refine lv_bipush (v := nI 45) hx hb dX2_calledAt_4 rfl ?_
  refine lv_iload_n hx hb dX2_calledAt_6 rfl (lv_at hl 1 rfl) ?_
  refine lv_iadd hx hb dX2_calledAt_7 ?_
  obtain ⟨v1, hv1, hf⟩ := ob hf
  refine m_ald E hK hP (by decide) rfl rfl hv1 dX2_calledAt_8 ?_
  refine lv_istore (lv' := [(4, .int v1), (0, .ref h), (1, .int x1), (2, .int x2), (3, .int x3)]) hx hb dX2_calledAt_9 hl (by decide) rfl (fun ls hl => ?_)
  refine lv_aload_n hx hb dX2_calledAt_11 rfl (lv_at hl 1 rfl) ?_
  refine lv_iload_n hx hb dX2_calledAt_12 rfl (lv_at hl 3 rfl) ?_
  refine lv_iload hx hb dX2_calledAt_13 (lv_at hl 0 rfl) ?_
  obtain ⟨v3, hc2, hf⟩ := ob hf
  refine m_calli E hK hP hS (As := [.int x2, .int v1]) (tm_skyAt l D dT h x2 v1 μ _ hc2) (lw_V q1793 q1795 qs106 q166 q1796) dm_skyAt rfl (by decide) (by decide) hl rfl (Nat.le_of_ble_eq_true rfl) dX2_calledAt_15 (fun H locs hP hS => ?_)
  refine lv_istore (lv' := [(5, .int v3), (4, .int v1), (0, .ref h), (1, .int x1), (2, .int x2), (3, .int x3)]) hx hb dX2_calledAt_18 hl (by decide) rfl (fun ls hl => ?_)
  refine lv_aload_n hx hb dX2_calledAt_20 rfl (lv_at hl 2 rfl) ?_
  refine lv_iload_n hx hb dX2_calledAt_21 rfl (lv_at hl 4 rfl) ?_
  refine lv_iload hx hb dX2_calledAt_22 (lv_at hl 1 rfl) ?_
  refine lv_iload hx hb dX2_calledAt_24 (lv_at hl 0 rfl) ?_
  refine lv_aload_n hx hb dX2_calledAt_26 rfl (lv_at hl 2 rfl) ?_
  refine lv_iload_n hx hb dX2_calledAt_27 rfl (lv_at hl 3 rfl) ?_
  refine lv_iload_n hx hb dX2_calledAt_28 rfl (lv_at hl 4 rfl) ?_
  obtain ⟨v5, μ6, hc4, hf⟩ := ob2 hf
  refine m_calli E hK hP hS (As := [.int x1, .int x2]) (tm_addOf l D dT h x1 x2 μ _ hc4) (lw_V q1797 q1799 qs107 q166 q1800) dm_addOf rfl (by decide) (by decide) hl rfl (Nat.le_of_ble_eq_true rfl) dX2_calledAt_29 (fun H locs hP hS => ?_)
  refine lv_iadd hx hb dX2_calledAt_32 ?_
  obtain ⟨μ8, hc7, hf⟩ := ob hf
  refine m_callv E hK hP hS (As := [.int x2, .int v1, .int (v3 + v5)]) (tm_skyBe l D dT h x2 v1 (v3 + v5) μ6 _ hc7) (lw_V q1589 q1591 qs62 q166 q1592) dm_skyBe rfl (by decide) (by decide) hl rfl (Nat.le_of_ble_eq_true rfl) dX2_calledAt_33 (fun H locs hP hS => ?_)
  refine lv_aload_n hx hb dX2_calledAt_36 rfl (lv_at hl 2 rfl) ?_
  refine m_ga E hK hP 1 (by decide) rfl q1414 rfl dX2_calledAt_37 ?_
  refine lv_bipush (v := nI 93) hx hb dX2_calledAt_40 rfl ?_
  refine lv_iload_n hx hb dX2_calledAt_42 rfl (lv_at hl 3 rfl) ?_
  refine lv_iadd hx hb dX2_calledAt_43 ?_
  refine lv_aload_n hx hb dX2_calledAt_44 rfl (lv_at hl 2 rfl) ?_
  refine lv_aload_n hx hb dX2_calledAt_45 rfl (lv_at hl 2 rfl) ?_
  refine m_ga E hK hP 1 (by decide) rfl q1414 rfl dX2_calledAt_46 ?_
  refine lv_bipush (v := nI 93) hx hb dX2_calledAt_49 rfl ?_
  refine lv_iload_n hx hb dX2_calledAt_51 rfl (lv_at hl 3 rfl) ?_
  refine lv_iadd hx hb dX2_calledAt_52 ?_
  obtain ⟨v9, hv9, hf⟩ := ob hf
  refine m_ald E hK hP (by decide) rfl rfl hv9 dX2_calledAt_53 ?_
  refine lv_iconst (v := nI 1) hx hb dX2_calledAt_54 rfl ?_
  refine lv_iadd hx hb dX2_calledAt_55 ?_
  refine lv_iconst (v := nI 0) hx hb dX2_calledAt_56 rfl ?_
  refine lv_sipush (v := nI 999) hx hb dX2_calledAt_57 rfl ?_
  obtain ⟨v11, hc10, hf⟩ := ob hf
  refine m_calli E hK hP hS (As := [.int (v9 + (nI 1)), .int (nI 0), .int (nI 999)]) (tm_held l D dT h (v9 + (nI 1)) (nI 0) (nI 999) μ8 _ hc10) (lw_V q1593 q1595 qs63 q166 q1596) dm_held rfl (by decide) (by decide) hl rfl (Nat.le_of_ble_eq_true rfl) dX2_calledAt_60 (fun H locs hP hS => ?_)
  obtain ⟨μ12, hμ12, hf⟩ := ob hf
  refine m_ast E hK hP hS (by decide) rfl rfl hμ12 dX2_calledAt_63 (fun H locs hP hS => ?_)
  refine lv_aload_n hx hb dX2_calledAt_64 rfl (lv_at hl 2 rfl) ?_
  refine m_ga E hK hP 1 (by decide) rfl q1414 rfl dX2_calledAt_65 ?_
  refine lv_iconst (v := nI 3) hx hb dX2_calledAt_68 rfl ?_
  refine lv_aload_n hx hb dX2_calledAt_69 rfl (lv_at hl 2 rfl) ?_
  refine lv_aload_n hx hb dX2_calledAt_70 rfl (lv_at hl 2 rfl) ?_
  refine m_ga E hK hP 1 (by decide) rfl q1414 rfl dX2_calledAt_71 ?_
  refine lv_iconst (v := nI 3) hx hb dX2_calledAt_74 rfl ?_
  obtain ⟨v13, hv13, hf⟩ := ob hf
  refine m_ald E hK hP (by decide) rfl rfl hv13 dX2_calledAt_75 ?_
  refine lv_iconst (v := nI 1) hx hb dX2_calledAt_76 rfl ?_
  refine lv_iadd hx hb dX2_calledAt_77 ?_
  refine lv_iconst (v := nI 0) hx hb dX2_calledAt_78 rfl ?_
  refine lv_sipush (v := nI 999) hx hb dX2_calledAt_79 rfl ?_
  obtain ⟨v15, hc14, hf⟩ := ob hf
  refine m_calli E hK hP hS (As := [.int (v13 + (nI 1)), .int (nI 0), .int (nI 999)]) (tm_held l D dT h (v13 + (nI 1)) (nI 0) (nI 999) μ12 _ hc14) (lw_V q1593 q1595 qs63 q166 q1596) dm_held rfl (by decide) (by decide) hl rfl (Nat.le_of_ble_eq_true rfl) dX2_calledAt_82 (fun H locs hP hS => ?_)
  obtain ⟨μ16, hμ16, hf⟩ := ob hf
  refine m_ast E hK hP hS (by decide) rfl rfl hμ16 dX2_calledAt_85 (fun H locs hP hS => ?_)
  refine lv_aload_n hx hb dX2_calledAt_86 rfl (lv_at hl 2 rfl) ?_
  refine lv_iload_n hx hb dX2_calledAt_87 rfl (lv_at hl 5 rfl) ?_
  refine lv_iload_n hx hb dX2_calledAt_88 rfl (lv_at hl 3 rfl) ?_
  refine lv_iload_n hx hb dX2_calledAt_89 rfl (lv_at hl 4 rfl) ?_
  refine lv_aload_n hx hb dX2_calledAt_90 rfl (lv_at hl 2 rfl) ?_
  refine lv_iload_n hx hb dX2_calledAt_91 rfl (lv_at hl 4 rfl) ?_
  refine lv_iload hx hb dX2_calledAt_92 (lv_at hl 1 rfl) ?_
  obtain ⟨v18, hc17, hf⟩ := ob hf
  refine m_calli E hK hP hS (As := [.int x2, .int v1]) (tm_skyAt l D dT h x2 v1 μ16 _ hc17) (lw_V q1793 q1795 qs106 q166 q1796) dm_skyAt rfl (by decide) (by decide) hl rfl (Nat.le_of_ble_eq_true rfl) dX2_calledAt_94 (fun H locs hP hS => ?_)
  refine lv_iload hx hb dX2_calledAt_97 (lv_at hl 0 rfl) ?_
  refine lv_isub hx hb dX2_calledAt_99 ?_
  obtain ⟨μ20, hc19, hf⟩ := ob hf
  refine m_callv E hK hP hS (As := [.int x3, .int x1, .int x2, .int (v18 - v3)]) (tm_notes l D dT h x3 x1 x2 (v18 - v3) μ16 _ hc19) (lw_V q1837 q1839 qs117 q166 q1840) dm_notes rfl (by decide) (by decide) hl rfl (Nat.le_of_ble_eq_true rfl) dX2_calledAt_100 (fun H locs hP hS => ?_)
  refine lv_aload_n hx hb dX2_calledAt_103 rfl (lv_at hl 2 rfl) ?_
  refine lv_iload_n hx hb dX2_calledAt_104 rfl (lv_at hl 4 rfl) ?_
  refine lv_iload hx hb dX2_calledAt_105 (lv_at hl 1 rfl) ?_
  obtain ⟨v22, hc21, hf⟩ := ob hf
  refine m_calli E hK hP hS (As := [.int x2, .int v1]) (tm_skyAt l D dT h x2 v1 μ20 _ hc21) (lw_V q1793 q1795 qs106 q166 q1796) dm_skyAt rfl (by decide) (by decide) hl rfl (Nat.le_of_ble_eq_true rfl) dX2_calledAt_107 (fun H locs hP hS => ?_)
  refine lv_iload hx hb dX2_calledAt_110 (lv_at hl 0 rfl) ?_
  refine lv_isub hx hb dX2_calledAt_112 ?_
  cases hf
  exact m_iret E hr hlk hP hS rfl dX2_calledAt_113
set_option maxHeartbeats 4000000 in
def fm_canMove (x1 : Int32) (x2 : Int32) (μ : nwM) : Option (Int32) := (fm_isOne x1 μ).bind fun v2 => (if v2 = 0 then some (nI 0) else (fm_isIsland x2 μ).bind fun v5 => (if v5 = 0 then some (nI 0) else (fm_isDead x1 μ).bind fun v8 => (if v8 = 0 then (rd_ μ 1 105 ((nI 69) + x1)).bind fun v10 => (if v10 = x2 then some (nI 0) else some (nI 1)) else some (nI 0))))
set_option maxHeartbeats 4000000 in
theorem dm_canMove : yX2_canMove.cls = RX2 ∧ yX2_canMove.cls ≠ "java/lang/invoke/MethodHandle" ∧ yX2_canMove.cls ≠ "java/lang/invoke/VarHandle" ∧ (parseMethodDescriptor yX2_canMove.desc).map (fun d => d.parameters.length) = some 2 := ⟨rfl, by decide +kernel, by decide +kernel, by decide +kernel⟩
set_option maxHeartbeats 4000000 in
theorem tm_canMove (l : Launch) (D : va_G) (dT : Nat → ClassId) (h : Nat) (x1 : Int32) (x2 : Int32) (μ : nwM) (res : Int32) (hf : fm_canMove x1 x2 μ = some res) : Met l yX2_canMove (ws_ yX2_canMove cX2_canMove 3 (some .boolean)) (rmd 1) (mPc D dT h μ [.int x1, .int x2]) (mQi D dT h μ res) 0 0 (mA h) := by
  refine m_met (by decide) rfl (Nat.le_of_ble_eq_true rfl) ?_
  intro p e s m below meth c ls E hK hr hlk hl hP
  have hS : va_S (mA h) s.heap s.heap [] := va_S.rf
  obtain ⟨hx, hb, -, hown, hts⟩ := id E
  have hl : lv_has ls 3 [(0, .ref h), (1, .int x1), (2, .int x2)] := hl
  unfold fm_canMove at hf
  refine lv_aload_n hx hb dX2_canMove_0 rfl (lv_at hl 0 rfl) ?_
  refine lv_iload_n hx hb dX2_canMove_1 rfl (lv_at hl 1 rfl) ?_
  obtain ⟨v2, hc1, hf⟩ := ob hf
  refine m_calli E hK hP hS (As := [.int x1]) (tm_isOne l D dT h x1 μ _ hc1) (lw_V q1777 q1779 qs102 q166 q1780) dm_isOne rfl (by decide) (by decide) hl rfl (Nat.le_of_ble_eq_true rfl) dX2_canMove_2 (fun H locs hP hS => ?_)
  refine lv_if_eq (tgt := 41) hx hb dX2_canMove_5 (by decide) (fun kc3 => ?_) (fun kc3 => ?_)
  · have hf := ite_t kc3 hf
    refine lv_iconst (v := nI 0) hx hb dX2_canMove_41 rfl ?_
    cases hf
    exact m_zret E hr hlk hP hS rfl dX2_canMove_42
  · have hf := ite_f kc3 hf
    refine lv_aload_n hx hb dX2_canMove_8 rfl (lv_at hl 0 rfl) ?_
    refine lv_iload_n hx hb dX2_canMove_9 rfl (lv_at hl 2 rfl) ?_
    obtain ⟨v5, hc4, hf⟩ := ob hf
    refine m_calli E hK hP hS (As := [.int x2]) (tm_isIsland l D dT h x2 μ _ hc4) (lw_V q1577 q1579 qs60 q166 q1580) dm_isIsland rfl (by decide) (by decide) hl rfl (Nat.le_of_ble_eq_true rfl) dX2_canMove_10 (fun H locs hP hS => ?_)
    refine lv_if_eq (tgt := 41) hx hb dX2_canMove_13 (by decide) (fun kc6 => ?_) (fun kc6 => ?_)
    · have hf := ite_t kc6 hf
      refine lv_iconst (v := nI 0) hx hb dX2_canMove_41 rfl ?_
      cases hf
      exact m_zret E hr hlk hP hS rfl dX2_canMove_42
    · have hf := ite_f kc6 hf
      refine lv_aload_n hx hb dX2_canMove_16 rfl (lv_at hl 0 rfl) ?_
      refine lv_iload_n hx hb dX2_canMove_17 rfl (lv_at hl 1 rfl) ?_
      obtain ⟨v8, hc7, hf⟩ := ob hf
      refine m_calli E hK hP hS (As := [.int x1]) (tm_isDead l D dT h x1 μ _ hc7) (lw_V q1781 q1783 qs103 q166 q1784) dm_isDead rfl (by decide) (by decide) hl rfl (Nat.le_of_ble_eq_true rfl) dX2_canMove_18 (fun H locs hP hS => ?_)
      refine lv_if_ne (tgt := 41) hx hb dX2_canMove_21 (by decide) (fun kc9 => ?_) (fun kc9 => ?_)
      · have hf := ite_f kc9 hf
        refine lv_iconst (v := nI 0) hx hb dX2_canMove_41 rfl ?_
        cases hf
        exact m_zret E hr hlk hP hS rfl dX2_canMove_42
      · have hf := ite_t kc9 hf
        refine lv_aload_n hx hb dX2_canMove_24 rfl (lv_at hl 0 rfl) ?_
        refine m_ga E hK hP 1 (by decide) rfl q1414 rfl dX2_canMove_25 ?_
        refine lv_bipush (v := nI 69) hx hb dX2_canMove_28 rfl ?_
        refine lv_iload_n hx hb dX2_canMove_30 rfl (lv_at hl 1 rfl) ?_
        refine lv_iadd hx hb dX2_canMove_31 ?_
        obtain ⟨v10, hv10, hf⟩ := ob hf
        refine m_ald E hK hP (by decide) rfl rfl hv10 dX2_canMove_32 ?_
        refine lv_iload_n hx hb dX2_canMove_33 rfl (lv_at hl 2 rfl) ?_
        refine lv_icmp_eq (tgt := 41) hx hb dX2_canMove_34 (by decide) (fun kc11 => ?_) (fun kc11 => ?_)
        · have hf := ite_t kc11 hf
          refine lv_iconst (v := nI 0) hx hb dX2_canMove_41 rfl ?_
          cases hf
          exact m_zret E hr hlk hP hS rfl dX2_canMove_42
        · have hf := ite_f kc11 hf
          refine lv_iconst (v := nI 1) hx hb dX2_canMove_37 rfl ?_
          refine lv_goto (tgt := 42) hx hb dX2_canMove_38 (by decide) ?_
          cases hf
          exact m_zret E hr hlk hP hS rfl dX2_canMove_42
set_option maxHeartbeats 4000000 in
def fm_moves (x1 : Int32) (x2 : Int32) (μ : nwM) : Option (nwM) := (wr_ μ 1 105 ((nI 69) + x1) x2).bind fun μ1 => (fm_notes (nI 1) x1 x2 (nI 0) μ1).bind fun μ3 => some μ3
set_option maxHeartbeats 4000000 in
theorem dm_moves : yX2_moves.cls = RX2 ∧ yX2_moves.cls ≠ "java/lang/invoke/MethodHandle" ∧ yX2_moves.cls ≠ "java/lang/invoke/VarHandle" ∧ (parseMethodDescriptor yX2_moves.desc).map (fun d => d.parameters.length) = some 2 := ⟨rfl, by decide +kernel, by decide +kernel, by decide +kernel⟩
set_option maxHeartbeats 4000000 in
theorem tm_moves (l : Launch) (D : va_G) (dT : Nat → ClassId) (h : Nat) (x1 : Int32) (x2 : Int32) (μ : nwM) (res : nwM) (hf : fm_moves x1 x2 μ = some res) : Met l yX2_moves (ws_ yX2_moves cX2_moves 3 none) (rmd 1) (mPc D dT h μ [.int x1, .int x2]) (mQv D dT h res) 0 0 (mA h) := by
  refine m_met (by decide) rfl (Nat.le_of_ble_eq_true rfl) ?_
  intro p e s m below meth c ls E hK hr hlk hl hP
  have hS : va_S (mA h) s.heap s.heap [] := va_S.rf
  obtain ⟨hx, hb, -, hown, hts⟩ := id E
  have hl : lv_has ls 3 [(0, .ref h), (1, .int x1), (2, .int x2)] := hl
  unfold fm_moves at hf
  refine lv_aload_n hx hb dX2_moves_0 rfl (lv_at hl 0 rfl) ?_
  refine m_ga E hK hP 1 (by decide) rfl q1414 rfl dX2_moves_1 ?_
  refine lv_bipush (v := nI 69) hx hb dX2_moves_4 rfl ?_
  refine lv_iload_n hx hb dX2_moves_6 rfl (lv_at hl 1 rfl) ?_
  refine lv_iadd hx hb dX2_moves_7 ?_
  refine lv_iload_n hx hb dX2_moves_8 rfl (lv_at hl 2 rfl) ?_
  obtain ⟨μ1, hμ1, hf⟩ := ob hf
  refine m_ast E hK hP hS (by decide) rfl rfl hμ1 dX2_moves_9 (fun H locs hP hS => ?_)
  refine lv_aload_n hx hb dX2_moves_10 rfl (lv_at hl 0 rfl) ?_
  refine lv_iconst (v := nI 1) hx hb dX2_moves_11 rfl ?_
  refine lv_iload_n hx hb dX2_moves_12 rfl (lv_at hl 1 rfl) ?_
  refine lv_iload_n hx hb dX2_moves_13 rfl (lv_at hl 2 rfl) ?_
  refine lv_iconst (v := nI 0) hx hb dX2_moves_14 rfl ?_
  obtain ⟨μ3, hc2, hf⟩ := ob hf
  refine m_callv E hK hP hS (As := [.int (nI 1), .int x1, .int x2, .int (nI 0)]) (tm_notes l D dT h (nI 1) x1 x2 (nI 0) μ1 _ hc2) (lw_V q1837 q1839 qs117 q166 q1840) dm_notes rfl (by decide) (by decide) hl rfl (Nat.le_of_ble_eq_true rfl) dX2_moves_15 (fun H locs hP hS => ?_)
  cases hf
  exact m_vret E hr hlk hP hS dX2_moves_18
set_option maxHeartbeats 4000000 in
def fm_buries (x1 : Int32) (μ : nwM) : Option (nwM) := (wr_ μ 1 105 ((nI 81) + x1) (nI 1)).bind fun μ1 => (rd_ μ1 1 105 ((nI 69) + x1)).bind fun v2 => (fm_notes (nI 2) x1 v2 (nI 0) μ1).bind fun μ4 => some μ4
set_option maxHeartbeats 4000000 in
theorem dm_buries : yX2_buries.cls = RX2 ∧ yX2_buries.cls ≠ "java/lang/invoke/MethodHandle" ∧ yX2_buries.cls ≠ "java/lang/invoke/VarHandle" ∧ (parseMethodDescriptor yX2_buries.desc).map (fun d => d.parameters.length) = some 1 := ⟨rfl, by decide +kernel, by decide +kernel, by decide +kernel⟩
set_option maxHeartbeats 4000000 in
theorem tm_buries (l : Launch) (D : va_G) (dT : Nat → ClassId) (h : Nat) (x1 : Int32) (μ : nwM) (res : nwM) (hf : fm_buries x1 μ = some res) : Met l yX2_buries (ws_ yX2_buries cX2_buries 2 none) (rmd 1) (mPc D dT h μ [.int x1]) (mQv D dT h res) 0 0 (mA h) := by
  refine m_met (by decide) rfl (Nat.le_of_ble_eq_true rfl) ?_
  intro p e s m below meth c ls E hK hr hlk hl hP
  have hS : va_S (mA h) s.heap s.heap [] := va_S.rf
  obtain ⟨hx, hb, -, hown, hts⟩ := id E
  have hl : lv_has ls 2 [(0, .ref h), (1, .int x1)] := hl
  unfold fm_buries at hf
  refine lv_aload_n hx hb dX2_buries_0 rfl (lv_at hl 0 rfl) ?_
  refine m_ga E hK hP 1 (by decide) rfl q1414 rfl dX2_buries_1 ?_
  refine lv_bipush (v := nI 81) hx hb dX2_buries_4 rfl ?_
  refine lv_iload_n hx hb dX2_buries_6 rfl (lv_at hl 1 rfl) ?_
  refine lv_iadd hx hb dX2_buries_7 ?_
  refine lv_iconst (v := nI 1) hx hb dX2_buries_8 rfl ?_
  obtain ⟨μ1, hμ1, hf⟩ := ob hf
  refine m_ast E hK hP hS (by decide) rfl rfl hμ1 dX2_buries_9 (fun H locs hP hS => ?_)
  refine lv_aload_n hx hb dX2_buries_10 rfl (lv_at hl 0 rfl) ?_
  refine lv_iconst (v := nI 2) hx hb dX2_buries_11 rfl ?_
  refine lv_iload_n hx hb dX2_buries_12 rfl (lv_at hl 1 rfl) ?_
  refine lv_aload_n hx hb dX2_buries_13 rfl (lv_at hl 0 rfl) ?_
  refine m_ga E hK hP 1 (by decide) rfl q1414 rfl dX2_buries_14 ?_
  refine lv_bipush (v := nI 69) hx hb dX2_buries_17 rfl ?_
  refine lv_iload_n hx hb dX2_buries_19 rfl (lv_at hl 1 rfl) ?_
  refine lv_iadd hx hb dX2_buries_20 ?_
  obtain ⟨v2, hv2, hf⟩ := ob hf
  refine m_ald E hK hP (by decide) rfl rfl hv2 dX2_buries_21 ?_
  refine lv_iconst (v := nI 0) hx hb dX2_buries_22 rfl ?_
  obtain ⟨μ4, hc3, hf⟩ := ob hf
  refine m_callv E hK hP hS (As := [.int (nI 2), .int x1, .int v2, .int (nI 0)]) (tm_notes l D dT h (nI 2) x1 v2 (nI 0) μ1 _ hc3) (lw_V q1837 q1839 qs117 q166 q1840) dm_notes rfl (by decide) (by decide) hl rfl (Nat.le_of_ble_eq_true rfl) dX2_buries_23 (fun H locs hP hS => ?_)
  cases hf
  exact m_vret E hr hlk hP hS dX2_buries_26
set_option maxHeartbeats 4000000 in
noncomputable def fm_call (x1 : Int32) (x2 : Int32) (μ : nwM) : Option (Int32 × nwM) := (wf_ μ 0 (nI 0)).bind fun μ1 => (fm_canCall x1 x2 μ1).bind fun v3 => (if v3 = 0 then some ((-1), μ1) else (fm_keepsAhead μ1).bind fun μ6 => bd2 (fm_calledAt x1 x2 (nI 0) μ6) fun v8 μ9 => some (v8, μ9))
set_option maxHeartbeats 4000000 in
theorem dm_call : yX2_call.cls = RX2 ∧ yX2_call.cls ≠ "java/lang/invoke/MethodHandle" ∧ yX2_call.cls ≠ "java/lang/invoke/VarHandle" ∧ (parseMethodDescriptor yX2_call.desc).map (fun d => d.parameters.length) = some 2 := ⟨rfl, by decide +kernel, by decide +kernel, by decide +kernel⟩
set_option maxHeartbeats 4000000 in
theorem tm_call (l : Launch) (D : va_G) (dT : Nat → ClassId) (h : Nat) (x1 : Int32) (x2 : Int32) (μ : nwM) (res : Int32 × nwM) (hf : fm_call x1 x2 μ = some res) : Met l yX2_call (ws_ yX2_call cX2_call 3 (some .int)) (rmd 6) (mPc D dT h μ [.int x1, .int x2]) (mQi D dT h res.2 res.1) 0 0 (mA h) := by
  refine m_met (by decide) rfl (Nat.le_of_ble_eq_true rfl) ?_
  intro p e s m below meth c ls E hK hr hlk hl hP
  have hS : va_S (mA h) s.heap s.heap [] := va_S.rf
  obtain ⟨hx, hb, -, hown, hts⟩ := id E
  have hl : lv_has ls 3 [(0, .ref h), (1, .int x1), (2, .int x2)] := hl
  unfold fm_call at hf
  refine lv_aload_n hx hb dX2_call_0 rfl (lv_at hl 0 rfl) ?_
  refine lv_iconst (v := nI 0) hx hb dX2_call_1 rfl ?_
  obtain ⟨μ1, hμ1, hf⟩ := ob hf
  refine m_put E hK hP hS 0 (by decide) rfl q1413 rfl rfl rfl hμ1 dX2_call_2 (fun H locs hP hS => ?_)
  refine lv_aload_n hx hb dX2_call_5 rfl (lv_at hl 0 rfl) ?_
  refine lv_iload_n hx hb dX2_call_6 rfl (lv_at hl 1 rfl) ?_
  refine lv_iload_n hx hb dX2_call_7 rfl (lv_at hl 2 rfl) ?_
  obtain ⟨v3, hc2, hf⟩ := ob hf
  refine m_calli E hK hP hS (As := [.int x1, .int x2]) (tm_canCall l D dT h x1 x2 μ1 _ hc2) (lw_V q1773 q1775 qs101 q166 q1776) dm_canCall rfl (by decide) (by decide) hl rfl (Nat.le_of_ble_eq_true rfl) dX2_call_8 (fun H locs hP hS => ?_)
  refine lv_if_ne (tgt := 16) hx hb dX2_call_11 (by decide) (fun kc4 => ?_) (fun kc4 => ?_)
  · have hf := ite_f kc4 hf
    refine lv_aload_n hx hb dX2_call_16 rfl (lv_at hl 0 rfl) ?_
    obtain ⟨μ6, hc5, hf⟩ := ob hf
    refine m_callv E hK hP hS (As := []) (tm_keepsAhead l D dT h μ1 _ hc5) (lw_V q1785 q1787 qs104 q166 q1788) dm_keepsAhead rfl (by decide) (by decide) hl rfl (Nat.le_of_ble_eq_true rfl) dX2_call_17 (fun H locs hP hS => ?_)
    refine lv_aload_n hx hb dX2_call_20 rfl (lv_at hl 0 rfl) ?_
    refine lv_iload_n hx hb dX2_call_21 rfl (lv_at hl 1 rfl) ?_
    refine lv_iload_n hx hb dX2_call_22 rfl (lv_at hl 2 rfl) ?_
    refine lv_iconst (v := nI 0) hx hb dX2_call_23 rfl ?_
    obtain ⟨v8, μ9, hc7, hf⟩ := ob2 hf
    refine m_calli E hK hP hS (As := [.int x1, .int x2, .int (nI 0)]) (tm_calledAt l D dT h x1 x2 (nI 0) μ6 _ hc7) (lw_V q1789 q1791 qs105 q166 q1792) dm_calledAt rfl (by decide) (by decide) hl rfl (Nat.le_of_ble_eq_true rfl) dX2_call_24 (fun H locs hP hS => ?_)
    cases hf
    exact m_iret E hr hlk hP hS rfl dX2_call_27
  · have hf := ite_t kc4 hf
    refine lv_iconst (v := (-1)) hx hb dX2_call_14 rfl ?_
    cases hf
    exact m_iret E hr hlk hP hS rfl dX2_call_15
set_option maxHeartbeats 4000000 in
noncomputable def fm_move (x1 : Int32) (x2 : Int32) (μ : nwM) : Option (Int32 × nwM) := (wf_ μ 0 (nI 0)).bind fun μ1 => (fm_canMove x1 x2 μ1).bind fun v3 => (if v3 = 0 then some (nI 0, μ1) else (fm_keepsAhead μ1).bind fun μ6 => (fm_moves x1 x2 μ6).bind fun μ8 => some (nI 1, μ8))
set_option maxHeartbeats 4000000 in
theorem dm_move : yX2_move.cls = RX2 ∧ yX2_move.cls ≠ "java/lang/invoke/MethodHandle" ∧ yX2_move.cls ≠ "java/lang/invoke/VarHandle" ∧ (parseMethodDescriptor yX2_move.desc).map (fun d => d.parameters.length) = some 2 := ⟨rfl, by decide +kernel, by decide +kernel, by decide +kernel⟩
set_option maxHeartbeats 4000000 in
theorem tm_move (l : Launch) (D : va_G) (dT : Nat → ClassId) (h : Nat) (x1 : Int32) (x2 : Int32) (μ : nwM) (res : Int32 × nwM) (hf : fm_move x1 x2 μ = some res) : Met l yX2_move (ws_ yX2_move cX2_move 3 (some .boolean)) (rmd 2) (mPc D dT h μ [.int x1, .int x2]) (mQi D dT h res.2 res.1) 0 0 (mA h) := by
  refine m_met (by decide) rfl (Nat.le_of_ble_eq_true rfl) ?_
  intro p e s m below meth c ls E hK hr hlk hl hP
  have hS : va_S (mA h) s.heap s.heap [] := va_S.rf
  obtain ⟨hx, hb, -, hown, hts⟩ := id E
  have hl : lv_has ls 3 [(0, .ref h), (1, .int x1), (2, .int x2)] := hl
  unfold fm_move at hf
  refine lv_aload_n hx hb dX2_move_0 rfl (lv_at hl 0 rfl) ?_
  refine lv_iconst (v := nI 0) hx hb dX2_move_1 rfl ?_
  obtain ⟨μ1, hμ1, hf⟩ := ob hf
  refine m_put E hK hP hS 0 (by decide) rfl q1413 rfl rfl rfl hμ1 dX2_move_2 (fun H locs hP hS => ?_)
  refine lv_aload_n hx hb dX2_move_5 rfl (lv_at hl 0 rfl) ?_
  refine lv_iload_n hx hb dX2_move_6 rfl (lv_at hl 1 rfl) ?_
  refine lv_iload_n hx hb dX2_move_7 rfl (lv_at hl 2 rfl) ?_
  obtain ⟨v3, hc2, hf⟩ := ob hf
  refine m_calli E hK hP hS (As := [.int x1, .int x2]) (tm_canMove l D dT h x1 x2 μ1 _ hc2) (lw_V q1845 q1847 qs118 q166 q1848) dm_canMove rfl (by decide) (by decide) hl rfl (Nat.le_of_ble_eq_true rfl) dX2_move_8 (fun H locs hP hS => ?_)
  refine lv_if_ne (tgt := 16) hx hb dX2_move_11 (by decide) (fun kc4 => ?_) (fun kc4 => ?_)
  · have hf := ite_f kc4 hf
    refine lv_aload_n hx hb dX2_move_16 rfl (lv_at hl 0 rfl) ?_
    obtain ⟨μ6, hc5, hf⟩ := ob hf
    refine m_callv E hK hP hS (As := []) (tm_keepsAhead l D dT h μ1 _ hc5) (lw_V q1785 q1787 qs104 q166 q1788) dm_keepsAhead rfl (by decide) (by decide) hl rfl (Nat.le_of_ble_eq_true rfl) dX2_move_17 (fun H locs hP hS => ?_)
    refine lv_aload_n hx hb dX2_move_20 rfl (lv_at hl 0 rfl) ?_
    refine lv_iload_n hx hb dX2_move_21 rfl (lv_at hl 1 rfl) ?_
    refine lv_iload_n hx hb dX2_move_22 rfl (lv_at hl 2 rfl) ?_
    obtain ⟨μ8, hc7, hf⟩ := ob hf
    refine m_callv E hK hP hS (As := [.int x1, .int x2]) (tm_moves l D dT h x1 x2 μ6 _ hc7) (lw_V q1849 q1851 qs119 q166 q1852) dm_moves rfl (by decide) (by decide) hl rfl (Nat.le_of_ble_eq_true rfl) dX2_move_23 (fun H locs hP hS => ?_)
    refine lv_iconst (v := nI 1) hx hb dX2_move_26 rfl ?_
    cases hf
    exact m_zret E hr hlk hP hS rfl dX2_move_27
  · have hf := ite_t kc4 hf
    refine lv_iconst (v := nI 0) hx hb dX2_move_14 rfl ?_
    cases hf
    exact m_zret E hr hlk hP hS rfl dX2_move_15
set_option maxHeartbeats 4000000 in
noncomputable def fm_bury (x1 : Int32) (μ : nwM) : Option (Int32 × nwM) := (wf_ μ 0 (nI 0)).bind fun μ1 => (fm_isOne x1 μ1).bind fun v3 => (if v3 = 0 then some (nI 0, μ1) else (fm_isDead x1 μ1).bind fun v6 => (if v6 = 0 then (fm_keepsAhead μ1).bind fun μ9 => (fm_buries x1 μ9).bind fun μ11 => some (nI 1, μ11) else some (nI 0, μ1)))
set_option maxHeartbeats 4000000 in
theorem dm_bury : yX2_bury.cls = RX2 ∧ yX2_bury.cls ≠ "java/lang/invoke/MethodHandle" ∧ yX2_bury.cls ≠ "java/lang/invoke/VarHandle" ∧ (parseMethodDescriptor yX2_bury.desc).map (fun d => d.parameters.length) = some 1 := ⟨rfl, by decide +kernel, by decide +kernel, by decide +kernel⟩
set_option maxHeartbeats 4000000 in
theorem tm_bury (l : Launch) (D : va_G) (dT : Nat → ClassId) (h : Nat) (x1 : Int32) (μ : nwM) (res : Int32 × nwM) (hf : fm_bury x1 μ = some res) : Met l yX2_bury (ws_ yX2_bury cX2_bury 2 (some .boolean)) (rmd 2) (mPc D dT h μ [.int x1]) (mQi D dT h res.2 res.1) 0 0 (mA h) := by
  refine m_met (by decide) rfl (Nat.le_of_ble_eq_true rfl) ?_
  intro p e s m below meth c ls E hK hr hlk hl hP
  have hS : va_S (mA h) s.heap s.heap [] := va_S.rf
  obtain ⟨hx, hb, -, hown, hts⟩ := id E
  have hl : lv_has ls 2 [(0, .ref h), (1, .int x1)] := hl
  unfold fm_bury at hf
  refine lv_aload_n hx hb dX2_bury_0 rfl (lv_at hl 0 rfl) ?_
  refine lv_iconst (v := nI 0) hx hb dX2_bury_1 rfl ?_
  obtain ⟨μ1, hμ1, hf⟩ := ob hf
  refine m_put E hK hP hS 0 (by decide) rfl q1413 rfl rfl rfl hμ1 dX2_bury_2 (fun H locs hP hS => ?_)
  refine lv_aload_n hx hb dX2_bury_5 rfl (lv_at hl 0 rfl) ?_
  refine lv_iload_n hx hb dX2_bury_6 rfl (lv_at hl 1 rfl) ?_
  obtain ⟨v3, hc2, hf⟩ := ob hf
  refine m_calli E hK hP hS (As := [.int x1]) (tm_isOne l D dT h x1 μ1 _ hc2) (lw_V q1777 q1779 qs102 q166 q1780) dm_isOne rfl (by decide) (by decide) hl rfl (Nat.le_of_ble_eq_true rfl) dX2_bury_7 (fun H locs hP hS => ?_)
  refine lv_if_eq (tgt := 21) hx hb dX2_bury_10 (by decide) (fun kc4 => ?_) (fun kc4 => ?_)
  · have hf := ite_t kc4 hf
    refine lv_iconst (v := nI 0) hx hb dX2_bury_21 rfl ?_
    cases hf
    exact m_zret E hr hlk hP hS rfl dX2_bury_22
  · have hf := ite_f kc4 hf
    refine lv_aload_n hx hb dX2_bury_13 rfl (lv_at hl 0 rfl) ?_
    refine lv_iload_n hx hb dX2_bury_14 rfl (lv_at hl 1 rfl) ?_
    obtain ⟨v6, hc5, hf⟩ := ob hf
    refine m_calli E hK hP hS (As := [.int x1]) (tm_isDead l D dT h x1 μ1 _ hc5) (lw_V q1781 q1783 qs103 q166 q1784) dm_isDead rfl (by decide) (by decide) hl rfl (Nat.le_of_ble_eq_true rfl) dX2_bury_15 (fun H locs hP hS => ?_)
    refine lv_if_eq (tgt := 23) hx hb dX2_bury_18 (by decide) (fun kc7 => ?_) (fun kc7 => ?_)
    · have hf := ite_t kc7 hf
      refine lv_aload_n hx hb dX2_bury_23 rfl (lv_at hl 0 rfl) ?_
      obtain ⟨μ9, hc8, hf⟩ := ob hf
      refine m_callv E hK hP hS (As := []) (tm_keepsAhead l D dT h μ1 _ hc8) (lw_V q1785 q1787 qs104 q166 q1788) dm_keepsAhead rfl (by decide) (by decide) hl rfl (Nat.le_of_ble_eq_true rfl) dX2_bury_24 (fun H locs hP hS => ?_)
      refine lv_aload_n hx hb dX2_bury_27 rfl (lv_at hl 0 rfl) ?_
      refine lv_iload_n hx hb dX2_bury_28 rfl (lv_at hl 1 rfl) ?_
      obtain ⟨μ11, hc10, hf⟩ := ob hf
      refine m_callv E hK hP hS (As := [.int x1]) (tm_buries l D dT h x1 μ9 _ hc10) (lw_V q1857 q1859 qs120 q166 q1860) dm_buries rfl (by decide) (by decide) hl rfl (Nat.le_of_ble_eq_true rfl) dX2_bury_29 (fun H locs hP hS => ?_)
      refine lv_iconst (v := nI 1) hx hb dX2_bury_32 rfl ?_
      cases hf
      exact m_zret E hr hlk hP hS rfl dX2_bury_33
    · have hf := ite_f kc7 hf
      refine lv_iconst (v := nI 0) hx hb dX2_bury_21 rfl ?_
      cases hf
      exact m_zret E hr hlk hP hS rfl dX2_bury_22
set_option maxHeartbeats 4000000 in
def fm_mostAt_L4 (x1 : Int32) (μ : nwM) : (Int32 × Int32) → Option ((Int32 × Int32) ⊕ (Int32)) := fun st => (if (nI 5) ≤ st.2 then some (.inr st.1) else (fm_skyAt x1 st.2 μ).bind fun v3 => (fm_skyAt x1 st.1 μ).bind fun v5 => (if v3 ≤ v5 then some (.inl (st.1, st.2 + nI 1)) else some (.inl (st.2, st.2 + nI 1))))
set_option maxHeartbeats 4000000 in
noncomputable def fm_mostAt (x1 : Int32) (μ : nwM) : Option (Int32) := (wh_ (fm_mostAt_L4 x1 μ) (nI 0, nI 1)).bind fun x7 => some x7
set_option maxHeartbeats 4000000 in
theorem fm_mostAt_L4_w {p : Program} {l : Launch} {e : Env} {s : State} {m : MethodId} {args : Array Value} {below : List Frame} {meth : Method} {c : Code} {Q : State → Prop} {D : va_G} {dT : Nat → ClassId} {h : Nat} (E : CallFix p m c cX2_mostAt 4 s args lw_all RX2) (hK : va_K D nwCl (nwT dT) s) (x1 : Int32) (μ : nwM) {st : Int32 × Int32} {x : Int32} (hw : wh_ (fm_mostAt_L4 x1 μ) st = some x) (hk : (fun x : Int32 => ∀ (ls : Array Slot) (H : Heap) (locs : List Loc), lv_has ls 4 [(2, .int x)] → PM D dT h μ H → va_S (mA h) s.heap H locs → W p l e (rmd 1) s m args below meth c H locs 0 0 Q (F0 m 32 ls [])) x) : (fun st : Int32 × Int32 => ∀ (ls : Array Slot) (H : Heap) (locs : List Loc), lv_has ls 4 [(0, .ref h), (1, .int x1), (2, .int st.1), (3, .int st.2)] → PM D dT h μ H → va_S (mA h) s.heap H locs → W p l e (rmd 1) s m args below meth c H locs 0 0 Q (F0 m 4 ls [])) st := by
  obtain ⟨hx, hb, -, hown, hts⟩ := id E
  refine wh_run (P := (fun st : Int32 × Int32 => ∀ (ls : Array Slot) (H : Heap) (locs : List Loc), lv_has ls 4 [(0, .ref h), (1, .int x1), (2, .int st.1), (3, .int st.2)] → PM D dT h μ H → va_S (mA h) s.heap H locs → W p l e (rmd 1) s m args below meth c H locs 0 0 Q (F0 m 4 ls []))) (PE := (fun x : Int32 => ∀ (ls : Array Slot) (H : Heap) (locs : List Loc), lv_has ls 4 [(2, .int x)] → PM D dT h μ H → va_S (mA h) s.heap H locs → W p l e (rmd 1) s m args below meth c H locs 0 0 Q (F0 m 32 ls []))) ?_ hw hk
  clear hw hk
  intro st x hf hk ls H locs hl hP hS
  refine lv_iload_n hx hb dX2_mostAt_4 rfl (lv_at hl 3 rfl) ?_
  refine lv_iconst (v := nI 5) hx hb dX2_mostAt_5 rfl ?_
  refine lv_icmp_ge (tgt := 32) hx hb dX2_mostAt_6 (by decide) (fun kc1 => ?_) (fun kc1 => ?_)
  · have hf := ite_t kc1 hf
    cases hf
    exact hk _ _ _ (lv_sub hl [2] rfl) hP hS
  · have hf := ite_f kc1 hf
    refine lv_aload_n hx hb dX2_mostAt_9 rfl (lv_at hl 0 rfl) ?_
    refine lv_iload_n hx hb dX2_mostAt_10 rfl (lv_at hl 1 rfl) ?_
    refine lv_iload_n hx hb dX2_mostAt_11 rfl (lv_at hl 3 rfl) ?_
    obtain ⟨v3, hc2, hf⟩ := ob hf
    refine m_calli E hK hP hS (As := [.int x1, .int st.2]) (tm_skyAt l D dT h x1 st.2 μ _ hc2) (lw_V q1793 q1795 qs106 q166 q1796) dm_skyAt rfl (by decide) (by decide) hl rfl (Nat.le_of_ble_eq_true rfl) dX2_mostAt_12 (fun H locs hP hS => ?_)
    refine lv_aload_n hx hb dX2_mostAt_15 rfl (lv_at hl 0 rfl) ?_
    refine lv_iload_n hx hb dX2_mostAt_16 rfl (lv_at hl 1 rfl) ?_
    refine lv_iload_n hx hb dX2_mostAt_17 rfl (lv_at hl 2 rfl) ?_
    obtain ⟨v5, hc4, hf⟩ := ob hf
    refine m_calli E hK hP hS (As := [.int x1, .int st.1]) (tm_skyAt l D dT h x1 st.1 μ _ hc4) (lw_V q1793 q1795 qs106 q166 q1796) dm_skyAt rfl (by decide) (by decide) hl rfl (Nat.le_of_ble_eq_true rfl) dX2_mostAt_18 (fun H locs hP hS => ?_)
    refine lv_icmp_le (tgt := 26) hx hb dX2_mostAt_21 (by decide) (fun kc6 => ?_) (fun kc6 => ?_)
    · have hf := ite_t kc6 hf
      refine lv_iinc (v := st.2 + nI 1) (lv' := [(3, .int (st.2 + nI 1)), (0, .ref h), (1, .int x1), (2, .int st.1)]) hx hb dX2_mostAt_26 hl (k := 3) rfl rfl (by decide) rfl (fun ls hl => ?_)
      refine lv_goto (tgt := 4) hx hb dX2_mostAt_29 (by decide) ?_
      cases hf
      exact hk _ _ _ (lv_sub hl [1, 2, 3, 0] rfl) hP hS
    · have hf := ite_f kc6 hf
      refine lv_iload_n hx hb dX2_mostAt_24 rfl (lv_at hl 3 rfl) ?_
      refine lv_istore_n (lv' := [(2, .int st.2), (0, .ref h), (1, .int x1), (3, .int st.2)]) hx hb dX2_mostAt_25 rfl hl (by decide) rfl (fun ls hl => ?_)
      refine lv_iinc (v := st.2 + nI 1) (lv' := [(3, .int (st.2 + nI 1)), (2, .int st.2), (0, .ref h), (1, .int x1)]) hx hb dX2_mostAt_26 hl (k := 3) rfl rfl (by decide) rfl (fun ls hl => ?_)
      refine lv_goto (tgt := 4) hx hb dX2_mostAt_29 (by decide) ?_
      cases hf
      exact hk _ _ _ (lv_sub hl [2, 3, 1, 0] rfl) hP hS
set_option maxHeartbeats 4000000 in
theorem dm_mostAt : yX2_mostAt.cls = RX2 ∧ yX2_mostAt.cls ≠ "java/lang/invoke/MethodHandle" ∧ yX2_mostAt.cls ≠ "java/lang/invoke/VarHandle" ∧ (parseMethodDescriptor yX2_mostAt.desc).map (fun d => d.parameters.length) = some 1 := ⟨rfl, by decide +kernel, by decide +kernel, by decide +kernel⟩
set_option maxHeartbeats 4000000 in
theorem tm_mostAt (l : Launch) (D : va_G) (dT : Nat → ClassId) (h : Nat) (x1 : Int32) (μ : nwM) (res : Int32) (hf : fm_mostAt x1 μ = some res) : Met l yX2_mostAt (ws_ yX2_mostAt cX2_mostAt 4 (some .int)) (rmd 1) (mPc D dT h μ [.int x1]) (mQi D dT h μ res) 0 0 (mA h) := by
  refine m_met (by decide) rfl (Nat.le_of_ble_eq_true rfl) ?_
  intro p e s m below meth c ls E hK hr hlk hl hP
  have hS : va_S (mA h) s.heap s.heap [] := va_S.rf
  obtain ⟨hx, hb, -, hown, hts⟩ := id E
  have hl : lv_has ls 4 [(0, .ref h), (1, .int x1)] := hl
  unfold fm_mostAt at hf
  refine lv_iconst (v := nI 0) hx hb dX2_mostAt_0 rfl ?_
  refine lv_istore_n (lv' := [(2, .int (nI 0)), (0, .ref h), (1, .int x1)]) hx hb dX2_mostAt_1 rfl hl (by decide) rfl (fun ls hl => ?_)
  refine lv_iconst (v := nI 1) hx hb dX2_mostAt_2 rfl ?_
  refine lv_istore_n (lv' := [(3, .int (nI 1)), (2, .int (nI 0)), (0, .ref h), (1, .int x1)]) hx hb dX2_mostAt_3 rfl hl (by decide) rfl (fun ls hl => ?_)
  obtain ⟨x7, hx7, hf⟩ := ob hf
  refine fm_mostAt_L4_w E hK x1 μ hx7 (fun ls H locs hl hP hS => ?_) _ _ _ (lv_sub hl [2, 3, 1, 0] rfl) hP hS
  refine lv_iload_n hx hb dX2_mostAt_32 rfl (lv_at hl 0 rfl) ?_
  cases hf
  exact m_iret E hr hlk hP hS rfl dX2_mostAt_33
set_option maxHeartbeats 4000000 in
noncomputable def fm_strengthAt (x1 : Int32) (μ : nwM) : Option (Int32) := (fm_mostAt x1 μ).bind fun v2 => (fm_skyAt x1 v2 μ).bind fun v4 => (fm_held (v4 / (nI 10)) (nI 1) (nI 9) μ).bind fun v6 => some v6
set_option maxHeartbeats 4000000 in
theorem dm_strengthAt : yX2_strengthAt.cls = RX2 ∧ yX2_strengthAt.cls ≠ "java/lang/invoke/MethodHandle" ∧ yX2_strengthAt.cls ≠ "java/lang/invoke/VarHandle" ∧ (parseMethodDescriptor yX2_strengthAt.desc).map (fun d => d.parameters.length) = some 1 := ⟨rfl, by decide +kernel, by decide +kernel, by decide +kernel⟩
set_option maxHeartbeats 4000000 in
theorem tm_strengthAt (l : Launch) (D : va_G) (dT : Nat → ClassId) (h : Nat) (x1 : Int32) (μ : nwM) (res : Int32) (hf : fm_strengthAt x1 μ = some res) : Met l yX2_strengthAt (ws_ yX2_strengthAt cX2_strengthAt 2 (some .int)) (rmd 2) (mPc D dT h μ [.int x1]) (mQi D dT h μ res) 0 0 (mA h) := by
  refine m_met (by decide) rfl (Nat.le_of_ble_eq_true rfl) ?_
  intro p e s m below meth c ls E hK hr hlk hl hP
  have hS : va_S (mA h) s.heap s.heap [] := va_S.rf
  obtain ⟨hx, hb, -, hown, hts⟩ := id E
  have hl : lv_has ls 2 [(0, .ref h), (1, .int x1)] := hl
  unfold fm_strengthAt at hf
  refine lv_aload_n hx hb dX2_strengthAt_0 rfl (lv_at hl 0 rfl) ?_
  refine lv_aload_n hx hb dX2_strengthAt_1 rfl (lv_at hl 0 rfl) ?_
  refine lv_iload_n hx hb dX2_strengthAt_2 rfl (lv_at hl 1 rfl) ?_
  refine lv_aload_n hx hb dX2_strengthAt_3 rfl (lv_at hl 0 rfl) ?_
  refine lv_iload_n hx hb dX2_strengthAt_4 rfl (lv_at hl 1 rfl) ?_
  obtain ⟨v2, hc1, hf⟩ := ob hf
  refine m_calli E hK hP hS (As := [.int x1]) (tm_mostAt l D dT h x1 μ _ hc1) (lw_V q1865 q1867 qs121 q166 q1868) dm_mostAt rfl (by decide) (by decide) hl rfl (Nat.le_of_ble_eq_true rfl) dX2_strengthAt_5 (fun H locs hP hS => ?_)
  obtain ⟨v4, hc3, hf⟩ := ob hf
  refine m_calli E hK hP hS (As := [.int x1, .int v2]) (tm_skyAt l D dT h x1 v2 μ _ hc3) (lw_V q1793 q1795 qs106 q166 q1796) dm_skyAt rfl (by decide) (by decide) hl rfl (Nat.le_of_ble_eq_true rfl) dX2_strengthAt_8 (fun H locs hP hS => ?_)
  refine lv_bipush (v := nI 10) hx hb dX2_strengthAt_11 rfl ?_
  refine lv_idiv hx hb dX2_strengthAt_13 (by decide) ?_
  refine lv_iconst (v := nI 1) hx hb dX2_strengthAt_14 rfl ?_
  refine lv_bipush (v := nI 9) hx hb dX2_strengthAt_15 rfl ?_
  obtain ⟨v6, hc5, hf⟩ := ob hf
  refine m_calli E hK hP hS (As := [.int (v4 / (nI 10)), .int (nI 1), .int (nI 9)]) (tm_held l D dT h (v4 / (nI 10)) (nI 1) (nI 9) μ _ hc5) (lw_V q1593 q1595 qs63 q166 q1596) dm_held rfl (by decide) (by decide) hl rfl (Nat.le_of_ble_eq_true rfl) dX2_strengthAt_17 (fun H locs hP hS => ?_)
  cases hf
  exact m_iret E hr hlk hP hS rfl dX2_strengthAt_20
set_option maxHeartbeats 4000000 in
noncomputable def fm_birth (x1 : Int32) (μ : nwM) : Option (Int32 × nwM) := (wf_ μ 0 (nI 0)).bind fun μ1 => (fm_isIsland x1 μ1).bind fun v3 => (if v3 = 0 then some ((-1), μ1) else (fm_allAt x1 μ1).bind fun v6 => (if v6 = 0 then some ((-1), μ1) else (rd_ μ1 1 105 (nI 4)).bind fun v8 => (if v8 = (nI 12) then some ((-1), μ1) else (fm_keepsAhead μ1).bind fun μ11 => (fm_mostAt x1 μ11).bind fun v13 => (fm_strengthAt x1 μ11).bind fun v15 => bd2 (fm_comes v13 v15 x1 μ11) fun v17 μ18 => (fm_notes (nI 3) v17 x1 (nI 0) μ18).bind fun μ20 => some (v17, μ20))))
set_option maxHeartbeats 4000000 in
theorem dm_birth : yX2_birth.cls = RX2 ∧ yX2_birth.cls ≠ "java/lang/invoke/MethodHandle" ∧ yX2_birth.cls ≠ "java/lang/invoke/VarHandle" ∧ (parseMethodDescriptor yX2_birth.desc).map (fun d => d.parameters.length) = some 1 := ⟨rfl, by decide +kernel, by decide +kernel, by decide +kernel⟩
set_option maxHeartbeats 4000000 in
theorem tm_birth (l : Launch) (D : va_G) (dT : Nat → ClassId) (h : Nat) (x1 : Int32) (μ : nwM) (res : Int32 × nwM) (hf : fm_birth x1 μ = some res) : Met l yX2_birth (ws_ yX2_birth cX2_birth 3 (some .int)) (rmd 3) (mPc D dT h μ [.int x1]) (mQi D dT h res.2 res.1) 0 0 (mA h) := by
  refine m_met (by decide) rfl (Nat.le_of_ble_eq_true rfl) ?_
  intro p e s m below meth c ls E hK hr hlk hl hP
  have hS : va_S (mA h) s.heap s.heap [] := va_S.rf
  obtain ⟨hx, hb, -, hown, hts⟩ := id E
  have hl : lv_has ls 3 [(0, .ref h), (1, .int x1)] := hl
  unfold fm_birth at hf
  refine lv_aload_n hx hb dX2_birth_0 rfl (lv_at hl 0 rfl) ?_
  refine lv_iconst (v := nI 0) hx hb dX2_birth_1 rfl ?_
  obtain ⟨μ1, hμ1, hf⟩ := ob hf
  refine m_put E hK hP hS 0 (by decide) rfl q1413 rfl rfl rfl hμ1 dX2_birth_2 (fun H locs hP hS => ?_)
  refine lv_aload_n hx hb dX2_birth_5 rfl (lv_at hl 0 rfl) ?_
  refine lv_iload_n hx hb dX2_birth_6 rfl (lv_at hl 1 rfl) ?_
  obtain ⟨v3, hc2, hf⟩ := ob hf
  refine m_calli E hK hP hS (As := [.int x1]) (tm_isIsland l D dT h x1 μ1 _ hc2) (lw_V q1577 q1579 qs60 q166 q1580) dm_isIsland rfl (by decide) (by decide) hl rfl (Nat.le_of_ble_eq_true rfl) dX2_birth_7 (fun H locs hP hS => ?_)
  refine lv_if_eq (tgt := 32) hx hb dX2_birth_10 (by decide) (fun kc4 => ?_) (fun kc4 => ?_)
  · have hf := ite_t kc4 hf
    refine lv_iconst (v := (-1)) hx hb dX2_birth_32 rfl ?_
    cases hf
    exact m_iret E hr hlk hP hS rfl dX2_birth_33
  · have hf := ite_f kc4 hf
    refine lv_aload_n hx hb dX2_birth_13 rfl (lv_at hl 0 rfl) ?_
    refine lv_iload_n hx hb dX2_birth_14 rfl (lv_at hl 1 rfl) ?_
    obtain ⟨v6, hc5, hf⟩ := ob hf
    refine m_calli E hK hP hS (As := [.int x1]) (tm_allAt l D dT h x1 μ1 _ hc5) (lw_V q1809 q1811 qs110 q166 q1812) dm_allAt rfl (by decide) (by decide) hl rfl (Nat.le_of_ble_eq_true rfl) dX2_birth_15 (fun H locs hP hS => ?_)
    refine lv_if_eq (tgt := 32) hx hb dX2_birth_18 (by decide) (fun kc7 => ?_) (fun kc7 => ?_)
    · have hf := ite_t kc7 hf
      refine lv_iconst (v := (-1)) hx hb dX2_birth_32 rfl ?_
      cases hf
      exact m_iret E hr hlk hP hS rfl dX2_birth_33
    · have hf := ite_f kc7 hf
      refine lv_aload_n hx hb dX2_birth_21 rfl (lv_at hl 0 rfl) ?_
      refine m_ga E hK hP 1 (by decide) rfl q1414 rfl dX2_birth_22 ?_
      refine lv_iconst (v := nI 4) hx hb dX2_birth_25 rfl ?_
      obtain ⟨v8, hv8, hf⟩ := ob hf
      refine m_ald E hK hP (by decide) rfl rfl hv8 dX2_birth_26 ?_
      refine lv_bipush (v := nI 12) hx hb dX2_birth_27 rfl ?_
      refine lv_icmp_ne (tgt := 34) hx hb dX2_birth_29 (by decide) (fun kc9 => ?_) (fun kc9 => ?_)
      · have hf := ite_f kc9 hf
        refine lv_aload_n hx hb dX2_birth_34 rfl (lv_at hl 0 rfl) ?_
        obtain ⟨μ11, hc10, hf⟩ := ob hf
        refine m_callv E hK hP hS (As := []) (tm_keepsAhead l D dT h μ1 _ hc10) (lw_V q1785 q1787 qs104 q166 q1788) dm_keepsAhead rfl (by decide) (by decide) hl rfl (Nat.le_of_ble_eq_true rfl) dX2_birth_35 (fun H locs hP hS => ?_)
        refine lv_aload_n hx hb dX2_birth_38 rfl (lv_at hl 0 rfl) ?_
        refine lv_aload_n hx hb dX2_birth_39 rfl (lv_at hl 0 rfl) ?_
        refine lv_iload_n hx hb dX2_birth_40 rfl (lv_at hl 1 rfl) ?_
        obtain ⟨v13, hc12, hf⟩ := ob hf
        refine m_calli E hK hP hS (As := [.int x1]) (tm_mostAt l D dT h x1 μ11 _ hc12) (lw_V q1865 q1867 qs121 q166 q1868) dm_mostAt rfl (by decide) (by decide) hl rfl (Nat.le_of_ble_eq_true rfl) dX2_birth_41 (fun H locs hP hS => ?_)
        refine lv_aload_n hx hb dX2_birth_44 rfl (lv_at hl 0 rfl) ?_
        refine lv_iload_n hx hb dX2_birth_45 rfl (lv_at hl 1 rfl) ?_
        obtain ⟨v15, hc14, hf⟩ := ob hf
        refine m_calli E hK hP hS (As := [.int x1]) (tm_strengthAt l D dT h x1 μ11 _ hc14) (lw_V q1869 q1871 qs122 q166 q1872) dm_strengthAt rfl (by decide) (by decide) hl rfl (Nat.le_of_ble_eq_true rfl) dX2_birth_46 (fun H locs hP hS => ?_)
        refine lv_iload_n hx hb dX2_birth_49 rfl (lv_at hl 1 rfl) ?_
        obtain ⟨v17, μ18, hc16, hf⟩ := ob2 hf
        refine m_calli E hK hP hS (As := [.int v13, .int v15, .int x1]) (tm_comes l D dT h v13 v15 x1 μ11 _ hc16) (lw_V q1581 q1583 qs61 q166 q1584) dm_comes rfl (by decide) (by decide) hl rfl (Nat.le_of_ble_eq_true rfl) dX2_birth_50 (fun H locs hP hS => ?_)
        refine lv_istore_n (lv' := [(2, .int v17), (0, .ref h), (1, .int x1)]) hx hb dX2_birth_53 rfl hl (by decide) rfl (fun ls hl => ?_)
        refine lv_aload_n hx hb dX2_birth_54 rfl (lv_at hl 1 rfl) ?_
        refine lv_iconst (v := nI 3) hx hb dX2_birth_55 rfl ?_
        refine lv_iload_n hx hb dX2_birth_56 rfl (lv_at hl 0 rfl) ?_
        refine lv_iload_n hx hb dX2_birth_57 rfl (lv_at hl 2 rfl) ?_
        refine lv_iconst (v := nI 0) hx hb dX2_birth_58 rfl ?_
        obtain ⟨μ20, hc19, hf⟩ := ob hf
        refine m_callv E hK hP hS (As := [.int (nI 3), .int v17, .int x1, .int (nI 0)]) (tm_notes l D dT h (nI 3) v17 x1 (nI 0) μ18 _ hc19) (lw_V q1837 q1839 qs117 q166 q1840) dm_notes rfl (by decide) (by decide) hl rfl (Nat.le_of_ble_eq_true rfl) dX2_birth_59 (fun H locs hP hS => ?_)
        refine lv_iload_n hx hb dX2_birth_62 rfl (lv_at hl 0 rfl) ?_
        cases hf
        exact m_iret E hr hlk hP hS rfl dX2_birth_63
      · have hf := ite_t kc9 hf
        refine lv_iconst (v := (-1)) hx hb dX2_birth_32 rfl ?_
        cases hf
        exact m_iret E hr hlk hP hS rfl dX2_birth_33
set_option maxHeartbeats 4000000 in
noncomputable def fm_does (x1 : Int32) (μ : nwM) : Option (nwM) := (rd_ μ 37 128 (x1 + (nI 2))).bind fun v1 => (rd_ μ 37 128 (x1 + (nI 3))).bind fun v2 => (rd_ μ 37 128 (x1 + (nI 1))).bind fun v3 => (if v3 = 0 then (fm_canCall v1 v2 μ).bind fun v43 => (if v43 = 0 then (rd_ μ 37 128 (x1 + (nI 1))).bind fun v45 => (if v45 = (nI 1) then (fm_canMove v1 v2 μ).bind fun v58 => (if v58 = 0 then (rd_ μ 37 128 (x1 + (nI 1))).bind fun v60 => (if v60 = (nI 2) then (fm_isOne v1 μ).bind fun v63 => (if v63 = 0 then some μ else (fm_isDead v1 μ).bind fun v66 => (if v66 = 0 then (fm_buries v1 μ).bind fun μ69 => some μ69 else some μ)) else some μ) else (fm_moves v1 v2 μ).bind fun μ71 => (rd_ μ71 37 128 (x1 + (nI 1))).bind fun v72 => (if v72 = (nI 2) then (fm_isOne v1 μ71).bind fun v75 => (if v75 = 0 then some μ71 else (fm_isDead v1 μ71).bind fun v78 => (if v78 = 0 then (fm_buries v1 μ71).bind fun μ81 => some μ81 else some μ71)) else some μ71)) else (rd_ μ 37 128 (x1 + (nI 1))).bind fun v47 => (if v47 = (nI 2) then (fm_isOne v1 μ).bind fun v50 => (if v50 = 0 then some μ else (fm_isDead v1 μ).bind fun v53 => (if v53 = 0 then (fm_buries v1 μ).bind fun μ56 => some μ56 else some μ)) else some μ)) else bd2 (fm_calledAt v1 v2 (nI 0) μ) fun v83 μ84 => (rd_ μ84 37 128 (x1 + (nI 1))).bind fun v85 => (if v85 = (nI 1) then (fm_canMove v1 v2 μ84).bind fun v98 => (if v98 = 0 then (rd_ μ84 37 128 (x1 + (nI 1))).bind fun v100 => (if v100 = (nI 2) then (fm_isOne v1 μ84).bind fun v103 => (if v103 = 0 then some μ84 else (fm_isDead v1 μ84).bind fun v106 => (if v106 = 0 then (fm_buries v1 μ84).bind fun μ109 => some μ109 else some μ84)) else some μ84) else (fm_moves v1 v2 μ84).bind fun μ111 => (rd_ μ111 37 128 (x1 + (nI 1))).bind fun v112 => (if v112 = (nI 2) then (fm_isOne v1 μ111).bind fun v115 => (if v115 = 0 then some μ111 else (fm_isDead v1 μ111).bind fun v118 => (if v118 = 0 then (fm_buries v1 μ111).bind fun μ121 => some μ121 else some μ111)) else some μ111)) else (rd_ μ84 37 128 (x1 + (nI 1))).bind fun v87 => (if v87 = (nI 2) then (fm_isOne v1 μ84).bind fun v90 => (if v90 = 0 then some μ84 else (fm_isDead v1 μ84).bind fun v93 => (if v93 = 0 then (fm_buries v1 μ84).bind fun μ96 => some μ96 else some μ84)) else some μ84))) else (rd_ μ 37 128 (x1 + (nI 1))).bind fun v5 => (if v5 = (nI 1) then (fm_canMove v1 v2 μ).bind fun v18 => (if v18 = 0 then (rd_ μ 37 128 (x1 + (nI 1))).bind fun v20 => (if v20 = (nI 2) then (fm_isOne v1 μ).bind fun v23 => (if v23 = 0 then some μ else (fm_isDead v1 μ).bind fun v26 => (if v26 = 0 then (fm_buries v1 μ).bind fun μ29 => some μ29 else some μ)) else some μ) else (fm_moves v1 v2 μ).bind fun μ31 => (rd_ μ31 37 128 (x1 + (nI 1))).bind fun v32 => (if v32 = (nI 2) then (fm_isOne v1 μ31).bind fun v35 => (if v35 = 0 then some μ31 else (fm_isDead v1 μ31).bind fun v38 => (if v38 = 0 then (fm_buries v1 μ31).bind fun μ41 => some μ41 else some μ31)) else some μ31)) else (rd_ μ 37 128 (x1 + (nI 1))).bind fun v7 => (if v7 = (nI 2) then (fm_isOne v1 μ).bind fun v10 => (if v10 = 0 then some μ else (fm_isDead v1 μ).bind fun v13 => (if v13 = 0 then (fm_buries v1 μ).bind fun μ16 => some μ16 else some μ)) else some μ)))
set_option maxHeartbeats 4000000 in
theorem dm_does : yX2_does.cls = RX2 ∧ yX2_does.cls ≠ "java/lang/invoke/MethodHandle" ∧ yX2_does.cls ≠ "java/lang/invoke/VarHandle" ∧ (parseMethodDescriptor yX2_does.desc).map (fun d => d.parameters.length) = some 1 := ⟨rfl, by decide +kernel, by decide +kernel, by decide +kernel⟩
set_option maxHeartbeats 4000000 in
theorem tm_does (l : Launch) (D : va_G) (dT : Nat → ClassId) (h : Nat) (x1 : Int32) (μ : nwM) (res : nwM) (hf : fm_does x1 μ = some res) : Met l yX2_does (ws_ yX2_does cX2_does 4 none) (rmd 6) (mPc D dT h μ [.int x1]) (mQv D dT h res) 0 0 (mA h) := by
  refine m_met (by decide) rfl (Nat.le_of_ble_eq_true rfl) ?_
  intro p e s m below meth c ls E hK hr hlk hl hP
  have hS : va_S (mA h) s.heap s.heap [] := va_S.rf
  obtain ⟨hx, hb, -, hown, hts⟩ := id E
  have hl : lv_has ls 4 [(0, .ref h), (1, .int x1)] := hl
  unfold fm_does at hf
  refine lv_aload_n hx hb dX2_does_0 rfl (lv_at hl 0 rfl) ?_
  refine m_ga E hK hP 37 (by decide) rfl q1450 rfl dX2_does_1 ?_
  refine lv_iload_n hx hb dX2_does_4 rfl (lv_at hl 1 rfl) ?_
  refine lv_iconst (v := nI 2) hx hb dX2_does_5 rfl ?_
  refine lv_iadd hx hb dX2_does_6 ?_
  obtain ⟨v1, hv1, hf⟩ := ob hf
  refine m_ald E hK hP (by decide) rfl rfl hv1 dX2_does_7 ?_
  refine lv_istore_n (lv' := [(2, .int v1), (0, .ref h), (1, .int x1)]) hx hb dX2_does_8 rfl hl (by decide) rfl (fun ls hl => ?_)
  refine lv_aload_n hx hb dX2_does_9 rfl (lv_at hl 1 rfl) ?_
  refine m_ga E hK hP 37 (by decide) rfl q1450 rfl dX2_does_10 ?_
  refine lv_iload_n hx hb dX2_does_13 rfl (lv_at hl 2 rfl) ?_
  refine lv_iconst (v := nI 3) hx hb dX2_does_14 rfl ?_
  refine lv_iadd hx hb dX2_does_15 ?_
  obtain ⟨v2, hv2, hf⟩ := ob hf
  refine m_ald E hK hP (by decide) rfl rfl hv2 dX2_does_16 ?_
  refine lv_istore_n (lv' := [(3, .int v2), (2, .int v1), (0, .ref h), (1, .int x1)]) hx hb dX2_does_17 rfl hl (by decide) rfl (fun ls hl => ?_)
  refine lv_aload_n hx hb dX2_does_18 rfl (lv_at hl 2 rfl) ?_
  refine m_ga E hK hP 37 (by decide) rfl q1450 rfl dX2_does_19 ?_
  refine lv_iload_n hx hb dX2_does_22 rfl (lv_at hl 3 rfl) ?_
  refine lv_iconst (v := nI 1) hx hb dX2_does_23 rfl ?_
  refine lv_iadd hx hb dX2_does_24 ?_
  obtain ⟨v3, hv3, hf⟩ := ob hf
  refine m_ald E hK hP (by decide) rfl rfl hv3 dX2_does_25 ?_
  refine lv_if_ne (tgt := 46) hx hb dX2_does_26 (by decide) (fun kc4 => ?_) (fun kc4 => ?_)
  · have hf := ite_f kc4 hf
    refine lv_aload_n hx hb dX2_does_46 rfl (lv_at hl 2 rfl) ?_
    refine m_ga E hK hP 37 (by decide) rfl q1450 rfl dX2_does_47 ?_
    refine lv_iload_n hx hb dX2_does_50 rfl (lv_at hl 3 rfl) ?_
    refine lv_iconst (v := nI 1) hx hb dX2_does_51 rfl ?_
    refine lv_iadd hx hb dX2_does_52 ?_
    obtain ⟨v5, hv5, hf⟩ := ob hf
    refine m_ald E hK hP (by decide) rfl rfl hv5 dX2_does_53 ?_
    refine lv_iconst (v := nI 1) hx hb dX2_does_54 rfl ?_
    refine lv_icmp_ne (tgt := 73) hx hb dX2_does_55 (by decide) (fun kc6 => ?_) (fun kc6 => ?_)
    · have hf := ite_f kc6 hf
      refine lv_aload_n hx hb dX2_does_73 rfl (lv_at hl 2 rfl) ?_
      refine m_ga E hK hP 37 (by decide) rfl q1450 rfl dX2_does_74 ?_
      refine lv_iload_n hx hb dX2_does_77 rfl (lv_at hl 3 rfl) ?_
      refine lv_iconst (v := nI 1) hx hb dX2_does_78 rfl ?_
      refine lv_iadd hx hb dX2_does_79 ?_
      obtain ⟨v7, hv7, hf⟩ := ob hf
      refine m_ald E hK hP (by decide) rfl rfl hv7 dX2_does_80 ?_
      refine lv_iconst (v := nI 2) hx hb dX2_does_81 rfl ?_
      refine lv_icmp_ne (tgt := 106) hx hb dX2_does_82 (by decide) (fun kc8 => ?_) (fun kc8 => ?_)
      · have hf := ite_f kc8 hf
        cases hf
        exact m_vret E hr hlk hP hS dX2_does_106
      · have hf := ite_t kc8 hf
        refine lv_aload_n hx hb dX2_does_85 rfl (lv_at hl 2 rfl) ?_
        refine lv_iload_n hx hb dX2_does_86 rfl (lv_at hl 1 rfl) ?_
        obtain ⟨v10, hc9, hf⟩ := ob hf
        refine m_calli E hK hP hS (As := [.int v1]) (tm_isOne l D dT h v1 μ _ hc9) (lw_V q1777 q1779 qs102 q166 q1780) dm_isOne rfl (by decide) (by decide) hl rfl (Nat.le_of_ble_eq_true rfl) dX2_does_87 (fun H locs hP hS => ?_)
        refine lv_if_eq (tgt := 106) hx hb dX2_does_90 (by decide) (fun kc11 => ?_) (fun kc11 => ?_)
        · have hf := ite_t kc11 hf
          cases hf
          exact m_vret E hr hlk hP hS dX2_does_106
        · have hf := ite_f kc11 hf
          refine lv_aload_n hx hb dX2_does_93 rfl (lv_at hl 2 rfl) ?_
          refine lv_iload_n hx hb dX2_does_94 rfl (lv_at hl 1 rfl) ?_
          obtain ⟨v13, hc12, hf⟩ := ob hf
          refine m_calli E hK hP hS (As := [.int v1]) (tm_isDead l D dT h v1 μ _ hc12) (lw_V q1781 q1783 qs103 q166 q1784) dm_isDead rfl (by decide) (by decide) hl rfl (Nat.le_of_ble_eq_true rfl) dX2_does_95 (fun H locs hP hS => ?_)
          refine lv_if_ne (tgt := 106) hx hb dX2_does_98 (by decide) (fun kc14 => ?_) (fun kc14 => ?_)
          · have hf := ite_f kc14 hf
            cases hf
            exact m_vret E hr hlk hP hS dX2_does_106
          · have hf := ite_t kc14 hf
            refine lv_aload_n hx hb dX2_does_101 rfl (lv_at hl 2 rfl) ?_
            refine lv_iload_n hx hb dX2_does_102 rfl (lv_at hl 1 rfl) ?_
            obtain ⟨μ16, hc15, hf⟩ := ob hf
            refine m_callv E hK hP hS (As := [.int v1]) (tm_buries l D dT h v1 μ _ hc15) (lw_V q1857 q1859 qs120 q166 q1860) dm_buries rfl (by decide) (by decide) hl rfl (Nat.le_of_ble_eq_true rfl) dX2_does_103 (fun H locs hP hS => ?_)
            cases hf
            exact m_vret E hr hlk hP hS dX2_does_106
    · have hf := ite_t kc6 hf
      refine lv_aload_n hx hb dX2_does_58 rfl (lv_at hl 2 rfl) ?_
      refine lv_iload_n hx hb dX2_does_59 rfl (lv_at hl 1 rfl) ?_
      refine lv_iload_n hx hb dX2_does_60 rfl (lv_at hl 0 rfl) ?_
      obtain ⟨v18, hc17, hf⟩ := ob hf
      refine m_calli E hK hP hS (As := [.int v1, .int v2]) (tm_canMove l D dT h v1 v2 μ _ hc17) (lw_V q1845 q1847 qs118 q166 q1848) dm_canMove rfl (by decide) (by decide) hl rfl (Nat.le_of_ble_eq_true rfl) dX2_does_61 (fun H locs hP hS => ?_)
      refine lv_if_eq (tgt := 73) hx hb dX2_does_64 (by decide) (fun kc19 => ?_) (fun kc19 => ?_)
      · have hf := ite_t kc19 hf
        refine lv_aload_n hx hb dX2_does_73 rfl (lv_at hl 2 rfl) ?_
        refine m_ga E hK hP 37 (by decide) rfl q1450 rfl dX2_does_74 ?_
        refine lv_iload_n hx hb dX2_does_77 rfl (lv_at hl 3 rfl) ?_
        refine lv_iconst (v := nI 1) hx hb dX2_does_78 rfl ?_
        refine lv_iadd hx hb dX2_does_79 ?_
        obtain ⟨v20, hv20, hf⟩ := ob hf
        refine m_ald E hK hP (by decide) rfl rfl hv20 dX2_does_80 ?_
        refine lv_iconst (v := nI 2) hx hb dX2_does_81 rfl ?_
        refine lv_icmp_ne (tgt := 106) hx hb dX2_does_82 (by decide) (fun kc21 => ?_) (fun kc21 => ?_)
        · have hf := ite_f kc21 hf
          cases hf
          exact m_vret E hr hlk hP hS dX2_does_106
        · have hf := ite_t kc21 hf
          refine lv_aload_n hx hb dX2_does_85 rfl (lv_at hl 2 rfl) ?_
          refine lv_iload_n hx hb dX2_does_86 rfl (lv_at hl 1 rfl) ?_
          obtain ⟨v23, hc22, hf⟩ := ob hf
          refine m_calli E hK hP hS (As := [.int v1]) (tm_isOne l D dT h v1 μ _ hc22) (lw_V q1777 q1779 qs102 q166 q1780) dm_isOne rfl (by decide) (by decide) hl rfl (Nat.le_of_ble_eq_true rfl) dX2_does_87 (fun H locs hP hS => ?_)
          refine lv_if_eq (tgt := 106) hx hb dX2_does_90 (by decide) (fun kc24 => ?_) (fun kc24 => ?_)
          · have hf := ite_t kc24 hf
            cases hf
            exact m_vret E hr hlk hP hS dX2_does_106
          · have hf := ite_f kc24 hf
            refine lv_aload_n hx hb dX2_does_93 rfl (lv_at hl 2 rfl) ?_
            refine lv_iload_n hx hb dX2_does_94 rfl (lv_at hl 1 rfl) ?_
            obtain ⟨v26, hc25, hf⟩ := ob hf
            refine m_calli E hK hP hS (As := [.int v1]) (tm_isDead l D dT h v1 μ _ hc25) (lw_V q1781 q1783 qs103 q166 q1784) dm_isDead rfl (by decide) (by decide) hl rfl (Nat.le_of_ble_eq_true rfl) dX2_does_95 (fun H locs hP hS => ?_)
            refine lv_if_ne (tgt := 106) hx hb dX2_does_98 (by decide) (fun kc27 => ?_) (fun kc27 => ?_)
            · have hf := ite_f kc27 hf
              cases hf
              exact m_vret E hr hlk hP hS dX2_does_106
            · have hf := ite_t kc27 hf
              refine lv_aload_n hx hb dX2_does_101 rfl (lv_at hl 2 rfl) ?_
              refine lv_iload_n hx hb dX2_does_102 rfl (lv_at hl 1 rfl) ?_
              obtain ⟨μ29, hc28, hf⟩ := ob hf
              refine m_callv E hK hP hS (As := [.int v1]) (tm_buries l D dT h v1 μ _ hc28) (lw_V q1857 q1859 qs120 q166 q1860) dm_buries rfl (by decide) (by decide) hl rfl (Nat.le_of_ble_eq_true rfl) dX2_does_103 (fun H locs hP hS => ?_)
              cases hf
              exact m_vret E hr hlk hP hS dX2_does_106
      · have hf := ite_f kc19 hf
        refine lv_aload_n hx hb dX2_does_67 rfl (lv_at hl 2 rfl) ?_
        refine lv_iload_n hx hb dX2_does_68 rfl (lv_at hl 1 rfl) ?_
        refine lv_iload_n hx hb dX2_does_69 rfl (lv_at hl 0 rfl) ?_
        obtain ⟨μ31, hc30, hf⟩ := ob hf
        refine m_callv E hK hP hS (As := [.int v1, .int v2]) (tm_moves l D dT h v1 v2 μ _ hc30) (lw_V q1849 q1851 qs119 q166 q1852) dm_moves rfl (by decide) (by decide) hl rfl (Nat.le_of_ble_eq_true rfl) dX2_does_70 (fun H locs hP hS => ?_)
        refine lv_aload_n hx hb dX2_does_73 rfl (lv_at hl 2 rfl) ?_
        refine m_ga E hK hP 37 (by decide) rfl q1450 rfl dX2_does_74 ?_
        refine lv_iload_n hx hb dX2_does_77 rfl (lv_at hl 3 rfl) ?_
        refine lv_iconst (v := nI 1) hx hb dX2_does_78 rfl ?_
        refine lv_iadd hx hb dX2_does_79 ?_
        obtain ⟨v32, hv32, hf⟩ := ob hf
        refine m_ald E hK hP (by decide) rfl rfl hv32 dX2_does_80 ?_
        refine lv_iconst (v := nI 2) hx hb dX2_does_81 rfl ?_
        refine lv_icmp_ne (tgt := 106) hx hb dX2_does_82 (by decide) (fun kc33 => ?_) (fun kc33 => ?_)
        · have hf := ite_f kc33 hf
          cases hf
          exact m_vret E hr hlk hP hS dX2_does_106
        · have hf := ite_t kc33 hf
          refine lv_aload_n hx hb dX2_does_85 rfl (lv_at hl 2 rfl) ?_
          refine lv_iload_n hx hb dX2_does_86 rfl (lv_at hl 1 rfl) ?_
          obtain ⟨v35, hc34, hf⟩ := ob hf
          refine m_calli E hK hP hS (As := [.int v1]) (tm_isOne l D dT h v1 μ31 _ hc34) (lw_V q1777 q1779 qs102 q166 q1780) dm_isOne rfl (by decide) (by decide) hl rfl (Nat.le_of_ble_eq_true rfl) dX2_does_87 (fun H locs hP hS => ?_)
          refine lv_if_eq (tgt := 106) hx hb dX2_does_90 (by decide) (fun kc36 => ?_) (fun kc36 => ?_)
          · have hf := ite_t kc36 hf
            cases hf
            exact m_vret E hr hlk hP hS dX2_does_106
          · have hf := ite_f kc36 hf
            refine lv_aload_n hx hb dX2_does_93 rfl (lv_at hl 2 rfl) ?_
            refine lv_iload_n hx hb dX2_does_94 rfl (lv_at hl 1 rfl) ?_
            obtain ⟨v38, hc37, hf⟩ := ob hf
            refine m_calli E hK hP hS (As := [.int v1]) (tm_isDead l D dT h v1 μ31 _ hc37) (lw_V q1781 q1783 qs103 q166 q1784) dm_isDead rfl (by decide) (by decide) hl rfl (Nat.le_of_ble_eq_true rfl) dX2_does_95 (fun H locs hP hS => ?_)
            refine lv_if_ne (tgt := 106) hx hb dX2_does_98 (by decide) (fun kc39 => ?_) (fun kc39 => ?_)
            · have hf := ite_f kc39 hf
              cases hf
              exact m_vret E hr hlk hP hS dX2_does_106
            · have hf := ite_t kc39 hf
              refine lv_aload_n hx hb dX2_does_101 rfl (lv_at hl 2 rfl) ?_
              refine lv_iload_n hx hb dX2_does_102 rfl (lv_at hl 1 rfl) ?_
              obtain ⟨μ41, hc40, hf⟩ := ob hf
              refine m_callv E hK hP hS (As := [.int v1]) (tm_buries l D dT h v1 μ31 _ hc40) (lw_V q1857 q1859 qs120 q166 q1860) dm_buries rfl (by decide) (by decide) hl rfl (Nat.le_of_ble_eq_true rfl) dX2_does_103 (fun H locs hP hS => ?_)
              cases hf
              exact m_vret E hr hlk hP hS dX2_does_106
  · have hf := ite_t kc4 hf
    refine lv_aload_n hx hb dX2_does_29 rfl (lv_at hl 2 rfl) ?_
    refine lv_iload_n hx hb dX2_does_30 rfl (lv_at hl 1 rfl) ?_
    refine lv_iload_n hx hb dX2_does_31 rfl (lv_at hl 0 rfl) ?_
    obtain ⟨v43, hc42, hf⟩ := ob hf
    refine m_calli E hK hP hS (As := [.int v1, .int v2]) (tm_canCall l D dT h v1 v2 μ _ hc42) (lw_V q1773 q1775 qs101 q166 q1776) dm_canCall rfl (by decide) (by decide) hl rfl (Nat.le_of_ble_eq_true rfl) dX2_does_32 (fun H locs hP hS => ?_)
    refine lv_if_eq (tgt := 46) hx hb dX2_does_35 (by decide) (fun kc44 => ?_) (fun kc44 => ?_)
    · have hf := ite_t kc44 hf
      refine lv_aload_n hx hb dX2_does_46 rfl (lv_at hl 2 rfl) ?_
      refine m_ga E hK hP 37 (by decide) rfl q1450 rfl dX2_does_47 ?_
      refine lv_iload_n hx hb dX2_does_50 rfl (lv_at hl 3 rfl) ?_
      refine lv_iconst (v := nI 1) hx hb dX2_does_51 rfl ?_
      refine lv_iadd hx hb dX2_does_52 ?_
      obtain ⟨v45, hv45, hf⟩ := ob hf
      refine m_ald E hK hP (by decide) rfl rfl hv45 dX2_does_53 ?_
      refine lv_iconst (v := nI 1) hx hb dX2_does_54 rfl ?_
      refine lv_icmp_ne (tgt := 73) hx hb dX2_does_55 (by decide) (fun kc46 => ?_) (fun kc46 => ?_)
      · have hf := ite_f kc46 hf
        refine lv_aload_n hx hb dX2_does_73 rfl (lv_at hl 2 rfl) ?_
        refine m_ga E hK hP 37 (by decide) rfl q1450 rfl dX2_does_74 ?_
        refine lv_iload_n hx hb dX2_does_77 rfl (lv_at hl 3 rfl) ?_
        refine lv_iconst (v := nI 1) hx hb dX2_does_78 rfl ?_
        refine lv_iadd hx hb dX2_does_79 ?_
        obtain ⟨v47, hv47, hf⟩ := ob hf
        refine m_ald E hK hP (by decide) rfl rfl hv47 dX2_does_80 ?_
        refine lv_iconst (v := nI 2) hx hb dX2_does_81 rfl ?_
        refine lv_icmp_ne (tgt := 106) hx hb dX2_does_82 (by decide) (fun kc48 => ?_) (fun kc48 => ?_)
        · have hf := ite_f kc48 hf
          cases hf
          exact m_vret E hr hlk hP hS dX2_does_106
        · have hf := ite_t kc48 hf
          refine lv_aload_n hx hb dX2_does_85 rfl (lv_at hl 2 rfl) ?_
          refine lv_iload_n hx hb dX2_does_86 rfl (lv_at hl 1 rfl) ?_
          obtain ⟨v50, hc49, hf⟩ := ob hf
          refine m_calli E hK hP hS (As := [.int v1]) (tm_isOne l D dT h v1 μ _ hc49) (lw_V q1777 q1779 qs102 q166 q1780) dm_isOne rfl (by decide) (by decide) hl rfl (Nat.le_of_ble_eq_true rfl) dX2_does_87 (fun H locs hP hS => ?_)
          refine lv_if_eq (tgt := 106) hx hb dX2_does_90 (by decide) (fun kc51 => ?_) (fun kc51 => ?_)
          · have hf := ite_t kc51 hf
            cases hf
            exact m_vret E hr hlk hP hS dX2_does_106
          · have hf := ite_f kc51 hf
            refine lv_aload_n hx hb dX2_does_93 rfl (lv_at hl 2 rfl) ?_
            refine lv_iload_n hx hb dX2_does_94 rfl (lv_at hl 1 rfl) ?_
            obtain ⟨v53, hc52, hf⟩ := ob hf
            refine m_calli E hK hP hS (As := [.int v1]) (tm_isDead l D dT h v1 μ _ hc52) (lw_V q1781 q1783 qs103 q166 q1784) dm_isDead rfl (by decide) (by decide) hl rfl (Nat.le_of_ble_eq_true rfl) dX2_does_95 (fun H locs hP hS => ?_)
            refine lv_if_ne (tgt := 106) hx hb dX2_does_98 (by decide) (fun kc54 => ?_) (fun kc54 => ?_)
            · have hf := ite_f kc54 hf
              cases hf
              exact m_vret E hr hlk hP hS dX2_does_106
            · have hf := ite_t kc54 hf
              refine lv_aload_n hx hb dX2_does_101 rfl (lv_at hl 2 rfl) ?_
              refine lv_iload_n hx hb dX2_does_102 rfl (lv_at hl 1 rfl) ?_
              obtain ⟨μ56, hc55, hf⟩ := ob hf
              refine m_callv E hK hP hS (As := [.int v1]) (tm_buries l D dT h v1 μ _ hc55) (lw_V q1857 q1859 qs120 q166 q1860) dm_buries rfl (by decide) (by decide) hl rfl (Nat.le_of_ble_eq_true rfl) dX2_does_103 (fun H locs hP hS => ?_)
              cases hf
              exact m_vret E hr hlk hP hS dX2_does_106
      · have hf := ite_t kc46 hf
        refine lv_aload_n hx hb dX2_does_58 rfl (lv_at hl 2 rfl) ?_
        refine lv_iload_n hx hb dX2_does_59 rfl (lv_at hl 1 rfl) ?_
        refine lv_iload_n hx hb dX2_does_60 rfl (lv_at hl 0 rfl) ?_
        obtain ⟨v58, hc57, hf⟩ := ob hf
        refine m_calli E hK hP hS (As := [.int v1, .int v2]) (tm_canMove l D dT h v1 v2 μ _ hc57) (lw_V q1845 q1847 qs118 q166 q1848) dm_canMove rfl (by decide) (by decide) hl rfl (Nat.le_of_ble_eq_true rfl) dX2_does_61 (fun H locs hP hS => ?_)
        refine lv_if_eq (tgt := 73) hx hb dX2_does_64 (by decide) (fun kc59 => ?_) (fun kc59 => ?_)
        · have hf := ite_t kc59 hf
          refine lv_aload_n hx hb dX2_does_73 rfl (lv_at hl 2 rfl) ?_
          refine m_ga E hK hP 37 (by decide) rfl q1450 rfl dX2_does_74 ?_
          refine lv_iload_n hx hb dX2_does_77 rfl (lv_at hl 3 rfl) ?_
          refine lv_iconst (v := nI 1) hx hb dX2_does_78 rfl ?_
          refine lv_iadd hx hb dX2_does_79 ?_
          obtain ⟨v60, hv60, hf⟩ := ob hf
          refine m_ald E hK hP (by decide) rfl rfl hv60 dX2_does_80 ?_
          refine lv_iconst (v := nI 2) hx hb dX2_does_81 rfl ?_
          refine lv_icmp_ne (tgt := 106) hx hb dX2_does_82 (by decide) (fun kc61 => ?_) (fun kc61 => ?_)
          · have hf := ite_f kc61 hf
            cases hf
            exact m_vret E hr hlk hP hS dX2_does_106
          · have hf := ite_t kc61 hf
            refine lv_aload_n hx hb dX2_does_85 rfl (lv_at hl 2 rfl) ?_
            refine lv_iload_n hx hb dX2_does_86 rfl (lv_at hl 1 rfl) ?_
            obtain ⟨v63, hc62, hf⟩ := ob hf
            refine m_calli E hK hP hS (As := [.int v1]) (tm_isOne l D dT h v1 μ _ hc62) (lw_V q1777 q1779 qs102 q166 q1780) dm_isOne rfl (by decide) (by decide) hl rfl (Nat.le_of_ble_eq_true rfl) dX2_does_87 (fun H locs hP hS => ?_)
            refine lv_if_eq (tgt := 106) hx hb dX2_does_90 (by decide) (fun kc64 => ?_) (fun kc64 => ?_)
            · have hf := ite_t kc64 hf
              cases hf
              exact m_vret E hr hlk hP hS dX2_does_106
            · have hf := ite_f kc64 hf
              refine lv_aload_n hx hb dX2_does_93 rfl (lv_at hl 2 rfl) ?_
              refine lv_iload_n hx hb dX2_does_94 rfl (lv_at hl 1 rfl) ?_
              obtain ⟨v66, hc65, hf⟩ := ob hf
              refine m_calli E hK hP hS (As := [.int v1]) (tm_isDead l D dT h v1 μ _ hc65) (lw_V q1781 q1783 qs103 q166 q1784) dm_isDead rfl (by decide) (by decide) hl rfl (Nat.le_of_ble_eq_true rfl) dX2_does_95 (fun H locs hP hS => ?_)
              refine lv_if_ne (tgt := 106) hx hb dX2_does_98 (by decide) (fun kc67 => ?_) (fun kc67 => ?_)
              · have hf := ite_f kc67 hf
                cases hf
                exact m_vret E hr hlk hP hS dX2_does_106
              · have hf := ite_t kc67 hf
                refine lv_aload_n hx hb dX2_does_101 rfl (lv_at hl 2 rfl) ?_
                refine lv_iload_n hx hb dX2_does_102 rfl (lv_at hl 1 rfl) ?_
                obtain ⟨μ69, hc68, hf⟩ := ob hf
                refine m_callv E hK hP hS (As := [.int v1]) (tm_buries l D dT h v1 μ _ hc68) (lw_V q1857 q1859 qs120 q166 q1860) dm_buries rfl (by decide) (by decide) hl rfl (Nat.le_of_ble_eq_true rfl) dX2_does_103 (fun H locs hP hS => ?_)
                cases hf
                exact m_vret E hr hlk hP hS dX2_does_106
        · have hf := ite_f kc59 hf
          refine lv_aload_n hx hb dX2_does_67 rfl (lv_at hl 2 rfl) ?_
          refine lv_iload_n hx hb dX2_does_68 rfl (lv_at hl 1 rfl) ?_
          refine lv_iload_n hx hb dX2_does_69 rfl (lv_at hl 0 rfl) ?_
          obtain ⟨μ71, hc70, hf⟩ := ob hf
          refine m_callv E hK hP hS (As := [.int v1, .int v2]) (tm_moves l D dT h v1 v2 μ _ hc70) (lw_V q1849 q1851 qs119 q166 q1852) dm_moves rfl (by decide) (by decide) hl rfl (Nat.le_of_ble_eq_true rfl) dX2_does_70 (fun H locs hP hS => ?_)
          refine lv_aload_n hx hb dX2_does_73 rfl (lv_at hl 2 rfl) ?_
          refine m_ga E hK hP 37 (by decide) rfl q1450 rfl dX2_does_74 ?_
          refine lv_iload_n hx hb dX2_does_77 rfl (lv_at hl 3 rfl) ?_
          refine lv_iconst (v := nI 1) hx hb dX2_does_78 rfl ?_
          refine lv_iadd hx hb dX2_does_79 ?_
          obtain ⟨v72, hv72, hf⟩ := ob hf
          refine m_ald E hK hP (by decide) rfl rfl hv72 dX2_does_80 ?_
          refine lv_iconst (v := nI 2) hx hb dX2_does_81 rfl ?_
          refine lv_icmp_ne (tgt := 106) hx hb dX2_does_82 (by decide) (fun kc73 => ?_) (fun kc73 => ?_)
          · have hf := ite_f kc73 hf
            cases hf
            exact m_vret E hr hlk hP hS dX2_does_106
          · have hf := ite_t kc73 hf
            refine lv_aload_n hx hb dX2_does_85 rfl (lv_at hl 2 rfl) ?_
            refine lv_iload_n hx hb dX2_does_86 rfl (lv_at hl 1 rfl) ?_
            obtain ⟨v75, hc74, hf⟩ := ob hf
            refine m_calli E hK hP hS (As := [.int v1]) (tm_isOne l D dT h v1 μ71 _ hc74) (lw_V q1777 q1779 qs102 q166 q1780) dm_isOne rfl (by decide) (by decide) hl rfl (Nat.le_of_ble_eq_true rfl) dX2_does_87 (fun H locs hP hS => ?_)
            refine lv_if_eq (tgt := 106) hx hb dX2_does_90 (by decide) (fun kc76 => ?_) (fun kc76 => ?_)
            · have hf := ite_t kc76 hf
              cases hf
              exact m_vret E hr hlk hP hS dX2_does_106
            · have hf := ite_f kc76 hf
              refine lv_aload_n hx hb dX2_does_93 rfl (lv_at hl 2 rfl) ?_
              refine lv_iload_n hx hb dX2_does_94 rfl (lv_at hl 1 rfl) ?_
              obtain ⟨v78, hc77, hf⟩ := ob hf
              refine m_calli E hK hP hS (As := [.int v1]) (tm_isDead l D dT h v1 μ71 _ hc77) (lw_V q1781 q1783 qs103 q166 q1784) dm_isDead rfl (by decide) (by decide) hl rfl (Nat.le_of_ble_eq_true rfl) dX2_does_95 (fun H locs hP hS => ?_)
              refine lv_if_ne (tgt := 106) hx hb dX2_does_98 (by decide) (fun kc79 => ?_) (fun kc79 => ?_)
              · have hf := ite_f kc79 hf
                cases hf
                exact m_vret E hr hlk hP hS dX2_does_106
              · have hf := ite_t kc79 hf
                refine lv_aload_n hx hb dX2_does_101 rfl (lv_at hl 2 rfl) ?_
                refine lv_iload_n hx hb dX2_does_102 rfl (lv_at hl 1 rfl) ?_
                obtain ⟨μ81, hc80, hf⟩ := ob hf
                refine m_callv E hK hP hS (As := [.int v1]) (tm_buries l D dT h v1 μ71 _ hc80) (lw_V q1857 q1859 qs120 q166 q1860) dm_buries rfl (by decide) (by decide) hl rfl (Nat.le_of_ble_eq_true rfl) dX2_does_103 (fun H locs hP hS => ?_)
                cases hf
                exact m_vret E hr hlk hP hS dX2_does_106
    · have hf := ite_f kc44 hf
      refine lv_aload_n hx hb dX2_does_38 rfl (lv_at hl 2 rfl) ?_
      refine lv_iload_n hx hb dX2_does_39 rfl (lv_at hl 1 rfl) ?_
      refine lv_iload_n hx hb dX2_does_40 rfl (lv_at hl 0 rfl) ?_
      refine lv_iconst (v := nI 0) hx hb dX2_does_41 rfl ?_
      obtain ⟨v83, μ84, hc82, hf⟩ := ob2 hf
      refine m_calli E hK hP hS (As := [.int v1, .int v2, .int (nI 0)]) (tm_calledAt l D dT h v1 v2 (nI 0) μ _ hc82) (lw_V q1789 q1791 qs105 q166 q1792) dm_calledAt rfl (by decide) (by decide) hl rfl (Nat.le_of_ble_eq_true rfl) dX2_does_42 (fun H locs hP hS => ?_)
      refine lv_pop hx hb dX2_does_45 rfl ?_
      refine lv_aload_n hx hb dX2_does_46 rfl (lv_at hl 2 rfl) ?_
      refine m_ga E hK hP 37 (by decide) rfl q1450 rfl dX2_does_47 ?_
      refine lv_iload_n hx hb dX2_does_50 rfl (lv_at hl 3 rfl) ?_
      refine lv_iconst (v := nI 1) hx hb dX2_does_51 rfl ?_
      refine lv_iadd hx hb dX2_does_52 ?_
      obtain ⟨v85, hv85, hf⟩ := ob hf
      refine m_ald E hK hP (by decide) rfl rfl hv85 dX2_does_53 ?_
      refine lv_iconst (v := nI 1) hx hb dX2_does_54 rfl ?_
      refine lv_icmp_ne (tgt := 73) hx hb dX2_does_55 (by decide) (fun kc86 => ?_) (fun kc86 => ?_)
      · have hf := ite_f kc86 hf
        refine lv_aload_n hx hb dX2_does_73 rfl (lv_at hl 2 rfl) ?_
        refine m_ga E hK hP 37 (by decide) rfl q1450 rfl dX2_does_74 ?_
        refine lv_iload_n hx hb dX2_does_77 rfl (lv_at hl 3 rfl) ?_
        refine lv_iconst (v := nI 1) hx hb dX2_does_78 rfl ?_
        refine lv_iadd hx hb dX2_does_79 ?_
        obtain ⟨v87, hv87, hf⟩ := ob hf
        refine m_ald E hK hP (by decide) rfl rfl hv87 dX2_does_80 ?_
        refine lv_iconst (v := nI 2) hx hb dX2_does_81 rfl ?_
        refine lv_icmp_ne (tgt := 106) hx hb dX2_does_82 (by decide) (fun kc88 => ?_) (fun kc88 => ?_)
        · have hf := ite_f kc88 hf
          cases hf
          exact m_vret E hr hlk hP hS dX2_does_106
        · have hf := ite_t kc88 hf
          refine lv_aload_n hx hb dX2_does_85 rfl (lv_at hl 2 rfl) ?_
          refine lv_iload_n hx hb dX2_does_86 rfl (lv_at hl 1 rfl) ?_
          obtain ⟨v90, hc89, hf⟩ := ob hf
          refine m_calli E hK hP hS (As := [.int v1]) (tm_isOne l D dT h v1 μ84 _ hc89) (lw_V q1777 q1779 qs102 q166 q1780) dm_isOne rfl (by decide) (by decide) hl rfl (Nat.le_of_ble_eq_true rfl) dX2_does_87 (fun H locs hP hS => ?_)
          refine lv_if_eq (tgt := 106) hx hb dX2_does_90 (by decide) (fun kc91 => ?_) (fun kc91 => ?_)
          · have hf := ite_t kc91 hf
            cases hf
            exact m_vret E hr hlk hP hS dX2_does_106
          · have hf := ite_f kc91 hf
            refine lv_aload_n hx hb dX2_does_93 rfl (lv_at hl 2 rfl) ?_
            refine lv_iload_n hx hb dX2_does_94 rfl (lv_at hl 1 rfl) ?_
            obtain ⟨v93, hc92, hf⟩ := ob hf
            refine m_calli E hK hP hS (As := [.int v1]) (tm_isDead l D dT h v1 μ84 _ hc92) (lw_V q1781 q1783 qs103 q166 q1784) dm_isDead rfl (by decide) (by decide) hl rfl (Nat.le_of_ble_eq_true rfl) dX2_does_95 (fun H locs hP hS => ?_)
            refine lv_if_ne (tgt := 106) hx hb dX2_does_98 (by decide) (fun kc94 => ?_) (fun kc94 => ?_)
            · have hf := ite_f kc94 hf
              cases hf
              exact m_vret E hr hlk hP hS dX2_does_106
            · have hf := ite_t kc94 hf
              refine lv_aload_n hx hb dX2_does_101 rfl (lv_at hl 2 rfl) ?_
              refine lv_iload_n hx hb dX2_does_102 rfl (lv_at hl 1 rfl) ?_
              obtain ⟨μ96, hc95, hf⟩ := ob hf
              refine m_callv E hK hP hS (As := [.int v1]) (tm_buries l D dT h v1 μ84 _ hc95) (lw_V q1857 q1859 qs120 q166 q1860) dm_buries rfl (by decide) (by decide) hl rfl (Nat.le_of_ble_eq_true rfl) dX2_does_103 (fun H locs hP hS => ?_)
              cases hf
              exact m_vret E hr hlk hP hS dX2_does_106
      · have hf := ite_t kc86 hf
        refine lv_aload_n hx hb dX2_does_58 rfl (lv_at hl 2 rfl) ?_
        refine lv_iload_n hx hb dX2_does_59 rfl (lv_at hl 1 rfl) ?_
        refine lv_iload_n hx hb dX2_does_60 rfl (lv_at hl 0 rfl) ?_
        obtain ⟨v98, hc97, hf⟩ := ob hf
        refine m_calli E hK hP hS (As := [.int v1, .int v2]) (tm_canMove l D dT h v1 v2 μ84 _ hc97) (lw_V q1845 q1847 qs118 q166 q1848) dm_canMove rfl (by decide) (by decide) hl rfl (Nat.le_of_ble_eq_true rfl) dX2_does_61 (fun H locs hP hS => ?_)
        refine lv_if_eq (tgt := 73) hx hb dX2_does_64 (by decide) (fun kc99 => ?_) (fun kc99 => ?_)
        · have hf := ite_t kc99 hf
          refine lv_aload_n hx hb dX2_does_73 rfl (lv_at hl 2 rfl) ?_
          refine m_ga E hK hP 37 (by decide) rfl q1450 rfl dX2_does_74 ?_
          refine lv_iload_n hx hb dX2_does_77 rfl (lv_at hl 3 rfl) ?_
          refine lv_iconst (v := nI 1) hx hb dX2_does_78 rfl ?_
          refine lv_iadd hx hb dX2_does_79 ?_
          obtain ⟨v100, hv100, hf⟩ := ob hf
          refine m_ald E hK hP (by decide) rfl rfl hv100 dX2_does_80 ?_
          refine lv_iconst (v := nI 2) hx hb dX2_does_81 rfl ?_
          refine lv_icmp_ne (tgt := 106) hx hb dX2_does_82 (by decide) (fun kc101 => ?_) (fun kc101 => ?_)
          · have hf := ite_f kc101 hf
            cases hf
            exact m_vret E hr hlk hP hS dX2_does_106
          · have hf := ite_t kc101 hf
            refine lv_aload_n hx hb dX2_does_85 rfl (lv_at hl 2 rfl) ?_
            refine lv_iload_n hx hb dX2_does_86 rfl (lv_at hl 1 rfl) ?_
            obtain ⟨v103, hc102, hf⟩ := ob hf
            refine m_calli E hK hP hS (As := [.int v1]) (tm_isOne l D dT h v1 μ84 _ hc102) (lw_V q1777 q1779 qs102 q166 q1780) dm_isOne rfl (by decide) (by decide) hl rfl (Nat.le_of_ble_eq_true rfl) dX2_does_87 (fun H locs hP hS => ?_)
            refine lv_if_eq (tgt := 106) hx hb dX2_does_90 (by decide) (fun kc104 => ?_) (fun kc104 => ?_)
            · have hf := ite_t kc104 hf
              cases hf
              exact m_vret E hr hlk hP hS dX2_does_106
            · have hf := ite_f kc104 hf
              refine lv_aload_n hx hb dX2_does_93 rfl (lv_at hl 2 rfl) ?_
              refine lv_iload_n hx hb dX2_does_94 rfl (lv_at hl 1 rfl) ?_
              obtain ⟨v106, hc105, hf⟩ := ob hf
              refine m_calli E hK hP hS (As := [.int v1]) (tm_isDead l D dT h v1 μ84 _ hc105) (lw_V q1781 q1783 qs103 q166 q1784) dm_isDead rfl (by decide) (by decide) hl rfl (Nat.le_of_ble_eq_true rfl) dX2_does_95 (fun H locs hP hS => ?_)
              refine lv_if_ne (tgt := 106) hx hb dX2_does_98 (by decide) (fun kc107 => ?_) (fun kc107 => ?_)
              · have hf := ite_f kc107 hf
                cases hf
                exact m_vret E hr hlk hP hS dX2_does_106
              · have hf := ite_t kc107 hf
                refine lv_aload_n hx hb dX2_does_101 rfl (lv_at hl 2 rfl) ?_
                refine lv_iload_n hx hb dX2_does_102 rfl (lv_at hl 1 rfl) ?_
                obtain ⟨μ109, hc108, hf⟩ := ob hf
                refine m_callv E hK hP hS (As := [.int v1]) (tm_buries l D dT h v1 μ84 _ hc108) (lw_V q1857 q1859 qs120 q166 q1860) dm_buries rfl (by decide) (by decide) hl rfl (Nat.le_of_ble_eq_true rfl) dX2_does_103 (fun H locs hP hS => ?_)
                cases hf
                exact m_vret E hr hlk hP hS dX2_does_106
        · have hf := ite_f kc99 hf
          refine lv_aload_n hx hb dX2_does_67 rfl (lv_at hl 2 rfl) ?_
          refine lv_iload_n hx hb dX2_does_68 rfl (lv_at hl 1 rfl) ?_
          refine lv_iload_n hx hb dX2_does_69 rfl (lv_at hl 0 rfl) ?_
          obtain ⟨μ111, hc110, hf⟩ := ob hf
          refine m_callv E hK hP hS (As := [.int v1, .int v2]) (tm_moves l D dT h v1 v2 μ84 _ hc110) (lw_V q1849 q1851 qs119 q166 q1852) dm_moves rfl (by decide) (by decide) hl rfl (Nat.le_of_ble_eq_true rfl) dX2_does_70 (fun H locs hP hS => ?_)
          refine lv_aload_n hx hb dX2_does_73 rfl (lv_at hl 2 rfl) ?_
          refine m_ga E hK hP 37 (by decide) rfl q1450 rfl dX2_does_74 ?_
          refine lv_iload_n hx hb dX2_does_77 rfl (lv_at hl 3 rfl) ?_
          refine lv_iconst (v := nI 1) hx hb dX2_does_78 rfl ?_
          refine lv_iadd hx hb dX2_does_79 ?_
          obtain ⟨v112, hv112, hf⟩ := ob hf
          refine m_ald E hK hP (by decide) rfl rfl hv112 dX2_does_80 ?_
          refine lv_iconst (v := nI 2) hx hb dX2_does_81 rfl ?_
          refine lv_icmp_ne (tgt := 106) hx hb dX2_does_82 (by decide) (fun kc113 => ?_) (fun kc113 => ?_)
          · have hf := ite_f kc113 hf
            cases hf
            exact m_vret E hr hlk hP hS dX2_does_106
          · have hf := ite_t kc113 hf
            refine lv_aload_n hx hb dX2_does_85 rfl (lv_at hl 2 rfl) ?_
            refine lv_iload_n hx hb dX2_does_86 rfl (lv_at hl 1 rfl) ?_
            obtain ⟨v115, hc114, hf⟩ := ob hf
            refine m_calli E hK hP hS (As := [.int v1]) (tm_isOne l D dT h v1 μ111 _ hc114) (lw_V q1777 q1779 qs102 q166 q1780) dm_isOne rfl (by decide) (by decide) hl rfl (Nat.le_of_ble_eq_true rfl) dX2_does_87 (fun H locs hP hS => ?_)
            refine lv_if_eq (tgt := 106) hx hb dX2_does_90 (by decide) (fun kc116 => ?_) (fun kc116 => ?_)
            · have hf := ite_t kc116 hf
              cases hf
              exact m_vret E hr hlk hP hS dX2_does_106
            · have hf := ite_f kc116 hf
              refine lv_aload_n hx hb dX2_does_93 rfl (lv_at hl 2 rfl) ?_
              refine lv_iload_n hx hb dX2_does_94 rfl (lv_at hl 1 rfl) ?_
              obtain ⟨v118, hc117, hf⟩ := ob hf
              refine m_calli E hK hP hS (As := [.int v1]) (tm_isDead l D dT h v1 μ111 _ hc117) (lw_V q1781 q1783 qs103 q166 q1784) dm_isDead rfl (by decide) (by decide) hl rfl (Nat.le_of_ble_eq_true rfl) dX2_does_95 (fun H locs hP hS => ?_)
              refine lv_if_ne (tgt := 106) hx hb dX2_does_98 (by decide) (fun kc119 => ?_) (fun kc119 => ?_)
              · have hf := ite_f kc119 hf
                cases hf
                exact m_vret E hr hlk hP hS dX2_does_106
              · have hf := ite_t kc119 hf
                refine lv_aload_n hx hb dX2_does_101 rfl (lv_at hl 2 rfl) ?_
                refine lv_iload_n hx hb dX2_does_102 rfl (lv_at hl 1 rfl) ?_
                obtain ⟨μ121, hc120, hf⟩ := ob hf
                refine m_callv E hK hP hS (As := [.int v1]) (tm_buries l D dT h v1 μ111 _ hc120) (lw_V q1857 q1859 qs120 q166 q1860) dm_buries rfl (by decide) (by decide) hl rfl (Nat.le_of_ble_eq_true rfl) dX2_does_103 (fun H locs hP hS => ?_)
                cases hf
                exact m_vret E hr hlk hP hS dX2_does_106
