/-! walks of NamesWeatherModel, written by genm.py -/
set_option maxRecDepth 100000
set_option maxHeartbeats 4000000 in
def fm_takesLaw_L2 (x1 : Int32) : (Int32 × nwM) → Option ((Int32 × nwM) ⊕ (nwM)) := fun st => (if x1 ≤ st.1 then some (.inr st.2) else (rd_ st.2 17 48 ((nI 32) + st.1)).bind fun v2 => (wr_ st.2 17 48 (((nI 16) * (st.2 23 0)) + st.1) v2).bind fun μ3 => (rd_ μ3 18 48 ((nI 32) + st.1)).bind fun v4 => (wr_ μ3 18 48 (((nI 16) * (μ3 23 0)) + st.1) v4).bind fun μ5 => (rd_ μ5 19 48 ((nI 32) + st.1)).bind fun v6 => (wr_ μ5 19 48 (((nI 16) * (μ5 23 0)) + st.1) v6).bind fun μ7 => (rd_ μ7 20 48 ((nI 32) + st.1)).bind fun v8 => (wr_ μ7 20 48 (((nI 16) * (μ7 23 0)) + st.1) v8).bind fun μ9 => some (.inl (st.1 + nI 1, μ9)))
set_option maxHeartbeats 4000000 in
def fm_takesLaw_L107 (x1 : Int32) : (Int32 × nwM) → Option ((Int32 × nwM) ⊕ (nwM)) := fun st => (if (st.2 24 0) ≤ st.1 then some (.inr st.2) else (rd_ st.2 21 1200 ((nI 800) + st.1)).bind fun v12 => (wr_ st.2 21 1200 (((nI 400) * (st.2 23 0)) + st.1) v12).bind fun μ13 => (rd_ μ13 22 1200 ((nI 800) + st.1)).bind fun v14 => (wr_ μ13 22 1200 (((nI 400) * (μ13 23 0)) + st.1) v14).bind fun μ15 => some (.inl (st.1 + nI 1, μ15)))
set_option maxHeartbeats 4000000 in
noncomputable def fm_takesLaw (x1 : Int32) (μ : nwM) : Option (nwM) := (wh_ (fm_takesLaw_L2 x1) (nI 0, μ)).bind fun x10 => (wh_ (fm_takesLaw_L107 x1) (nI 0, x10)).bind fun x16 => (wr_ x16 16 2 (x16 23 0) x1).bind fun μ17 => some μ17
set_option maxHeartbeats 4000000 in
theorem fm_takesLaw_L2_w {p : Program} {l : Launch} {e : Env} {s : State} {m : MethodId} {args : Array Value} {below : List Frame} {meth : Method} {c : Code} {Q : State → Prop} {D : va_G} {dT : Nat → ClassId} {h : Nat} (E : CallFix p m c cX2_takesLaw 3 s args lw_all RX2) (hK : va_K D nwCl (nwT dT) s) (x1 : Int32) {st : Int32 × nwM} {x : nwM} (hw : wh_ (fm_takesLaw_L2 x1) st = some x) (hk : (fun x : nwM => ∀ (ls : Array Slot) (H : Heap) (locs : List Loc), lv_has ls 3 [(0, .ref h), (1, .int x1)] → PM D dT h x H → va_S (mA h) s.heap H locs → W p l e (rmd 0) s m args below meth c H locs 0 0 Q (F0 m 105 ls [])) x) : (fun st : Int32 × nwM => ∀ (ls : Array Slot) (H : Heap) (locs : List Loc), lv_has ls 3 [(0, .ref h), (1, .int x1), (2, .int st.1)] → PM D dT h st.2 H → va_S (mA h) s.heap H locs → W p l e (rmd 0) s m args below meth c H locs 0 0 Q (F0 m 2 ls [])) st := by
  obtain ⟨hx, hb, -, hown, hts⟩ := id E
  refine wh_run (P := (fun st : Int32 × nwM => ∀ (ls : Array Slot) (H : Heap) (locs : List Loc), lv_has ls 3 [(0, .ref h), (1, .int x1), (2, .int st.1)] → PM D dT h st.2 H → va_S (mA h) s.heap H locs → W p l e (rmd 0) s m args below meth c H locs 0 0 Q (F0 m 2 ls []))) (PE := (fun x : nwM => ∀ (ls : Array Slot) (H : Heap) (locs : List Loc), lv_has ls 3 [(0, .ref h), (1, .int x1)] → PM D dT h x H → va_S (mA h) s.heap H locs → W p l e (rmd 0) s m args below meth c H locs 0 0 Q (F0 m 105 ls []))) ?_ hw hk
  clear hw hk
  intro st x hf hk ls H locs hl hP hS
  refine lv_iload_n hx hb dX2_takesLaw_2 rfl (lv_at hl 2 rfl) ?_
  refine lv_iload_n hx hb dX2_takesLaw_3 rfl (lv_at hl 1 rfl) ?_
  refine lv_icmp_ge (tgt := 105) hx hb dX2_takesLaw_4 (by decide) (fun kc1 => ?_) (fun kc1 => ?_)
  · have hf := ite_t kc1 hf
    cases hf
    exact hk _ _ _ (lv_sub hl [0, 1] rfl) hP hS
  · have hf := ite_f kc1 hf
    refine lv_aload_n hx hb dX2_takesLaw_7 rfl (lv_at hl 0 rfl) ?_
    refine m_ga E hK hP 17 (by decide) rfl q1430 rfl dX2_takesLaw_8 ?_
    refine lv_bipush (v := nI 16) hx hb dX2_takesLaw_11 rfl ?_
    refine lv_aload_n hx hb dX2_takesLaw_13 rfl (lv_at hl 0 rfl) ?_
    refine m_get E hK hP 23 (by decide) rfl q1436 rfl dX2_takesLaw_14 ?_
    refine lv_imul hx hb dX2_takesLaw_17 ?_
    refine lv_iload_n hx hb dX2_takesLaw_18 rfl (lv_at hl 2 rfl) ?_
    refine lv_iadd hx hb dX2_takesLaw_19 ?_
    refine lv_aload_n hx hb dX2_takesLaw_20 rfl (lv_at hl 0 rfl) ?_
    refine m_ga E hK hP 17 (by decide) rfl q1430 rfl dX2_takesLaw_21 ?_
    refine lv_bipush (v := nI 32) hx hb dX2_takesLaw_24 rfl ?_
    refine lv_iload_n hx hb dX2_takesLaw_26 rfl (lv_at hl 2 rfl) ?_
    refine lv_iadd hx hb dX2_takesLaw_27 ?_
    obtain ⟨v2, hv2, hf⟩ := ob hf
    refine m_ald E hK hP (by decide) rfl rfl hv2 dX2_takesLaw_28 ?_
    obtain ⟨μ3, hμ3, hf⟩ := ob hf
    refine m_ast E hK hP hS (by decide) rfl rfl hμ3 dX2_takesLaw_29 (fun H locs hP hS => ?_)
    refine lv_aload_n hx hb dX2_takesLaw_30 rfl (lv_at hl 0 rfl) ?_
    refine m_ga E hK hP 18 (by decide) rfl q1431 rfl dX2_takesLaw_31 ?_
    refine lv_bipush (v := nI 16) hx hb dX2_takesLaw_34 rfl ?_
    refine lv_aload_n hx hb dX2_takesLaw_36 rfl (lv_at hl 0 rfl) ?_
    refine m_get E hK hP 23 (by decide) rfl q1436 rfl dX2_takesLaw_37 ?_
    refine lv_imul hx hb dX2_takesLaw_40 ?_
    refine lv_iload_n hx hb dX2_takesLaw_41 rfl (lv_at hl 2 rfl) ?_
    refine lv_iadd hx hb dX2_takesLaw_42 ?_
    refine lv_aload_n hx hb dX2_takesLaw_43 rfl (lv_at hl 0 rfl) ?_
    refine m_ga E hK hP 18 (by decide) rfl q1431 rfl dX2_takesLaw_44 ?_
    refine lv_bipush (v := nI 32) hx hb dX2_takesLaw_47 rfl ?_
    refine lv_iload_n hx hb dX2_takesLaw_49 rfl (lv_at hl 2 rfl) ?_
    refine lv_iadd hx hb dX2_takesLaw_50 ?_
    obtain ⟨v4, hv4, hf⟩ := ob hf
    refine m_ald E hK hP (by decide) rfl rfl hv4 dX2_takesLaw_51 ?_
    obtain ⟨μ5, hμ5, hf⟩ := ob hf
    refine m_ast E hK hP hS (by decide) rfl rfl hμ5 dX2_takesLaw_52 (fun H locs hP hS => ?_)
    refine lv_aload_n hx hb dX2_takesLaw_53 rfl (lv_at hl 0 rfl) ?_
    refine m_ga E hK hP 19 (by decide) rfl q1432 rfl dX2_takesLaw_54 ?_
    refine lv_bipush (v := nI 16) hx hb dX2_takesLaw_57 rfl ?_
    refine lv_aload_n hx hb dX2_takesLaw_59 rfl (lv_at hl 0 rfl) ?_
    refine m_get E hK hP 23 (by decide) rfl q1436 rfl dX2_takesLaw_60 ?_
    refine lv_imul hx hb dX2_takesLaw_63 ?_
    refine lv_iload_n hx hb dX2_takesLaw_64 rfl (lv_at hl 2 rfl) ?_
    refine lv_iadd hx hb dX2_takesLaw_65 ?_
    refine lv_aload_n hx hb dX2_takesLaw_66 rfl (lv_at hl 0 rfl) ?_
    refine m_ga E hK hP 19 (by decide) rfl q1432 rfl dX2_takesLaw_67 ?_
    refine lv_bipush (v := nI 32) hx hb dX2_takesLaw_70 rfl ?_
    refine lv_iload_n hx hb dX2_takesLaw_72 rfl (lv_at hl 2 rfl) ?_
    refine lv_iadd hx hb dX2_takesLaw_73 ?_
    obtain ⟨v6, hv6, hf⟩ := ob hf
    refine m_ald E hK hP (by decide) rfl rfl hv6 dX2_takesLaw_74 ?_
    obtain ⟨μ7, hμ7, hf⟩ := ob hf
    refine m_ast E hK hP hS (by decide) rfl rfl hμ7 dX2_takesLaw_75 (fun H locs hP hS => ?_)
    refine lv_aload_n hx hb dX2_takesLaw_76 rfl (lv_at hl 0 rfl) ?_
    refine m_ga E hK hP 20 (by decide) rfl q1433 rfl dX2_takesLaw_77 ?_
    refine lv_bipush (v := nI 16) hx hb dX2_takesLaw_80 rfl ?_
    refine lv_aload_n hx hb dX2_takesLaw_82 rfl (lv_at hl 0 rfl) ?_
    refine m_get E hK hP 23 (by decide) rfl q1436 rfl dX2_takesLaw_83 ?_
    refine lv_imul hx hb dX2_takesLaw_86 ?_
    refine lv_iload_n hx hb dX2_takesLaw_87 rfl (lv_at hl 2 rfl) ?_
    refine lv_iadd hx hb dX2_takesLaw_88 ?_
    refine lv_aload_n hx hb dX2_takesLaw_89 rfl (lv_at hl 0 rfl) ?_
    refine m_ga E hK hP 20 (by decide) rfl q1433 rfl dX2_takesLaw_90 ?_
    refine lv_bipush (v := nI 32) hx hb dX2_takesLaw_93 rfl ?_
    refine lv_iload_n hx hb dX2_takesLaw_95 rfl (lv_at hl 2 rfl) ?_
    refine lv_iadd hx hb dX2_takesLaw_96 ?_
    obtain ⟨v8, hv8, hf⟩ := ob hf
    refine m_ald E hK hP (by decide) rfl rfl hv8 dX2_takesLaw_97 ?_
    obtain ⟨μ9, hμ9, hf⟩ := ob hf
    refine m_ast E hK hP hS (by decide) rfl rfl hμ9 dX2_takesLaw_98 (fun H locs hP hS => ?_)
    refine lv_iinc (v := st.1 + nI 1) (lv' := [(2, .int (st.1 + nI 1)), (0, .ref h), (1, .int x1)]) hx hb dX2_takesLaw_99 hl (k := 2) rfl rfl (by decide) rfl (fun ls hl => ?_)
    refine lv_goto (tgt := 2) hx hb dX2_takesLaw_102 (by decide) ?_
    cases hf
    exact hk _ _ _ (lv_sub hl [1, 2, 0] rfl) hP hS
set_option maxHeartbeats 4000000 in
theorem fm_takesLaw_L107_w {p : Program} {l : Launch} {e : Env} {s : State} {m : MethodId} {args : Array Value} {below : List Frame} {meth : Method} {c : Code} {Q : State → Prop} {D : va_G} {dT : Nat → ClassId} {h : Nat} (E : CallFix p m c cX2_takesLaw 3 s args lw_all RX2) (hK : va_K D nwCl (nwT dT) s) (x1 : Int32) {st : Int32 × nwM} {x : nwM} (hw : wh_ (fm_takesLaw_L107 x1) st = some x) (hk : (fun x : nwM => ∀ (ls : Array Slot) (H : Heap) (locs : List Loc), lv_has ls 3 [(0, .ref h), (1, .int x1)] → PM D dT h x H → va_S (mA h) s.heap H locs → W p l e (rmd 0) s m args below meth c H locs 0 0 Q (F0 m 171 ls [])) x) : (fun st : Int32 × nwM => ∀ (ls : Array Slot) (H : Heap) (locs : List Loc), lv_has ls 3 [(0, .ref h), (1, .int x1), (2, .int st.1)] → PM D dT h st.2 H → va_S (mA h) s.heap H locs → W p l e (rmd 0) s m args below meth c H locs 0 0 Q (F0 m 107 ls [])) st := by
  obtain ⟨hx, hb, -, hown, hts⟩ := id E
  refine wh_run (P := (fun st : Int32 × nwM => ∀ (ls : Array Slot) (H : Heap) (locs : List Loc), lv_has ls 3 [(0, .ref h), (1, .int x1), (2, .int st.1)] → PM D dT h st.2 H → va_S (mA h) s.heap H locs → W p l e (rmd 0) s m args below meth c H locs 0 0 Q (F0 m 107 ls []))) (PE := (fun x : nwM => ∀ (ls : Array Slot) (H : Heap) (locs : List Loc), lv_has ls 3 [(0, .ref h), (1, .int x1)] → PM D dT h x H → va_S (mA h) s.heap H locs → W p l e (rmd 0) s m args below meth c H locs 0 0 Q (F0 m 171 ls []))) ?_ hw hk
  clear hw hk
  intro st x hf hk ls H locs hl hP hS
  refine lv_iload_n hx hb dX2_takesLaw_107 rfl (lv_at hl 2 rfl) ?_
  refine lv_aload_n hx hb dX2_takesLaw_108 rfl (lv_at hl 0 rfl) ?_
  refine m_get E hK hP 24 (by decide) rfl q1437 rfl dX2_takesLaw_109 ?_
  refine lv_icmp_ge (tgt := 171) hx hb dX2_takesLaw_112 (by decide) (fun kc11 => ?_) (fun kc11 => ?_)
  · have hf := ite_t kc11 hf
    cases hf
    exact hk _ _ _ (lv_sub hl [0, 1] rfl) hP hS
  · have hf := ite_f kc11 hf
    refine lv_aload_n hx hb dX2_takesLaw_115 rfl (lv_at hl 0 rfl) ?_
    refine m_ga E hK hP 21 (by decide) rfl q1434 rfl dX2_takesLaw_116 ?_
    refine lv_sipush (v := nI 400) hx hb dX2_takesLaw_119 rfl ?_
    refine lv_aload_n hx hb dX2_takesLaw_122 rfl (lv_at hl 0 rfl) ?_
    refine m_get E hK hP 23 (by decide) rfl q1436 rfl dX2_takesLaw_123 ?_
    refine lv_imul hx hb dX2_takesLaw_126 ?_
    refine lv_iload_n hx hb dX2_takesLaw_127 rfl (lv_at hl 2 rfl) ?_
    refine lv_iadd hx hb dX2_takesLaw_128 ?_
    refine lv_aload_n hx hb dX2_takesLaw_129 rfl (lv_at hl 0 rfl) ?_
    refine m_ga E hK hP 21 (by decide) rfl q1434 rfl dX2_takesLaw_130 ?_
    refine lv_sipush (v := nI 800) hx hb dX2_takesLaw_133 rfl ?_
    refine lv_iload_n hx hb dX2_takesLaw_136 rfl (lv_at hl 2 rfl) ?_
    refine lv_iadd hx hb dX2_takesLaw_137 ?_
    obtain ⟨v12, hv12, hf⟩ := ob hf
    refine m_ald E hK hP (by decide) rfl rfl hv12 dX2_takesLaw_138 ?_
    obtain ⟨μ13, hμ13, hf⟩ := ob hf
    refine m_ast E hK hP hS (by decide) rfl rfl hμ13 dX2_takesLaw_139 (fun H locs hP hS => ?_)
    refine lv_aload_n hx hb dX2_takesLaw_140 rfl (lv_at hl 0 rfl) ?_
    refine m_ga E hK hP 22 (by decide) rfl q1435 rfl dX2_takesLaw_141 ?_
    refine lv_sipush (v := nI 400) hx hb dX2_takesLaw_144 rfl ?_
    refine lv_aload_n hx hb dX2_takesLaw_147 rfl (lv_at hl 0 rfl) ?_
    refine m_get E hK hP 23 (by decide) rfl q1436 rfl dX2_takesLaw_148 ?_
    refine lv_imul hx hb dX2_takesLaw_151 ?_
    refine lv_iload_n hx hb dX2_takesLaw_152 rfl (lv_at hl 2 rfl) ?_
    refine lv_iadd hx hb dX2_takesLaw_153 ?_
    refine lv_aload_n hx hb dX2_takesLaw_154 rfl (lv_at hl 0 rfl) ?_
    refine m_ga E hK hP 22 (by decide) rfl q1435 rfl dX2_takesLaw_155 ?_
    refine lv_sipush (v := nI 800) hx hb dX2_takesLaw_158 rfl ?_
    refine lv_iload_n hx hb dX2_takesLaw_161 rfl (lv_at hl 2 rfl) ?_
    refine lv_iadd hx hb dX2_takesLaw_162 ?_
    obtain ⟨v14, hv14, hf⟩ := ob hf
    refine m_ald E hK hP (by decide) rfl rfl hv14 dX2_takesLaw_163 ?_
    obtain ⟨μ15, hμ15, hf⟩ := ob hf
    refine m_ast E hK hP hS (by decide) rfl rfl hμ15 dX2_takesLaw_164 (fun H locs hP hS => ?_)
    refine lv_iinc (v := st.1 + nI 1) (lv' := [(2, .int (st.1 + nI 1)), (0, .ref h), (1, .int x1)]) hx hb dX2_takesLaw_165 hl (k := 2) rfl rfl (by decide) rfl (fun ls hl => ?_)
    refine lv_goto (tgt := 107) hx hb dX2_takesLaw_168 (by decide) ?_
    cases hf
    exact hk _ _ _ (lv_sub hl [1, 2, 0] rfl) hP hS
set_option maxHeartbeats 4000000 in
theorem dm_takesLaw : yX2_takesLaw.cls = RX2 ∧ yX2_takesLaw.cls ≠ "java/lang/invoke/MethodHandle" ∧ yX2_takesLaw.cls ≠ "java/lang/invoke/VarHandle" ∧ (parseMethodDescriptor yX2_takesLaw.desc).map (fun d => d.parameters.length) = some 1 := ⟨rfl, by decide +kernel, by decide +kernel, by decide +kernel⟩
set_option maxHeartbeats 4000000 in
theorem tm_takesLaw (l : Launch) (D : va_G) (dT : Nat → ClassId) (h : Nat) (x1 : Int32) (μ : nwM) (res : nwM) (hf : fm_takesLaw x1 μ = some res) : Met l yX2_takesLaw (ws_ yX2_takesLaw cX2_takesLaw 3 none) (rmd 0) (mPc D dT h μ [.int x1]) (mQv D dT h res) 0 0 (mA h) := by
  refine m_met (by decide) rfl (Nat.le_of_ble_eq_true rfl) ?_
  intro p e s m below meth c ls E hK hr hlk hl hP
  have hS : va_S (mA h) s.heap s.heap [] := va_S.rf
  obtain ⟨hx, hb, -, hown, hts⟩ := id E
  have hl : lv_has ls 3 [(0, .ref h), (1, .int x1)] := hl
  unfold fm_takesLaw at hf
  refine lv_iconst (v := nI 0) hx hb dX2_takesLaw_0 rfl ?_
  refine lv_istore_n (lv' := [(2, .int (nI 0)), (0, .ref h), (1, .int x1)]) hx hb dX2_takesLaw_1 rfl hl (by decide) rfl (fun ls hl => ?_)
  obtain ⟨x10, hx10, hf⟩ := ob hf
  refine fm_takesLaw_L2_w E hK x1 hx10 (fun ls H locs hl hP hS => ?_) _ _ _ (lv_sub hl [1, 2, 0] rfl) hP hS
  refine lv_iconst (v := nI 0) hx hb dX2_takesLaw_105 rfl ?_
  refine lv_istore_n (lv' := [(2, .int (nI 0)), (0, .ref h), (1, .int x1)]) hx hb dX2_takesLaw_106 rfl hl (by decide) rfl (fun ls hl => ?_)
  obtain ⟨x16, hx16, hf⟩ := ob hf
  refine fm_takesLaw_L107_w E hK x1 hx16 (fun ls H locs hl hP hS => ?_) _ _ _ (lv_sub hl [1, 2, 0] rfl) hP hS
  refine lv_aload_n hx hb dX2_takesLaw_171 rfl (lv_at hl 0 rfl) ?_
  refine m_ga E hK hP 16 (by decide) rfl q1429 rfl dX2_takesLaw_172 ?_
  refine lv_aload_n hx hb dX2_takesLaw_175 rfl (lv_at hl 0 rfl) ?_
  refine m_get E hK hP 23 (by decide) rfl q1436 rfl dX2_takesLaw_176 ?_
  refine lv_iload_n hx hb dX2_takesLaw_179 rfl (lv_at hl 1 rfl) ?_
  obtain ⟨μ17, hμ17, hf⟩ := ob hf
  refine m_ast E hK hP hS (by decide) rfl rfl hμ17 dX2_takesLaw_180 (fun H locs hP hS => ?_)
  cases hf
  exact m_vret E hr hlk hP hS dX2_takesLaw_181
set_option maxHeartbeats 4000000 in
noncomputable def fm_readNumber (x1 : Int32) (x2 : Int32) (μ : nwM) : Option (Int32 × nwM) := (if (μ 13 0) = (nI 3) then (fm_isIn (μ 14 0) x1 x2 μ).bind fun v3 => (if v3 = 0 then bd2 (fm_errs (nI 2) μ) fun v8 μ9 => some (v8, μ9) else (fm_reads μ).bind fun μ6 => some (μ 14 0, μ6)) else bd2 (fm_errs (nI 1) μ) fun v11 μ12 => some (v11, μ12))
set_option maxHeartbeats 4000000 in
theorem dm_readNumber : yX2_readNumber.cls = RX2 ∧ yX2_readNumber.cls ≠ "java/lang/invoke/MethodHandle" ∧ yX2_readNumber.cls ≠ "java/lang/invoke/VarHandle" ∧ (parseMethodDescriptor yX2_readNumber.desc).map (fun d => d.parameters.length) = some 2 := ⟨rfl, by decide +kernel, by decide +kernel, by decide +kernel⟩
set_option maxHeartbeats 4000000 in
theorem tm_readNumber (l : Launch) (D : va_G) (dT : Nat → ClassId) (h : Nat) (x1 : Int32) (x2 : Int32) (μ : nwM) (res : Int32 × nwM) (hf : fm_readNumber x1 x2 μ = some res) : Met l yX2_readNumber (ws_ yX2_readNumber cX2_readNumber 4 (some .int)) (rmd 3) (mPc D dT h μ [.int x1, .int x2]) (mQi D dT h res.2 res.1) 0 0 (mA h) := by
  refine m_met (by decide) rfl (Nat.le_of_ble_eq_true rfl) ?_
  intro p e s m below meth c ls E hK hr hlk hl hP
  have hS : va_S (mA h) s.heap s.heap [] := va_S.rf
  obtain ⟨hx, hb, -, hown, hts⟩ := id E
  have hl : lv_has ls 4 [(0, .ref h), (1, .int x1), (2, .int x2)] := hl
  unfold fm_readNumber at hf
  refine lv_aload_n hx hb dX2_readNumber_0 rfl (lv_at hl 0 rfl) ?_
  refine m_get E hK hP 13 (by decide) rfl q1426 rfl dX2_readNumber_1 ?_
  refine lv_iconst (v := nI 3) hx hb dX2_readNumber_4 rfl ?_
  refine lv_icmp_eq (tgt := 14) hx hb dX2_readNumber_5 (by decide) (fun kc1 => ?_) (fun kc1 => ?_)
  · have hf := ite_t kc1 hf
    refine lv_aload_n hx hb dX2_readNumber_14 rfl (lv_at hl 0 rfl) ?_
    refine lv_aload_n hx hb dX2_readNumber_15 rfl (lv_at hl 0 rfl) ?_
    refine m_get E hK hP 14 (by decide) rfl q1427 rfl dX2_readNumber_16 ?_
    refine lv_iload_n hx hb dX2_readNumber_19 rfl (lv_at hl 1 rfl) ?_
    refine lv_iload_n hx hb dX2_readNumber_20 rfl (lv_at hl 2 rfl) ?_
    obtain ⟨v3, hc2, hf⟩ := ob hf
    refine m_calli E hK hP hS (As := [.int (μ 14 0), .int x1, .int x2]) (tm_isIn l D dT h (μ 14 0) x1 x2 μ _ hc2) (lw_V q1573 q1575 qs59 q166 q1576) dm_isIn rfl (by decide) (by decide) hl rfl (Nat.le_of_ble_eq_true rfl) dX2_readNumber_21 (fun H locs hP hS => ?_)
    refine lv_if_ne (tgt := 33) hx hb dX2_readNumber_24 (by decide) (fun kc4 => ?_) (fun kc4 => ?_)
    · have hf := ite_f kc4 hf
      refine lv_aload_n hx hb dX2_readNumber_33 rfl (lv_at hl 0 rfl) ?_
      refine m_get E hK hP 14 (by decide) rfl q1427 rfl dX2_readNumber_34 ?_
      refine lv_istore_n (lv' := [(3, .int (μ 14 0)), (0, .ref h), (1, .int x1), (2, .int x2)]) hx hb dX2_readNumber_37 rfl hl (by decide) rfl (fun ls hl => ?_)
      refine lv_aload_n hx hb dX2_readNumber_38 rfl (lv_at hl 1 rfl) ?_
      obtain ⟨μ6, hc5, hf⟩ := ob hf
      refine m_callv E hK hP hS (As := []) (tm_reads l D dT h μ _ hc5) (lw_V q1625 q1627 qs66 q166 q1628) dm_reads rfl (by decide) (by decide) hl rfl (Nat.le_of_ble_eq_true rfl) dX2_readNumber_39 (fun H locs hP hS => ?_)
      refine lv_iload_n hx hb dX2_readNumber_42 rfl (lv_at hl 0 rfl) ?_
      cases hf
      exact m_iret E hr hlk hP hS rfl dX2_readNumber_43
    · have hf := ite_t kc4 hf
      refine lv_aload_n hx hb dX2_readNumber_27 rfl (lv_at hl 0 rfl) ?_
      refine lv_iconst (v := nI 2) hx hb dX2_readNumber_28 rfl ?_
      obtain ⟨v8, μ9, hc7, hf⟩ := ob2 hf
      refine m_calli E hK hP hS (As := [.int (nI 2)]) (tm_errs l D dT h (nI 2) μ _ hc7) (lw_V q1657 q1659 qs74 q166 q1660) dm_errs rfl (by decide) (by decide) hl rfl (Nat.le_of_ble_eq_true rfl) dX2_readNumber_29 (fun H locs hP hS => ?_)
      cases hf
      exact m_iret E hr hlk hP hS rfl dX2_readNumber_32
  · have hf := ite_f kc1 hf
    refine lv_aload_n hx hb dX2_readNumber_8 rfl (lv_at hl 0 rfl) ?_
    refine lv_iconst (v := nI 1) hx hb dX2_readNumber_9 rfl ?_
    obtain ⟨v11, μ12, hc10, hf⟩ := ob2 hf
    refine m_calli E hK hP hS (As := [.int (nI 1)]) (tm_errs l D dT h (nI 1) μ _ hc10) (lw_V q1657 q1659 qs74 q166 q1660) dm_errs rfl (by decide) (by decide) hl rfl (Nat.le_of_ble_eq_true rfl) dX2_readNumber_10 (fun H locs hP hS => ?_)
    cases hf
    exact m_iret E hr hlk hP hS rfl dX2_readNumber_13
set_option maxHeartbeats 4000000 in
noncomputable def fm_readWord (x1 : Int32) (μ : nwM) : Option (Int32 × nwM) := (fm_isWord x1 μ).bind fun v2 => (if v2 = 0 then bd2 (fm_errs (nI 1) μ) fun v7 μ8 => some (v7, μ8) else (fm_reads μ).bind fun μ5 => some (nI 0, μ5))
set_option maxHeartbeats 4000000 in
theorem dm_readWord : yX2_readWord.cls = RX2 ∧ yX2_readWord.cls ≠ "java/lang/invoke/MethodHandle" ∧ yX2_readWord.cls ≠ "java/lang/invoke/VarHandle" ∧ (parseMethodDescriptor yX2_readWord.desc).map (fun d => d.parameters.length) = some 1 := ⟨rfl, by decide +kernel, by decide +kernel, by decide +kernel⟩
set_option maxHeartbeats 4000000 in
theorem tm_readWord (l : Launch) (D : va_G) (dT : Nat → ClassId) (h : Nat) (x1 : Int32) (μ : nwM) (res : Int32 × nwM) (hf : fm_readWord x1 μ = some res) : Met l yX2_readWord (ws_ yX2_readWord cX2_readWord 2 (some .int)) (rmd 3) (mPc D dT h μ [.int x1]) (mQi D dT h res.2 res.1) 0 0 (mA h) := by
  refine m_met (by decide) rfl (Nat.le_of_ble_eq_true rfl) ?_
  intro p e s m below meth c ls E hK hr hlk hl hP
  have hS : va_S (mA h) s.heap s.heap [] := va_S.rf
  obtain ⟨hx, hb, -, hown, hts⟩ := id E
  have hl : lv_has ls 2 [(0, .ref h), (1, .int x1)] := hl
  unfold fm_readWord at hf
  refine lv_aload_n hx hb dX2_readWord_0 rfl (lv_at hl 0 rfl) ?_
  refine lv_iload_n hx hb dX2_readWord_1 rfl (lv_at hl 1 rfl) ?_
  obtain ⟨v2, hc1, hf⟩ := ob hf
  refine m_calli E hK hP hS (As := [.int x1]) (tm_isWord l D dT h x1 μ _ hc1) (lw_V q1669 q1671 qs77 q166 q1672) dm_isWord rfl (by decide) (by decide) hl rfl (Nat.le_of_ble_eq_true rfl) dX2_readWord_2 (fun H locs hP hS => ?_)
  refine lv_if_ne (tgt := 14) hx hb dX2_readWord_5 (by decide) (fun kc3 => ?_) (fun kc3 => ?_)
  · have hf := ite_f kc3 hf
    refine lv_aload_n hx hb dX2_readWord_14 rfl (lv_at hl 0 rfl) ?_
    obtain ⟨μ5, hc4, hf⟩ := ob hf
    refine m_callv E hK hP hS (As := []) (tm_reads l D dT h μ _ hc4) (lw_V q1625 q1627 qs66 q166 q1628) dm_reads rfl (by decide) (by decide) hl rfl (Nat.le_of_ble_eq_true rfl) dX2_readWord_15 (fun H locs hP hS => ?_)
    refine lv_iconst (v := nI 0) hx hb dX2_readWord_18 rfl ?_
    cases hf
    exact m_iret E hr hlk hP hS rfl dX2_readWord_19
  · have hf := ite_t kc3 hf
    refine lv_aload_n hx hb dX2_readWord_8 rfl (lv_at hl 0 rfl) ?_
    refine lv_iconst (v := nI 1) hx hb dX2_readWord_9 rfl ?_
    obtain ⟨v7, μ8, hc6, hf⟩ := ob2 hf
    refine m_calli E hK hP hS (As := [.int (nI 1)]) (tm_errs l D dT h (nI 1) μ _ hc6) (lw_V q1657 q1659 qs74 q166 q1660) dm_errs rfl (by decide) (by decide) hl rfl (Nat.le_of_ble_eq_true rfl) dX2_readWord_10 (fun H locs hP hS => ?_)
    cases hf
    exact m_iret E hr hlk hP hS rfl dX2_readWord_13
set_option maxHeartbeats 4000000 in
noncomputable def fm_readMark (x1 : Int32) (μ : nwM) : Option (Int32 × nwM) := (fm_isSign x1 μ).bind fun v2 => (if v2 = 0 then bd2 (fm_errs (nI 1) μ) fun v7 μ8 => some (v7, μ8) else (fm_reads μ).bind fun μ5 => some (nI 0, μ5))
set_option maxHeartbeats 4000000 in
theorem dm_readMark : yX2_readMark.cls = RX2 ∧ yX2_readMark.cls ≠ "java/lang/invoke/MethodHandle" ∧ yX2_readMark.cls ≠ "java/lang/invoke/VarHandle" ∧ (parseMethodDescriptor yX2_readMark.desc).map (fun d => d.parameters.length) = some 1 := ⟨rfl, by decide +kernel, by decide +kernel, by decide +kernel⟩
set_option maxHeartbeats 4000000 in
theorem tm_readMark (l : Launch) (D : va_G) (dT : Nat → ClassId) (h : Nat) (x1 : Int32) (μ : nwM) (res : Int32 × nwM) (hf : fm_readMark x1 μ = some res) : Met l yX2_readMark (ws_ yX2_readMark cX2_readMark 2 (some .int)) (rmd 3) (mPc D dT h μ [.int x1]) (mQi D dT h res.2 res.1) 0 0 (mA h) := by
  refine m_met (by decide) rfl (Nat.le_of_ble_eq_true rfl) ?_
  intro p e s m below meth c ls E hK hr hlk hl hP
  have hS : va_S (mA h) s.heap s.heap [] := va_S.rf
  obtain ⟨hx, hb, -, hown, hts⟩ := id E
  have hl : lv_has ls 2 [(0, .ref h), (1, .int x1)] := hl
  unfold fm_readMark at hf
  refine lv_aload_n hx hb dX2_readMark_0 rfl (lv_at hl 0 rfl) ?_
  refine lv_iload_n hx hb dX2_readMark_1 rfl (lv_at hl 1 rfl) ?_
  obtain ⟨v2, hc1, hf⟩ := ob hf
  refine m_calli E hK hP hS (As := [.int x1]) (tm_isSign l D dT h x1 μ _ hc1) (lw_V q1685 q1687 qs81 q166 q1688) dm_isSign rfl (by decide) (by decide) hl rfl (Nat.le_of_ble_eq_true rfl) dX2_readMark_2 (fun H locs hP hS => ?_)
  refine lv_if_ne (tgt := 14) hx hb dX2_readMark_5 (by decide) (fun kc3 => ?_) (fun kc3 => ?_)
  · have hf := ite_f kc3 hf
    refine lv_aload_n hx hb dX2_readMark_14 rfl (lv_at hl 0 rfl) ?_
    obtain ⟨μ5, hc4, hf⟩ := ob hf
    refine m_callv E hK hP hS (As := []) (tm_reads l D dT h μ _ hc4) (lw_V q1625 q1627 qs66 q166 q1628) dm_reads rfl (by decide) (by decide) hl rfl (Nat.le_of_ble_eq_true rfl) dX2_readMark_15 (fun H locs hP hS => ?_)
    refine lv_iconst (v := nI 0) hx hb dX2_readMark_18 rfl ?_
    cases hf
    exact m_iret E hr hlk hP hS rfl dX2_readMark_19
  · have hf := ite_t kc3 hf
    refine lv_aload_n hx hb dX2_readMark_8 rfl (lv_at hl 0 rfl) ?_
    refine lv_iconst (v := nI 1) hx hb dX2_readMark_9 rfl ?_
    obtain ⟨v7, μ8, hc6, hf⟩ := ob2 hf
    refine m_calli E hK hP hS (As := [.int (nI 1)]) (tm_errs l D dT h (nI 1) μ _ hc6) (lw_V q1657 q1659 qs74 q166 q1660) dm_errs rfl (by decide) (by decide) hl rfl (Nat.le_of_ble_eq_true rfl) dX2_readMark_10 (fun H locs hP hS => ?_)
    cases hf
    exact m_iret E hr hlk hP hS rfl dX2_readMark_13
set_option maxHeartbeats 4000000 in
noncomputable def fm_readTold (x1 : Int32) (x2 : Int32) (x3 : Int32) (μ : nwM) : Option (Int32 × nwM) := bd2 (fm_readWord x1 μ) fun v2 μ3 => (if v2 = (-1) then some ((-1), μ3) else bd2 (fm_readNumber x2 x3 μ3) fun v6 μ7 => some (v6, μ7))
set_option maxHeartbeats 4000000 in
theorem dm_readTold : yX2_readTold.cls = RX2 ∧ yX2_readTold.cls ≠ "java/lang/invoke/MethodHandle" ∧ yX2_readTold.cls ≠ "java/lang/invoke/VarHandle" ∧ (parseMethodDescriptor yX2_readTold.desc).map (fun d => d.parameters.length) = some 3 := ⟨rfl, by decide +kernel, by decide +kernel, by decide +kernel⟩
set_option maxHeartbeats 4000000 in
theorem tm_readTold (l : Launch) (D : va_G) (dT : Nat → ClassId) (h : Nat) (x1 : Int32) (x2 : Int32) (x3 : Int32) (μ : nwM) (res : Int32 × nwM) (hf : fm_readTold x1 x2 x3 μ = some res) : Met l yX2_readTold (ws_ yX2_readTold cX2_readTold 4 (some .int)) (rmd 4) (mPc D dT h μ [.int x1, .int x2, .int x3]) (mQi D dT h res.2 res.1) 0 0 (mA h) := by
  refine m_met (by decide) rfl (Nat.le_of_ble_eq_true rfl) ?_
  intro p e s m below meth c ls E hK hr hlk hl hP
  have hS : va_S (mA h) s.heap s.heap [] := va_S.rf
  obtain ⟨hx, hb, -, hown, hts⟩ := id E
  have hl : lv_has ls 4 [(0, .ref h), (1, .int x1), (2, .int x2), (3, .int x3)] := hl
  unfold fm_readTold at hf
  refine lv_aload_n hx hb dX2_readTold_0 rfl (lv_at hl 0 rfl) ?_
  refine lv_iload_n hx hb dX2_readTold_1 rfl (lv_at hl 1 rfl) ?_
  obtain ⟨v2, μ3, hc1, hf⟩ := ob2 hf
  refine m_calli E hK hP hS (As := [.int x1]) (tm_readWord l D dT h x1 μ _ hc1) (lw_V q1665 q1667 qs76 q166 q1668) dm_readWord rfl (by decide) (by decide) hl rfl (Nat.le_of_ble_eq_true rfl) dX2_readTold_2 (fun H locs hP hS => ?_)
  refine lv_iconst (v := (-1)) hx hb dX2_readTold_5 rfl ?_
  refine lv_icmp_ne (tgt := 13) hx hb dX2_readTold_6 (by decide) (fun kc4 => ?_) (fun kc4 => ?_)
  · have hf := ite_f kc4 hf
    refine lv_aload_n hx hb dX2_readTold_13 rfl (lv_at hl 0 rfl) ?_
    refine lv_iload_n hx hb dX2_readTold_14 rfl (lv_at hl 2 rfl) ?_
    refine lv_iload_n hx hb dX2_readTold_15 rfl (lv_at hl 3 rfl) ?_
    obtain ⟨v6, μ7, hc5, hf⟩ := ob2 hf
    refine m_calli E hK hP hS (As := [.int x2, .int x3]) (tm_readNumber l D dT h x2 x3 μ3 _ hc5) (lw_V q1677 q1679 qs79 q166 q1680) dm_readNumber rfl (by decide) (by decide) hl rfl (Nat.le_of_ble_eq_true rfl) dX2_readTold_16 (fun H locs hP hS => ?_)
    cases hf
    exact m_iret E hr hlk hP hS rfl dX2_readTold_19
  · have hf := ite_t kc4 hf
    refine lv_iconst (v := (-1)) hx hb dX2_readTold_9 rfl ?_
    refine lv_goto (tgt := 19) hx hb dX2_readTold_10 (by decide) ?_
    cases hf
    exact m_iret E hr hlk hP hS rfl dX2_readTold_19
set_option maxHeartbeats 4000000 in
def fm_isKind (μ : nwM) : Option (Int32) := (if (μ 13 0) = (nI 2) then (fm_isIn (μ 14 0) (nI 0) (nI 4) μ).bind fun v3 => (if v3 = 0 then some (nI 0) else some (nI 1)) else some (nI 0))
set_option maxHeartbeats 4000000 in
theorem dm_isKind : yX2_isKind.cls = RX2 ∧ yX2_isKind.cls ≠ "java/lang/invoke/MethodHandle" ∧ yX2_isKind.cls ≠ "java/lang/invoke/VarHandle" ∧ (parseMethodDescriptor yX2_isKind.desc).map (fun d => d.parameters.length) = some 0 := ⟨rfl, by decide +kernel, by decide +kernel, by decide +kernel⟩
set_option maxHeartbeats 4000000 in
theorem tm_isKind (l : Launch) (D : va_G) (dT : Nat → ClassId) (h : Nat) (μ : nwM) (res : Int32) (hf : fm_isKind μ = some res) : Met l yX2_isKind (ws_ yX2_isKind cX2_isKind 1 (some .boolean)) (rmd 1) (mPc D dT h μ []) (mQi D dT h μ res) 0 0 (mA h) := by
  refine m_met (by decide) rfl (Nat.le_of_ble_eq_true rfl) ?_
  intro p e s m below meth c ls E hK hr hlk hl hP
  have hS : va_S (mA h) s.heap s.heap [] := va_S.rf
  obtain ⟨hx, hb, -, hown, hts⟩ := id E
  have hl : lv_has ls 1 [(0, .ref h)] := hl
  unfold fm_isKind at hf
  refine lv_aload_n hx hb dX2_isKind_0 rfl (lv_at hl 0 rfl) ?_
  refine m_get E hK hP 13 (by decide) rfl q1426 rfl dX2_isKind_1 ?_
  refine lv_iconst (v := nI 2) hx hb dX2_isKind_4 rfl ?_
  refine lv_icmp_ne (tgt := 25) hx hb dX2_isKind_5 (by decide) (fun kc1 => ?_) (fun kc1 => ?_)
  · have hf := ite_f kc1 hf
    refine lv_iconst (v := nI 0) hx hb dX2_isKind_25 rfl ?_
    cases hf
    exact m_zret E hr hlk hP hS rfl dX2_isKind_26
  · have hf := ite_t kc1 hf
    refine lv_aload_n hx hb dX2_isKind_8 rfl (lv_at hl 0 rfl) ?_
    refine lv_aload_n hx hb dX2_isKind_9 rfl (lv_at hl 0 rfl) ?_
    refine m_get E hK hP 14 (by decide) rfl q1427 rfl dX2_isKind_10 ?_
    refine lv_iconst (v := nI 0) hx hb dX2_isKind_13 rfl ?_
    refine lv_iconst (v := nI 4) hx hb dX2_isKind_14 rfl ?_
    obtain ⟨v3, hc2, hf⟩ := ob hf
    refine m_calli E hK hP hS (As := [.int (μ 14 0), .int (nI 0), .int (nI 4)]) (tm_isIn l D dT h (μ 14 0) (nI 0) (nI 4) μ _ hc2) (lw_V q1573 q1575 qs59 q166 q1576) dm_isIn rfl (by decide) (by decide) hl rfl (Nat.le_of_ble_eq_true rfl) dX2_isKind_15 (fun H locs hP hS => ?_)
    refine lv_if_eq (tgt := 25) hx hb dX2_isKind_18 (by decide) (fun kc4 => ?_) (fun kc4 => ?_)
    · have hf := ite_t kc4 hf
      refine lv_iconst (v := nI 0) hx hb dX2_isKind_25 rfl ?_
      cases hf
      exact m_zret E hr hlk hP hS rfl dX2_isKind_26
    · have hf := ite_f kc4 hf
      refine lv_iconst (v := nI 1) hx hb dX2_isKind_21 rfl ?_
      refine lv_goto (tgt := 26) hx hb dX2_isKind_22 (by decide) ?_
      cases hf
      exact m_zret E hr hlk hP hS rfl dX2_isKind_26
set_option maxHeartbeats 4000000 in
noncomputable def fm_readQuench (x1 : Int32) (μ : nwM) : Option (Int32 × nwM) := (wr_ μ 33 96 x1 (μ 14 0)).bind fun μ1 => (fm_reads μ1).bind fun μ3 => bd2 (fm_readWord (nI 21) μ3) fun v5 μ6 => (if v5 = (-1) then some ((-1), μ6) else (fm_isKind μ6).bind fun v9 => (if v9 = 0 then bd2 (fm_errs (nI 1) μ6) fun v12 μ13 => some (v12, μ13) else (rd_ μ6 33 96 x1).bind fun v14 => (if (μ6 14 0) = v14 then bd2 (fm_errs (nI 1) μ6) fun v29 μ30 => some (v29, μ30) else (wr_ μ6 33 96 (x1 + (nI 1)) (μ6 14 0)).bind fun μ16 => (fm_reads μ16).bind fun μ18 => bd2 (fm_readTold (nI 22) (nI 1) (nI 50) μ18) fun v20 μ21 => (wr_ μ21 33 96 (x1 + (nI 2)) v20).bind fun μ22 => (rd_ μ22 33 96 (x1 + (nI 2))).bind fun v23 => (if v23 = (-1) then some ((-1), μ22) else bd2 (fm_readMark (nI 59) μ22) fun v26 μ27 => some (v26, μ27)))))
set_option maxHeartbeats 4000000 in
theorem dm_readQuench : yX2_readQuench.cls = RX2 ∧ yX2_readQuench.cls ≠ "java/lang/invoke/MethodHandle" ∧ yX2_readQuench.cls ≠ "java/lang/invoke/VarHandle" ∧ (parseMethodDescriptor yX2_readQuench.desc).map (fun d => d.parameters.length) = some 1 := ⟨rfl, by decide +kernel, by decide +kernel, by decide +kernel⟩
set_option maxHeartbeats 4000000 in
theorem tm_readQuench (l : Launch) (D : va_G) (dT : Nat → ClassId) (h : Nat) (x1 : Int32) (μ : nwM) (res : Int32 × nwM) (hf : fm_readQuench x1 μ = some res) : Met l yX2_readQuench (ws_ yX2_readQuench cX2_readQuench 2 (some .int)) (rmd 5) (mPc D dT h μ [.int x1]) (mQi D dT h res.2 res.1) 0 0 (mA h) := by
  refine m_met (by decide) rfl (Nat.le_of_ble_eq_true rfl) ?_
  intro p e s m below meth c ls E hK hr hlk hl hP
  have hS : va_S (mA h) s.heap s.heap [] := va_S.rf
  obtain ⟨hx, hb, -, hown, hts⟩ := id E
  have hl : lv_has ls 2 [(0, .ref h), (1, .int x1)] := hl
  unfold fm_readQuench at hf
  refine lv_aload_n hx hb dX2_readQuench_0 rfl (lv_at hl 0 rfl) ?_
  refine m_ga E hK hP 33 (by decide) rfl q1446 rfl dX2_readQuench_1 ?_
  refine lv_iload_n hx hb dX2_readQuench_4 rfl (lv_at hl 1 rfl) ?_
  refine lv_aload_n hx hb dX2_readQuench_5 rfl (lv_at hl 0 rfl) ?_
  refine m_get E hK hP 14 (by decide) rfl q1427 rfl dX2_readQuench_6 ?_
  obtain ⟨μ1, hμ1, hf⟩ := ob hf
  refine m_ast E hK hP hS (by decide) rfl rfl hμ1 dX2_readQuench_9 (fun H locs hP hS => ?_)
  refine lv_aload_n hx hb dX2_readQuench_10 rfl (lv_at hl 0 rfl) ?_
  obtain ⟨μ3, hc2, hf⟩ := ob hf
  refine m_callv E hK hP hS (As := []) (tm_reads l D dT h μ1 _ hc2) (lw_V q1625 q1627 qs66 q166 q1628) dm_reads rfl (by decide) (by decide) hl rfl (Nat.le_of_ble_eq_true rfl) dX2_readQuench_11 (fun H locs hP hS => ?_)
  refine lv_aload_n hx hb dX2_readQuench_14 rfl (lv_at hl 0 rfl) ?_
  refine lv_bipush (v := nI 21) hx hb dX2_readQuench_15 rfl ?_
  obtain ⟨v5, μ6, hc4, hf⟩ := ob2 hf
  refine m_calli E hK hP hS (As := [.int (nI 21)]) (tm_readWord l D dT h (nI 21) μ3 _ hc4) (lw_V q1665 q1667 qs76 q166 q1668) dm_readWord rfl (by decide) (by decide) hl rfl (Nat.le_of_ble_eq_true rfl) dX2_readQuench_17 (fun H locs hP hS => ?_)
  refine lv_iconst (v := (-1)) hx hb dX2_readQuench_20 rfl ?_
  refine lv_icmp_ne (tgt := 26) hx hb dX2_readQuench_21 (by decide) (fun kc7 => ?_) (fun kc7 => ?_)
  · have hf := ite_f kc7 hf
    refine lv_aload_n hx hb dX2_readQuench_26 rfl (lv_at hl 0 rfl) ?_
    obtain ⟨v9, hc8, hf⟩ := ob hf
    refine m_calli E hK hP hS (As := []) (tm_isKind l D dT h μ6 _ hc8) (lw_V q1653 q1655 qs73 q166 q1656) dm_isKind rfl (by decide) (by decide) hl rfl (Nat.le_of_ble_eq_true rfl) dX2_readQuench_27 (fun H locs hP hS => ?_)
    refine lv_if_eq (tgt := 46) hx hb dX2_readQuench_30 (by decide) (fun kc10 => ?_) (fun kc10 => ?_)
    · have hf := ite_t kc10 hf
      refine lv_aload_n hx hb dX2_readQuench_46 rfl (lv_at hl 0 rfl) ?_
      refine lv_iconst (v := nI 1) hx hb dX2_readQuench_47 rfl ?_
      obtain ⟨v12, μ13, hc11, hf⟩ := ob2 hf
      refine m_calli E hK hP hS (As := [.int (nI 1)]) (tm_errs l D dT h (nI 1) μ6 _ hc11) (lw_V q1657 q1659 qs74 q166 q1660) dm_errs rfl (by decide) (by decide) hl rfl (Nat.le_of_ble_eq_true rfl) dX2_readQuench_48 (fun H locs hP hS => ?_)
      cases hf
      exact m_iret E hr hlk hP hS rfl dX2_readQuench_51
    · have hf := ite_f kc10 hf
      refine lv_aload_n hx hb dX2_readQuench_33 rfl (lv_at hl 0 rfl) ?_
      refine m_get E hK hP 14 (by decide) rfl q1427 rfl dX2_readQuench_34 ?_
      refine lv_aload_n hx hb dX2_readQuench_37 rfl (lv_at hl 0 rfl) ?_
      refine m_ga E hK hP 33 (by decide) rfl q1446 rfl dX2_readQuench_38 ?_
      refine lv_iload_n hx hb dX2_readQuench_41 rfl (lv_at hl 1 rfl) ?_
      obtain ⟨v14, hv14, hf⟩ := ob hf
      refine m_ald E hK hP (by decide) rfl rfl hv14 dX2_readQuench_42 ?_
      refine lv_icmp_ne (tgt := 52) hx hb dX2_readQuench_43 (by decide) (fun kc15 => ?_) (fun kc15 => ?_)
      · have hf := ite_f kc15 hf
        refine lv_aload_n hx hb dX2_readQuench_52 rfl (lv_at hl 0 rfl) ?_
        refine m_ga E hK hP 33 (by decide) rfl q1446 rfl dX2_readQuench_53 ?_
        refine lv_iload_n hx hb dX2_readQuench_56 rfl (lv_at hl 1 rfl) ?_
        refine lv_iconst (v := nI 1) hx hb dX2_readQuench_57 rfl ?_
        refine lv_iadd hx hb dX2_readQuench_58 ?_
        refine lv_aload_n hx hb dX2_readQuench_59 rfl (lv_at hl 0 rfl) ?_
        refine m_get E hK hP 14 (by decide) rfl q1427 rfl dX2_readQuench_60 ?_
        obtain ⟨μ16, hμ16, hf⟩ := ob hf
        refine m_ast E hK hP hS (by decide) rfl rfl hμ16 dX2_readQuench_63 (fun H locs hP hS => ?_)
        refine lv_aload_n hx hb dX2_readQuench_64 rfl (lv_at hl 0 rfl) ?_
        obtain ⟨μ18, hc17, hf⟩ := ob hf
        refine m_callv E hK hP hS (As := []) (tm_reads l D dT h μ16 _ hc17) (lw_V q1625 q1627 qs66 q166 q1628) dm_reads rfl (by decide) (by decide) hl rfl (Nat.le_of_ble_eq_true rfl) dX2_readQuench_65 (fun H locs hP hS => ?_)
        refine lv_aload_n hx hb dX2_readQuench_68 rfl (lv_at hl 0 rfl) ?_
        refine m_ga E hK hP 33 (by decide) rfl q1446 rfl dX2_readQuench_69 ?_
        refine lv_iload_n hx hb dX2_readQuench_72 rfl (lv_at hl 1 rfl) ?_
        refine lv_iconst (v := nI 2) hx hb dX2_readQuench_73 rfl ?_
        refine lv_iadd hx hb dX2_readQuench_74 ?_
        refine lv_aload_n hx hb dX2_readQuench_75 rfl (lv_at hl 0 rfl) ?_
        refine lv_bipush (v := nI 22) hx hb dX2_readQuench_76 rfl ?_
        refine lv_iconst (v := nI 1) hx hb dX2_readQuench_78 rfl ?_
        refine lv_bipush (v := nI 50) hx hb dX2_readQuench_79 rfl ?_
        obtain ⟨v20, μ21, hc19, hf⟩ := ob2 hf
        refine m_calli E hK hP hS (As := [.int (nI 22), .int (nI 1), .int (nI 50)]) (tm_readTold l D dT h (nI 22) (nI 1) (nI 50) μ18 _ hc19) (lw_V q1673 q1675 qs78 q166 q1676) dm_readTold rfl (by decide) (by decide) hl rfl (Nat.le_of_ble_eq_true rfl) dX2_readQuench_81 (fun H locs hP hS => ?_)
        obtain ⟨μ22, hμ22, hf⟩ := ob hf
        refine m_ast E hK hP hS (by decide) rfl rfl hμ22 dX2_readQuench_84 (fun H locs hP hS => ?_)
        refine lv_aload_n hx hb dX2_readQuench_85 rfl (lv_at hl 0 rfl) ?_
        refine m_ga E hK hP 33 (by decide) rfl q1446 rfl dX2_readQuench_86 ?_
        refine lv_iload_n hx hb dX2_readQuench_89 rfl (lv_at hl 1 rfl) ?_
        refine lv_iconst (v := nI 2) hx hb dX2_readQuench_90 rfl ?_
        refine lv_iadd hx hb dX2_readQuench_91 ?_
        obtain ⟨v23, hv23, hf⟩ := ob hf
        refine m_ald E hK hP (by decide) rfl rfl hv23 dX2_readQuench_92 ?_
        refine lv_iconst (v := (-1)) hx hb dX2_readQuench_93 rfl ?_
        refine lv_icmp_ne (tgt := 101) hx hb dX2_readQuench_94 (by decide) (fun kc24 => ?_) (fun kc24 => ?_)
        · have hf := ite_f kc24 hf
          refine lv_aload_n hx hb dX2_readQuench_101 rfl (lv_at hl 0 rfl) ?_
          refine lv_bipush (v := nI 59) hx hb dX2_readQuench_102 rfl ?_
          obtain ⟨v26, μ27, hc25, hf⟩ := ob2 hf
          refine m_calli E hK hP hS (As := [.int (nI 59)]) (tm_readMark l D dT h (nI 59) μ22 _ hc25) (lw_V q1681 q1683 qs80 q166 q1684) dm_readMark rfl (by decide) (by decide) hl rfl (Nat.le_of_ble_eq_true rfl) dX2_readQuench_104 (fun H locs hP hS => ?_)
          cases hf
          exact m_iret E hr hlk hP hS rfl dX2_readQuench_107
        · have hf := ite_t kc24 hf
          refine lv_iconst (v := (-1)) hx hb dX2_readQuench_97 rfl ?_
          refine lv_goto (tgt := 107) hx hb dX2_readQuench_98 (by decide) ?_
          cases hf
          exact m_iret E hr hlk hP hS rfl dX2_readQuench_107
      · have hf := ite_t kc15 hf
        refine lv_aload_n hx hb dX2_readQuench_46 rfl (lv_at hl 0 rfl) ?_
        refine lv_iconst (v := nI 1) hx hb dX2_readQuench_47 rfl ?_
        obtain ⟨v29, μ30, hc28, hf⟩ := ob2 hf
        refine m_calli E hK hP hS (As := [.int (nI 1)]) (tm_errs l D dT h (nI 1) μ6 _ hc28) (lw_V q1657 q1659 qs74 q166 q1660) dm_errs rfl (by decide) (by decide) hl rfl (Nat.le_of_ble_eq_true rfl) dX2_readQuench_48 (fun H locs hP hS => ?_)
        cases hf
        exact m_iret E hr hlk hP hS rfl dX2_readQuench_51
  · have hf := ite_t kc7 hf
    refine lv_iconst (v := (-1)) hx hb dX2_readQuench_24 rfl ?_
    cases hf
    exact m_iret E hr hlk hP hS rfl dX2_readQuench_25
set_option maxHeartbeats 4000000 in
noncomputable def fm_readQuenching_L2 : (Int32 × nwM) → Option ((Int32 × nwM) ⊕ (Int32 × nwM)) := fun st => (fm_isKind st.2).bind fun v2 => (if v2 = 0 then (if (st.2 13 0) = 0 then some (.inr (st.1, st.2)) else bd2 (fm_errs (nI 1) st.2) fun v6 μ7 => some (.inr (v6, μ7))) else (if st.1 = (nI 16) then bd2 (fm_errs (nI 3) st.2) fun v14 μ15 => some (.inr (v14, μ15)) else bd2 (fm_readQuench ((nI 48) + ((nI 3) * st.1)) st.2) fun v10 μ11 => (if v10 = (-1) then some (.inr ((-1), μ11)) else some (.inl (st.1 + (nI 1), μ11)))))
set_option maxHeartbeats 4000000 in
noncomputable def fm_readQuenching (μ : nwM) : Option (Int32 × nwM) := wh_ (fm_readQuenching_L2) (nI 0, μ)
set_option maxHeartbeats 4000000 in
theorem fm_readQuenching_L2_w {p : Program} {l : Launch} {e : Env} {s : State} {m : MethodId} {args : Array Value} {below : List Frame} {meth : Method} {c : Code} {D : va_G} {dT : Nat → ClassId} {h : Nat} (E : CallFix p m c cX2_readQuenching 2 s args lw_all RX2) (hK : va_K D nwCl (nwT dT) s) (hr : meth.sig.returnType = (some .int)) (hlk : meth.locks = false) {res : Int32 × nwM} {st : Int32 × nwM} {x : Int32 × nwM} (hw : wh_ (fm_readQuenching_L2) st = some x) (hk : (fun r : Int32 × nwM => r = res) x) : (fun st : Int32 × nwM => ∀ (ls : Array Slot) (H : Heap) (locs : List Loc), lv_has ls 2 [(0, .ref h), (1, .int st.1)] → PM D dT h st.2 H → va_S (mA h) s.heap H locs → W p l e (rmd 6) s m args below meth c H locs 0 0 (MQ below (mQi D dT h res.2 res.1) args s 0 0 (mA h)) (F0 m 2 ls [])) st := by
  obtain ⟨hx, hb, -, hown, hts⟩ := id E
  refine wh_run (P := (fun st : Int32 × nwM => ∀ (ls : Array Slot) (H : Heap) (locs : List Loc), lv_has ls 2 [(0, .ref h), (1, .int st.1)] → PM D dT h st.2 H → va_S (mA h) s.heap H locs → W p l e (rmd 6) s m args below meth c H locs 0 0 (MQ below (mQi D dT h res.2 res.1) args s 0 0 (mA h)) (F0 m 2 ls []))) (PE := (fun r : Int32 × nwM => r = res)) ?_ hw hk
  clear hw hk
  intro st x hf hk ls H locs hl hP hS
  refine lv_aload_n hx hb dX2_readQuenching_2 rfl (lv_at hl 0 rfl) ?_
  obtain ⟨v2, hc1, hf⟩ := ob hf
  refine m_calli E hK hP hS (As := []) (tm_isKind l D dT h st.2 _ hc1) (lw_V q1653 q1655 qs73 q166 q1656) dm_isKind rfl (by decide) (by decide) hl rfl (Nat.le_of_ble_eq_true rfl) dX2_readQuenching_3 (fun H locs hP hS => ?_)
  refine lv_if_eq (tgt := 44) hx hb dX2_readQuenching_6 (by decide) (fun kc3 => ?_) (fun kc3 => ?_)
  · have hf := ite_t kc3 hf
    refine lv_aload_n hx hb dX2_readQuenching_44 rfl (lv_at hl 0 rfl) ?_
    refine m_get E hK hP 13 (by decide) rfl q1426 rfl dX2_readQuenching_45 ?_
    refine lv_if_ne (tgt := 55) hx hb dX2_readQuenching_48 (by decide) (fun kc4 => ?_) (fun kc4 => ?_)
    · have hf := ite_f kc4 hf
      refine lv_aload_n hx hb dX2_readQuenching_55 rfl (lv_at hl 0 rfl) ?_
      refine lv_iconst (v := nI 1) hx hb dX2_readQuenching_56 rfl ?_
      obtain ⟨v6, μ7, hc5, hf⟩ := ob2 hf
      refine m_calli E hK hP hS (As := [.int (nI 1)]) (tm_errs l D dT h (nI 1) st.2 _ hc5) (lw_V q1657 q1659 qs74 q166 q1660) dm_errs rfl (by decide) (by decide) hl rfl (Nat.le_of_ble_eq_true rfl) dX2_readQuenching_57 (fun H locs hP hS => ?_)
      cases hf
      have hk : (v6, μ7) = res := hk
      subst hk
      exact m_iret E hr hlk hP hS rfl dX2_readQuenching_60
    · have hf := ite_t kc4 hf
      refine lv_iload_n hx hb dX2_readQuenching_51 rfl (lv_at hl 1 rfl) ?_
      refine lv_goto (tgt := 60) hx hb dX2_readQuenching_52 (by decide) ?_
      cases hf
      have hk : (st.1, st.2) = res := hk
      subst hk
      exact m_iret E hr hlk hP hS rfl dX2_readQuenching_60
  · have hf := ite_f kc3 hf
    refine lv_iload_n hx hb dX2_readQuenching_9 rfl (lv_at hl 1 rfl) ?_
    refine lv_bipush (v := nI 16) hx hb dX2_readQuenching_10 rfl ?_
    refine lv_icmp_ne (tgt := 21) hx hb dX2_readQuenching_12 (by decide) (fun kc8 => ?_) (fun kc8 => ?_)
    · have hf := ite_f kc8 hf
      refine lv_aload_n hx hb dX2_readQuenching_21 rfl (lv_at hl 0 rfl) ?_
      refine lv_bipush (v := nI 48) hx hb dX2_readQuenching_22 rfl ?_
      refine lv_iconst (v := nI 3) hx hb dX2_readQuenching_24 rfl ?_
      refine lv_iload_n hx hb dX2_readQuenching_25 rfl (lv_at hl 1 rfl) ?_
      refine lv_imul hx hb dX2_readQuenching_26 ?_
      refine lv_iadd hx hb dX2_readQuenching_27 ?_
      obtain ⟨v10, μ11, hc9, hf⟩ := ob2 hf
      refine m_calli E hK hP hS (As := [.int ((nI 48) + ((nI 3) * st.1))]) (tm_readQuench l D dT h ((nI 48) + ((nI 3) * st.1)) st.2 _ hc9) (lw_V q1661 q1663 qs75 q166 q1664) dm_readQuench rfl (by decide) (by decide) hl rfl (Nat.le_of_ble_eq_true rfl) dX2_readQuenching_28 (fun H locs hP hS => ?_)
      refine lv_iconst (v := (-1)) hx hb dX2_readQuenching_31 rfl ?_
      refine lv_icmp_ne (tgt := 37) hx hb dX2_readQuenching_32 (by decide) (fun kc12 => ?_) (fun kc12 => ?_)
      · have hf := ite_f kc12 hf
        refine lv_iload_n hx hb dX2_readQuenching_37 rfl (lv_at hl 1 rfl) ?_
        refine lv_iconst (v := nI 1) hx hb dX2_readQuenching_38 rfl ?_
        refine lv_iadd hx hb dX2_readQuenching_39 ?_
        refine lv_istore_n (lv' := [(1, .int (st.1 + (nI 1))), (0, .ref h)]) hx hb dX2_readQuenching_40 rfl hl (by decide) rfl (fun ls hl => ?_)
        refine lv_goto (tgt := 2) hx hb dX2_readQuenching_41 (by decide) ?_
        cases hf
        exact hk _ _ _ (lv_sub hl [1, 0] rfl) hP hS
      · have hf := ite_t kc12 hf
        refine lv_iconst (v := (-1)) hx hb dX2_readQuenching_35 rfl ?_
        cases hf
        have hk : ((-1), μ11) = res := hk
        subst hk
        exact m_iret E hr hlk hP hS rfl dX2_readQuenching_36
    · have hf := ite_t kc8 hf
      refine lv_aload_n hx hb dX2_readQuenching_15 rfl (lv_at hl 0 rfl) ?_
      refine lv_iconst (v := nI 3) hx hb dX2_readQuenching_16 rfl ?_
      obtain ⟨v14, μ15, hc13, hf⟩ := ob2 hf
      refine m_calli E hK hP hS (As := [.int (nI 3)]) (tm_errs l D dT h (nI 3) st.2 _ hc13) (lw_V q1657 q1659 qs74 q166 q1660) dm_errs rfl (by decide) (by decide) hl rfl (Nat.le_of_ble_eq_true rfl) dX2_readQuenching_17 (fun H locs hP hS => ?_)
      cases hf
      have hk : (v14, μ15) = res := hk
      subst hk
      exact m_iret E hr hlk hP hS rfl dX2_readQuenching_20
set_option maxHeartbeats 4000000 in
theorem dm_readQuenching : yX2_readQuenching.cls = RX2 ∧ yX2_readQuenching.cls ≠ "java/lang/invoke/MethodHandle" ∧ yX2_readQuenching.cls ≠ "java/lang/invoke/VarHandle" ∧ (parseMethodDescriptor yX2_readQuenching.desc).map (fun d => d.parameters.length) = some 0 := ⟨rfl, by decide +kernel, by decide +kernel, by decide +kernel⟩
set_option maxHeartbeats 4000000 in
theorem tm_readQuenching (l : Launch) (D : va_G) (dT : Nat → ClassId) (h : Nat) (μ : nwM) (res : Int32 × nwM) (hf : fm_readQuenching μ = some res) : Met l yX2_readQuenching (ws_ yX2_readQuenching cX2_readQuenching 2 (some .int)) (rmd 6) (mPc D dT h μ []) (mQi D dT h res.2 res.1) 0 0 (mA h) := by
  refine m_met (by decide) rfl (Nat.le_of_ble_eq_true rfl) ?_
  intro p e s m below meth c ls E hK hr hlk hl hP
  have hS : va_S (mA h) s.heap s.heap [] := va_S.rf
  obtain ⟨hx, hb, -, hown, hts⟩ := id E
  have hl : lv_has ls 2 [(0, .ref h)] := hl
  unfold fm_readQuenching at hf
  refine lv_iconst (v := nI 0) hx hb dX2_readQuenching_0 rfl ?_
  refine lv_istore_n (lv' := [(1, .int (nI 0)), (0, .ref h)]) hx hb dX2_readQuenching_1 rfl hl (by decide) rfl (fun ls hl => ?_)
  exact fm_readQuenching_L2_w E hK hr hlk hf rfl _ _ _ (lv_sub hl [1, 0] rfl) hP hS
set_option maxHeartbeats 4000000 in
noncomputable def fm_readSky (x1 : Int32) (μ : nwM) : Option (Int32 × nwM) := (wr_ μ 35 100 x1 (nI 5)).bind fun μ1 => (wr_ μ1 35 100 (x1 + (nI 1)) (nI 0)).bind fun μ2 => (fm_isWord (nI 24) μ2).bind fun v4 => (if v4 = 0 then (fm_isKind μ2).bind fun v7 => (if v7 = 0 then bd2 (fm_errs (nI 1) μ2) fun v18 μ19 => some (v18, μ19) else (wr_ μ2 35 100 x1 (μ2 14 0)).bind fun μ9 => (fm_reads μ9).bind fun μ11 => bd2 (fm_readNumber (nI 1) (nI 99) μ11) fun v13 μ14 => (wr_ μ14 35 100 (x1 + (nI 1)) v13).bind fun μ15 => (rd_ μ15 35 100 (x1 + (nI 1))).bind fun v16 => some (v16, μ15)) else (fm_reads μ2).bind fun μ21 => some (nI 0, μ21))
set_option maxHeartbeats 4000000 in
theorem dm_readSky : yX2_readSky.cls = RX2 ∧ yX2_readSky.cls ≠ "java/lang/invoke/MethodHandle" ∧ yX2_readSky.cls ≠ "java/lang/invoke/VarHandle" ∧ (parseMethodDescriptor yX2_readSky.desc).map (fun d => d.parameters.length) = some 1 := ⟨rfl, by decide +kernel, by decide +kernel, by decide +kernel⟩
set_option maxHeartbeats 4000000 in
theorem tm_readSky (l : Launch) (D : va_G) (dT : Nat → ClassId) (h : Nat) (x1 : Int32) (μ : nwM) (res : Int32 × nwM) (hf : fm_readSky x1 μ = some res) : Met l yX2_readSky (ws_ yX2_readSky cX2_readSky 2 (some .int)) (rmd 4) (mPc D dT h μ [.int x1]) (mQi D dT h res.2 res.1) 0 0 (mA h) := by
  refine m_met (by decide) rfl (Nat.le_of_ble_eq_true rfl) ?_
  intro p e s m below meth c ls E hK hr hlk hl hP
  have hS : va_S (mA h) s.heap s.heap [] := va_S.rf
  obtain ⟨hx, hb, -, hown, hts⟩ := id E
  have hl : lv_has ls 2 [(0, .ref h), (1, .int x1)] := hl
  unfold fm_readSky at hf
  refine lv_aload_n hx hb dX2_readSky_0 rfl (lv_at hl 0 rfl) ?_
  refine m_ga E hK hP 35 (by decide) rfl q1448 rfl dX2_readSky_1 ?_
  refine lv_iload_n hx hb dX2_readSky_4 rfl (lv_at hl 1 rfl) ?_
  refine lv_iconst (v := nI 5) hx hb dX2_readSky_5 rfl ?_
  obtain ⟨μ1, hμ1, hf⟩ := ob hf
  refine m_ast E hK hP hS (by decide) rfl rfl hμ1 dX2_readSky_6 (fun H locs hP hS => ?_)
  refine lv_aload_n hx hb dX2_readSky_7 rfl (lv_at hl 0 rfl) ?_
  refine m_ga E hK hP 35 (by decide) rfl q1448 rfl dX2_readSky_8 ?_
  refine lv_iload_n hx hb dX2_readSky_11 rfl (lv_at hl 1 rfl) ?_
  refine lv_iconst (v := nI 1) hx hb dX2_readSky_12 rfl ?_
  refine lv_iadd hx hb dX2_readSky_13 ?_
  refine lv_iconst (v := nI 0) hx hb dX2_readSky_14 rfl ?_
  obtain ⟨μ2, hμ2, hf⟩ := ob hf
  refine m_ast E hK hP hS (by decide) rfl rfl hμ2 dX2_readSky_15 (fun H locs hP hS => ?_)
  refine lv_aload_n hx hb dX2_readSky_16 rfl (lv_at hl 0 rfl) ?_
  refine lv_bipush (v := nI 24) hx hb dX2_readSky_17 rfl ?_
  obtain ⟨v4, hc3, hf⟩ := ob hf
  refine m_calli E hK hP hS (As := [.int (nI 24)]) (tm_isWord l D dT h (nI 24) μ2 _ hc3) (lw_V q1669 q1671 qs77 q166 q1672) dm_isWord rfl (by decide) (by decide) hl rfl (Nat.le_of_ble_eq_true rfl) dX2_readSky_19 (fun H locs hP hS => ?_)
  refine lv_if_eq (tgt := 31) hx hb dX2_readSky_22 (by decide) (fun kc5 => ?_) (fun kc5 => ?_)
  · have hf := ite_t kc5 hf
    refine lv_aload_n hx hb dX2_readSky_31 rfl (lv_at hl 0 rfl) ?_
    obtain ⟨v7, hc6, hf⟩ := ob hf
    refine m_calli E hK hP hS (As := []) (tm_isKind l D dT h μ2 _ hc6) (lw_V q1653 q1655 qs73 q166 q1656) dm_isKind rfl (by decide) (by decide) hl rfl (Nat.le_of_ble_eq_true rfl) dX2_readSky_32 (fun H locs hP hS => ?_)
    refine lv_if_ne (tgt := 44) hx hb dX2_readSky_35 (by decide) (fun kc8 => ?_) (fun kc8 => ?_)
    · have hf := ite_f kc8 hf
      refine lv_aload_n hx hb dX2_readSky_44 rfl (lv_at hl 0 rfl) ?_
      refine m_ga E hK hP 35 (by decide) rfl q1448 rfl dX2_readSky_45 ?_
      refine lv_iload_n hx hb dX2_readSky_48 rfl (lv_at hl 1 rfl) ?_
      refine lv_aload_n hx hb dX2_readSky_49 rfl (lv_at hl 0 rfl) ?_
      refine m_get E hK hP 14 (by decide) rfl q1427 rfl dX2_readSky_50 ?_
      obtain ⟨μ9, hμ9, hf⟩ := ob hf
      refine m_ast E hK hP hS (by decide) rfl rfl hμ9 dX2_readSky_53 (fun H locs hP hS => ?_)
      refine lv_aload_n hx hb dX2_readSky_54 rfl (lv_at hl 0 rfl) ?_
      obtain ⟨μ11, hc10, hf⟩ := ob hf
      refine m_callv E hK hP hS (As := []) (tm_reads l D dT h μ9 _ hc10) (lw_V q1625 q1627 qs66 q166 q1628) dm_reads rfl (by decide) (by decide) hl rfl (Nat.le_of_ble_eq_true rfl) dX2_readSky_55 (fun H locs hP hS => ?_)
      refine lv_aload_n hx hb dX2_readSky_58 rfl (lv_at hl 0 rfl) ?_
      refine m_ga E hK hP 35 (by decide) rfl q1448 rfl dX2_readSky_59 ?_
      refine lv_iload_n hx hb dX2_readSky_62 rfl (lv_at hl 1 rfl) ?_
      refine lv_iconst (v := nI 1) hx hb dX2_readSky_63 rfl ?_
      refine lv_iadd hx hb dX2_readSky_64 ?_
      refine lv_aload_n hx hb dX2_readSky_65 rfl (lv_at hl 0 rfl) ?_
      refine lv_iconst (v := nI 1) hx hb dX2_readSky_66 rfl ?_
      refine lv_bipush (v := nI 99) hx hb dX2_readSky_67 rfl ?_
      obtain ⟨v13, μ14, hc12, hf⟩ := ob2 hf
      refine m_calli E hK hP hS (As := [.int (nI 1), .int (nI 99)]) (tm_readNumber l D dT h (nI 1) (nI 99) μ11 _ hc12) (lw_V q1677 q1679 qs79 q166 q1680) dm_readNumber rfl (by decide) (by decide) hl rfl (Nat.le_of_ble_eq_true rfl) dX2_readSky_69 (fun H locs hP hS => ?_)
      obtain ⟨μ15, hμ15, hf⟩ := ob hf
      refine m_ast E hK hP hS (by decide) rfl rfl hμ15 dX2_readSky_72 (fun H locs hP hS => ?_)
      refine lv_aload_n hx hb dX2_readSky_73 rfl (lv_at hl 0 rfl) ?_
      refine m_ga E hK hP 35 (by decide) rfl q1448 rfl dX2_readSky_74 ?_
      refine lv_iload_n hx hb dX2_readSky_77 rfl (lv_at hl 1 rfl) ?_
      refine lv_iconst (v := nI 1) hx hb dX2_readSky_78 rfl ?_
      refine lv_iadd hx hb dX2_readSky_79 ?_
      obtain ⟨v16, hv16, hf⟩ := ob hf
      refine m_ald E hK hP (by decide) rfl rfl hv16 dX2_readSky_80 ?_
      cases hf
      exact m_iret E hr hlk hP hS rfl dX2_readSky_81
    · have hf := ite_t kc8 hf
      refine lv_aload_n hx hb dX2_readSky_38 rfl (lv_at hl 0 rfl) ?_
      refine lv_iconst (v := nI 1) hx hb dX2_readSky_39 rfl ?_
      obtain ⟨v18, μ19, hc17, hf⟩ := ob2 hf
      refine m_calli E hK hP hS (As := [.int (nI 1)]) (tm_errs l D dT h (nI 1) μ2 _ hc17) (lw_V q1657 q1659 qs74 q166 q1660) dm_errs rfl (by decide) (by decide) hl rfl (Nat.le_of_ble_eq_true rfl) dX2_readSky_40 (fun H locs hP hS => ?_)
      cases hf
      exact m_iret E hr hlk hP hS rfl dX2_readSky_43
  · have hf := ite_f kc5 hf
    refine lv_aload_n hx hb dX2_readSky_25 rfl (lv_at hl 0 rfl) ?_
    obtain ⟨μ21, hc20, hf⟩ := ob hf
    refine m_callv E hK hP hS (As := []) (tm_reads l D dT h μ2 _ hc20) (lw_V q1625 q1627 qs66 q166 q1628) dm_reads rfl (by decide) (by decide) hl rfl (Nat.le_of_ble_eq_true rfl) dX2_readSky_26 (fun H locs hP hS => ?_)
    refine lv_iconst (v := nI 0) hx hb dX2_readSky_29 rfl ?_
    cases hf
    exact m_iret E hr hlk hP hS rfl dX2_readSky_30
set_option maxHeartbeats 4000000 in
noncomputable def fm_readWant (x1 : Int32) (μ : nwM) : Option (Int32 × nwM) := bd2 (fm_readWord (nI 23) μ) fun v2 μ3 => (if v2 = (-1) then some ((-1), μ3) else bd2 (fm_readSky x1 μ3) fun v6 μ7 => (if v6 = (-1) then some ((-1), μ7) else bd2 (fm_readTold (nI 25) (nI 0) (nI 7) μ7) fun v10 μ11 => (wr_ μ11 35 100 (x1 + (nI 2)) v10).bind fun μ12 => (rd_ μ12 35 100 (x1 + (nI 2))).bind fun v13 => (if v13 = (-1) then some ((-1), μ12) else bd2 (fm_readTold (nI 26) (nI 0) (nI 999) μ12) fun v16 μ17 => (wr_ μ17 35 100 (x1 + (nI 3)) v16).bind fun μ18 => (rd_ μ18 35 100 (x1 + (nI 3))).bind fun v19 => (if v19 = (-1) then some ((-1), μ18) else bd2 (fm_readTold (nI 27) (nI 1) (nI 99) μ18) fun v22 μ23 => (wr_ μ23 35 100 (x1 + (nI 4)) v22).bind fun μ24 => (rd_ μ24 35 100 (x1 + (nI 4))).bind fun v25 => (if v25 = (-1) then some ((-1), μ24) else bd2 (fm_readMark (nI 59) μ24) fun v28 μ29 => some (v28, μ29))))))
set_option maxHeartbeats 4000000 in
theorem dm_readWant : yX2_readWant.cls = RX2 ∧ yX2_readWant.cls ≠ "java/lang/invoke/MethodHandle" ∧ yX2_readWant.cls ≠ "java/lang/invoke/VarHandle" ∧ (parseMethodDescriptor yX2_readWant.desc).map (fun d => d.parameters.length) = some 1 := ⟨rfl, by decide +kernel, by decide +kernel, by decide +kernel⟩
set_option maxHeartbeats 4000000 in
theorem tm_readWant (l : Launch) (D : va_G) (dT : Nat → ClassId) (h : Nat) (x1 : Int32) (μ : nwM) (res : Int32 × nwM) (hf : fm_readWant x1 μ = some res) : Met l yX2_readWant (ws_ yX2_readWant cX2_readWant 2 (some .int)) (rmd 5) (mPc D dT h μ [.int x1]) (mQi D dT h res.2 res.1) 0 0 (mA h) := by
  refine m_met (by decide) rfl (Nat.le_of_ble_eq_true rfl) ?_
  intro p e s m below meth c ls E hK hr hlk hl hP
  have hS : va_S (mA h) s.heap s.heap [] := va_S.rf
  obtain ⟨hx, hb, -, hown, hts⟩ := id E
  have hl : lv_has ls 2 [(0, .ref h), (1, .int x1)] := hl
  unfold fm_readWant at hf
  refine lv_aload_n hx hb dX2_readWant_0 rfl (lv_at hl 0 rfl) ?_
  refine lv_bipush (v := nI 23) hx hb dX2_readWant_1 rfl ?_
  obtain ⟨v2, μ3, hc1, hf⟩ := ob2 hf
  refine m_calli E hK hP hS (As := [.int (nI 23)]) (tm_readWord l D dT h (nI 23) μ _ hc1) (lw_V q1665 q1667 qs76 q166 q1668) dm_readWord rfl (by decide) (by decide) hl rfl (Nat.le_of_ble_eq_true rfl) dX2_readWant_3 (fun H locs hP hS => ?_)
  refine lv_iconst (v := (-1)) hx hb dX2_readWant_6 rfl ?_
  refine lv_icmp_eq (tgt := 19) hx hb dX2_readWant_7 (by decide) (fun kc4 => ?_) (fun kc4 => ?_)
  · have hf := ite_t kc4 hf
    refine lv_iconst (v := (-1)) hx hb dX2_readWant_19 rfl ?_
    cases hf
    exact m_iret E hr hlk hP hS rfl dX2_readWant_20
  · have hf := ite_f kc4 hf
    refine lv_aload_n hx hb dX2_readWant_10 rfl (lv_at hl 0 rfl) ?_
    refine lv_iload_n hx hb dX2_readWant_11 rfl (lv_at hl 1 rfl) ?_
    obtain ⟨v6, μ7, hc5, hf⟩ := ob2 hf
    refine m_calli E hK hP hS (As := [.int x1]) (tm_readSky l D dT h x1 μ3 _ hc5) (lw_V q1697 q1699 qs84 q166 q1700) dm_readSky rfl (by decide) (by decide) hl rfl (Nat.le_of_ble_eq_true rfl) dX2_readWant_12 (fun H locs hP hS => ?_)
    refine lv_iconst (v := (-1)) hx hb dX2_readWant_15 rfl ?_
    refine lv_icmp_ne (tgt := 21) hx hb dX2_readWant_16 (by decide) (fun kc8 => ?_) (fun kc8 => ?_)
    · have hf := ite_f kc8 hf
      refine lv_aload_n hx hb dX2_readWant_21 rfl (lv_at hl 0 rfl) ?_
      refine m_ga E hK hP 35 (by decide) rfl q1448 rfl dX2_readWant_22 ?_
      refine lv_iload_n hx hb dX2_readWant_25 rfl (lv_at hl 1 rfl) ?_
      refine lv_iconst (v := nI 2) hx hb dX2_readWant_26 rfl ?_
      refine lv_iadd hx hb dX2_readWant_27 ?_
      refine lv_aload_n hx hb dX2_readWant_28 rfl (lv_at hl 0 rfl) ?_
      refine lv_bipush (v := nI 25) hx hb dX2_readWant_29 rfl ?_
      refine lv_iconst (v := nI 0) hx hb dX2_readWant_31 rfl ?_
      refine lv_bipush (v := nI 7) hx hb dX2_readWant_32 rfl ?_
      obtain ⟨v10, μ11, hc9, hf⟩ := ob2 hf
      refine m_calli E hK hP hS (As := [.int (nI 25), .int (nI 0), .int (nI 7)]) (tm_readTold l D dT h (nI 25) (nI 0) (nI 7) μ7 _ hc9) (lw_V q1673 q1675 qs78 q166 q1676) dm_readTold rfl (by decide) (by decide) hl rfl (Nat.le_of_ble_eq_true rfl) dX2_readWant_34 (fun H locs hP hS => ?_)
      obtain ⟨μ12, hμ12, hf⟩ := ob hf
      refine m_ast E hK hP hS (by decide) rfl rfl hμ12 dX2_readWant_37 (fun H locs hP hS => ?_)
      refine lv_aload_n hx hb dX2_readWant_38 rfl (lv_at hl 0 rfl) ?_
      refine m_ga E hK hP 35 (by decide) rfl q1448 rfl dX2_readWant_39 ?_
      refine lv_iload_n hx hb dX2_readWant_42 rfl (lv_at hl 1 rfl) ?_
      refine lv_iconst (v := nI 2) hx hb dX2_readWant_43 rfl ?_
      refine lv_iadd hx hb dX2_readWant_44 ?_
      obtain ⟨v13, hv13, hf⟩ := ob hf
      refine m_ald E hK hP (by decide) rfl rfl hv13 dX2_readWant_45 ?_
      refine lv_iconst (v := (-1)) hx hb dX2_readWant_46 rfl ?_
      refine lv_icmp_ne (tgt := 52) hx hb dX2_readWant_47 (by decide) (fun kc14 => ?_) (fun kc14 => ?_)
      · have hf := ite_f kc14 hf
        refine lv_aload_n hx hb dX2_readWant_52 rfl (lv_at hl 0 rfl) ?_
        refine m_ga E hK hP 35 (by decide) rfl q1448 rfl dX2_readWant_53 ?_
        refine lv_iload_n hx hb dX2_readWant_56 rfl (lv_at hl 1 rfl) ?_
        refine lv_iconst (v := nI 3) hx hb dX2_readWant_57 rfl ?_
        refine lv_iadd hx hb dX2_readWant_58 ?_
        refine lv_aload_n hx hb dX2_readWant_59 rfl (lv_at hl 0 rfl) ?_
        refine lv_bipush (v := nI 26) hx hb dX2_readWant_60 rfl ?_
        refine lv_iconst (v := nI 0) hx hb dX2_readWant_62 rfl ?_
        refine lv_sipush (v := nI 999) hx hb dX2_readWant_63 rfl ?_
        obtain ⟨v16, μ17, hc15, hf⟩ := ob2 hf
        refine m_calli E hK hP hS (As := [.int (nI 26), .int (nI 0), .int (nI 999)]) (tm_readTold l D dT h (nI 26) (nI 0) (nI 999) μ12 _ hc15) (lw_V q1673 q1675 qs78 q166 q1676) dm_readTold rfl (by decide) (by decide) hl rfl (Nat.le_of_ble_eq_true rfl) dX2_readWant_66 (fun H locs hP hS => ?_)
        obtain ⟨μ18, hμ18, hf⟩ := ob hf
        refine m_ast E hK hP hS (by decide) rfl rfl hμ18 dX2_readWant_69 (fun H locs hP hS => ?_)
        refine lv_aload_n hx hb dX2_readWant_70 rfl (lv_at hl 0 rfl) ?_
        refine m_ga E hK hP 35 (by decide) rfl q1448 rfl dX2_readWant_71 ?_
        refine lv_iload_n hx hb dX2_readWant_74 rfl (lv_at hl 1 rfl) ?_
        refine lv_iconst (v := nI 3) hx hb dX2_readWant_75 rfl ?_
        refine lv_iadd hx hb dX2_readWant_76 ?_
        obtain ⟨v19, hv19, hf⟩ := ob hf
        refine m_ald E hK hP (by decide) rfl rfl hv19 dX2_readWant_77 ?_
        refine lv_iconst (v := (-1)) hx hb dX2_readWant_78 rfl ?_
        refine lv_icmp_ne (tgt := 84) hx hb dX2_readWant_79 (by decide) (fun kc20 => ?_) (fun kc20 => ?_)
        · have hf := ite_f kc20 hf
          refine lv_aload_n hx hb dX2_readWant_84 rfl (lv_at hl 0 rfl) ?_
          refine m_ga E hK hP 35 (by decide) rfl q1448 rfl dX2_readWant_85 ?_
          refine lv_iload_n hx hb dX2_readWant_88 rfl (lv_at hl 1 rfl) ?_
          refine lv_iconst (v := nI 4) hx hb dX2_readWant_89 rfl ?_
          refine lv_iadd hx hb dX2_readWant_90 ?_
          refine lv_aload_n hx hb dX2_readWant_91 rfl (lv_at hl 0 rfl) ?_
          refine lv_bipush (v := nI 27) hx hb dX2_readWant_92 rfl ?_
          refine lv_iconst (v := nI 1) hx hb dX2_readWant_94 rfl ?_
          refine lv_bipush (v := nI 99) hx hb dX2_readWant_95 rfl ?_
          obtain ⟨v22, μ23, hc21, hf⟩ := ob2 hf
          refine m_calli E hK hP hS (As := [.int (nI 27), .int (nI 1), .int (nI 99)]) (tm_readTold l D dT h (nI 27) (nI 1) (nI 99) μ18 _ hc21) (lw_V q1673 q1675 qs78 q166 q1676) dm_readTold rfl (by decide) (by decide) hl rfl (Nat.le_of_ble_eq_true rfl) dX2_readWant_97 (fun H locs hP hS => ?_)
          obtain ⟨μ24, hμ24, hf⟩ := ob hf
          refine m_ast E hK hP hS (by decide) rfl rfl hμ24 dX2_readWant_100 (fun H locs hP hS => ?_)
          refine lv_aload_n hx hb dX2_readWant_101 rfl (lv_at hl 0 rfl) ?_
          refine m_ga E hK hP 35 (by decide) rfl q1448 rfl dX2_readWant_102 ?_
          refine lv_iload_n hx hb dX2_readWant_105 rfl (lv_at hl 1 rfl) ?_
          refine lv_iconst (v := nI 4) hx hb dX2_readWant_106 rfl ?_
          refine lv_iadd hx hb dX2_readWant_107 ?_
          obtain ⟨v25, hv25, hf⟩ := ob hf
          refine m_ald E hK hP (by decide) rfl rfl hv25 dX2_readWant_108 ?_
          refine lv_iconst (v := (-1)) hx hb dX2_readWant_109 rfl ?_
          refine lv_icmp_ne (tgt := 117) hx hb dX2_readWant_110 (by decide) (fun kc26 => ?_) (fun kc26 => ?_)
          · have hf := ite_f kc26 hf
            refine lv_aload_n hx hb dX2_readWant_117 rfl (lv_at hl 0 rfl) ?_
            refine lv_bipush (v := nI 59) hx hb dX2_readWant_118 rfl ?_
            obtain ⟨v28, μ29, hc27, hf⟩ := ob2 hf
            refine m_calli E hK hP hS (As := [.int (nI 59)]) (tm_readMark l D dT h (nI 59) μ24 _ hc27) (lw_V q1681 q1683 qs80 q166 q1684) dm_readMark rfl (by decide) (by decide) hl rfl (Nat.le_of_ble_eq_true rfl) dX2_readWant_120 (fun H locs hP hS => ?_)
            cases hf
            exact m_iret E hr hlk hP hS rfl dX2_readWant_123
          · have hf := ite_t kc26 hf
            refine lv_iconst (v := (-1)) hx hb dX2_readWant_113 rfl ?_
            refine lv_goto (tgt := 123) hx hb dX2_readWant_114 (by decide) ?_
            cases hf
            exact m_iret E hr hlk hP hS rfl dX2_readWant_123
        · have hf := ite_t kc20 hf
          refine lv_iconst (v := (-1)) hx hb dX2_readWant_82 rfl ?_
          cases hf
          exact m_iret E hr hlk hP hS rfl dX2_readWant_83
      · have hf := ite_t kc14 hf
        refine lv_iconst (v := (-1)) hx hb dX2_readWant_50 rfl ?_
        cases hf
        exact m_iret E hr hlk hP hS rfl dX2_readWant_51
    · have hf := ite_t kc8 hf
      refine lv_iconst (v := (-1)) hx hb dX2_readWant_19 rfl ?_
      cases hf
      exact m_iret E hr hlk hP hS rfl dX2_readWant_20
set_option maxHeartbeats 4000000 in
noncomputable def fm_readWants_L2 : (Int32 × nwM) → Option ((Int32 × nwM) ⊕ (Int32 × nwM)) := fun st => (fm_isWord (nI 23) st.2).bind fun v2 => (if v2 = 0 then (if (st.2 13 0) = 0 then some (.inr (st.1, st.2)) else bd2 (fm_errs (nI 1) st.2) fun v6 μ7 => some (.inr (v6, μ7))) else (if st.1 = (nI 10) then bd2 (fm_errs (nI 3) st.2) fun v14 μ15 => some (.inr (v14, μ15)) else bd2 (fm_readWant ((nI 50) + ((nI 5) * st.1)) st.2) fun v10 μ11 => (if v10 = (-1) then some (.inr ((-1), μ11)) else some (.inl (st.1 + (nI 1), μ11)))))
set_option maxHeartbeats 4000000 in
noncomputable def fm_readWants (μ : nwM) : Option (Int32 × nwM) := wh_ (fm_readWants_L2) (nI 0, μ)
set_option maxHeartbeats 4000000 in
theorem fm_readWants_L2_w {p : Program} {l : Launch} {e : Env} {s : State} {m : MethodId} {args : Array Value} {below : List Frame} {meth : Method} {c : Code} {D : va_G} {dT : Nat → ClassId} {h : Nat} (E : CallFix p m c cX2_readWants 2 s args lw_all RX2) (hK : va_K D nwCl (nwT dT) s) (hr : meth.sig.returnType = (some .int)) (hlk : meth.locks = false) {res : Int32 × nwM} {st : Int32 × nwM} {x : Int32 × nwM} (hw : wh_ (fm_readWants_L2) st = some x) (hk : (fun r : Int32 × nwM => r = res) x) : (fun st : Int32 × nwM => ∀ (ls : Array Slot) (H : Heap) (locs : List Loc), lv_has ls 2 [(0, .ref h), (1, .int st.1)] → PM D dT h st.2 H → va_S (mA h) s.heap H locs → W p l e (rmd 6) s m args below meth c H locs 0 0 (MQ below (mQi D dT h res.2 res.1) args s 0 0 (mA h)) (F0 m 2 ls [])) st := by
  obtain ⟨hx, hb, -, hown, hts⟩ := id E
  refine wh_run (P := (fun st : Int32 × nwM => ∀ (ls : Array Slot) (H : Heap) (locs : List Loc), lv_has ls 2 [(0, .ref h), (1, .int st.1)] → PM D dT h st.2 H → va_S (mA h) s.heap H locs → W p l e (rmd 6) s m args below meth c H locs 0 0 (MQ below (mQi D dT h res.2 res.1) args s 0 0 (mA h)) (F0 m 2 ls []))) (PE := (fun r : Int32 × nwM => r = res)) ?_ hw hk
  clear hw hk
  intro st x hf hk ls H locs hl hP hS
  refine lv_aload_n hx hb dX2_readWants_2 rfl (lv_at hl 0 rfl) ?_
  refine lv_bipush (v := nI 23) hx hb dX2_readWants_3 rfl ?_
  obtain ⟨v2, hc1, hf⟩ := ob hf
  refine m_calli E hK hP hS (As := [.int (nI 23)]) (tm_isWord l D dT h (nI 23) st.2 _ hc1) (lw_V q1669 q1671 qs77 q166 q1672) dm_isWord rfl (by decide) (by decide) hl rfl (Nat.le_of_ble_eq_true rfl) dX2_readWants_5 (fun H locs hP hS => ?_)
  refine lv_if_eq (tgt := 46) hx hb dX2_readWants_8 (by decide) (fun kc3 => ?_) (fun kc3 => ?_)
  · have hf := ite_t kc3 hf
    refine lv_aload_n hx hb dX2_readWants_46 rfl (lv_at hl 0 rfl) ?_
    refine m_get E hK hP 13 (by decide) rfl q1426 rfl dX2_readWants_47 ?_
    refine lv_if_ne (tgt := 57) hx hb dX2_readWants_50 (by decide) (fun kc4 => ?_) (fun kc4 => ?_)
    · have hf := ite_f kc4 hf
      refine lv_aload_n hx hb dX2_readWants_57 rfl (lv_at hl 0 rfl) ?_
      refine lv_iconst (v := nI 1) hx hb dX2_readWants_58 rfl ?_
      obtain ⟨v6, μ7, hc5, hf⟩ := ob2 hf
      refine m_calli E hK hP hS (As := [.int (nI 1)]) (tm_errs l D dT h (nI 1) st.2 _ hc5) (lw_V q1657 q1659 qs74 q166 q1660) dm_errs rfl (by decide) (by decide) hl rfl (Nat.le_of_ble_eq_true rfl) dX2_readWants_59 (fun H locs hP hS => ?_)
      cases hf
      have hk : (v6, μ7) = res := hk
      subst hk
      exact m_iret E hr hlk hP hS rfl dX2_readWants_62
    · have hf := ite_t kc4 hf
      refine lv_iload_n hx hb dX2_readWants_53 rfl (lv_at hl 1 rfl) ?_
      refine lv_goto (tgt := 62) hx hb dX2_readWants_54 (by decide) ?_
      cases hf
      have hk : (st.1, st.2) = res := hk
      subst hk
      exact m_iret E hr hlk hP hS rfl dX2_readWants_62
  · have hf := ite_f kc3 hf
    refine lv_iload_n hx hb dX2_readWants_11 rfl (lv_at hl 1 rfl) ?_
    refine lv_bipush (v := nI 10) hx hb dX2_readWants_12 rfl ?_
    refine lv_icmp_ne (tgt := 23) hx hb dX2_readWants_14 (by decide) (fun kc8 => ?_) (fun kc8 => ?_)
    · have hf := ite_f kc8 hf
      refine lv_aload_n hx hb dX2_readWants_23 rfl (lv_at hl 0 rfl) ?_
      refine lv_bipush (v := nI 50) hx hb dX2_readWants_24 rfl ?_
      refine lv_iconst (v := nI 5) hx hb dX2_readWants_26 rfl ?_
      refine lv_iload_n hx hb dX2_readWants_27 rfl (lv_at hl 1 rfl) ?_
      refine lv_imul hx hb dX2_readWants_28 ?_
      refine lv_iadd hx hb dX2_readWants_29 ?_
      obtain ⟨v10, μ11, hc9, hf⟩ := ob2 hf
      refine m_calli E hK hP hS (As := [.int ((nI 50) + ((nI 5) * st.1))]) (tm_readWant l D dT h ((nI 50) + ((nI 5) * st.1)) st.2 _ hc9) (lw_V q1693 q1695 qs83 q166 q1696) dm_readWant rfl (by decide) (by decide) hl rfl (Nat.le_of_ble_eq_true rfl) dX2_readWants_30 (fun H locs hP hS => ?_)
      refine lv_iconst (v := (-1)) hx hb dX2_readWants_33 rfl ?_
      refine lv_icmp_ne (tgt := 39) hx hb dX2_readWants_34 (by decide) (fun kc12 => ?_) (fun kc12 => ?_)
      · have hf := ite_f kc12 hf
        refine lv_iload_n hx hb dX2_readWants_39 rfl (lv_at hl 1 rfl) ?_
        refine lv_iconst (v := nI 1) hx hb dX2_readWants_40 rfl ?_
        refine lv_iadd hx hb dX2_readWants_41 ?_
        refine lv_istore_n (lv' := [(1, .int (st.1 + (nI 1))), (0, .ref h)]) hx hb dX2_readWants_42 rfl hl (by decide) rfl (fun ls hl => ?_)
        refine lv_goto (tgt := 2) hx hb dX2_readWants_43 (by decide) ?_
        cases hf
        exact hk _ _ _ (lv_sub hl [1, 0] rfl) hP hS
      · have hf := ite_t kc12 hf
        refine lv_iconst (v := (-1)) hx hb dX2_readWants_37 rfl ?_
        cases hf
        have hk : ((-1), μ11) = res := hk
        subst hk
        exact m_iret E hr hlk hP hS rfl dX2_readWants_38
    · have hf := ite_t kc8 hf
      refine lv_aload_n hx hb dX2_readWants_17 rfl (lv_at hl 0 rfl) ?_
      refine lv_iconst (v := nI 3) hx hb dX2_readWants_18 rfl ?_
      obtain ⟨v14, μ15, hc13, hf⟩ := ob2 hf
      refine m_calli E hK hP hS (As := [.int (nI 3)]) (tm_errs l D dT h (nI 3) st.2 _ hc13) (lw_V q1657 q1659 qs74 q166 q1660) dm_errs rfl (by decide) (by decide) hl rfl (Nat.le_of_ble_eq_true rfl) dX2_readWants_19 (fun H locs hP hS => ?_)
      cases hf
      have hk : (v14, μ15) = res := hk
      subst hk
      exact m_iret E hr hlk hP hS rfl dX2_readWants_22
set_option maxHeartbeats 4000000 in
theorem dm_readWants : yX2_readWants.cls = RX2 ∧ yX2_readWants.cls ≠ "java/lang/invoke/MethodHandle" ∧ yX2_readWants.cls ≠ "java/lang/invoke/VarHandle" ∧ (parseMethodDescriptor yX2_readWants.desc).map (fun d => d.parameters.length) = some 0 := ⟨rfl, by decide +kernel, by decide +kernel, by decide +kernel⟩
set_option maxHeartbeats 4000000 in
theorem tm_readWants (l : Launch) (D : va_G) (dT : Nat → ClassId) (h : Nat) (μ : nwM) (res : Int32 × nwM) (hf : fm_readWants μ = some res) : Met l yX2_readWants (ws_ yX2_readWants cX2_readWants 2 (some .int)) (rmd 6) (mPc D dT h μ []) (mQi D dT h res.2 res.1) 0 0 (mA h) := by
  refine m_met (by decide) rfl (Nat.le_of_ble_eq_true rfl) ?_
  intro p e s m below meth c ls E hK hr hlk hl hP
  have hS : va_S (mA h) s.heap s.heap [] := va_S.rf
  obtain ⟨hx, hb, -, hown, hts⟩ := id E
  have hl : lv_has ls 2 [(0, .ref h)] := hl
  unfold fm_readWants at hf
  refine lv_iconst (v := nI 0) hx hb dX2_readWants_0 rfl ?_
  refine lv_istore_n (lv' := [(1, .int (nI 0)), (0, .ref h)]) hx hb dX2_readWants_1 rfl hl (by decide) rfl (fun ls hl => ?_)
  exact fm_readWants_L2_w E hK hr hlk hf rfl _ _ _ (lv_sub hl [1, 0] rfl) hP hS
set_option maxHeartbeats 4000000 in
def fm_deedOf (x1 : Int32) (μ : nwM) : Option (Int32) := (if x1 = (nI 28) then some (nI 0) else (if x1 = (nI 29) then some (nI 1) else (if x1 = (nI 31) then some (nI 2) else some (-1))))
set_option maxHeartbeats 4000000 in
theorem dm_deedOf : yX2_deedOf.cls = RX2 ∧ yX2_deedOf.cls ≠ "java/lang/invoke/MethodHandle" ∧ yX2_deedOf.cls ≠ "java/lang/invoke/VarHandle" ∧ (parseMethodDescriptor yX2_deedOf.desc).map (fun d => d.parameters.length) = some 1 := ⟨rfl, by decide +kernel, by decide +kernel, by decide +kernel⟩
set_option maxHeartbeats 4000000 in
theorem tm_deedOf (l : Launch) (D : va_G) (dT : Nat → ClassId) (h : Nat) (x1 : Int32) (μ : nwM) (res : Int32) (hf : fm_deedOf x1 μ = some res) : Met l yX2_deedOf (ws_ yX2_deedOf cX2_deedOf 2 (some .int)) (rmd 0) (mPc D dT h μ [.int x1]) (mQi D dT h μ res) 0 0 (mA h) := by
  refine m_met (by decide) rfl (Nat.le_of_ble_eq_true rfl) ?_
  intro p e s m below meth c ls E hK hr hlk hl hP
  have hS : va_S (mA h) s.heap s.heap [] := va_S.rf
  obtain ⟨hx, hb, -, hown, hts⟩ := id E
  have hl : lv_has ls 2 [(0, .ref h), (1, .int x1)] := hl
  unfold fm_deedOf at hf
  refine lv_iload_n hx hb dX2_deedOf_0 rfl (lv_at hl 1 rfl) ?_
  refine lv_bipush (v := nI 28) hx hb dX2_deedOf_1 rfl ?_
  refine lv_icmp_ne (tgt := 10) hx hb dX2_deedOf_3 (by decide) (fun kc1 => ?_) (fun kc1 => ?_)
  · have hf := ite_f kc1 hf
    refine lv_iload_n hx hb dX2_deedOf_10 rfl (lv_at hl 1 rfl) ?_
    refine lv_bipush (v := nI 29) hx hb dX2_deedOf_11 rfl ?_
    refine lv_icmp_ne (tgt := 20) hx hb dX2_deedOf_13 (by decide) (fun kc2 => ?_) (fun kc2 => ?_)
    · have hf := ite_f kc2 hf
      refine lv_iload_n hx hb dX2_deedOf_20 rfl (lv_at hl 1 rfl) ?_
      refine lv_bipush (v := nI 31) hx hb dX2_deedOf_21 rfl ?_
      refine lv_icmp_ne (tgt := 30) hx hb dX2_deedOf_23 (by decide) (fun kc3 => ?_) (fun kc3 => ?_)
      · have hf := ite_f kc3 hf
        refine lv_iconst (v := (-1)) hx hb dX2_deedOf_30 rfl ?_
        cases hf
        exact m_iret E hr hlk hP hS rfl dX2_deedOf_31
      · have hf := ite_t kc3 hf
        refine lv_iconst (v := nI 2) hx hb dX2_deedOf_26 rfl ?_
        refine lv_goto (tgt := 31) hx hb dX2_deedOf_27 (by decide) ?_
        cases hf
        exact m_iret E hr hlk hP hS rfl dX2_deedOf_31
    · have hf := ite_t kc2 hf
      refine lv_iconst (v := nI 1) hx hb dX2_deedOf_16 rfl ?_
      refine lv_goto (tgt := 31) hx hb dX2_deedOf_17 (by decide) ?_
      cases hf
      exact m_iret E hr hlk hP hS rfl dX2_deedOf_31
  · have hf := ite_t kc1 hf
    refine lv_iconst (v := nI 0) hx hb dX2_deedOf_6 rfl ?_
    refine lv_goto (tgt := 31) hx hb dX2_deedOf_7 (by decide) ?_
    cases hf
    exact m_iret E hr hlk hP hS rfl dX2_deedOf_31
set_option maxHeartbeats 4000000 in
noncomputable def fm_readPlanLine (x1 : Int32) (μ : nwM) : Option (Int32 × nwM) := bd2 (fm_readTold (nI 26) (nI 0) (nI 999) μ) fun v2 μ3 => (wr_ μ3 37 128 x1 v2).bind fun μ4 => (rd_ μ4 37 128 x1).bind fun v5 => (if v5 = (-1) then some ((-1), μ4) else (if (μ4 13 0) = (nI 2) then (fm_deedOf (μ4 14 0) μ4).bind fun v13 => (if v13 = (-1) then bd2 (fm_errs (nI 1) μ4) fun v52 μ53 => some (v52, μ53) else (fm_reads μ4).bind fun μ16 => (wr_ μ16 37 128 (x1 + (nI 1)) v13).bind fun μ17 => (rd_ μ17 1 105 (nI 4)).bind fun v18 => bd2 (fm_readNumber (nI 0) (v18 - (nI 1)) μ17) fun v20 μ21 => (wr_ μ21 37 128 (x1 + (nI 2)) v20).bind fun μ22 => (rd_ μ22 37 128 (x1 + (nI 2))).bind fun v23 => (if v23 = (-1) then some ((-1), μ22) else (if v13 = (nI 2) then (wr_ μ22 37 128 (x1 + (nI 3)) (nI 0)).bind fun μ45 => (rd_ μ45 37 128 (x1 + (nI 3))).bind fun v46 => (if v46 = (-1) then some ((-1), μ45) else bd2 (fm_readMark (nI 59) μ45) fun v49 μ50 => some (v49, μ50)) else (if v13 = 0 then bd2 (fm_readTold (nI 25) (nI 0) (nI 7) μ22) fun v37 μ38 => (wr_ μ38 37 128 (x1 + (nI 3)) v37).bind fun μ39 => (rd_ μ39 37 128 (x1 + (nI 3))).bind fun v40 => (if v40 = (-1) then some ((-1), μ39) else bd2 (fm_readMark (nI 59) μ39) fun v43 μ44 => some (v43, μ44)) else bd2 (fm_readTold (nI 30) (nI 0) (nI 7) μ22) fun v28 μ29 => (wr_ μ29 37 128 (x1 + (nI 3)) v28).bind fun μ30 => (rd_ μ30 37 128 (x1 + (nI 3))).bind fun v31 => (if v31 = (-1) then some ((-1), μ30) else bd2 (fm_readMark (nI 59) μ30) fun v34 μ35 => some (v34, μ35)))))) else bd2 (fm_errs (nI 1) μ4) fun v10 μ11 => some (v10, μ11)))
set_option maxHeartbeats 4000000 in
theorem dm_readPlanLine : yX2_readPlanLine.cls = RX2 ∧ yX2_readPlanLine.cls ≠ "java/lang/invoke/MethodHandle" ∧ yX2_readPlanLine.cls ≠ "java/lang/invoke/VarHandle" ∧ (parseMethodDescriptor yX2_readPlanLine.desc).map (fun d => d.parameters.length) = some 1 := ⟨rfl, by decide +kernel, by decide +kernel, by decide +kernel⟩
set_option maxHeartbeats 4000000 in
theorem tm_readPlanLine (l : Launch) (D : va_G) (dT : Nat → ClassId) (h : Nat) (x1 : Int32) (μ : nwM) (res : Int32 × nwM) (hf : fm_readPlanLine x1 μ = some res) : Met l yX2_readPlanLine (ws_ yX2_readPlanLine cX2_readPlanLine 3 (some .int)) (rmd 5) (mPc D dT h μ [.int x1]) (mQi D dT h res.2 res.1) 0 0 (mA h) := by
  refine m_met (by decide) rfl (Nat.le_of_ble_eq_true rfl) ?_
  intro p e s m below meth c ls E hK hr hlk hl hP
  have hS : va_S (mA h) s.heap s.heap [] := va_S.rf
  obtain ⟨hx, hb, -, hown, hts⟩ := id E
  have hl : lv_has ls 3 [(0, .ref h), (1, .int x1)] := hl
  unfold fm_readPlanLine at hf
  refine lv_aload_n hx hb dX2_readPlanLine_0 rfl (lv_at hl 0 rfl) ?_
  refine m_ga E hK hP 37 (by decide) rfl q1450 rfl dX2_readPlanLine_1 ?_
  refine lv_iload_n hx hb dX2_readPlanLine_4 rfl (lv_at hl 1 rfl) ?_
  refine lv_aload_n hx hb dX2_readPlanLine_5 rfl (lv_at hl 0 rfl) ?_
  refine lv_bipush (v := nI 26) hx hb dX2_readPlanLine_6 rfl ?_
  refine lv_iconst (v := nI 0) hx hb dX2_readPlanLine_8 rfl ?_
  refine lv_sipush (v := nI 999) hx hb dX2_readPlanLine_9 rfl ?_
  obtain ⟨v2, μ3, hc1, hf⟩ := ob2 hf
  refine m_calli E hK hP hS (As := [.int (nI 26), .int (nI 0), .int (nI 999)]) (tm_readTold l D dT h (nI 26) (nI 0) (nI 999) μ _ hc1) (lw_V q1673 q1675 qs78 q166 q1676) dm_readTold rfl (by decide) (by decide) hl rfl (Nat.le_of_ble_eq_true rfl) dX2_readPlanLine_12 (fun H locs hP hS => ?_)
  obtain ⟨μ4, hμ4, hf⟩ := ob hf
  refine m_ast E hK hP hS (by decide) rfl rfl hμ4 dX2_readPlanLine_15 (fun H locs hP hS => ?_)
  refine lv_aload_n hx hb dX2_readPlanLine_16 rfl (lv_at hl 0 rfl) ?_
  refine m_ga E hK hP 37 (by decide) rfl q1450 rfl dX2_readPlanLine_17 ?_
  refine lv_iload_n hx hb dX2_readPlanLine_20 rfl (lv_at hl 1 rfl) ?_
  obtain ⟨v5, hv5, hf⟩ := ob hf
  refine m_ald E hK hP (by decide) rfl rfl hv5 dX2_readPlanLine_21 ?_
  refine lv_iconst (v := (-1)) hx hb dX2_readPlanLine_22 rfl ?_
  refine lv_icmp_ne (tgt := 28) hx hb dX2_readPlanLine_23 (by decide) (fun kc6 => ?_) (fun kc6 => ?_)
  · have hf := ite_f kc6 hf
    refine lv_aload_n hx hb dX2_readPlanLine_28 rfl (lv_at hl 0 rfl) ?_
    refine m_get E hK hP 13 (by decide) rfl q1426 rfl dX2_readPlanLine_29 ?_
    refine lv_iconst (v := nI 2) hx hb dX2_readPlanLine_32 rfl ?_
    refine lv_icmp_ne (tgt := 47) hx hb dX2_readPlanLine_33 (by decide) (fun kc7 => ?_) (fun kc7 => ?_)
    · have hf := ite_f kc7 hf
      refine lv_iconst (v := (-1)) hx hb dX2_readPlanLine_47 rfl ?_
      refine lv_istore_n (lv' := [(2, .int (-1)), (0, .ref h), (1, .int x1)]) hx hb dX2_readPlanLine_48 rfl hl (by decide) rfl (fun ls hl => ?_)
      refine lv_iload_n hx hb dX2_readPlanLine_49 rfl (lv_at hl 0 rfl) ?_
      refine lv_iconst (v := (-1)) hx hb dX2_readPlanLine_50 rfl ?_
      refine lv_icmp_ne (tgt := 60) hx hb dX2_readPlanLine_51 (by decide) (fun kc8 => ?_) (fun kc8 => ?_)
      · exact absurd (by decide) kc8
      · skip
        refine lv_aload_n hx hb dX2_readPlanLine_54 rfl (lv_at hl 1 rfl) ?_
        refine lv_iconst (v := nI 1) hx hb dX2_readPlanLine_55 rfl ?_
        obtain ⟨v10, μ11, hc9, hf⟩ := ob2 hf
        refine m_calli E hK hP hS (As := [.int (nI 1)]) (tm_errs l D dT h (nI 1) μ4 _ hc9) (lw_V q1657 q1659 qs74 q166 q1660) dm_errs rfl (by decide) (by decide) hl rfl (Nat.le_of_ble_eq_true rfl) dX2_readPlanLine_56 (fun H locs hP hS => ?_)
        cases hf
        exact m_iret E hr hlk hP hS rfl dX2_readPlanLine_59
    · have hf := ite_t kc7 hf
      refine lv_aload_n hx hb dX2_readPlanLine_36 rfl (lv_at hl 0 rfl) ?_
      refine lv_aload_n hx hb dX2_readPlanLine_37 rfl (lv_at hl 0 rfl) ?_
      refine m_get E hK hP 14 (by decide) rfl q1427 rfl dX2_readPlanLine_38 ?_
      obtain ⟨v13, hc12, hf⟩ := ob hf
      refine m_calli E hK hP hS (As := [.int (μ4 14 0)]) (tm_deedOf l D dT h (μ4 14 0) μ4 _ hc12) (lw_V q1709 q1711 qs87 q166 q1712) dm_deedOf rfl (by decide) (by decide) hl rfl (Nat.le_of_ble_eq_true rfl) dX2_readPlanLine_41 (fun H locs hP hS => ?_)
      refine lv_goto (tgt := 48) hx hb dX2_readPlanLine_44 (by decide) ?_
      refine lv_istore_n (lv' := [(2, .int v13), (0, .ref h), (1, .int x1)]) hx hb dX2_readPlanLine_48 rfl hl (by decide) rfl (fun ls hl => ?_)
      refine lv_iload_n hx hb dX2_readPlanLine_49 rfl (lv_at hl 0 rfl) ?_
      refine lv_iconst (v := (-1)) hx hb dX2_readPlanLine_50 rfl ?_
      refine lv_icmp_ne (tgt := 60) hx hb dX2_readPlanLine_51 (by decide) (fun kc14 => ?_) (fun kc14 => ?_)
      · have hf := ite_f kc14 hf
        refine lv_aload_n hx hb dX2_readPlanLine_60 rfl (lv_at hl 1 rfl) ?_
        obtain ⟨μ16, hc15, hf⟩ := ob hf
        refine m_callv E hK hP hS (As := []) (tm_reads l D dT h μ4 _ hc15) (lw_V q1625 q1627 qs66 q166 q1628) dm_reads rfl (by decide) (by decide) hl rfl (Nat.le_of_ble_eq_true rfl) dX2_readPlanLine_61 (fun H locs hP hS => ?_)
        refine lv_aload_n hx hb dX2_readPlanLine_64 rfl (lv_at hl 1 rfl) ?_
        refine m_ga E hK hP 37 (by decide) rfl q1450 rfl dX2_readPlanLine_65 ?_
        refine lv_iload_n hx hb dX2_readPlanLine_68 rfl (lv_at hl 2 rfl) ?_
        refine lv_iconst (v := nI 1) hx hb dX2_readPlanLine_69 rfl ?_
        refine lv_iadd hx hb dX2_readPlanLine_70 ?_
        refine lv_iload_n hx hb dX2_readPlanLine_71 rfl (lv_at hl 0 rfl) ?_
        obtain ⟨μ17, hμ17, hf⟩ := ob hf
        refine m_ast E hK hP hS (by decide) rfl rfl hμ17 dX2_readPlanLine_72 (fun H locs hP hS => ?_)
        refine lv_aload_n hx hb dX2_readPlanLine_73 rfl (lv_at hl 1 rfl) ?_
        refine m_ga E hK hP 37 (by decide) rfl q1450 rfl dX2_readPlanLine_74 ?_
        refine lv_iload_n hx hb dX2_readPlanLine_77 rfl (lv_at hl 2 rfl) ?_
        refine lv_iconst (v := nI 2) hx hb dX2_readPlanLine_78 rfl ?_
        refine lv_iadd hx hb dX2_readPlanLine_79 ?_
        refine lv_aload_n hx hb dX2_readPlanLine_80 rfl (lv_at hl 1 rfl) ?_
        refine lv_iconst (v := nI 0) hx hb dX2_readPlanLine_81 rfl ?_
        refine lv_aload_n hx hb dX2_readPlanLine_82 rfl (lv_at hl 1 rfl) ?_
        refine m_ga E hK hP 1 (by decide) rfl q1414 rfl dX2_readPlanLine_83 ?_
        refine lv_iconst (v := nI 4) hx hb dX2_readPlanLine_86 rfl ?_
        obtain ⟨v18, hv18, hf⟩ := ob hf
        refine m_ald E hK hP (by decide) rfl rfl hv18 dX2_readPlanLine_87 ?_
        refine lv_iconst (v := nI 1) hx hb dX2_readPlanLine_88 rfl ?_
        refine lv_isub hx hb dX2_readPlanLine_89 ?_
        obtain ⟨v20, μ21, hc19, hf⟩ := ob2 hf
        refine m_calli E hK hP hS (As := [.int (nI 0), .int (v18 - (nI 1))]) (tm_readNumber l D dT h (nI 0) (v18 - (nI 1)) μ17 _ hc19) (lw_V q1677 q1679 qs79 q166 q1680) dm_readNumber rfl (by decide) (by decide) hl rfl (Nat.le_of_ble_eq_true rfl) dX2_readPlanLine_90 (fun H locs hP hS => ?_)
        obtain ⟨μ22, hμ22, hf⟩ := ob hf
        refine m_ast E hK hP hS (by decide) rfl rfl hμ22 dX2_readPlanLine_93 (fun H locs hP hS => ?_)
        refine lv_aload_n hx hb dX2_readPlanLine_94 rfl (lv_at hl 1 rfl) ?_
        refine m_ga E hK hP 37 (by decide) rfl q1450 rfl dX2_readPlanLine_95 ?_
        refine lv_iload_n hx hb dX2_readPlanLine_98 rfl (lv_at hl 2 rfl) ?_
        refine lv_iconst (v := nI 2) hx hb dX2_readPlanLine_99 rfl ?_
        refine lv_iadd hx hb dX2_readPlanLine_100 ?_
        obtain ⟨v23, hv23, hf⟩ := ob hf
        refine m_ald E hK hP (by decide) rfl rfl hv23 dX2_readPlanLine_101 ?_
        refine lv_iconst (v := (-1)) hx hb dX2_readPlanLine_102 rfl ?_
        refine lv_icmp_ne (tgt := 108) hx hb dX2_readPlanLine_103 (by decide) (fun kc24 => ?_) (fun kc24 => ?_)
        · have hf := ite_f kc24 hf
          refine lv_aload_n hx hb dX2_readPlanLine_108 rfl (lv_at hl 1 rfl) ?_
          refine m_ga E hK hP 37 (by decide) rfl q1450 rfl dX2_readPlanLine_109 ?_
          refine lv_iload_n hx hb dX2_readPlanLine_112 rfl (lv_at hl 2 rfl) ?_
          refine lv_iconst (v := nI 3) hx hb dX2_readPlanLine_113 rfl ?_
          refine lv_iadd hx hb dX2_readPlanLine_114 ?_
          refine lv_iload_n hx hb dX2_readPlanLine_115 rfl (lv_at hl 0 rfl) ?_
          refine lv_iconst (v := nI 2) hx hb dX2_readPlanLine_116 rfl ?_
          refine lv_icmp_ne (tgt := 124) hx hb dX2_readPlanLine_117 (by decide) (fun kc25 => ?_) (fun kc25 => ?_)
          · have hf := ite_f kc25 hf
            refine lv_aload_n hx hb dX2_readPlanLine_124 rfl (lv_at hl 1 rfl) ?_
            refine lv_iload_n hx hb dX2_readPlanLine_125 rfl (lv_at hl 0 rfl) ?_
            refine lv_if_ne (tgt := 134) hx hb dX2_readPlanLine_126 (by decide) (fun kc26 => ?_) (fun kc26 => ?_)
            · have hf := ite_f kc26 hf
              refine lv_bipush (v := nI 30) hx hb dX2_readPlanLine_134 rfl ?_
              refine lv_iconst (v := nI 0) hx hb dX2_readPlanLine_136 rfl ?_
              refine lv_bipush (v := nI 7) hx hb dX2_readPlanLine_137 rfl ?_
              obtain ⟨v28, μ29, hc27, hf⟩ := ob2 hf
              refine m_calli E hK hP hS (As := [.int (nI 30), .int (nI 0), .int (nI 7)]) (tm_readTold l D dT h (nI 30) (nI 0) (nI 7) μ22 _ hc27) (lw_V q1673 q1675 qs78 q166 q1676) dm_readTold rfl (by decide) (by decide) hl rfl (Nat.le_of_ble_eq_true rfl) dX2_readPlanLine_139 (fun H locs hP hS => ?_)
              obtain ⟨μ30, hμ30, hf⟩ := ob hf
              refine m_ast E hK hP hS (by decide) rfl rfl hμ30 dX2_readPlanLine_142 (fun H locs hP hS => ?_)
              refine lv_aload_n hx hb dX2_readPlanLine_143 rfl (lv_at hl 1 rfl) ?_
              refine m_ga E hK hP 37 (by decide) rfl q1450 rfl dX2_readPlanLine_144 ?_
              refine lv_iload_n hx hb dX2_readPlanLine_147 rfl (lv_at hl 2 rfl) ?_
              refine lv_iconst (v := nI 3) hx hb dX2_readPlanLine_148 rfl ?_
              refine lv_iadd hx hb dX2_readPlanLine_149 ?_
              obtain ⟨v31, hv31, hf⟩ := ob hf
              refine m_ald E hK hP (by decide) rfl rfl hv31 dX2_readPlanLine_150 ?_
              refine lv_iconst (v := (-1)) hx hb dX2_readPlanLine_151 rfl ?_
              refine lv_icmp_ne (tgt := 159) hx hb dX2_readPlanLine_152 (by decide) (fun kc32 => ?_) (fun kc32 => ?_)
              · have hf := ite_f kc32 hf
                refine lv_aload_n hx hb dX2_readPlanLine_159 rfl (lv_at hl 1 rfl) ?_
                refine lv_bipush (v := nI 59) hx hb dX2_readPlanLine_160 rfl ?_
                obtain ⟨v34, μ35, hc33, hf⟩ := ob2 hf
                refine m_calli E hK hP hS (As := [.int (nI 59)]) (tm_readMark l D dT h (nI 59) μ30 _ hc33) (lw_V q1681 q1683 qs80 q166 q1684) dm_readMark rfl (by decide) (by decide) hl rfl (Nat.le_of_ble_eq_true rfl) dX2_readPlanLine_162 (fun H locs hP hS => ?_)
                cases hf
                exact m_iret E hr hlk hP hS rfl dX2_readPlanLine_165
              · have hf := ite_t kc32 hf
                refine lv_iconst (v := (-1)) hx hb dX2_readPlanLine_155 rfl ?_
                refine lv_goto (tgt := 165) hx hb dX2_readPlanLine_156 (by decide) ?_
                cases hf
                exact m_iret E hr hlk hP hS rfl dX2_readPlanLine_165
            · have hf := ite_t kc26 hf
              refine lv_bipush (v := nI 25) hx hb dX2_readPlanLine_129 rfl ?_
              refine lv_goto (tgt := 136) hx hb dX2_readPlanLine_131 (by decide) ?_
              refine lv_iconst (v := nI 0) hx hb dX2_readPlanLine_136 rfl ?_
              refine lv_bipush (v := nI 7) hx hb dX2_readPlanLine_137 rfl ?_
              obtain ⟨v37, μ38, hc36, hf⟩ := ob2 hf
              refine m_calli E hK hP hS (As := [.int (nI 25), .int (nI 0), .int (nI 7)]) (tm_readTold l D dT h (nI 25) (nI 0) (nI 7) μ22 _ hc36) (lw_V q1673 q1675 qs78 q166 q1676) dm_readTold rfl (by decide) (by decide) hl rfl (Nat.le_of_ble_eq_true rfl) dX2_readPlanLine_139 (fun H locs hP hS => ?_)
              obtain ⟨μ39, hμ39, hf⟩ := ob hf
              refine m_ast E hK hP hS (by decide) rfl rfl hμ39 dX2_readPlanLine_142 (fun H locs hP hS => ?_)
              refine lv_aload_n hx hb dX2_readPlanLine_143 rfl (lv_at hl 1 rfl) ?_
              refine m_ga E hK hP 37 (by decide) rfl q1450 rfl dX2_readPlanLine_144 ?_
              refine lv_iload_n hx hb dX2_readPlanLine_147 rfl (lv_at hl 2 rfl) ?_
              refine lv_iconst (v := nI 3) hx hb dX2_readPlanLine_148 rfl ?_
              refine lv_iadd hx hb dX2_readPlanLine_149 ?_
              obtain ⟨v40, hv40, hf⟩ := ob hf
              refine m_ald E hK hP (by decide) rfl rfl hv40 dX2_readPlanLine_150 ?_
              refine lv_iconst (v := (-1)) hx hb dX2_readPlanLine_151 rfl ?_
              refine lv_icmp_ne (tgt := 159) hx hb dX2_readPlanLine_152 (by decide) (fun kc41 => ?_) (fun kc41 => ?_)
              · have hf := ite_f kc41 hf
                refine lv_aload_n hx hb dX2_readPlanLine_159 rfl (lv_at hl 1 rfl) ?_
                refine lv_bipush (v := nI 59) hx hb dX2_readPlanLine_160 rfl ?_
                obtain ⟨v43, μ44, hc42, hf⟩ := ob2 hf
                refine m_calli E hK hP hS (As := [.int (nI 59)]) (tm_readMark l D dT h (nI 59) μ39 _ hc42) (lw_V q1681 q1683 qs80 q166 q1684) dm_readMark rfl (by decide) (by decide) hl rfl (Nat.le_of_ble_eq_true rfl) dX2_readPlanLine_162 (fun H locs hP hS => ?_)
                cases hf
                exact m_iret E hr hlk hP hS rfl dX2_readPlanLine_165
              · have hf := ite_t kc41 hf
                refine lv_iconst (v := (-1)) hx hb dX2_readPlanLine_155 rfl ?_
                refine lv_goto (tgt := 165) hx hb dX2_readPlanLine_156 (by decide) ?_
                cases hf
                exact m_iret E hr hlk hP hS rfl dX2_readPlanLine_165
          · have hf := ite_t kc25 hf
            refine lv_iconst (v := nI 0) hx hb dX2_readPlanLine_120 rfl ?_
            refine lv_goto (tgt := 142) hx hb dX2_readPlanLine_121 (by decide) ?_
            obtain ⟨μ45, hμ45, hf⟩ := ob hf
            refine m_ast E hK hP hS (by decide) rfl rfl hμ45 dX2_readPlanLine_142 (fun H locs hP hS => ?_)
            refine lv_aload_n hx hb dX2_readPlanLine_143 rfl (lv_at hl 1 rfl) ?_
            refine m_ga E hK hP 37 (by decide) rfl q1450 rfl dX2_readPlanLine_144 ?_
            refine lv_iload_n hx hb dX2_readPlanLine_147 rfl (lv_at hl 2 rfl) ?_
            refine lv_iconst (v := nI 3) hx hb dX2_readPlanLine_148 rfl ?_
            refine lv_iadd hx hb dX2_readPlanLine_149 ?_
            obtain ⟨v46, hv46, hf⟩ := ob hf
            refine m_ald E hK hP (by decide) rfl rfl hv46 dX2_readPlanLine_150 ?_
            refine lv_iconst (v := (-1)) hx hb dX2_readPlanLine_151 rfl ?_
            refine lv_icmp_ne (tgt := 159) hx hb dX2_readPlanLine_152 (by decide) (fun kc47 => ?_) (fun kc47 => ?_)
            · have hf := ite_f kc47 hf
              refine lv_aload_n hx hb dX2_readPlanLine_159 rfl (lv_at hl 1 rfl) ?_
              refine lv_bipush (v := nI 59) hx hb dX2_readPlanLine_160 rfl ?_
              obtain ⟨v49, μ50, hc48, hf⟩ := ob2 hf
              refine m_calli E hK hP hS (As := [.int (nI 59)]) (tm_readMark l D dT h (nI 59) μ45 _ hc48) (lw_V q1681 q1683 qs80 q166 q1684) dm_readMark rfl (by decide) (by decide) hl rfl (Nat.le_of_ble_eq_true rfl) dX2_readPlanLine_162 (fun H locs hP hS => ?_)
              cases hf
              exact m_iret E hr hlk hP hS rfl dX2_readPlanLine_165
            · have hf := ite_t kc47 hf
              refine lv_iconst (v := (-1)) hx hb dX2_readPlanLine_155 rfl ?_
              refine lv_goto (tgt := 165) hx hb dX2_readPlanLine_156 (by decide) ?_
              cases hf
              exact m_iret E hr hlk hP hS rfl dX2_readPlanLine_165
        · have hf := ite_t kc24 hf
          refine lv_iconst (v := (-1)) hx hb dX2_readPlanLine_106 rfl ?_
          cases hf
          exact m_iret E hr hlk hP hS rfl dX2_readPlanLine_107
      · have hf := ite_t kc14 hf
        refine lv_aload_n hx hb dX2_readPlanLine_54 rfl (lv_at hl 1 rfl) ?_
        refine lv_iconst (v := nI 1) hx hb dX2_readPlanLine_55 rfl ?_
        obtain ⟨v52, μ53, hc51, hf⟩ := ob2 hf
        refine m_calli E hK hP hS (As := [.int (nI 1)]) (tm_errs l D dT h (nI 1) μ4 _ hc51) (lw_V q1657 q1659 qs74 q166 q1660) dm_errs rfl (by decide) (by decide) hl rfl (Nat.le_of_ble_eq_true rfl) dX2_readPlanLine_56 (fun H locs hP hS => ?_)
        cases hf
        exact m_iret E hr hlk hP hS rfl dX2_readPlanLine_59
  · have hf := ite_t kc6 hf
    refine lv_iconst (v := (-1)) hx hb dX2_readPlanLine_26 rfl ?_
    cases hf
    exact m_iret E hr hlk hP hS rfl dX2_readPlanLine_27
