/-! walks of NamesWeatherModel, written by genm.py -/
set_option maxRecDepth 100000
set_option maxHeartbeats 4000000 in
noncomputable def fm_readSum_L10 : nwM → Option ((nwM) ⊕ (Int32 × nwM)) := fun st => (fm_isSign (nI 43) st).bind fun v6 => (if v6 = 0 then (fm_isSign (nI 45) st).bind fun v26 => (if v26 = 0 then some (.inr (nI 0, st)) else (if (st 14 0) = (nI 43) then (fm_reads st).bind fun μ38 => bd2 (fm_readProduct μ38) fun v40 μ41 => (if v40 = (-1) then some (.inr ((-1), μ41)) else (fm_emits (nI 2) (nI 0) μ41).bind fun μ44 => some (.inl μ44)) else (fm_reads st).bind fun μ30 => bd2 (fm_readProduct μ30) fun v32 μ33 => (if v32 = (-1) then some (.inr ((-1), μ33)) else (fm_emits (nI 3) (nI 0) μ33).bind fun μ36 => some (.inl μ36)))) else (if (st 14 0) = (nI 43) then (fm_reads st).bind fun μ18 => bd2 (fm_readProduct μ18) fun v20 μ21 => (if v20 = (-1) then some (.inr ((-1), μ21)) else (fm_emits (nI 2) (nI 0) μ21).bind fun μ24 => some (.inl μ24)) else (fm_reads st).bind fun μ10 => bd2 (fm_readProduct μ10) fun v12 μ13 => (if v12 = (-1) then some (.inr ((-1), μ13)) else (fm_emits (nI 3) (nI 0) μ13).bind fun μ16 => some (.inl μ16))))
set_option maxHeartbeats 4000000 in
noncomputable def fm_readSum (μ : nwM) : Option (Int32 × nwM) := bd2 (fm_readProduct μ) fun v2 μ3 => (if v2 = (-1) then some ((-1), μ3) else wh_ (fm_readSum_L10) μ3)
set_option maxHeartbeats 4000000 in
theorem fm_readSum_L10_w {p : Program} {l : Launch} {e : Env} {s : State} {m : MethodId} {args : Array Value} {below : List Frame} {meth : Method} {c : Code} {D : va_G} {dT : Nat → ClassId} {h : Nat} (E : CallFix p m c cX2_readSum 2 s args lw_all RX2) (hK : va_K D nwCl (nwT dT) s) (hr : meth.sig.returnType = (some .int)) (hlk : meth.locks = false) {res : Int32 × nwM} {st : nwM} {x : Int32 × nwM} (hw : wh_ (fm_readSum_L10) st = some x) (hk : (fun r : Int32 × nwM => r = res) x) : (fun st : nwM => ∀ (ls : Array Slot) (H : Heap) (locs : List Loc), lv_has ls 2 [(0, .ref h)] → PM D dT h st H → va_S (mA h) s.heap H locs → W p l e (rmd 5) s m args below meth c H locs 0 0 (MQ below (mQi D dT h res.2 res.1) args s 0 0 (mA h)) (F0 m 10 ls [])) st := by
  obtain ⟨hx, hb, -, hown, hts⟩ := id E
  refine wh_run (P := (fun st : nwM => ∀ (ls : Array Slot) (H : Heap) (locs : List Loc), lv_has ls 2 [(0, .ref h)] → PM D dT h st H → va_S (mA h) s.heap H locs → W p l e (rmd 5) s m args below meth c H locs 0 0 (MQ below (mQi D dT h res.2 res.1) args s 0 0 (mA h)) (F0 m 10 ls []))) (PE := (fun r : Int32 × nwM => r = res)) ?_ hw hk
  clear hw hk
  intro st x hf hk ls H locs hl hP hS
  refine lv_aload_n hx hb dX2_readSum_10 rfl (lv_at hl 0 rfl) ?_
  refine lv_bipush (v := nI 43) hx hb dX2_readSum_11 rfl ?_
  obtain ⟨v6, hc5, hf⟩ := ob hf
  refine m_calli E hK hP hS (As := [.int (nI 43)]) (tm_isSign l D dT h (nI 43) st _ hc5) (lw_V q1685 q1687 qs81 q166 q1688) dm_isSign rfl (by decide) (by decide) hl rfl (Nat.le_of_ble_eq_true rfl) dX2_readSum_13 (fun H locs hP hS => ?_)
  refine lv_if_ne (tgt := 28) hx hb dX2_readSum_16 (by decide) (fun kc7 => ?_) (fun kc7 => ?_)
  · have hf := ite_f kc7 hf
    refine lv_aload_n hx hb dX2_readSum_28 rfl (lv_at hl 0 rfl) ?_
    refine m_get E hK hP 14 (by decide) rfl q1427 rfl dX2_readSum_29 ?_
    refine lv_bipush (v := nI 43) hx hb dX2_readSum_32 rfl ?_
    refine lv_icmp_ne (tgt := 41) hx hb dX2_readSum_34 (by decide) (fun kc8 => ?_) (fun kc8 => ?_)
    · have hf := ite_f kc8 hf
      refine lv_iconst (v := nI 3) hx hb dX2_readSum_41 rfl ?_
      refine lv_istore_n (lv' := [(1, .int (nI 3)), (0, .ref h)]) hx hb dX2_readSum_42 rfl hl (by decide) rfl (fun ls hl => ?_)
      refine lv_aload_n hx hb dX2_readSum_43 rfl (lv_at hl 1 rfl) ?_
      obtain ⟨μ10, hc9, hf⟩ := ob hf
      refine m_callv E hK hP hS (As := []) (tm_reads l D dT h st _ hc9) (lw_V q1625 q1627 qs66 q166 q1628) dm_reads rfl (by decide) (by decide) hl rfl (Nat.le_of_ble_eq_true rfl) dX2_readSum_44 (fun H locs hP hS => ?_)
      refine lv_aload_n hx hb dX2_readSum_47 rfl (lv_at hl 1 rfl) ?_
      obtain ⟨v12, μ13, hc11, hf⟩ := ob2 hf
      refine m_calli E hK hP hS (As := []) (tm_readProduct l D dT h μ10 _ hc11) (lw_V q1725 q1727 qs91 q166 q1728) dm_readProduct rfl (by decide) (by decide) hl rfl (Nat.le_of_ble_eq_true rfl) dX2_readSum_48 (fun H locs hP hS => ?_)
      refine lv_iconst (v := (-1)) hx hb dX2_readSum_51 rfl ?_
      refine lv_icmp_ne (tgt := 57) hx hb dX2_readSum_52 (by decide) (fun kc14 => ?_) (fun kc14 => ?_)
      · have hf := ite_f kc14 hf
        refine lv_aload_n hx hb dX2_readSum_57 rfl (lv_at hl 1 rfl) ?_
        refine lv_iload_n hx hb dX2_readSum_58 rfl (lv_at hl 0 rfl) ?_
        refine lv_iconst (v := nI 0) hx hb dX2_readSum_59 rfl ?_
        obtain ⟨μ16, hc15, hf⟩ := ob hf
        refine m_callv E hK hP hS (As := [.int (nI 3), .int (nI 0)]) (tm_emits l D dT h (nI 3) (nI 0) μ13 _ hc15) (lw_V q1737 q1739 qs94 q166 q1740) dm_emits rfl (by decide) (by decide) hl rfl (Nat.le_of_ble_eq_true rfl) dX2_readSum_60 (fun H locs hP hS => ?_)
        refine lv_goto (tgt := 10) hx hb dX2_readSum_63 (by decide) ?_
        cases hf
        exact hk _ _ _ (lv_sub hl [1] rfl) hP hS
      · have hf := ite_t kc14 hf
        refine lv_iconst (v := (-1)) hx hb dX2_readSum_55 rfl ?_
        cases hf
        have hk : ((-1), μ13) = res := hk
        subst hk
        exact m_iret E hr hlk hP hS rfl dX2_readSum_56
    · have hf := ite_t kc8 hf
      refine lv_iconst (v := nI 2) hx hb dX2_readSum_37 rfl ?_
      refine lv_goto (tgt := 42) hx hb dX2_readSum_38 (by decide) ?_
      refine lv_istore_n (lv' := [(1, .int (nI 2)), (0, .ref h)]) hx hb dX2_readSum_42 rfl hl (by decide) rfl (fun ls hl => ?_)
      refine lv_aload_n hx hb dX2_readSum_43 rfl (lv_at hl 1 rfl) ?_
      obtain ⟨μ18, hc17, hf⟩ := ob hf
      refine m_callv E hK hP hS (As := []) (tm_reads l D dT h st _ hc17) (lw_V q1625 q1627 qs66 q166 q1628) dm_reads rfl (by decide) (by decide) hl rfl (Nat.le_of_ble_eq_true rfl) dX2_readSum_44 (fun H locs hP hS => ?_)
      refine lv_aload_n hx hb dX2_readSum_47 rfl (lv_at hl 1 rfl) ?_
      obtain ⟨v20, μ21, hc19, hf⟩ := ob2 hf
      refine m_calli E hK hP hS (As := []) (tm_readProduct l D dT h μ18 _ hc19) (lw_V q1725 q1727 qs91 q166 q1728) dm_readProduct rfl (by decide) (by decide) hl rfl (Nat.le_of_ble_eq_true rfl) dX2_readSum_48 (fun H locs hP hS => ?_)
      refine lv_iconst (v := (-1)) hx hb dX2_readSum_51 rfl ?_
      refine lv_icmp_ne (tgt := 57) hx hb dX2_readSum_52 (by decide) (fun kc22 => ?_) (fun kc22 => ?_)
      · have hf := ite_f kc22 hf
        refine lv_aload_n hx hb dX2_readSum_57 rfl (lv_at hl 1 rfl) ?_
        refine lv_iload_n hx hb dX2_readSum_58 rfl (lv_at hl 0 rfl) ?_
        refine lv_iconst (v := nI 0) hx hb dX2_readSum_59 rfl ?_
        obtain ⟨μ24, hc23, hf⟩ := ob hf
        refine m_callv E hK hP hS (As := [.int (nI 2), .int (nI 0)]) (tm_emits l D dT h (nI 2) (nI 0) μ21 _ hc23) (lw_V q1737 q1739 qs94 q166 q1740) dm_emits rfl (by decide) (by decide) hl rfl (Nat.le_of_ble_eq_true rfl) dX2_readSum_60 (fun H locs hP hS => ?_)
        refine lv_goto (tgt := 10) hx hb dX2_readSum_63 (by decide) ?_
        cases hf
        exact hk _ _ _ (lv_sub hl [1] rfl) hP hS
      · have hf := ite_t kc22 hf
        refine lv_iconst (v := (-1)) hx hb dX2_readSum_55 rfl ?_
        cases hf
        have hk : ((-1), μ21) = res := hk
        subst hk
        exact m_iret E hr hlk hP hS rfl dX2_readSum_56
  · have hf := ite_t kc7 hf
    refine lv_aload_n hx hb dX2_readSum_19 rfl (lv_at hl 0 rfl) ?_
    refine lv_bipush (v := nI 45) hx hb dX2_readSum_20 rfl ?_
    obtain ⟨v26, hc25, hf⟩ := ob hf
    refine m_calli E hK hP hS (As := [.int (nI 45)]) (tm_isSign l D dT h (nI 45) st _ hc25) (lw_V q1685 q1687 qs81 q166 q1688) dm_isSign rfl (by decide) (by decide) hl rfl (Nat.le_of_ble_eq_true rfl) dX2_readSum_22 (fun H locs hP hS => ?_)
    refine lv_if_eq (tgt := 66) hx hb dX2_readSum_25 (by decide) (fun kc27 => ?_) (fun kc27 => ?_)
    · have hf := ite_t kc27 hf
      refine lv_iconst (v := nI 0) hx hb dX2_readSum_66 rfl ?_
      cases hf
      have hk : (nI 0, st) = res := hk
      subst hk
      exact m_iret E hr hlk hP hS rfl dX2_readSum_67
    · have hf := ite_f kc27 hf
      refine lv_aload_n hx hb dX2_readSum_28 rfl (lv_at hl 0 rfl) ?_
      refine m_get E hK hP 14 (by decide) rfl q1427 rfl dX2_readSum_29 ?_
      refine lv_bipush (v := nI 43) hx hb dX2_readSum_32 rfl ?_
      refine lv_icmp_ne (tgt := 41) hx hb dX2_readSum_34 (by decide) (fun kc28 => ?_) (fun kc28 => ?_)
      · have hf := ite_f kc28 hf
        refine lv_iconst (v := nI 3) hx hb dX2_readSum_41 rfl ?_
        refine lv_istore_n (lv' := [(1, .int (nI 3)), (0, .ref h)]) hx hb dX2_readSum_42 rfl hl (by decide) rfl (fun ls hl => ?_)
        refine lv_aload_n hx hb dX2_readSum_43 rfl (lv_at hl 1 rfl) ?_
        obtain ⟨μ30, hc29, hf⟩ := ob hf
        refine m_callv E hK hP hS (As := []) (tm_reads l D dT h st _ hc29) (lw_V q1625 q1627 qs66 q166 q1628) dm_reads rfl (by decide) (by decide) hl rfl (Nat.le_of_ble_eq_true rfl) dX2_readSum_44 (fun H locs hP hS => ?_)
        refine lv_aload_n hx hb dX2_readSum_47 rfl (lv_at hl 1 rfl) ?_
        obtain ⟨v32, μ33, hc31, hf⟩ := ob2 hf
        refine m_calli E hK hP hS (As := []) (tm_readProduct l D dT h μ30 _ hc31) (lw_V q1725 q1727 qs91 q166 q1728) dm_readProduct rfl (by decide) (by decide) hl rfl (Nat.le_of_ble_eq_true rfl) dX2_readSum_48 (fun H locs hP hS => ?_)
        refine lv_iconst (v := (-1)) hx hb dX2_readSum_51 rfl ?_
        refine lv_icmp_ne (tgt := 57) hx hb dX2_readSum_52 (by decide) (fun kc34 => ?_) (fun kc34 => ?_)
        · have hf := ite_f kc34 hf
          refine lv_aload_n hx hb dX2_readSum_57 rfl (lv_at hl 1 rfl) ?_
          refine lv_iload_n hx hb dX2_readSum_58 rfl (lv_at hl 0 rfl) ?_
          refine lv_iconst (v := nI 0) hx hb dX2_readSum_59 rfl ?_
          obtain ⟨μ36, hc35, hf⟩ := ob hf
          refine m_callv E hK hP hS (As := [.int (nI 3), .int (nI 0)]) (tm_emits l D dT h (nI 3) (nI 0) μ33 _ hc35) (lw_V q1737 q1739 qs94 q166 q1740) dm_emits rfl (by decide) (by decide) hl rfl (Nat.le_of_ble_eq_true rfl) dX2_readSum_60 (fun H locs hP hS => ?_)
          refine lv_goto (tgt := 10) hx hb dX2_readSum_63 (by decide) ?_
          cases hf
          exact hk _ _ _ (lv_sub hl [1] rfl) hP hS
        · have hf := ite_t kc34 hf
          refine lv_iconst (v := (-1)) hx hb dX2_readSum_55 rfl ?_
          cases hf
          have hk : ((-1), μ33) = res := hk
          subst hk
          exact m_iret E hr hlk hP hS rfl dX2_readSum_56
      · have hf := ite_t kc28 hf
        refine lv_iconst (v := nI 2) hx hb dX2_readSum_37 rfl ?_
        refine lv_goto (tgt := 42) hx hb dX2_readSum_38 (by decide) ?_
        refine lv_istore_n (lv' := [(1, .int (nI 2)), (0, .ref h)]) hx hb dX2_readSum_42 rfl hl (by decide) rfl (fun ls hl => ?_)
        refine lv_aload_n hx hb dX2_readSum_43 rfl (lv_at hl 1 rfl) ?_
        obtain ⟨μ38, hc37, hf⟩ := ob hf
        refine m_callv E hK hP hS (As := []) (tm_reads l D dT h st _ hc37) (lw_V q1625 q1627 qs66 q166 q1628) dm_reads rfl (by decide) (by decide) hl rfl (Nat.le_of_ble_eq_true rfl) dX2_readSum_44 (fun H locs hP hS => ?_)
        refine lv_aload_n hx hb dX2_readSum_47 rfl (lv_at hl 1 rfl) ?_
        obtain ⟨v40, μ41, hc39, hf⟩ := ob2 hf
        refine m_calli E hK hP hS (As := []) (tm_readProduct l D dT h μ38 _ hc39) (lw_V q1725 q1727 qs91 q166 q1728) dm_readProduct rfl (by decide) (by decide) hl rfl (Nat.le_of_ble_eq_true rfl) dX2_readSum_48 (fun H locs hP hS => ?_)
        refine lv_iconst (v := (-1)) hx hb dX2_readSum_51 rfl ?_
        refine lv_icmp_ne (tgt := 57) hx hb dX2_readSum_52 (by decide) (fun kc42 => ?_) (fun kc42 => ?_)
        · have hf := ite_f kc42 hf
          refine lv_aload_n hx hb dX2_readSum_57 rfl (lv_at hl 1 rfl) ?_
          refine lv_iload_n hx hb dX2_readSum_58 rfl (lv_at hl 0 rfl) ?_
          refine lv_iconst (v := nI 0) hx hb dX2_readSum_59 rfl ?_
          obtain ⟨μ44, hc43, hf⟩ := ob hf
          refine m_callv E hK hP hS (As := [.int (nI 2), .int (nI 0)]) (tm_emits l D dT h (nI 2) (nI 0) μ41 _ hc43) (lw_V q1737 q1739 qs94 q166 q1740) dm_emits rfl (by decide) (by decide) hl rfl (Nat.le_of_ble_eq_true rfl) dX2_readSum_60 (fun H locs hP hS => ?_)
          refine lv_goto (tgt := 10) hx hb dX2_readSum_63 (by decide) ?_
          cases hf
          exact hk _ _ _ (lv_sub hl [1] rfl) hP hS
        · have hf := ite_t kc42 hf
          refine lv_iconst (v := (-1)) hx hb dX2_readSum_55 rfl ?_
          cases hf
          have hk : ((-1), μ41) = res := hk
          subst hk
          exact m_iret E hr hlk hP hS rfl dX2_readSum_56
set_option maxHeartbeats 4000000 in
theorem dm_readSum : yX2_readSum.cls = RX2 ∧ yX2_readSum.cls ≠ "java/lang/invoke/MethodHandle" ∧ yX2_readSum.cls ≠ "java/lang/invoke/VarHandle" ∧ (parseMethodDescriptor yX2_readSum.desc).map (fun d => d.parameters.length) = some 0 := ⟨rfl, by decide +kernel, by decide +kernel, by decide +kernel⟩
set_option maxHeartbeats 4000000 in
theorem tm_readSum (l : Launch) (D : va_G) (dT : Nat → ClassId) (h : Nat) (μ : nwM) (res : Int32 × nwM) (hf : fm_readSum μ = some res) : Met l yX2_readSum (ws_ yX2_readSum cX2_readSum 2 (some .int)) (rmd 5) (mPc D dT h μ []) (mQi D dT h res.2 res.1) 0 0 (mA h) := by
  refine m_met (by decide) rfl (Nat.le_of_ble_eq_true rfl) ?_
  intro p e s m below meth c ls E hK hr hlk hl hP
  have hS : va_S (mA h) s.heap s.heap [] := va_S.rf
  obtain ⟨hx, hb, -, hown, hts⟩ := id E
  have hl : lv_has ls 2 [(0, .ref h)] := hl
  unfold fm_readSum at hf
  refine lv_aload_n hx hb dX2_readSum_0 rfl (lv_at hl 0 rfl) ?_
  obtain ⟨v2, μ3, hc1, hf⟩ := ob2 hf
  refine m_calli E hK hP hS (As := []) (tm_readProduct l D dT h μ _ hc1) (lw_V q1725 q1727 qs91 q166 q1728) dm_readProduct rfl (by decide) (by decide) hl rfl (Nat.le_of_ble_eq_true rfl) dX2_readSum_1 (fun H locs hP hS => ?_)
  refine lv_iconst (v := (-1)) hx hb dX2_readSum_4 rfl ?_
  refine lv_icmp_ne (tgt := 10) hx hb dX2_readSum_5 (by decide) (fun kc4 => ?_) (fun kc4 => ?_)
  · have hf := ite_f kc4 hf
    exact fm_readSum_L10_w E hK hr hlk hf rfl _ _ _ (lv_sub hl [0] rfl) hP hS
  · have hf := ite_t kc4 hf
    refine lv_iconst (v := (-1)) hx hb dX2_readSum_8 rfl ?_
    cases hf
    exact m_iret E hr hlk hP hS rfl dX2_readSum_9
set_option maxHeartbeats 4000000 in
noncomputable def fm_readCompared (μ : nwM) : Option (Int32 × nwM) := bd2 (fm_readSum μ) fun v2 μ3 => (if v2 = (-1) then some ((-1), μ3) else (fm_isSign (nI 60) μ3).bind fun v6 => (if v6 = 0 then (fm_isSign (nI 61) μ3).bind fun v35 => (if v35 = 0 then (fm_isSign (nI 62) μ3).bind fun v64 => (if v64 = 0 then bd2 (fm_errs (nI 1) μ3) fun v93 μ94 => some (v93, μ94) else (if (μ3 14 0) = (nI 60) then (fm_reads μ3).bind fun μ85 => bd2 (fm_readSum μ85) fun v87 μ88 => (if v87 = (-1) then some ((-1), μ88) else (fm_emits (nI 6) (nI 0) μ88).bind fun μ91 => some (nI 0, μ91)) else (if (μ3 14 0) = (nI 61) then (fm_reads μ3).bind fun μ77 => bd2 (fm_readSum μ77) fun v79 μ80 => (if v79 = (-1) then some ((-1), μ80) else (fm_emits (nI 7) (nI 0) μ80).bind fun μ83 => some (nI 0, μ83)) else (fm_reads μ3).bind fun μ69 => bd2 (fm_readSum μ69) fun v71 μ72 => (if v71 = (-1) then some ((-1), μ72) else (fm_emits (nI 8) (nI 0) μ72).bind fun μ75 => some (nI 0, μ75))))) else (if (μ3 14 0) = (nI 60) then (fm_reads μ3).bind fun μ56 => bd2 (fm_readSum μ56) fun v58 μ59 => (if v58 = (-1) then some ((-1), μ59) else (fm_emits (nI 6) (nI 0) μ59).bind fun μ62 => some (nI 0, μ62)) else (if (μ3 14 0) = (nI 61) then (fm_reads μ3).bind fun μ48 => bd2 (fm_readSum μ48) fun v50 μ51 => (if v50 = (-1) then some ((-1), μ51) else (fm_emits (nI 7) (nI 0) μ51).bind fun μ54 => some (nI 0, μ54)) else (fm_reads μ3).bind fun μ40 => bd2 (fm_readSum μ40) fun v42 μ43 => (if v42 = (-1) then some ((-1), μ43) else (fm_emits (nI 8) (nI 0) μ43).bind fun μ46 => some (nI 0, μ46))))) else (if (μ3 14 0) = (nI 60) then (fm_reads μ3).bind fun μ27 => bd2 (fm_readSum μ27) fun v29 μ30 => (if v29 = (-1) then some ((-1), μ30) else (fm_emits (nI 6) (nI 0) μ30).bind fun μ33 => some (nI 0, μ33)) else (if (μ3 14 0) = (nI 61) then (fm_reads μ3).bind fun μ19 => bd2 (fm_readSum μ19) fun v21 μ22 => (if v21 = (-1) then some ((-1), μ22) else (fm_emits (nI 7) (nI 0) μ22).bind fun μ25 => some (nI 0, μ25)) else (fm_reads μ3).bind fun μ11 => bd2 (fm_readSum μ11) fun v13 μ14 => (if v13 = (-1) then some ((-1), μ14) else (fm_emits (nI 8) (nI 0) μ14).bind fun μ17 => some (nI 0, μ17))))))
set_option maxHeartbeats 4000000 in
theorem dm_readCompared : yX2_readCompared.cls = RX2 ∧ yX2_readCompared.cls ≠ "java/lang/invoke/MethodHandle" ∧ yX2_readCompared.cls ≠ "java/lang/invoke/VarHandle" ∧ (parseMethodDescriptor yX2_readCompared.desc).map (fun d => d.parameters.length) = some 0 := ⟨rfl, by decide +kernel, by decide +kernel, by decide +kernel⟩
set_option maxHeartbeats 4000000 in
theorem tm_readCompared (l : Launch) (D : va_G) (dT : Nat → ClassId) (h : Nat) (μ : nwM) (res : Int32 × nwM) (hf : fm_readCompared μ = some res) : Met l yX2_readCompared (ws_ yX2_readCompared cX2_readCompared 2 (some .int)) (rmd 6) (mPc D dT h μ []) (mQi D dT h res.2 res.1) 0 0 (mA h) := by
  refine m_met (by decide) rfl (Nat.le_of_ble_eq_true rfl) ?_
  intro p e s m below meth c ls E hK hr hlk hl hP
  have hS : va_S (mA h) s.heap s.heap [] := va_S.rf
  obtain ⟨hx, hb, -, hown, hts⟩ := id E
  have hl : lv_has ls 2 [(0, .ref h)] := hl
  unfold fm_readCompared at hf
  refine lv_aload_n hx hb dX2_readCompared_0 rfl (lv_at hl 0 rfl) ?_
  obtain ⟨v2, μ3, hc1, hf⟩ := ob2 hf
  refine m_calli E hK hP hS (As := []) (tm_readSum l D dT h μ _ hc1) (lw_V q1721 q1723 qs90 q166 q1724) dm_readSum rfl (by decide) (by decide) hl rfl (Nat.le_of_ble_eq_true rfl) dX2_readCompared_1 (fun H locs hP hS => ?_)
  refine lv_iconst (v := (-1)) hx hb dX2_readCompared_4 rfl ?_
  refine lv_icmp_ne (tgt := 10) hx hb dX2_readCompared_5 (by decide) (fun kc4 => ?_) (fun kc4 => ?_)
  · have hf := ite_f kc4 hf
    refine lv_aload_n hx hb dX2_readCompared_10 rfl (lv_at hl 0 rfl) ?_
    refine lv_bipush (v := nI 60) hx hb dX2_readCompared_11 rfl ?_
    obtain ⟨v6, hc5, hf⟩ := ob hf
    refine m_calli E hK hP hS (As := [.int (nI 60)]) (tm_isSign l D dT h (nI 60) μ3 _ hc5) (lw_V q1685 q1687 qs81 q166 q1688) dm_isSign rfl (by decide) (by decide) hl rfl (Nat.le_of_ble_eq_true rfl) dX2_readCompared_13 (fun H locs hP hS => ?_)
    refine lv_if_ne (tgt := 43) hx hb dX2_readCompared_16 (by decide) (fun kc7 => ?_) (fun kc7 => ?_)
    · have hf := ite_f kc7 hf
      refine lv_aload_n hx hb dX2_readCompared_43 rfl (lv_at hl 0 rfl) ?_
      refine m_get E hK hP 14 (by decide) rfl q1427 rfl dX2_readCompared_44 ?_
      refine lv_bipush (v := nI 60) hx hb dX2_readCompared_47 rfl ?_
      refine lv_icmp_ne (tgt := 57) hx hb dX2_readCompared_49 (by decide) (fun kc8 => ?_) (fun kc8 => ?_)
      · have hf := ite_f kc8 hf
        refine lv_aload_n hx hb dX2_readCompared_57 rfl (lv_at hl 0 rfl) ?_
        refine m_get E hK hP 14 (by decide) rfl q1427 rfl dX2_readCompared_58 ?_
        refine lv_bipush (v := nI 61) hx hb dX2_readCompared_61 rfl ?_
        refine lv_icmp_ne (tgt := 71) hx hb dX2_readCompared_63 (by decide) (fun kc9 => ?_) (fun kc9 => ?_)
        · have hf := ite_f kc9 hf
          refine lv_bipush (v := nI 8) hx hb dX2_readCompared_71 rfl ?_
          refine lv_istore_n (lv' := [(1, .int (nI 8)), (0, .ref h)]) hx hb dX2_readCompared_73 rfl hl (by decide) rfl (fun ls hl => ?_)
          refine lv_aload_n hx hb dX2_readCompared_74 rfl (lv_at hl 1 rfl) ?_
          obtain ⟨μ11, hc10, hf⟩ := ob hf
          refine m_callv E hK hP hS (As := []) (tm_reads l D dT h μ3 _ hc10) (lw_V q1625 q1627 qs66 q166 q1628) dm_reads rfl (by decide) (by decide) hl rfl (Nat.le_of_ble_eq_true rfl) dX2_readCompared_75 (fun H locs hP hS => ?_)
          refine lv_aload_n hx hb dX2_readCompared_78 rfl (lv_at hl 1 rfl) ?_
          obtain ⟨v13, μ14, hc12, hf⟩ := ob2 hf
          refine m_calli E hK hP hS (As := []) (tm_readSum l D dT h μ11 _ hc12) (lw_V q1721 q1723 qs90 q166 q1724) dm_readSum rfl (by decide) (by decide) hl rfl (Nat.le_of_ble_eq_true rfl) dX2_readCompared_79 (fun H locs hP hS => ?_)
          refine lv_iconst (v := (-1)) hx hb dX2_readCompared_82 rfl ?_
          refine lv_icmp_ne (tgt := 88) hx hb dX2_readCompared_83 (by decide) (fun kc15 => ?_) (fun kc15 => ?_)
          · have hf := ite_f kc15 hf
            refine lv_aload_n hx hb dX2_readCompared_88 rfl (lv_at hl 1 rfl) ?_
            refine lv_iload_n hx hb dX2_readCompared_89 rfl (lv_at hl 0 rfl) ?_
            refine lv_iconst (v := nI 0) hx hb dX2_readCompared_90 rfl ?_
            obtain ⟨μ17, hc16, hf⟩ := ob hf
            refine m_callv E hK hP hS (As := [.int (nI 8), .int (nI 0)]) (tm_emits l D dT h (nI 8) (nI 0) μ14 _ hc16) (lw_V q1737 q1739 qs94 q166 q1740) dm_emits rfl (by decide) (by decide) hl rfl (Nat.le_of_ble_eq_true rfl) dX2_readCompared_91 (fun H locs hP hS => ?_)
            refine lv_iconst (v := nI 0) hx hb dX2_readCompared_94 rfl ?_
            cases hf
            exact m_iret E hr hlk hP hS rfl dX2_readCompared_95
          · have hf := ite_t kc15 hf
            refine lv_iconst (v := (-1)) hx hb dX2_readCompared_86 rfl ?_
            cases hf
            exact m_iret E hr hlk hP hS rfl dX2_readCompared_87
        · have hf := ite_t kc9 hf
          refine lv_bipush (v := nI 7) hx hb dX2_readCompared_66 rfl ?_
          refine lv_goto (tgt := 73) hx hb dX2_readCompared_68 (by decide) ?_
          refine lv_istore_n (lv' := [(1, .int (nI 7)), (0, .ref h)]) hx hb dX2_readCompared_73 rfl hl (by decide) rfl (fun ls hl => ?_)
          refine lv_aload_n hx hb dX2_readCompared_74 rfl (lv_at hl 1 rfl) ?_
          obtain ⟨μ19, hc18, hf⟩ := ob hf
          refine m_callv E hK hP hS (As := []) (tm_reads l D dT h μ3 _ hc18) (lw_V q1625 q1627 qs66 q166 q1628) dm_reads rfl (by decide) (by decide) hl rfl (Nat.le_of_ble_eq_true rfl) dX2_readCompared_75 (fun H locs hP hS => ?_)
          refine lv_aload_n hx hb dX2_readCompared_78 rfl (lv_at hl 1 rfl) ?_
          obtain ⟨v21, μ22, hc20, hf⟩ := ob2 hf
          refine m_calli E hK hP hS (As := []) (tm_readSum l D dT h μ19 _ hc20) (lw_V q1721 q1723 qs90 q166 q1724) dm_readSum rfl (by decide) (by decide) hl rfl (Nat.le_of_ble_eq_true rfl) dX2_readCompared_79 (fun H locs hP hS => ?_)
          refine lv_iconst (v := (-1)) hx hb dX2_readCompared_82 rfl ?_
          refine lv_icmp_ne (tgt := 88) hx hb dX2_readCompared_83 (by decide) (fun kc23 => ?_) (fun kc23 => ?_)
          · have hf := ite_f kc23 hf
            refine lv_aload_n hx hb dX2_readCompared_88 rfl (lv_at hl 1 rfl) ?_
            refine lv_iload_n hx hb dX2_readCompared_89 rfl (lv_at hl 0 rfl) ?_
            refine lv_iconst (v := nI 0) hx hb dX2_readCompared_90 rfl ?_
            obtain ⟨μ25, hc24, hf⟩ := ob hf
            refine m_callv E hK hP hS (As := [.int (nI 7), .int (nI 0)]) (tm_emits l D dT h (nI 7) (nI 0) μ22 _ hc24) (lw_V q1737 q1739 qs94 q166 q1740) dm_emits rfl (by decide) (by decide) hl rfl (Nat.le_of_ble_eq_true rfl) dX2_readCompared_91 (fun H locs hP hS => ?_)
            refine lv_iconst (v := nI 0) hx hb dX2_readCompared_94 rfl ?_
            cases hf
            exact m_iret E hr hlk hP hS rfl dX2_readCompared_95
          · have hf := ite_t kc23 hf
            refine lv_iconst (v := (-1)) hx hb dX2_readCompared_86 rfl ?_
            cases hf
            exact m_iret E hr hlk hP hS rfl dX2_readCompared_87
      · have hf := ite_t kc8 hf
        refine lv_bipush (v := nI 6) hx hb dX2_readCompared_52 rfl ?_
        refine lv_goto (tgt := 73) hx hb dX2_readCompared_54 (by decide) ?_
        refine lv_istore_n (lv' := [(1, .int (nI 6)), (0, .ref h)]) hx hb dX2_readCompared_73 rfl hl (by decide) rfl (fun ls hl => ?_)
        refine lv_aload_n hx hb dX2_readCompared_74 rfl (lv_at hl 1 rfl) ?_
        obtain ⟨μ27, hc26, hf⟩ := ob hf
        refine m_callv E hK hP hS (As := []) (tm_reads l D dT h μ3 _ hc26) (lw_V q1625 q1627 qs66 q166 q1628) dm_reads rfl (by decide) (by decide) hl rfl (Nat.le_of_ble_eq_true rfl) dX2_readCompared_75 (fun H locs hP hS => ?_)
        refine lv_aload_n hx hb dX2_readCompared_78 rfl (lv_at hl 1 rfl) ?_
        obtain ⟨v29, μ30, hc28, hf⟩ := ob2 hf
        refine m_calli E hK hP hS (As := []) (tm_readSum l D dT h μ27 _ hc28) (lw_V q1721 q1723 qs90 q166 q1724) dm_readSum rfl (by decide) (by decide) hl rfl (Nat.le_of_ble_eq_true rfl) dX2_readCompared_79 (fun H locs hP hS => ?_)
        refine lv_iconst (v := (-1)) hx hb dX2_readCompared_82 rfl ?_
        refine lv_icmp_ne (tgt := 88) hx hb dX2_readCompared_83 (by decide) (fun kc31 => ?_) (fun kc31 => ?_)
        · have hf := ite_f kc31 hf
          refine lv_aload_n hx hb dX2_readCompared_88 rfl (lv_at hl 1 rfl) ?_
          refine lv_iload_n hx hb dX2_readCompared_89 rfl (lv_at hl 0 rfl) ?_
          refine lv_iconst (v := nI 0) hx hb dX2_readCompared_90 rfl ?_
          obtain ⟨μ33, hc32, hf⟩ := ob hf
          refine m_callv E hK hP hS (As := [.int (nI 6), .int (nI 0)]) (tm_emits l D dT h (nI 6) (nI 0) μ30 _ hc32) (lw_V q1737 q1739 qs94 q166 q1740) dm_emits rfl (by decide) (by decide) hl rfl (Nat.le_of_ble_eq_true rfl) dX2_readCompared_91 (fun H locs hP hS => ?_)
          refine lv_iconst (v := nI 0) hx hb dX2_readCompared_94 rfl ?_
          cases hf
          exact m_iret E hr hlk hP hS rfl dX2_readCompared_95
        · have hf := ite_t kc31 hf
          refine lv_iconst (v := (-1)) hx hb dX2_readCompared_86 rfl ?_
          cases hf
          exact m_iret E hr hlk hP hS rfl dX2_readCompared_87
    · have hf := ite_t kc7 hf
      refine lv_aload_n hx hb dX2_readCompared_19 rfl (lv_at hl 0 rfl) ?_
      refine lv_bipush (v := nI 61) hx hb dX2_readCompared_20 rfl ?_
      obtain ⟨v35, hc34, hf⟩ := ob hf
      refine m_calli E hK hP hS (As := [.int (nI 61)]) (tm_isSign l D dT h (nI 61) μ3 _ hc34) (lw_V q1685 q1687 qs81 q166 q1688) dm_isSign rfl (by decide) (by decide) hl rfl (Nat.le_of_ble_eq_true rfl) dX2_readCompared_22 (fun H locs hP hS => ?_)
      refine lv_if_ne (tgt := 43) hx hb dX2_readCompared_25 (by decide) (fun kc36 => ?_) (fun kc36 => ?_)
      · have hf := ite_f kc36 hf
        refine lv_aload_n hx hb dX2_readCompared_43 rfl (lv_at hl 0 rfl) ?_
        refine m_get E hK hP 14 (by decide) rfl q1427 rfl dX2_readCompared_44 ?_
        refine lv_bipush (v := nI 60) hx hb dX2_readCompared_47 rfl ?_
        refine lv_icmp_ne (tgt := 57) hx hb dX2_readCompared_49 (by decide) (fun kc37 => ?_) (fun kc37 => ?_)
        · have hf := ite_f kc37 hf
          refine lv_aload_n hx hb dX2_readCompared_57 rfl (lv_at hl 0 rfl) ?_
          refine m_get E hK hP 14 (by decide) rfl q1427 rfl dX2_readCompared_58 ?_
          refine lv_bipush (v := nI 61) hx hb dX2_readCompared_61 rfl ?_
          refine lv_icmp_ne (tgt := 71) hx hb dX2_readCompared_63 (by decide) (fun kc38 => ?_) (fun kc38 => ?_)
          · have hf := ite_f kc38 hf
            refine lv_bipush (v := nI 8) hx hb dX2_readCompared_71 rfl ?_
            refine lv_istore_n (lv' := [(1, .int (nI 8)), (0, .ref h)]) hx hb dX2_readCompared_73 rfl hl (by decide) rfl (fun ls hl => ?_)
            refine lv_aload_n hx hb dX2_readCompared_74 rfl (lv_at hl 1 rfl) ?_
            obtain ⟨μ40, hc39, hf⟩ := ob hf
            refine m_callv E hK hP hS (As := []) (tm_reads l D dT h μ3 _ hc39) (lw_V q1625 q1627 qs66 q166 q1628) dm_reads rfl (by decide) (by decide) hl rfl (Nat.le_of_ble_eq_true rfl) dX2_readCompared_75 (fun H locs hP hS => ?_)
            refine lv_aload_n hx hb dX2_readCompared_78 rfl (lv_at hl 1 rfl) ?_
            obtain ⟨v42, μ43, hc41, hf⟩ := ob2 hf
            refine m_calli E hK hP hS (As := []) (tm_readSum l D dT h μ40 _ hc41) (lw_V q1721 q1723 qs90 q166 q1724) dm_readSum rfl (by decide) (by decide) hl rfl (Nat.le_of_ble_eq_true rfl) dX2_readCompared_79 (fun H locs hP hS => ?_)
            refine lv_iconst (v := (-1)) hx hb dX2_readCompared_82 rfl ?_
            refine lv_icmp_ne (tgt := 88) hx hb dX2_readCompared_83 (by decide) (fun kc44 => ?_) (fun kc44 => ?_)
            · have hf := ite_f kc44 hf
              refine lv_aload_n hx hb dX2_readCompared_88 rfl (lv_at hl 1 rfl) ?_
              refine lv_iload_n hx hb dX2_readCompared_89 rfl (lv_at hl 0 rfl) ?_
              refine lv_iconst (v := nI 0) hx hb dX2_readCompared_90 rfl ?_
              obtain ⟨μ46, hc45, hf⟩ := ob hf
              refine m_callv E hK hP hS (As := [.int (nI 8), .int (nI 0)]) (tm_emits l D dT h (nI 8) (nI 0) μ43 _ hc45) (lw_V q1737 q1739 qs94 q166 q1740) dm_emits rfl (by decide) (by decide) hl rfl (Nat.le_of_ble_eq_true rfl) dX2_readCompared_91 (fun H locs hP hS => ?_)
              refine lv_iconst (v := nI 0) hx hb dX2_readCompared_94 rfl ?_
              cases hf
              exact m_iret E hr hlk hP hS rfl dX2_readCompared_95
            · have hf := ite_t kc44 hf
              refine lv_iconst (v := (-1)) hx hb dX2_readCompared_86 rfl ?_
              cases hf
              exact m_iret E hr hlk hP hS rfl dX2_readCompared_87
          · have hf := ite_t kc38 hf
            refine lv_bipush (v := nI 7) hx hb dX2_readCompared_66 rfl ?_
            refine lv_goto (tgt := 73) hx hb dX2_readCompared_68 (by decide) ?_
            refine lv_istore_n (lv' := [(1, .int (nI 7)), (0, .ref h)]) hx hb dX2_readCompared_73 rfl hl (by decide) rfl (fun ls hl => ?_)
            refine lv_aload_n hx hb dX2_readCompared_74 rfl (lv_at hl 1 rfl) ?_
            obtain ⟨μ48, hc47, hf⟩ := ob hf
            refine m_callv E hK hP hS (As := []) (tm_reads l D dT h μ3 _ hc47) (lw_V q1625 q1627 qs66 q166 q1628) dm_reads rfl (by decide) (by decide) hl rfl (Nat.le_of_ble_eq_true rfl) dX2_readCompared_75 (fun H locs hP hS => ?_)
            refine lv_aload_n hx hb dX2_readCompared_78 rfl (lv_at hl 1 rfl) ?_
            obtain ⟨v50, μ51, hc49, hf⟩ := ob2 hf
            refine m_calli E hK hP hS (As := []) (tm_readSum l D dT h μ48 _ hc49) (lw_V q1721 q1723 qs90 q166 q1724) dm_readSum rfl (by decide) (by decide) hl rfl (Nat.le_of_ble_eq_true rfl) dX2_readCompared_79 (fun H locs hP hS => ?_)
            refine lv_iconst (v := (-1)) hx hb dX2_readCompared_82 rfl ?_
            refine lv_icmp_ne (tgt := 88) hx hb dX2_readCompared_83 (by decide) (fun kc52 => ?_) (fun kc52 => ?_)
            · have hf := ite_f kc52 hf
              refine lv_aload_n hx hb dX2_readCompared_88 rfl (lv_at hl 1 rfl) ?_
              refine lv_iload_n hx hb dX2_readCompared_89 rfl (lv_at hl 0 rfl) ?_
              refine lv_iconst (v := nI 0) hx hb dX2_readCompared_90 rfl ?_
              obtain ⟨μ54, hc53, hf⟩ := ob hf
              refine m_callv E hK hP hS (As := [.int (nI 7), .int (nI 0)]) (tm_emits l D dT h (nI 7) (nI 0) μ51 _ hc53) (lw_V q1737 q1739 qs94 q166 q1740) dm_emits rfl (by decide) (by decide) hl rfl (Nat.le_of_ble_eq_true rfl) dX2_readCompared_91 (fun H locs hP hS => ?_)
              refine lv_iconst (v := nI 0) hx hb dX2_readCompared_94 rfl ?_
              cases hf
              exact m_iret E hr hlk hP hS rfl dX2_readCompared_95
            · have hf := ite_t kc52 hf
              refine lv_iconst (v := (-1)) hx hb dX2_readCompared_86 rfl ?_
              cases hf
              exact m_iret E hr hlk hP hS rfl dX2_readCompared_87
        · have hf := ite_t kc37 hf
          refine lv_bipush (v := nI 6) hx hb dX2_readCompared_52 rfl ?_
          refine lv_goto (tgt := 73) hx hb dX2_readCompared_54 (by decide) ?_
          refine lv_istore_n (lv' := [(1, .int (nI 6)), (0, .ref h)]) hx hb dX2_readCompared_73 rfl hl (by decide) rfl (fun ls hl => ?_)
          refine lv_aload_n hx hb dX2_readCompared_74 rfl (lv_at hl 1 rfl) ?_
          obtain ⟨μ56, hc55, hf⟩ := ob hf
          refine m_callv E hK hP hS (As := []) (tm_reads l D dT h μ3 _ hc55) (lw_V q1625 q1627 qs66 q166 q1628) dm_reads rfl (by decide) (by decide) hl rfl (Nat.le_of_ble_eq_true rfl) dX2_readCompared_75 (fun H locs hP hS => ?_)
          refine lv_aload_n hx hb dX2_readCompared_78 rfl (lv_at hl 1 rfl) ?_
          obtain ⟨v58, μ59, hc57, hf⟩ := ob2 hf
          refine m_calli E hK hP hS (As := []) (tm_readSum l D dT h μ56 _ hc57) (lw_V q1721 q1723 qs90 q166 q1724) dm_readSum rfl (by decide) (by decide) hl rfl (Nat.le_of_ble_eq_true rfl) dX2_readCompared_79 (fun H locs hP hS => ?_)
          refine lv_iconst (v := (-1)) hx hb dX2_readCompared_82 rfl ?_
          refine lv_icmp_ne (tgt := 88) hx hb dX2_readCompared_83 (by decide) (fun kc60 => ?_) (fun kc60 => ?_)
          · have hf := ite_f kc60 hf
            refine lv_aload_n hx hb dX2_readCompared_88 rfl (lv_at hl 1 rfl) ?_
            refine lv_iload_n hx hb dX2_readCompared_89 rfl (lv_at hl 0 rfl) ?_
            refine lv_iconst (v := nI 0) hx hb dX2_readCompared_90 rfl ?_
            obtain ⟨μ62, hc61, hf⟩ := ob hf
            refine m_callv E hK hP hS (As := [.int (nI 6), .int (nI 0)]) (tm_emits l D dT h (nI 6) (nI 0) μ59 _ hc61) (lw_V q1737 q1739 qs94 q166 q1740) dm_emits rfl (by decide) (by decide) hl rfl (Nat.le_of_ble_eq_true rfl) dX2_readCompared_91 (fun H locs hP hS => ?_)
            refine lv_iconst (v := nI 0) hx hb dX2_readCompared_94 rfl ?_
            cases hf
            exact m_iret E hr hlk hP hS rfl dX2_readCompared_95
          · have hf := ite_t kc60 hf
            refine lv_iconst (v := (-1)) hx hb dX2_readCompared_86 rfl ?_
            cases hf
            exact m_iret E hr hlk hP hS rfl dX2_readCompared_87
      · have hf := ite_t kc36 hf
        refine lv_aload_n hx hb dX2_readCompared_28 rfl (lv_at hl 0 rfl) ?_
        refine lv_bipush (v := nI 62) hx hb dX2_readCompared_29 rfl ?_
        obtain ⟨v64, hc63, hf⟩ := ob hf
        refine m_calli E hK hP hS (As := [.int (nI 62)]) (tm_isSign l D dT h (nI 62) μ3 _ hc63) (lw_V q1685 q1687 qs81 q166 q1688) dm_isSign rfl (by decide) (by decide) hl rfl (Nat.le_of_ble_eq_true rfl) dX2_readCompared_31 (fun H locs hP hS => ?_)
        refine lv_if_ne (tgt := 43) hx hb dX2_readCompared_34 (by decide) (fun kc65 => ?_) (fun kc65 => ?_)
        · have hf := ite_f kc65 hf
          refine lv_aload_n hx hb dX2_readCompared_43 rfl (lv_at hl 0 rfl) ?_
          refine m_get E hK hP 14 (by decide) rfl q1427 rfl dX2_readCompared_44 ?_
          refine lv_bipush (v := nI 60) hx hb dX2_readCompared_47 rfl ?_
          refine lv_icmp_ne (tgt := 57) hx hb dX2_readCompared_49 (by decide) (fun kc66 => ?_) (fun kc66 => ?_)
          · have hf := ite_f kc66 hf
            refine lv_aload_n hx hb dX2_readCompared_57 rfl (lv_at hl 0 rfl) ?_
            refine m_get E hK hP 14 (by decide) rfl q1427 rfl dX2_readCompared_58 ?_
            refine lv_bipush (v := nI 61) hx hb dX2_readCompared_61 rfl ?_
            refine lv_icmp_ne (tgt := 71) hx hb dX2_readCompared_63 (by decide) (fun kc67 => ?_) (fun kc67 => ?_)
            · have hf := ite_f kc67 hf
              refine lv_bipush (v := nI 8) hx hb dX2_readCompared_71 rfl ?_
              refine lv_istore_n (lv' := [(1, .int (nI 8)), (0, .ref h)]) hx hb dX2_readCompared_73 rfl hl (by decide) rfl (fun ls hl => ?_)
              refine lv_aload_n hx hb dX2_readCompared_74 rfl (lv_at hl 1 rfl) ?_
              obtain ⟨μ69, hc68, hf⟩ := ob hf
              refine m_callv E hK hP hS (As := []) (tm_reads l D dT h μ3 _ hc68) (lw_V q1625 q1627 qs66 q166 q1628) dm_reads rfl (by decide) (by decide) hl rfl (Nat.le_of_ble_eq_true rfl) dX2_readCompared_75 (fun H locs hP hS => ?_)
              refine lv_aload_n hx hb dX2_readCompared_78 rfl (lv_at hl 1 rfl) ?_
              obtain ⟨v71, μ72, hc70, hf⟩ := ob2 hf
              refine m_calli E hK hP hS (As := []) (tm_readSum l D dT h μ69 _ hc70) (lw_V q1721 q1723 qs90 q166 q1724) dm_readSum rfl (by decide) (by decide) hl rfl (Nat.le_of_ble_eq_true rfl) dX2_readCompared_79 (fun H locs hP hS => ?_)
              refine lv_iconst (v := (-1)) hx hb dX2_readCompared_82 rfl ?_
              refine lv_icmp_ne (tgt := 88) hx hb dX2_readCompared_83 (by decide) (fun kc73 => ?_) (fun kc73 => ?_)
              · have hf := ite_f kc73 hf
                refine lv_aload_n hx hb dX2_readCompared_88 rfl (lv_at hl 1 rfl) ?_
                refine lv_iload_n hx hb dX2_readCompared_89 rfl (lv_at hl 0 rfl) ?_
                refine lv_iconst (v := nI 0) hx hb dX2_readCompared_90 rfl ?_
                obtain ⟨μ75, hc74, hf⟩ := ob hf
                refine m_callv E hK hP hS (As := [.int (nI 8), .int (nI 0)]) (tm_emits l D dT h (nI 8) (nI 0) μ72 _ hc74) (lw_V q1737 q1739 qs94 q166 q1740) dm_emits rfl (by decide) (by decide) hl rfl (Nat.le_of_ble_eq_true rfl) dX2_readCompared_91 (fun H locs hP hS => ?_)
                refine lv_iconst (v := nI 0) hx hb dX2_readCompared_94 rfl ?_
                cases hf
                exact m_iret E hr hlk hP hS rfl dX2_readCompared_95
              · have hf := ite_t kc73 hf
                refine lv_iconst (v := (-1)) hx hb dX2_readCompared_86 rfl ?_
                cases hf
                exact m_iret E hr hlk hP hS rfl dX2_readCompared_87
            · have hf := ite_t kc67 hf
              refine lv_bipush (v := nI 7) hx hb dX2_readCompared_66 rfl ?_
              refine lv_goto (tgt := 73) hx hb dX2_readCompared_68 (by decide) ?_
              refine lv_istore_n (lv' := [(1, .int (nI 7)), (0, .ref h)]) hx hb dX2_readCompared_73 rfl hl (by decide) rfl (fun ls hl => ?_)
              refine lv_aload_n hx hb dX2_readCompared_74 rfl (lv_at hl 1 rfl) ?_
              obtain ⟨μ77, hc76, hf⟩ := ob hf
              refine m_callv E hK hP hS (As := []) (tm_reads l D dT h μ3 _ hc76) (lw_V q1625 q1627 qs66 q166 q1628) dm_reads rfl (by decide) (by decide) hl rfl (Nat.le_of_ble_eq_true rfl) dX2_readCompared_75 (fun H locs hP hS => ?_)
              refine lv_aload_n hx hb dX2_readCompared_78 rfl (lv_at hl 1 rfl) ?_
              obtain ⟨v79, μ80, hc78, hf⟩ := ob2 hf
              refine m_calli E hK hP hS (As := []) (tm_readSum l D dT h μ77 _ hc78) (lw_V q1721 q1723 qs90 q166 q1724) dm_readSum rfl (by decide) (by decide) hl rfl (Nat.le_of_ble_eq_true rfl) dX2_readCompared_79 (fun H locs hP hS => ?_)
              refine lv_iconst (v := (-1)) hx hb dX2_readCompared_82 rfl ?_
              refine lv_icmp_ne (tgt := 88) hx hb dX2_readCompared_83 (by decide) (fun kc81 => ?_) (fun kc81 => ?_)
              · have hf := ite_f kc81 hf
                refine lv_aload_n hx hb dX2_readCompared_88 rfl (lv_at hl 1 rfl) ?_
                refine lv_iload_n hx hb dX2_readCompared_89 rfl (lv_at hl 0 rfl) ?_
                refine lv_iconst (v := nI 0) hx hb dX2_readCompared_90 rfl ?_
                obtain ⟨μ83, hc82, hf⟩ := ob hf
                refine m_callv E hK hP hS (As := [.int (nI 7), .int (nI 0)]) (tm_emits l D dT h (nI 7) (nI 0) μ80 _ hc82) (lw_V q1737 q1739 qs94 q166 q1740) dm_emits rfl (by decide) (by decide) hl rfl (Nat.le_of_ble_eq_true rfl) dX2_readCompared_91 (fun H locs hP hS => ?_)
                refine lv_iconst (v := nI 0) hx hb dX2_readCompared_94 rfl ?_
                cases hf
                exact m_iret E hr hlk hP hS rfl dX2_readCompared_95
              · have hf := ite_t kc81 hf
                refine lv_iconst (v := (-1)) hx hb dX2_readCompared_86 rfl ?_
                cases hf
                exact m_iret E hr hlk hP hS rfl dX2_readCompared_87
          · have hf := ite_t kc66 hf
            refine lv_bipush (v := nI 6) hx hb dX2_readCompared_52 rfl ?_
            refine lv_goto (tgt := 73) hx hb dX2_readCompared_54 (by decide) ?_
            refine lv_istore_n (lv' := [(1, .int (nI 6)), (0, .ref h)]) hx hb dX2_readCompared_73 rfl hl (by decide) rfl (fun ls hl => ?_)
            refine lv_aload_n hx hb dX2_readCompared_74 rfl (lv_at hl 1 rfl) ?_
            obtain ⟨μ85, hc84, hf⟩ := ob hf
            refine m_callv E hK hP hS (As := []) (tm_reads l D dT h μ3 _ hc84) (lw_V q1625 q1627 qs66 q166 q1628) dm_reads rfl (by decide) (by decide) hl rfl (Nat.le_of_ble_eq_true rfl) dX2_readCompared_75 (fun H locs hP hS => ?_)
            refine lv_aload_n hx hb dX2_readCompared_78 rfl (lv_at hl 1 rfl) ?_
            obtain ⟨v87, μ88, hc86, hf⟩ := ob2 hf
            refine m_calli E hK hP hS (As := []) (tm_readSum l D dT h μ85 _ hc86) (lw_V q1721 q1723 qs90 q166 q1724) dm_readSum rfl (by decide) (by decide) hl rfl (Nat.le_of_ble_eq_true rfl) dX2_readCompared_79 (fun H locs hP hS => ?_)
            refine lv_iconst (v := (-1)) hx hb dX2_readCompared_82 rfl ?_
            refine lv_icmp_ne (tgt := 88) hx hb dX2_readCompared_83 (by decide) (fun kc89 => ?_) (fun kc89 => ?_)
            · have hf := ite_f kc89 hf
              refine lv_aload_n hx hb dX2_readCompared_88 rfl (lv_at hl 1 rfl) ?_
              refine lv_iload_n hx hb dX2_readCompared_89 rfl (lv_at hl 0 rfl) ?_
              refine lv_iconst (v := nI 0) hx hb dX2_readCompared_90 rfl ?_
              obtain ⟨μ91, hc90, hf⟩ := ob hf
              refine m_callv E hK hP hS (As := [.int (nI 6), .int (nI 0)]) (tm_emits l D dT h (nI 6) (nI 0) μ88 _ hc90) (lw_V q1737 q1739 qs94 q166 q1740) dm_emits rfl (by decide) (by decide) hl rfl (Nat.le_of_ble_eq_true rfl) dX2_readCompared_91 (fun H locs hP hS => ?_)
              refine lv_iconst (v := nI 0) hx hb dX2_readCompared_94 rfl ?_
              cases hf
              exact m_iret E hr hlk hP hS rfl dX2_readCompared_95
            · have hf := ite_t kc89 hf
              refine lv_iconst (v := (-1)) hx hb dX2_readCompared_86 rfl ?_
              cases hf
              exact m_iret E hr hlk hP hS rfl dX2_readCompared_87
        · have hf := ite_t kc65 hf
          refine lv_aload_n hx hb dX2_readCompared_37 rfl (lv_at hl 0 rfl) ?_
          refine lv_iconst (v := nI 1) hx hb dX2_readCompared_38 rfl ?_
          obtain ⟨v93, μ94, hc92, hf⟩ := ob2 hf
          refine m_calli E hK hP hS (As := [.int (nI 1)]) (tm_errs l D dT h (nI 1) μ3 _ hc92) (lw_V q1657 q1659 qs74 q166 q1660) dm_errs rfl (by decide) (by decide) hl rfl (Nat.le_of_ble_eq_true rfl) dX2_readCompared_39 (fun H locs hP hS => ?_)
          cases hf
          exact m_iret E hr hlk hP hS rfl dX2_readCompared_42
  · have hf := ite_t kc4 hf
    refine lv_iconst (v := (-1)) hx hb dX2_readCompared_8 rfl ?_
    cases hf
    exact m_iret E hr hlk hP hS rfl dX2_readCompared_9
set_option maxHeartbeats 4000000 in
def fm_waits (x1 : Int32) (μ : nwM) : Option (nwM) := (wr_ μ 26 40 (μ 27 0) x1).bind fun μ1 => (wf_ μ1 27 ((μ1 27 0) + (nI 1))).bind fun μ2 => some μ2
set_option maxHeartbeats 4000000 in
theorem dm_waits : yX2_waits.cls = RX2 ∧ yX2_waits.cls ≠ "java/lang/invoke/MethodHandle" ∧ yX2_waits.cls ≠ "java/lang/invoke/VarHandle" ∧ (parseMethodDescriptor yX2_waits.desc).map (fun d => d.parameters.length) = some 1 := ⟨rfl, by decide +kernel, by decide +kernel, by decide +kernel⟩
set_option maxHeartbeats 4000000 in
theorem tm_waits (l : Launch) (D : va_G) (dT : Nat → ClassId) (h : Nat) (x1 : Int32) (μ : nwM) (res : nwM) (hf : fm_waits x1 μ = some res) : Met l yX2_waits (ws_ yX2_waits cX2_waits 2 none) (rmd 0) (mPc D dT h μ [.int x1]) (mQv D dT h res) 0 0 (mA h) := by
  refine m_met (by decide) rfl (Nat.le_of_ble_eq_true rfl) ?_
  intro p e s m below meth c ls E hK hr hlk hl hP
  have hS : va_S (mA h) s.heap s.heap [] := va_S.rf
  obtain ⟨hx, hb, -, hown, hts⟩ := id E
  have hl : lv_has ls 2 [(0, .ref h), (1, .int x1)] := hl
  unfold fm_waits at hf
  refine lv_aload_n hx hb dX2_waits_0 rfl (lv_at hl 0 rfl) ?_
  refine m_ga E hK hP 26 (by decide) rfl q1439 rfl dX2_waits_1 ?_
  refine lv_aload_n hx hb dX2_waits_4 rfl (lv_at hl 0 rfl) ?_
  refine m_get E hK hP 27 (by decide) rfl q1440 rfl dX2_waits_5 ?_
  refine lv_iload_n hx hb dX2_waits_8 rfl (lv_at hl 1 rfl) ?_
  obtain ⟨μ1, hμ1, hf⟩ := ob hf
  refine m_ast E hK hP hS (by decide) rfl rfl hμ1 dX2_waits_9 (fun H locs hP hS => ?_)
  refine lv_aload_n hx hb dX2_waits_10 rfl (lv_at hl 0 rfl) ?_
  refine lv_aload_n hx hb dX2_waits_11 rfl (lv_at hl 0 rfl) ?_
  refine m_get E hK hP 27 (by decide) rfl q1440 rfl dX2_waits_12 ?_
  refine lv_iconst (v := nI 1) hx hb dX2_waits_15 rfl ?_
  refine lv_iadd hx hb dX2_waits_16 ?_
  obtain ⟨μ2, hμ2, hf⟩ := ob hf
  refine m_put E hK hP hS 27 (by decide) rfl q1440 rfl rfl rfl hμ2 dX2_waits_17 (fun H locs hP hS => ?_)
  cases hf
  exact m_vret E hr hlk hP hS dX2_waits_20
set_option maxHeartbeats 4000000 in
def fm_settles_L0 (x1 : Int32) : nwM → Option ((nwM) ⊕ (nwM)) := fun st => (if (st 27 0) ≤ 0 then some (.inr st) else (rd_ st 26 40 ((st 27 0) - (nI 1))).bind fun v2 => (if v2 = x1 then (wf_ st 27 ((st 27 0) - (nI 1))).bind fun μ4 => (fm_emits x1 (nI 0) μ4).bind fun μ6 => (if x1 = (nI 9) then (wf_ μ6 25 ((μ6 25 0) - (nI 1))).bind fun μ8 => some (.inl μ8) else some (.inl μ6)) else some (.inr st)))
set_option maxHeartbeats 4000000 in
noncomputable def fm_settles (x1 : Int32) (μ : nwM) : Option (nwM) := (wh_ (fm_settles_L0 x1) μ).bind fun x9 => some x9
set_option maxHeartbeats 4000000 in
theorem fm_settles_L0_w {p : Program} {l : Launch} {e : Env} {s : State} {m : MethodId} {args : Array Value} {below : List Frame} {meth : Method} {c : Code} {Q : State → Prop} {D : va_G} {dT : Nat → ClassId} {h : Nat} (E : CallFix p m c cX2_settles 2 s args lw_all RX2) (hK : va_K D nwCl (nwT dT) s) (x1 : Int32) {st : nwM} {x : nwM} (hw : wh_ (fm_settles_L0 x1) st = some x) (hk : (fun x : nwM => ∀ (ls : Array Slot) (H : Heap) (locs : List Loc), lv_has ls 2 [] → PM D dT h x H → va_S (mA h) s.heap H locs → W p l e (rmd 1) s m args below meth c H locs 0 0 Q (F0 m 57 ls [])) x) : (fun st : nwM => ∀ (ls : Array Slot) (H : Heap) (locs : List Loc), lv_has ls 2 [(0, .ref h), (1, .int x1)] → PM D dT h st H → va_S (mA h) s.heap H locs → W p l e (rmd 1) s m args below meth c H locs 0 0 Q (F0 m 0 ls [])) st := by
  obtain ⟨hx, hb, -, hown, hts⟩ := id E
  refine wh_run (P := (fun st : nwM => ∀ (ls : Array Slot) (H : Heap) (locs : List Loc), lv_has ls 2 [(0, .ref h), (1, .int x1)] → PM D dT h st H → va_S (mA h) s.heap H locs → W p l e (rmd 1) s m args below meth c H locs 0 0 Q (F0 m 0 ls []))) (PE := (fun x : nwM => ∀ (ls : Array Slot) (H : Heap) (locs : List Loc), lv_has ls 2 [] → PM D dT h x H → va_S (mA h) s.heap H locs → W p l e (rmd 1) s m args below meth c H locs 0 0 Q (F0 m 57 ls []))) ?_ hw hk
  clear hw hk
  intro st x hf hk ls H locs hl hP hS
  refine lv_aload_n hx hb dX2_settles_0 rfl (lv_at hl 0 rfl) ?_
  refine m_get E hK hP 27 (by decide) rfl q1440 rfl dX2_settles_1 ?_
  refine lv_if_le (tgt := 57) hx hb dX2_settles_4 (by decide) (fun kc1 => ?_) (fun kc1 => ?_)
  · have hf := ite_t kc1 hf
    cases hf
    exact hk _ _ _ (lv_sub hl [] rfl) hP hS
  · have hf := ite_f kc1 hf
    refine lv_aload_n hx hb dX2_settles_7 rfl (lv_at hl 0 rfl) ?_
    refine m_ga E hK hP 26 (by decide) rfl q1439 rfl dX2_settles_8 ?_
    refine lv_aload_n hx hb dX2_settles_11 rfl (lv_at hl 0 rfl) ?_
    refine m_get E hK hP 27 (by decide) rfl q1440 rfl dX2_settles_12 ?_
    refine lv_iconst (v := nI 1) hx hb dX2_settles_15 rfl ?_
    refine lv_isub hx hb dX2_settles_16 ?_
    obtain ⟨v2, hv2, hf⟩ := ob hf
    refine m_ald E hK hP (by decide) rfl rfl hv2 dX2_settles_17 ?_
    refine lv_iload_n hx hb dX2_settles_18 rfl (lv_at hl 1 rfl) ?_
    refine lv_icmp_ne (tgt := 57) hx hb dX2_settles_19 (by decide) (fun kc3 => ?_) (fun kc3 => ?_)
    · have hf := ite_f kc3 hf
      cases hf
      exact hk _ _ _ (lv_sub hl [] rfl) hP hS
    · have hf := ite_t kc3 hf
      refine lv_aload_n hx hb dX2_settles_22 rfl (lv_at hl 0 rfl) ?_
      refine lv_aload_n hx hb dX2_settles_23 rfl (lv_at hl 0 rfl) ?_
      refine m_get E hK hP 27 (by decide) rfl q1440 rfl dX2_settles_24 ?_
      refine lv_iconst (v := nI 1) hx hb dX2_settles_27 rfl ?_
      refine lv_isub hx hb dX2_settles_28 ?_
      obtain ⟨μ4, hμ4, hf⟩ := ob hf
      refine m_put E hK hP hS 27 (by decide) rfl q1440 rfl rfl rfl hμ4 dX2_settles_29 (fun H locs hP hS => ?_)
      refine lv_aload_n hx hb dX2_settles_32 rfl (lv_at hl 0 rfl) ?_
      refine lv_iload_n hx hb dX2_settles_33 rfl (lv_at hl 1 rfl) ?_
      refine lv_iconst (v := nI 0) hx hb dX2_settles_34 rfl ?_
      obtain ⟨μ6, hc5, hf⟩ := ob hf
      refine m_callv E hK hP hS (As := [.int x1, .int (nI 0)]) (tm_emits l D dT h x1 (nI 0) μ4 _ hc5) (lw_V q1737 q1739 qs94 q166 q1740) dm_emits rfl (by decide) (by decide) hl rfl (Nat.le_of_ble_eq_true rfl) dX2_settles_35 (fun H locs hP hS => ?_)
      refine lv_iload_n hx hb dX2_settles_38 rfl (lv_at hl 1 rfl) ?_
      refine lv_bipush (v := nI 9) hx hb dX2_settles_39 rfl ?_
      refine lv_icmp_ne (tgt := 0) hx hb dX2_settles_41 (by decide) (fun kc7 => ?_) (fun kc7 => ?_)
      · have hf := ite_f kc7 hf
        cases hf
        exact hk _ _ _ (lv_sub hl [0, 1] rfl) hP hS
      · have hf := ite_t kc7 hf
        refine lv_aload_n hx hb dX2_settles_44 rfl (lv_at hl 0 rfl) ?_
        refine lv_aload_n hx hb dX2_settles_45 rfl (lv_at hl 0 rfl) ?_
        refine m_get E hK hP 25 (by decide) rfl q1438 rfl dX2_settles_46 ?_
        refine lv_iconst (v := nI 1) hx hb dX2_settles_49 rfl ?_
        refine lv_isub hx hb dX2_settles_50 ?_
        obtain ⟨μ8, hμ8, hf⟩ := ob hf
        refine m_put E hK hP hS 25 (by decide) rfl q1438 rfl rfl rfl hμ8 dX2_settles_51 (fun H locs hP hS => ?_)
        refine lv_goto (tgt := 0) hx hb dX2_settles_54 (by decide) ?_
        cases hf
        exact hk _ _ _ (lv_sub hl [0, 1] rfl) hP hS
set_option maxHeartbeats 4000000 in
theorem dm_settles : yX2_settles.cls = RX2 ∧ yX2_settles.cls ≠ "java/lang/invoke/MethodHandle" ∧ yX2_settles.cls ≠ "java/lang/invoke/VarHandle" ∧ (parseMethodDescriptor yX2_settles.desc).map (fun d => d.parameters.length) = some 1 := ⟨rfl, by decide +kernel, by decide +kernel, by decide +kernel⟩
set_option maxHeartbeats 4000000 in
theorem tm_settles (l : Launch) (D : va_G) (dT : Nat → ClassId) (h : Nat) (x1 : Int32) (μ : nwM) (res : nwM) (hf : fm_settles x1 μ = some res) : Met l yX2_settles (ws_ yX2_settles cX2_settles 2 none) (rmd 1) (mPc D dT h μ [.int x1]) (mQv D dT h res) 0 0 (mA h) := by
  refine m_met (by decide) rfl (Nat.le_of_ble_eq_true rfl) ?_
  intro p e s m below meth c ls E hK hr hlk hl hP
  have hS : va_S (mA h) s.heap s.heap [] := va_S.rf
  obtain ⟨hx, hb, -, hown, hts⟩ := id E
  have hl : lv_has ls 2 [(0, .ref h), (1, .int x1)] := hl
  unfold fm_settles at hf
  obtain ⟨x9, hx9, hf⟩ := ob hf
  refine fm_settles_L0_w E hK x1 hx9 (fun ls H locs hl hP hS => ?_) _ _ _ (lv_sub hl [0, 1] rfl) hP hS
  cases hf
  exact m_vret E hr hlk hP hS dX2_settles_57
set_option maxHeartbeats 4000000 in
noncomputable def fm_readAny_L9 : (Int32 × Int32 × nwM) → Option ((Int32 × Int32 × nwM) ⊕ (Int32 × nwM)) := fun st => (if st.2.1 = 0 then (fm_isWord (nI 10) st.2.2).bind fun v4 => (if v4 = 0 then (fm_isWord (nI 9) st.2.2).bind fun v7 => (if v7 = 0 then (fm_settles (nI 10) st.2.2).bind fun μ10 => (fm_settles (nI 11) μ10).bind fun μ12 => (if st.1 = 0 then some (.inr (nI 0, μ12)) else (fm_isSign (nI 41) μ12).bind fun v15 => (if v15 = 0 then bd2 (fm_errs (nI 1) μ12) fun v24 μ25 => some (.inr (v24, μ25)) else (wf_ μ12 27 ((μ12 27 0) - (nI 1))).bind fun μ17 => (wf_ μ17 25 ((μ17 25 0) - (nI 1))).bind fun μ18 => (fm_settles (nI 9) μ18).bind fun μ20 => (fm_reads μ20).bind fun μ22 => some (.inl (st.1 - (nI 1), st.2.1, μ22)))) else (fm_settles (nI 10) st.2.2).bind fun μ27 => (fm_settles (nI 11) μ27).bind fun μ29 => (fm_waits (nI 11) μ29).bind fun μ31 => (fm_reads μ31).bind fun μ33 => some (.inl (st.1, nI 1, μ33))) else (fm_settles (nI 10) st.2.2).bind fun μ35 => (fm_waits (nI 10) μ35).bind fun μ37 => (fm_reads μ37).bind fun μ39 => some (.inl (st.1, nI 1, μ39))) else (fm_isWord (nI 11) st.2.2).bind fun v41 => (if v41 = 0 then (fm_isSign (nI 40) st.2.2).bind fun v68 => (if v68 = 0 then bd2 (fm_readCompared st.2.2) fun v71 μ72 => (if v71 = (-1) then some (.inr ((-1), μ72)) else (fm_settles (nI 9) μ72).bind fun μ75 => some (.inl (st.1, nI 0, μ75))) else (if (st.2.2 25 0) = (nI 8) then bd2 (fm_errs (nI 3) st.2.2) fun v98 μ99 => some (.inr (v98, μ99)) else (wf_ st.2.2 25 ((st.2.2 25 0) + (nI 1))).bind fun μ77 => (if v41 = 0 then (if v41 = 0 then (fm_waits (nI 12) μ77).bind fun μ90 => (fm_reads μ90).bind fun μ92 => some (.inl (st.1 + (nI 1), st.2.1, μ92)) else (fm_waits (nI 9) μ77).bind fun μ94 => (fm_reads μ94).bind fun μ96 => some (.inl (st.1 + (nI 1), st.2.1, μ96))) else (if v41 = 0 then (fm_waits (nI 12) μ77).bind fun μ81 => (fm_reads μ81).bind fun μ83 => some (.inl (st.1, st.2.1, μ83)) else (fm_waits (nI 9) μ77).bind fun μ85 => (fm_reads μ85).bind fun μ87 => some (.inl (st.1, st.2.1, μ87)))))) else (if (st.2.2 25 0) = (nI 8) then bd2 (fm_errs (nI 3) st.2.2) fun v65 μ66 => some (.inr (v65, μ66)) else (wf_ st.2.2 25 ((st.2.2 25 0) + (nI 1))).bind fun μ44 => (if v41 = 0 then (if v41 = 0 then (fm_waits (nI 12) μ44).bind fun μ57 => (fm_reads μ57).bind fun μ59 => some (.inl (st.1 + (nI 1), st.2.1, μ59)) else (fm_waits (nI 9) μ44).bind fun μ61 => (fm_reads μ61).bind fun μ63 => some (.inl (st.1 + (nI 1), st.2.1, μ63))) else (if v41 = 0 then (fm_waits (nI 12) μ44).bind fun μ48 => (fm_reads μ48).bind fun μ50 => some (.inl (st.1, st.2.1, μ50)) else (fm_waits (nI 9) μ44).bind fun μ52 => (fm_reads μ52).bind fun μ54 => some (.inl (st.1, st.2.1, μ54)))))))
set_option maxHeartbeats 4000000 in
noncomputable def fm_readAny (μ : nwM) : Option (Int32 × nwM) := (wf_ μ 27 (nI 0)).bind fun μ1 => wh_ (fm_readAny_L9) (nI 0, nI 1, μ1)
set_option maxHeartbeats 4000000 in
theorem fm_readAny_L9_w {p : Program} {l : Launch} {e : Env} {s : State} {m : MethodId} {args : Array Value} {below : List Frame} {meth : Method} {c : Code} {D : va_G} {dT : Nat → ClassId} {h : Nat} (E : CallFix p m c cX2_readAny 4 s args lw_all RX2) (hK : va_K D nwCl (nwT dT) s) (hr : meth.sig.returnType = (some .int)) (hlk : meth.locks = false) {res : Int32 × nwM} {st : Int32 × Int32 × nwM} {x : Int32 × nwM} (hw : wh_ (fm_readAny_L9) st = some x) (hk : (fun r : Int32 × nwM => r = res) x) : (fun st : Int32 × Int32 × nwM => ∀ (ls : Array Slot) (H : Heap) (locs : List Loc), lv_has ls 4 [(0, .ref h), (1, .int st.1), (2, .int st.2.1)] → PM D dT h st.2.2 H → va_S (mA h) s.heap H locs → W p l e (rmd 7) s m args below meth c H locs 0 0 (MQ below (mQi D dT h res.2 res.1) args s 0 0 (mA h)) (F0 m 9 ls [])) st := by
  obtain ⟨hx, hb, -, hown, hts⟩ := id E
  refine wh_run (P := (fun st : Int32 × Int32 × nwM => ∀ (ls : Array Slot) (H : Heap) (locs : List Loc), lv_has ls 4 [(0, .ref h), (1, .int st.1), (2, .int st.2.1)] → PM D dT h st.2.2 H → va_S (mA h) s.heap H locs → W p l e (rmd 7) s m args below meth c H locs 0 0 (MQ below (mQi D dT h res.2 res.1) args s 0 0 (mA h)) (F0 m 9 ls []))) (PE := (fun r : Int32 × nwM => r = res)) ?_ hw hk
  clear hw hk
  intro st x hf hk ls H locs hl hP hS
  refine lv_iload_n hx hb dX2_readAny_9 rfl (lv_at hl 2 rfl) ?_
  refine lv_if_eq (tgt := 109) hx hb dX2_readAny_10 (by decide) (fun kc2 => ?_) (fun kc2 => ?_)
  · have hf := ite_t kc2 hf
    refine lv_aload_n hx hb dX2_readAny_109 rfl (lv_at hl 0 rfl) ?_
    refine lv_bipush (v := nI 10) hx hb dX2_readAny_110 rfl ?_
    obtain ⟨v4, hc3, hf⟩ := ob hf
    refine m_calli E hK hP hS (As := [.int (nI 10)]) (tm_isWord l D dT h (nI 10) st.2.2 _ hc3) (lw_V q1669 q1671 qs77 q166 q1672) dm_isWord rfl (by decide) (by decide) hl rfl (Nat.le_of_ble_eq_true rfl) dX2_readAny_112 (fun H locs hP hS => ?_)
    refine lv_if_eq (tgt := 139) hx hb dX2_readAny_115 (by decide) (fun kc5 => ?_) (fun kc5 => ?_)
    · have hf := ite_t kc5 hf
      refine lv_aload_n hx hb dX2_readAny_139 rfl (lv_at hl 0 rfl) ?_
      refine lv_bipush (v := nI 9) hx hb dX2_readAny_140 rfl ?_
      obtain ⟨v7, hc6, hf⟩ := ob hf
      refine m_calli E hK hP hS (As := [.int (nI 9)]) (tm_isWord l D dT h (nI 9) st.2.2 _ hc6) (lw_V q1669 q1671 qs77 q166 q1672) dm_isWord rfl (by decide) (by decide) hl rfl (Nat.le_of_ble_eq_true rfl) dX2_readAny_142 (fun H locs hP hS => ?_)
      refine lv_if_eq (tgt := 175) hx hb dX2_readAny_145 (by decide) (fun kc8 => ?_) (fun kc8 => ?_)
      · have hf := ite_t kc8 hf
        refine lv_aload_n hx hb dX2_readAny_175 rfl (lv_at hl 0 rfl) ?_
        refine lv_bipush (v := nI 10) hx hb dX2_readAny_176 rfl ?_
        obtain ⟨μ10, hc9, hf⟩ := ob hf
        refine m_callv E hK hP hS (As := [.int (nI 10)]) (tm_settles l D dT h (nI 10) st.2.2 _ hc9) (lw_V q1753 q1755 qs98 q166 q1756) dm_settles rfl (by decide) (by decide) hl rfl (Nat.le_of_ble_eq_true rfl) dX2_readAny_178 (fun H locs hP hS => ?_)
        refine lv_aload_n hx hb dX2_readAny_181 rfl (lv_at hl 0 rfl) ?_
        refine lv_bipush (v := nI 11) hx hb dX2_readAny_182 rfl ?_
        obtain ⟨μ12, hc11, hf⟩ := ob hf
        refine m_callv E hK hP hS (As := [.int (nI 11)]) (tm_settles l D dT h (nI 11) μ10 _ hc11) (lw_V q1753 q1755 qs98 q166 q1756) dm_settles rfl (by decide) (by decide) hl rfl (Nat.le_of_ble_eq_true rfl) dX2_readAny_184 (fun H locs hP hS => ?_)
        refine lv_iload_n hx hb dX2_readAny_187 rfl (lv_at hl 1 rfl) ?_
        refine lv_if_ne (tgt := 193) hx hb dX2_readAny_188 (by decide) (fun kc13 => ?_) (fun kc13 => ?_)
        · have hf := ite_f kc13 hf
          refine lv_aload_n hx hb dX2_readAny_193 rfl (lv_at hl 0 rfl) ?_
          refine lv_bipush (v := nI 41) hx hb dX2_readAny_194 rfl ?_
          obtain ⟨v15, hc14, hf⟩ := ob hf
          refine m_calli E hK hP hS (As := [.int (nI 41)]) (tm_isSign l D dT h (nI 41) μ12 _ hc14) (lw_V q1685 q1687 qs81 q166 q1688) dm_isSign rfl (by decide) (by decide) hl rfl (Nat.le_of_ble_eq_true rfl) dX2_readAny_196 (fun H locs hP hS => ?_)
          refine lv_if_ne (tgt := 208) hx hb dX2_readAny_199 (by decide) (fun kc16 => ?_) (fun kc16 => ?_)
          · have hf := ite_f kc16 hf
            refine lv_aload_n hx hb dX2_readAny_208 rfl (lv_at hl 0 rfl) ?_
            refine lv_aload_n hx hb dX2_readAny_209 rfl (lv_at hl 0 rfl) ?_
            refine m_get E hK hP 27 (by decide) rfl q1440 rfl dX2_readAny_210 ?_
            refine lv_iconst (v := nI 1) hx hb dX2_readAny_213 rfl ?_
            refine lv_isub hx hb dX2_readAny_214 ?_
            obtain ⟨μ17, hμ17, hf⟩ := ob hf
            refine m_put E hK hP hS 27 (by decide) rfl q1440 rfl rfl rfl hμ17 dX2_readAny_215 (fun H locs hP hS => ?_)
            refine lv_iload_n hx hb dX2_readAny_218 rfl (lv_at hl 1 rfl) ?_
            refine lv_iconst (v := nI 1) hx hb dX2_readAny_219 rfl ?_
            refine lv_isub hx hb dX2_readAny_220 ?_
            refine lv_istore_n (lv' := [(1, .int (st.1 - (nI 1))), (0, .ref h), (2, .int st.2.1)]) hx hb dX2_readAny_221 rfl hl (by decide) rfl (fun ls hl => ?_)
            refine lv_aload_n hx hb dX2_readAny_222 rfl (lv_at hl 1 rfl) ?_
            refine lv_aload_n hx hb dX2_readAny_223 rfl (lv_at hl 1 rfl) ?_
            refine m_get E hK hP 25 (by decide) rfl q1438 rfl dX2_readAny_224 ?_
            refine lv_iconst (v := nI 1) hx hb dX2_readAny_227 rfl ?_
            refine lv_isub hx hb dX2_readAny_228 ?_
            obtain ⟨μ18, hμ18, hf⟩ := ob hf
            refine m_put E hK hP hS 25 (by decide) rfl q1438 rfl rfl rfl hμ18 dX2_readAny_229 (fun H locs hP hS => ?_)
            refine lv_aload_n hx hb dX2_readAny_232 rfl (lv_at hl 1 rfl) ?_
            refine lv_bipush (v := nI 9) hx hb dX2_readAny_233 rfl ?_
            obtain ⟨μ20, hc19, hf⟩ := ob hf
            refine m_callv E hK hP hS (As := [.int (nI 9)]) (tm_settles l D dT h (nI 9) μ18 _ hc19) (lw_V q1753 q1755 qs98 q166 q1756) dm_settles rfl (by decide) (by decide) hl rfl (Nat.le_of_ble_eq_true rfl) dX2_readAny_235 (fun H locs hP hS => ?_)
            refine lv_aload_n hx hb dX2_readAny_238 rfl (lv_at hl 1 rfl) ?_
            obtain ⟨μ22, hc21, hf⟩ := ob hf
            refine m_callv E hK hP hS (As := []) (tm_reads l D dT h μ20 _ hc21) (lw_V q1625 q1627 qs66 q166 q1628) dm_reads rfl (by decide) (by decide) hl rfl (Nat.le_of_ble_eq_true rfl) dX2_readAny_239 (fun H locs hP hS => ?_)
            refine lv_goto (tgt := 9) hx hb dX2_readAny_242 (by decide) ?_
            cases hf
            exact hk _ _ _ (lv_sub hl [1, 0, 2] rfl) hP hS
          · have hf := ite_t kc16 hf
            refine lv_aload_n hx hb dX2_readAny_202 rfl (lv_at hl 0 rfl) ?_
            refine lv_iconst (v := nI 1) hx hb dX2_readAny_203 rfl ?_
            obtain ⟨v24, μ25, hc23, hf⟩ := ob2 hf
            refine m_calli E hK hP hS (As := [.int (nI 1)]) (tm_errs l D dT h (nI 1) μ12 _ hc23) (lw_V q1657 q1659 qs74 q166 q1660) dm_errs rfl (by decide) (by decide) hl rfl (Nat.le_of_ble_eq_true rfl) dX2_readAny_204 (fun H locs hP hS => ?_)
            cases hf
            have hk : (v24, μ25) = res := hk
            subst hk
            exact m_iret E hr hlk hP hS rfl dX2_readAny_207
        · have hf := ite_t kc13 hf
          refine lv_iconst (v := nI 0) hx hb dX2_readAny_191 rfl ?_
          cases hf
          have hk : (nI 0, μ12) = res := hk
          subst hk
          exact m_iret E hr hlk hP hS rfl dX2_readAny_192
      · have hf := ite_f kc8 hf
        refine lv_aload_n hx hb dX2_readAny_148 rfl (lv_at hl 0 rfl) ?_
        refine lv_bipush (v := nI 10) hx hb dX2_readAny_149 rfl ?_
        obtain ⟨μ27, hc26, hf⟩ := ob hf
        refine m_callv E hK hP hS (As := [.int (nI 10)]) (tm_settles l D dT h (nI 10) st.2.2 _ hc26) (lw_V q1753 q1755 qs98 q166 q1756) dm_settles rfl (by decide) (by decide) hl rfl (Nat.le_of_ble_eq_true rfl) dX2_readAny_151 (fun H locs hP hS => ?_)
        refine lv_aload_n hx hb dX2_readAny_154 rfl (lv_at hl 0 rfl) ?_
        refine lv_bipush (v := nI 11) hx hb dX2_readAny_155 rfl ?_
        obtain ⟨μ29, hc28, hf⟩ := ob hf
        refine m_callv E hK hP hS (As := [.int (nI 11)]) (tm_settles l D dT h (nI 11) μ27 _ hc28) (lw_V q1753 q1755 qs98 q166 q1756) dm_settles rfl (by decide) (by decide) hl rfl (Nat.le_of_ble_eq_true rfl) dX2_readAny_157 (fun H locs hP hS => ?_)
        refine lv_aload_n hx hb dX2_readAny_160 rfl (lv_at hl 0 rfl) ?_
        refine lv_bipush (v := nI 11) hx hb dX2_readAny_161 rfl ?_
        obtain ⟨μ31, hc30, hf⟩ := ob hf
        refine m_callv E hK hP hS (As := [.int (nI 11)]) (tm_waits l D dT h (nI 11) μ29 _ hc30) (lw_V q1745 q1747 qs96 q166 q1748) dm_waits rfl (by decide) (by decide) hl rfl (Nat.le_of_ble_eq_true rfl) dX2_readAny_163 (fun H locs hP hS => ?_)
        refine lv_aload_n hx hb dX2_readAny_166 rfl (lv_at hl 0 rfl) ?_
        obtain ⟨μ33, hc32, hf⟩ := ob hf
        refine m_callv E hK hP hS (As := []) (tm_reads l D dT h μ31 _ hc32) (lw_V q1625 q1627 qs66 q166 q1628) dm_reads rfl (by decide) (by decide) hl rfl (Nat.le_of_ble_eq_true rfl) dX2_readAny_167 (fun H locs hP hS => ?_)
        refine lv_iconst (v := nI 1) hx hb dX2_readAny_170 rfl ?_
        refine lv_istore_n (lv' := [(2, .int (nI 1)), (0, .ref h), (1, .int st.1)]) hx hb dX2_readAny_171 rfl hl (by decide) rfl (fun ls hl => ?_)
        refine lv_goto (tgt := 9) hx hb dX2_readAny_172 (by decide) ?_
        cases hf
        exact hk _ _ _ (lv_sub hl [1, 2, 0] rfl) hP hS
    · have hf := ite_f kc5 hf
      refine lv_aload_n hx hb dX2_readAny_118 rfl (lv_at hl 0 rfl) ?_
      refine lv_bipush (v := nI 10) hx hb dX2_readAny_119 rfl ?_
      obtain ⟨μ35, hc34, hf⟩ := ob hf
      refine m_callv E hK hP hS (As := [.int (nI 10)]) (tm_settles l D dT h (nI 10) st.2.2 _ hc34) (lw_V q1753 q1755 qs98 q166 q1756) dm_settles rfl (by decide) (by decide) hl rfl (Nat.le_of_ble_eq_true rfl) dX2_readAny_121 (fun H locs hP hS => ?_)
      refine lv_aload_n hx hb dX2_readAny_124 rfl (lv_at hl 0 rfl) ?_
      refine lv_bipush (v := nI 10) hx hb dX2_readAny_125 rfl ?_
      obtain ⟨μ37, hc36, hf⟩ := ob hf
      refine m_callv E hK hP hS (As := [.int (nI 10)]) (tm_waits l D dT h (nI 10) μ35 _ hc36) (lw_V q1745 q1747 qs96 q166 q1748) dm_waits rfl (by decide) (by decide) hl rfl (Nat.le_of_ble_eq_true rfl) dX2_readAny_127 (fun H locs hP hS => ?_)
      refine lv_aload_n hx hb dX2_readAny_130 rfl (lv_at hl 0 rfl) ?_
      obtain ⟨μ39, hc38, hf⟩ := ob hf
      refine m_callv E hK hP hS (As := []) (tm_reads l D dT h μ37 _ hc38) (lw_V q1625 q1627 qs66 q166 q1628) dm_reads rfl (by decide) (by decide) hl rfl (Nat.le_of_ble_eq_true rfl) dX2_readAny_131 (fun H locs hP hS => ?_)
      refine lv_iconst (v := nI 1) hx hb dX2_readAny_134 rfl ?_
      refine lv_istore_n (lv' := [(2, .int (nI 1)), (0, .ref h), (1, .int st.1)]) hx hb dX2_readAny_135 rfl hl (by decide) rfl (fun ls hl => ?_)
      refine lv_goto (tgt := 9) hx hb dX2_readAny_136 (by decide) ?_
      cases hf
      exact hk _ _ _ (lv_sub hl [1, 2, 0] rfl) hP hS
  · have hf := ite_f kc2 hf
    refine lv_aload_n hx hb dX2_readAny_13 rfl (lv_at hl 0 rfl) ?_
    refine lv_bipush (v := nI 11) hx hb dX2_readAny_14 rfl ?_
    obtain ⟨v41, hc40, hf⟩ := ob hf
    refine m_calli E hK hP hS (As := [.int (nI 11)]) (tm_isWord l D dT h (nI 11) st.2.2 _ hc40) (lw_V q1669 q1671 qs77 q166 q1672) dm_isWord rfl (by decide) (by decide) hl rfl (Nat.le_of_ble_eq_true rfl) dX2_readAny_16 (fun H locs hP hS => ?_)
    refine lv_istore_n (lv' := [(3, .int v41), (0, .ref h), (1, .int st.1), (2, .int st.2.1)]) hx hb dX2_readAny_19 rfl hl (by decide) rfl (fun ls hl => ?_)
    refine lv_iload_n hx hb dX2_readAny_20 rfl (lv_at hl 0 rfl) ?_
    refine lv_if_ne (tgt := 33) hx hb dX2_readAny_21 (by decide) (fun kc42 => ?_) (fun kc42 => ?_)
    · have hf := ite_f kc42 hf
      refine lv_aload_n hx hb dX2_readAny_33 rfl (lv_at hl 1 rfl) ?_
      refine m_get E hK hP 25 (by decide) rfl q1438 rfl dX2_readAny_34 ?_
      refine lv_bipush (v := nI 8) hx hb dX2_readAny_37 rfl ?_
      refine lv_icmp_ne (tgt := 48) hx hb dX2_readAny_39 (by decide) (fun kc43 => ?_) (fun kc43 => ?_)
      · have hf := ite_f kc43 hf
        refine lv_aload_n hx hb dX2_readAny_48 rfl (lv_at hl 1 rfl) ?_
        refine lv_aload_n hx hb dX2_readAny_49 rfl (lv_at hl 1 rfl) ?_
        refine m_get E hK hP 25 (by decide) rfl q1438 rfl dX2_readAny_50 ?_
        refine lv_iconst (v := nI 1) hx hb dX2_readAny_53 rfl ?_
        refine lv_iadd hx hb dX2_readAny_54 ?_
        obtain ⟨μ44, hμ44, hf⟩ := ob hf
        refine m_put E hK hP hS 25 (by decide) rfl q1438 rfl rfl rfl hμ44 dX2_readAny_55 (fun H locs hP hS => ?_)
        refine lv_iload_n hx hb dX2_readAny_58 rfl (lv_at hl 0 rfl) ?_
        refine lv_if_ne (tgt := 66) hx hb dX2_readAny_59 (by decide) (fun kc45 => ?_) (fun kc45 => ?_)
        · have hf := ite_f kc45 hf
          refine lv_aload_n hx hb dX2_readAny_66 rfl (lv_at hl 1 rfl) ?_
          refine lv_iload_n hx hb dX2_readAny_67 rfl (lv_at hl 0 rfl) ?_
          refine lv_if_eq (tgt := 76) hx hb dX2_readAny_68 (by decide) (fun kc46 => ?_) (fun kc46 => ?_)
          · have hf := ite_t kc46 hf
            refine lv_bipush (v := nI 12) hx hb dX2_readAny_76 rfl ?_
            obtain ⟨μ48, hc47, hf⟩ := ob hf
            refine m_callv E hK hP hS (As := [.int (nI 12)]) (tm_waits l D dT h (nI 12) μ44 _ hc47) (lw_V q1745 q1747 qs96 q166 q1748) dm_waits rfl (by decide) (by decide) hl rfl (Nat.le_of_ble_eq_true rfl) dX2_readAny_78 (fun H locs hP hS => ?_)
            refine lv_aload_n hx hb dX2_readAny_81 rfl (lv_at hl 1 rfl) ?_
            obtain ⟨μ50, hc49, hf⟩ := ob hf
            refine m_callv E hK hP hS (As := []) (tm_reads l D dT h μ48 _ hc49) (lw_V q1625 q1627 qs66 q166 q1628) dm_reads rfl (by decide) (by decide) hl rfl (Nat.le_of_ble_eq_true rfl) dX2_readAny_82 (fun H locs hP hS => ?_)
            refine lv_goto (tgt := 9) hx hb dX2_readAny_85 (by decide) ?_
            cases hf
            exact hk _ _ _ (lv_sub hl [1, 2, 3] rfl) hP hS
          · have hf := ite_f kc46 hf
            refine lv_bipush (v := nI 9) hx hb dX2_readAny_71 rfl ?_
            refine lv_goto (tgt := 78) hx hb dX2_readAny_73 (by decide) ?_
            obtain ⟨μ52, hc51, hf⟩ := ob hf
            refine m_callv E hK hP hS (As := [.int (nI 9)]) (tm_waits l D dT h (nI 9) μ44 _ hc51) (lw_V q1745 q1747 qs96 q166 q1748) dm_waits rfl (by decide) (by decide) hl rfl (Nat.le_of_ble_eq_true rfl) dX2_readAny_78 (fun H locs hP hS => ?_)
            refine lv_aload_n hx hb dX2_readAny_81 rfl (lv_at hl 1 rfl) ?_
            obtain ⟨μ54, hc53, hf⟩ := ob hf
            refine m_callv E hK hP hS (As := []) (tm_reads l D dT h μ52 _ hc53) (lw_V q1625 q1627 qs66 q166 q1628) dm_reads rfl (by decide) (by decide) hl rfl (Nat.le_of_ble_eq_true rfl) dX2_readAny_82 (fun H locs hP hS => ?_)
            refine lv_goto (tgt := 9) hx hb dX2_readAny_85 (by decide) ?_
            cases hf
            exact hk _ _ _ (lv_sub hl [1, 2, 3] rfl) hP hS
        · have hf := ite_t kc45 hf
          refine lv_iload_n hx hb dX2_readAny_62 rfl (lv_at hl 2 rfl) ?_
          refine lv_iconst (v := nI 1) hx hb dX2_readAny_63 rfl ?_
          refine lv_iadd hx hb dX2_readAny_64 ?_
          refine lv_istore_n (lv' := [(1, .int (st.1 + (nI 1))), (3, .int v41), (0, .ref h), (2, .int st.2.1)]) hx hb dX2_readAny_65 rfl hl (by decide) rfl (fun ls hl => ?_)
          refine lv_aload_n hx hb dX2_readAny_66 rfl (lv_at hl 2 rfl) ?_
          refine lv_iload_n hx hb dX2_readAny_67 rfl (lv_at hl 1 rfl) ?_
          refine lv_if_eq (tgt := 76) hx hb dX2_readAny_68 (by decide) (fun kc55 => ?_) (fun kc55 => ?_)
          · have hf := ite_t kc55 hf
            refine lv_bipush (v := nI 12) hx hb dX2_readAny_76 rfl ?_
            obtain ⟨μ57, hc56, hf⟩ := ob hf
            refine m_callv E hK hP hS (As := [.int (nI 12)]) (tm_waits l D dT h (nI 12) μ44 _ hc56) (lw_V q1745 q1747 qs96 q166 q1748) dm_waits rfl (by decide) (by decide) hl rfl (Nat.le_of_ble_eq_true rfl) dX2_readAny_78 (fun H locs hP hS => ?_)
            refine lv_aload_n hx hb dX2_readAny_81 rfl (lv_at hl 2 rfl) ?_
            obtain ⟨μ59, hc58, hf⟩ := ob hf
            refine m_callv E hK hP hS (As := []) (tm_reads l D dT h μ57 _ hc58) (lw_V q1625 q1627 qs66 q166 q1628) dm_reads rfl (by decide) (by decide) hl rfl (Nat.le_of_ble_eq_true rfl) dX2_readAny_82 (fun H locs hP hS => ?_)
            refine lv_goto (tgt := 9) hx hb dX2_readAny_85 (by decide) ?_
            cases hf
            exact hk _ _ _ (lv_sub hl [2, 0, 3] rfl) hP hS
          · have hf := ite_f kc55 hf
            refine lv_bipush (v := nI 9) hx hb dX2_readAny_71 rfl ?_
            refine lv_goto (tgt := 78) hx hb dX2_readAny_73 (by decide) ?_
            obtain ⟨μ61, hc60, hf⟩ := ob hf
            refine m_callv E hK hP hS (As := [.int (nI 9)]) (tm_waits l D dT h (nI 9) μ44 _ hc60) (lw_V q1745 q1747 qs96 q166 q1748) dm_waits rfl (by decide) (by decide) hl rfl (Nat.le_of_ble_eq_true rfl) dX2_readAny_78 (fun H locs hP hS => ?_)
            refine lv_aload_n hx hb dX2_readAny_81 rfl (lv_at hl 2 rfl) ?_
            obtain ⟨μ63, hc62, hf⟩ := ob hf
            refine m_callv E hK hP hS (As := []) (tm_reads l D dT h μ61 _ hc62) (lw_V q1625 q1627 qs66 q166 q1628) dm_reads rfl (by decide) (by decide) hl rfl (Nat.le_of_ble_eq_true rfl) dX2_readAny_82 (fun H locs hP hS => ?_)
            refine lv_goto (tgt := 9) hx hb dX2_readAny_85 (by decide) ?_
            cases hf
            exact hk _ _ _ (lv_sub hl [2, 0, 3] rfl) hP hS
      · have hf := ite_t kc43 hf
        refine lv_aload_n hx hb dX2_readAny_42 rfl (lv_at hl 1 rfl) ?_
        refine lv_iconst (v := nI 3) hx hb dX2_readAny_43 rfl ?_
        obtain ⟨v65, μ66, hc64, hf⟩ := ob2 hf
        refine m_calli E hK hP hS (As := [.int (nI 3)]) (tm_errs l D dT h (nI 3) st.2.2 _ hc64) (lw_V q1657 q1659 qs74 q166 q1660) dm_errs rfl (by decide) (by decide) hl rfl (Nat.le_of_ble_eq_true rfl) dX2_readAny_44 (fun H locs hP hS => ?_)
        cases hf
        have hk : (v65, μ66) = res := hk
        subst hk
        exact m_iret E hr hlk hP hS rfl dX2_readAny_47
    · have hf := ite_t kc42 hf
      refine lv_aload_n hx hb dX2_readAny_24 rfl (lv_at hl 1 rfl) ?_
      refine lv_bipush (v := nI 40) hx hb dX2_readAny_25 rfl ?_
      obtain ⟨v68, hc67, hf⟩ := ob hf
      refine m_calli E hK hP hS (As := [.int (nI 40)]) (tm_isSign l D dT h (nI 40) st.2.2 _ hc67) (lw_V q1685 q1687 qs81 q166 q1688) dm_isSign rfl (by decide) (by decide) hl rfl (Nat.le_of_ble_eq_true rfl) dX2_readAny_27 (fun H locs hP hS => ?_)
      refine lv_if_eq (tgt := 88) hx hb dX2_readAny_30 (by decide) (fun kc69 => ?_) (fun kc69 => ?_)
      · have hf := ite_t kc69 hf
        refine lv_aload_n hx hb dX2_readAny_88 rfl (lv_at hl 1 rfl) ?_
        obtain ⟨v71, μ72, hc70, hf⟩ := ob2 hf
        refine m_calli E hK hP hS (As := []) (tm_readCompared l D dT h st.2.2 _ hc70) (lw_V q1749 q1751 qs97 q166 q1752) dm_readCompared rfl (by decide) (by decide) hl rfl (Nat.le_of_ble_eq_true rfl) dX2_readAny_89 (fun H locs hP hS => ?_)
        refine lv_iconst (v := (-1)) hx hb dX2_readAny_92 rfl ?_
        refine lv_icmp_ne (tgt := 98) hx hb dX2_readAny_93 (by decide) (fun kc73 => ?_) (fun kc73 => ?_)
        · have hf := ite_f kc73 hf
          refine lv_aload_n hx hb dX2_readAny_98 rfl (lv_at hl 1 rfl) ?_
          refine lv_bipush (v := nI 9) hx hb dX2_readAny_99 rfl ?_
          obtain ⟨μ75, hc74, hf⟩ := ob hf
          refine m_callv E hK hP hS (As := [.int (nI 9)]) (tm_settles l D dT h (nI 9) μ72 _ hc74) (lw_V q1753 q1755 qs98 q166 q1756) dm_settles rfl (by decide) (by decide) hl rfl (Nat.le_of_ble_eq_true rfl) dX2_readAny_101 (fun H locs hP hS => ?_)
          refine lv_iconst (v := nI 0) hx hb dX2_readAny_104 rfl ?_
          refine lv_istore_n (lv' := [(2, .int (nI 0)), (3, .int v41), (0, .ref h), (1, .int st.1)]) hx hb dX2_readAny_105 rfl hl (by decide) rfl (fun ls hl => ?_)
          refine lv_goto (tgt := 9) hx hb dX2_readAny_106 (by decide) ?_
          cases hf
          exact hk _ _ _ (lv_sub hl [2, 3, 0] rfl) hP hS
        · have hf := ite_t kc73 hf
          refine lv_iconst (v := (-1)) hx hb dX2_readAny_96 rfl ?_
          cases hf
          have hk : ((-1), μ72) = res := hk
          subst hk
          exact m_iret E hr hlk hP hS rfl dX2_readAny_97
      · have hf := ite_f kc69 hf
        refine lv_aload_n hx hb dX2_readAny_33 rfl (lv_at hl 1 rfl) ?_
        refine m_get E hK hP 25 (by decide) rfl q1438 rfl dX2_readAny_34 ?_
        refine lv_bipush (v := nI 8) hx hb dX2_readAny_37 rfl ?_
        refine lv_icmp_ne (tgt := 48) hx hb dX2_readAny_39 (by decide) (fun kc76 => ?_) (fun kc76 => ?_)
        · have hf := ite_f kc76 hf
          refine lv_aload_n hx hb dX2_readAny_48 rfl (lv_at hl 1 rfl) ?_
          refine lv_aload_n hx hb dX2_readAny_49 rfl (lv_at hl 1 rfl) ?_
          refine m_get E hK hP 25 (by decide) rfl q1438 rfl dX2_readAny_50 ?_
          refine lv_iconst (v := nI 1) hx hb dX2_readAny_53 rfl ?_
          refine lv_iadd hx hb dX2_readAny_54 ?_
          obtain ⟨μ77, hμ77, hf⟩ := ob hf
          refine m_put E hK hP hS 25 (by decide) rfl q1438 rfl rfl rfl hμ77 dX2_readAny_55 (fun H locs hP hS => ?_)
          refine lv_iload_n hx hb dX2_readAny_58 rfl (lv_at hl 0 rfl) ?_
          refine lv_if_ne (tgt := 66) hx hb dX2_readAny_59 (by decide) (fun kc78 => ?_) (fun kc78 => ?_)
          · have hf := ite_f kc78 hf
            refine lv_aload_n hx hb dX2_readAny_66 rfl (lv_at hl 1 rfl) ?_
            refine lv_iload_n hx hb dX2_readAny_67 rfl (lv_at hl 0 rfl) ?_
            refine lv_if_eq (tgt := 76) hx hb dX2_readAny_68 (by decide) (fun kc79 => ?_) (fun kc79 => ?_)
            · have hf := ite_t kc79 hf
              refine lv_bipush (v := nI 12) hx hb dX2_readAny_76 rfl ?_
              obtain ⟨μ81, hc80, hf⟩ := ob hf
              refine m_callv E hK hP hS (As := [.int (nI 12)]) (tm_waits l D dT h (nI 12) μ77 _ hc80) (lw_V q1745 q1747 qs96 q166 q1748) dm_waits rfl (by decide) (by decide) hl rfl (Nat.le_of_ble_eq_true rfl) dX2_readAny_78 (fun H locs hP hS => ?_)
              refine lv_aload_n hx hb dX2_readAny_81 rfl (lv_at hl 1 rfl) ?_
              obtain ⟨μ83, hc82, hf⟩ := ob hf
              refine m_callv E hK hP hS (As := []) (tm_reads l D dT h μ81 _ hc82) (lw_V q1625 q1627 qs66 q166 q1628) dm_reads rfl (by decide) (by decide) hl rfl (Nat.le_of_ble_eq_true rfl) dX2_readAny_82 (fun H locs hP hS => ?_)
              refine lv_goto (tgt := 9) hx hb dX2_readAny_85 (by decide) ?_
              cases hf
              exact hk _ _ _ (lv_sub hl [1, 2, 3] rfl) hP hS
            · have hf := ite_f kc79 hf
              refine lv_bipush (v := nI 9) hx hb dX2_readAny_71 rfl ?_
              refine lv_goto (tgt := 78) hx hb dX2_readAny_73 (by decide) ?_
              obtain ⟨μ85, hc84, hf⟩ := ob hf
              refine m_callv E hK hP hS (As := [.int (nI 9)]) (tm_waits l D dT h (nI 9) μ77 _ hc84) (lw_V q1745 q1747 qs96 q166 q1748) dm_waits rfl (by decide) (by decide) hl rfl (Nat.le_of_ble_eq_true rfl) dX2_readAny_78 (fun H locs hP hS => ?_)
              refine lv_aload_n hx hb dX2_readAny_81 rfl (lv_at hl 1 rfl) ?_
              obtain ⟨μ87, hc86, hf⟩ := ob hf
              refine m_callv E hK hP hS (As := []) (tm_reads l D dT h μ85 _ hc86) (lw_V q1625 q1627 qs66 q166 q1628) dm_reads rfl (by decide) (by decide) hl rfl (Nat.le_of_ble_eq_true rfl) dX2_readAny_82 (fun H locs hP hS => ?_)
              refine lv_goto (tgt := 9) hx hb dX2_readAny_85 (by decide) ?_
              cases hf
              exact hk _ _ _ (lv_sub hl [1, 2, 3] rfl) hP hS
          · have hf := ite_t kc78 hf
            refine lv_iload_n hx hb dX2_readAny_62 rfl (lv_at hl 2 rfl) ?_
            refine lv_iconst (v := nI 1) hx hb dX2_readAny_63 rfl ?_
            refine lv_iadd hx hb dX2_readAny_64 ?_
            refine lv_istore_n (lv' := [(1, .int (st.1 + (nI 1))), (3, .int v41), (0, .ref h), (2, .int st.2.1)]) hx hb dX2_readAny_65 rfl hl (by decide) rfl (fun ls hl => ?_)
            refine lv_aload_n hx hb dX2_readAny_66 rfl (lv_at hl 2 rfl) ?_
            refine lv_iload_n hx hb dX2_readAny_67 rfl (lv_at hl 1 rfl) ?_
            refine lv_if_eq (tgt := 76) hx hb dX2_readAny_68 (by decide) (fun kc88 => ?_) (fun kc88 => ?_)
            · have hf := ite_t kc88 hf
              refine lv_bipush (v := nI 12) hx hb dX2_readAny_76 rfl ?_
              obtain ⟨μ90, hc89, hf⟩ := ob hf
              refine m_callv E hK hP hS (As := [.int (nI 12)]) (tm_waits l D dT h (nI 12) μ77 _ hc89) (lw_V q1745 q1747 qs96 q166 q1748) dm_waits rfl (by decide) (by decide) hl rfl (Nat.le_of_ble_eq_true rfl) dX2_readAny_78 (fun H locs hP hS => ?_)
              refine lv_aload_n hx hb dX2_readAny_81 rfl (lv_at hl 2 rfl) ?_
              obtain ⟨μ92, hc91, hf⟩ := ob hf
              refine m_callv E hK hP hS (As := []) (tm_reads l D dT h μ90 _ hc91) (lw_V q1625 q1627 qs66 q166 q1628) dm_reads rfl (by decide) (by decide) hl rfl (Nat.le_of_ble_eq_true rfl) dX2_readAny_82 (fun H locs hP hS => ?_)
              refine lv_goto (tgt := 9) hx hb dX2_readAny_85 (by decide) ?_
              cases hf
              exact hk _ _ _ (lv_sub hl [2, 0, 3] rfl) hP hS
            · have hf := ite_f kc88 hf
              refine lv_bipush (v := nI 9) hx hb dX2_readAny_71 rfl ?_
              refine lv_goto (tgt := 78) hx hb dX2_readAny_73 (by decide) ?_
              obtain ⟨μ94, hc93, hf⟩ := ob hf
              refine m_callv E hK hP hS (As := [.int (nI 9)]) (tm_waits l D dT h (nI 9) μ77 _ hc93) (lw_V q1745 q1747 qs96 q166 q1748) dm_waits rfl (by decide) (by decide) hl rfl (Nat.le_of_ble_eq_true rfl) dX2_readAny_78 (fun H locs hP hS => ?_)
              refine lv_aload_n hx hb dX2_readAny_81 rfl (lv_at hl 2 rfl) ?_
              obtain ⟨μ96, hc95, hf⟩ := ob hf
              refine m_callv E hK hP hS (As := []) (tm_reads l D dT h μ94 _ hc95) (lw_V q1625 q1627 qs66 q166 q1628) dm_reads rfl (by decide) (by decide) hl rfl (Nat.le_of_ble_eq_true rfl) dX2_readAny_82 (fun H locs hP hS => ?_)
              refine lv_goto (tgt := 9) hx hb dX2_readAny_85 (by decide) ?_
              cases hf
              exact hk _ _ _ (lv_sub hl [2, 0, 3] rfl) hP hS
        · have hf := ite_t kc76 hf
          refine lv_aload_n hx hb dX2_readAny_42 rfl (lv_at hl 1 rfl) ?_
          refine lv_iconst (v := nI 3) hx hb dX2_readAny_43 rfl ?_
          obtain ⟨v98, μ99, hc97, hf⟩ := ob2 hf
          refine m_calli E hK hP hS (As := [.int (nI 3)]) (tm_errs l D dT h (nI 3) st.2.2 _ hc97) (lw_V q1657 q1659 qs74 q166 q1660) dm_errs rfl (by decide) (by decide) hl rfl (Nat.le_of_ble_eq_true rfl) dX2_readAny_44 (fun H locs hP hS => ?_)
          cases hf
          have hk : (v98, μ99) = res := hk
          subst hk
          exact m_iret E hr hlk hP hS rfl dX2_readAny_47
set_option maxHeartbeats 4000000 in
theorem dm_readAny : yX2_readAny.cls = RX2 ∧ yX2_readAny.cls ≠ "java/lang/invoke/MethodHandle" ∧ yX2_readAny.cls ≠ "java/lang/invoke/VarHandle" ∧ (parseMethodDescriptor yX2_readAny.desc).map (fun d => d.parameters.length) = some 0 := ⟨rfl, by decide +kernel, by decide +kernel, by decide +kernel⟩
set_option maxHeartbeats 4000000 in
theorem tm_readAny (l : Launch) (D : va_G) (dT : Nat → ClassId) (h : Nat) (μ : nwM) (res : Int32 × nwM) (hf : fm_readAny μ = some res) : Met l yX2_readAny (ws_ yX2_readAny cX2_readAny 4 (some .int)) (rmd 7) (mPc D dT h μ []) (mQi D dT h res.2 res.1) 0 0 (mA h) := by
  refine m_met (by decide) rfl (Nat.le_of_ble_eq_true rfl) ?_
  intro p e s m below meth c ls E hK hr hlk hl hP
  have hS : va_S (mA h) s.heap s.heap [] := va_S.rf
  obtain ⟨hx, hb, -, hown, hts⟩ := id E
  have hl : lv_has ls 4 [(0, .ref h)] := hl
  unfold fm_readAny at hf
  refine lv_iconst (v := nI 0) hx hb dX2_readAny_0 rfl ?_
  refine lv_istore_n (lv' := [(1, .int (nI 0)), (0, .ref h)]) hx hb dX2_readAny_1 rfl hl (by decide) rfl (fun ls hl => ?_)
  refine lv_aload_n hx hb dX2_readAny_2 rfl (lv_at hl 1 rfl) ?_
  refine lv_iconst (v := nI 0) hx hb dX2_readAny_3 rfl ?_
  obtain ⟨μ1, hμ1, hf⟩ := ob hf
  refine m_put E hK hP hS 27 (by decide) rfl q1440 rfl rfl rfl hμ1 dX2_readAny_4 (fun H locs hP hS => ?_)
  refine lv_iconst (v := nI 1) hx hb dX2_readAny_7 rfl ?_
  refine lv_istore_n (lv' := [(2, .int (nI 1)), (1, .int (nI 0)), (0, .ref h)]) hx hb dX2_readAny_8 rfl hl (by decide) rfl (fun ls hl => ?_)
  exact fm_readAny_L9_w E hK hr hlk hf rfl _ _ _ (lv_sub hl [2, 1, 0] rfl) hP hS
set_option maxHeartbeats 4000000 in
def fm_isLineWord (μ : nwM) : Option (Int32) := (fm_isWord (nI 5) μ).bind fun v2 => (if v2 = 0 then (fm_isWord (nI 6) μ).bind fun v5 => (if v5 = 0 then (fm_isWord (nI 7) μ).bind fun v8 => (if v8 = 0 then some (nI 0) else some (nI 1)) else some (nI 1)) else some (nI 1))
set_option maxHeartbeats 4000000 in
theorem dm_isLineWord : yX2_isLineWord.cls = RX2 ∧ yX2_isLineWord.cls ≠ "java/lang/invoke/MethodHandle" ∧ yX2_isLineWord.cls ≠ "java/lang/invoke/VarHandle" ∧ (parseMethodDescriptor yX2_isLineWord.desc).map (fun d => d.parameters.length) = some 0 := ⟨rfl, by decide +kernel, by decide +kernel, by decide +kernel⟩
set_option maxHeartbeats 4000000 in
theorem tm_isLineWord (l : Launch) (D : va_G) (dT : Nat → ClassId) (h : Nat) (μ : nwM) (res : Int32) (hf : fm_isLineWord μ = some res) : Met l yX2_isLineWord (ws_ yX2_isLineWord cX2_isLineWord 1 (some .boolean)) (rmd 1) (mPc D dT h μ []) (mQi D dT h μ res) 0 0 (mA h) := by
  refine m_met (by decide) rfl (Nat.le_of_ble_eq_true rfl) ?_
  intro p e s m below meth c ls E hK hr hlk hl hP
  have hS : va_S (mA h) s.heap s.heap [] := va_S.rf
  obtain ⟨hx, hb, -, hown, hts⟩ := id E
  have hl : lv_has ls 1 [(0, .ref h)] := hl
  unfold fm_isLineWord at hf
  refine lv_aload_n hx hb dX2_isLineWord_0 rfl (lv_at hl 0 rfl) ?_
  refine lv_iconst (v := nI 5) hx hb dX2_isLineWord_1 rfl ?_
  obtain ⟨v2, hc1, hf⟩ := ob hf
  refine m_calli E hK hP hS (As := [.int (nI 5)]) (tm_isWord l D dT h (nI 5) μ _ hc1) (lw_V q1669 q1671 qs77 q166 q1672) dm_isWord rfl (by decide) (by decide) hl rfl (Nat.le_of_ble_eq_true rfl) dX2_isLineWord_2 (fun H locs hP hS => ?_)
  refine lv_if_ne (tgt := 26) hx hb dX2_isLineWord_5 (by decide) (fun kc3 => ?_) (fun kc3 => ?_)
  · have hf := ite_f kc3 hf
    refine lv_iconst (v := nI 1) hx hb dX2_isLineWord_26 rfl ?_
    refine lv_goto (tgt := 31) hx hb dX2_isLineWord_27 (by decide) ?_
    cases hf
    exact m_zret E hr hlk hP hS rfl dX2_isLineWord_31
  · have hf := ite_t kc3 hf
    refine lv_aload_n hx hb dX2_isLineWord_8 rfl (lv_at hl 0 rfl) ?_
    refine lv_bipush (v := nI 6) hx hb dX2_isLineWord_9 rfl ?_
    obtain ⟨v5, hc4, hf⟩ := ob hf
    refine m_calli E hK hP hS (As := [.int (nI 6)]) (tm_isWord l D dT h (nI 6) μ _ hc4) (lw_V q1669 q1671 qs77 q166 q1672) dm_isWord rfl (by decide) (by decide) hl rfl (Nat.le_of_ble_eq_true rfl) dX2_isLineWord_11 (fun H locs hP hS => ?_)
    refine lv_if_ne (tgt := 26) hx hb dX2_isLineWord_14 (by decide) (fun kc6 => ?_) (fun kc6 => ?_)
    · have hf := ite_f kc6 hf
      refine lv_iconst (v := nI 1) hx hb dX2_isLineWord_26 rfl ?_
      refine lv_goto (tgt := 31) hx hb dX2_isLineWord_27 (by decide) ?_
      cases hf
      exact m_zret E hr hlk hP hS rfl dX2_isLineWord_31
    · have hf := ite_t kc6 hf
      refine lv_aload_n hx hb dX2_isLineWord_17 rfl (lv_at hl 0 rfl) ?_
      refine lv_bipush (v := nI 7) hx hb dX2_isLineWord_18 rfl ?_
      obtain ⟨v8, hc7, hf⟩ := ob hf
      refine m_calli E hK hP hS (As := [.int (nI 7)]) (tm_isWord l D dT h (nI 7) μ _ hc7) (lw_V q1669 q1671 qs77 q166 q1672) dm_isWord rfl (by decide) (by decide) hl rfl (Nat.le_of_ble_eq_true rfl) dX2_isLineWord_20 (fun H locs hP hS => ?_)
      refine lv_if_eq (tgt := 30) hx hb dX2_isLineWord_23 (by decide) (fun kc9 => ?_) (fun kc9 => ?_)
      · have hf := ite_t kc9 hf
        refine lv_iconst (v := nI 0) hx hb dX2_isLineWord_30 rfl ?_
        cases hf
        exact m_zret E hr hlk hP hS rfl dX2_isLineWord_31
      · have hf := ite_f kc9 hf
        refine lv_iconst (v := nI 1) hx hb dX2_isLineWord_26 rfl ?_
        refine lv_goto (tgt := 31) hx hb dX2_isLineWord_27 (by decide) ?_
        cases hf
        exact m_zret E hr hlk hP hS rfl dX2_isLineWord_31
set_option maxHeartbeats 4000000 in
noncomputable def fm_readLaw_L2 : (Int32 × nwM) → Option ((Int32 × nwM) ⊕ (Int32 × nwM)) := fun st => (fm_isLineWord st.2).bind fun v2 => (if v2 = 0 then (if (st.2 13 0) = 0 then some (.inr (st.1, st.2)) else bd2 (fm_errs (nI 1) st.2) fun v6 μ7 => some (.inr (v6, μ7))) else (if st.1 = (nI 16) then bd2 (fm_errs (nI 3) st.2) fun v46 μ47 => some (.inr (v46, μ47)) else (wr_ st.2 17 48 ((nI 32) + st.1) (st.2 14 0)).bind fun μ9 => (fm_reads μ9).bind fun μ11 => (wr_ μ11 18 48 ((nI 32) + st.1) (μ11 24 0)).bind fun μ12 => bd2 (fm_readSum μ12) fun v14 μ15 => (if v14 = (-1) then some (.inr ((-1), μ15)) else (wr_ μ15 19 48 ((nI 32) + st.1) (μ15 24 0)).bind fun μ17 => (fm_isWord (nI 8) μ17).bind fun v19 => (if v19 = 0 then (wr_ μ17 20 48 ((nI 32) + st.1) (μ17 24 0)).bind fun μ21 => (fm_isSign (nI 59) μ21).bind fun v23 => (if v23 = 0 then bd2 (fm_errs (nI 1) μ21) fun v28 μ29 => some (.inr (v28, μ29)) else (fm_reads μ21).bind fun μ26 => some (.inl (st.1 + (nI 1), μ26))) else (fm_reads μ17).bind fun μ31 => bd2 (fm_readAny μ31) fun v33 μ34 => (if v33 = (-1) then some (.inr ((-1), μ34)) else (wr_ μ34 20 48 ((nI 32) + st.1) (μ34 24 0)).bind fun μ36 => (fm_isSign (nI 59) μ36).bind fun v38 => (if v38 = 0 then bd2 (fm_errs (nI 1) μ36) fun v43 μ44 => some (.inr (v43, μ44)) else (fm_reads μ36).bind fun μ41 => some (.inl (st.1 + (nI 1), μ41))))))))
set_option maxHeartbeats 4000000 in
noncomputable def fm_readLaw (μ : nwM) : Option (Int32 × nwM) := wh_ (fm_readLaw_L2) (nI 0, μ)
set_option maxHeartbeats 4000000 in
theorem fm_readLaw_L2_w {p : Program} {l : Launch} {e : Env} {s : State} {m : MethodId} {args : Array Value} {below : List Frame} {meth : Method} {c : Code} {D : va_G} {dT : Nat → ClassId} {h : Nat} (E : CallFix p m c cX2_readLaw 3 s args lw_all RX2) (hK : va_K D nwCl (nwT dT) s) (hr : meth.sig.returnType = (some .int)) (hlk : meth.locks = false) {res : Int32 × nwM} {st : Int32 × nwM} {x : Int32 × nwM} (hw : wh_ (fm_readLaw_L2) st = some x) (hk : (fun r : Int32 × nwM => r = res) x) : (fun st : Int32 × nwM => ∀ (ls : Array Slot) (H : Heap) (locs : List Loc), lv_has ls 3 [(0, .ref h), (1, .int st.1)] → PM D dT h st.2 H → va_S (mA h) s.heap H locs → W p l e (rmd 8) s m args below meth c H locs 0 0 (MQ below (mQi D dT h res.2 res.1) args s 0 0 (mA h)) (F0 m 2 ls [])) st := by
  obtain ⟨hx, hb, -, hown, hts⟩ := id E
  refine wh_run (P := (fun st : Int32 × nwM => ∀ (ls : Array Slot) (H : Heap) (locs : List Loc), lv_has ls 3 [(0, .ref h), (1, .int st.1)] → PM D dT h st.2 H → va_S (mA h) s.heap H locs → W p l e (rmd 8) s m args below meth c H locs 0 0 (MQ below (mQi D dT h res.2 res.1) args s 0 0 (mA h)) (F0 m 2 ls []))) (PE := (fun r : Int32 × nwM => r = res)) ?_ hw hk
  clear hw hk
  intro st x hf hk ls H locs hl hP hS
  refine lv_aload_n hx hb dX2_readLaw_2 rfl (lv_at hl 0 rfl) ?_
  obtain ⟨v2, hc1, hf⟩ := ob hf
  refine m_calli E hK hP hS (As := []) (tm_isLineWord l D dT h st.2 _ hc1) (lw_V q1717 q1719 qs89 q166 q1720) dm_isLineWord rfl (by decide) (by decide) hl rfl (Nat.le_of_ble_eq_true rfl) dX2_readLaw_3 (fun H locs hP hS => ?_)
  refine lv_if_eq (tgt := 129) hx hb dX2_readLaw_6 (by decide) (fun kc3 => ?_) (fun kc3 => ?_)
  · have hf := ite_t kc3 hf
    refine lv_aload_n hx hb dX2_readLaw_129 rfl (lv_at hl 0 rfl) ?_
    refine m_get E hK hP 13 (by decide) rfl q1426 rfl dX2_readLaw_130 ?_
    refine lv_if_ne (tgt := 140) hx hb dX2_readLaw_133 (by decide) (fun kc4 => ?_) (fun kc4 => ?_)
    · have hf := ite_f kc4 hf
      refine lv_aload_n hx hb dX2_readLaw_140 rfl (lv_at hl 0 rfl) ?_
      refine lv_iconst (v := nI 1) hx hb dX2_readLaw_141 rfl ?_
      obtain ⟨v6, μ7, hc5, hf⟩ := ob2 hf
      refine m_calli E hK hP hS (As := [.int (nI 1)]) (tm_errs l D dT h (nI 1) st.2 _ hc5) (lw_V q1657 q1659 qs74 q166 q1660) dm_errs rfl (by decide) (by decide) hl rfl (Nat.le_of_ble_eq_true rfl) dX2_readLaw_142 (fun H locs hP hS => ?_)
      cases hf
      have hk : (v6, μ7) = res := hk
      subst hk
      exact m_iret E hr hlk hP hS rfl dX2_readLaw_145
    · have hf := ite_t kc4 hf
      refine lv_iload_n hx hb dX2_readLaw_136 rfl (lv_at hl 1 rfl) ?_
      refine lv_goto (tgt := 145) hx hb dX2_readLaw_137 (by decide) ?_
      cases hf
      have hk : (st.1, st.2) = res := hk
      subst hk
      exact m_iret E hr hlk hP hS rfl dX2_readLaw_145
  · have hf := ite_f kc3 hf
    refine lv_iload_n hx hb dX2_readLaw_9 rfl (lv_at hl 1 rfl) ?_
    refine lv_bipush (v := nI 16) hx hb dX2_readLaw_10 rfl ?_
    refine lv_icmp_ne (tgt := 21) hx hb dX2_readLaw_12 (by decide) (fun kc8 => ?_) (fun kc8 => ?_)
    · have hf := ite_f kc8 hf
      refine lv_bipush (v := nI 32) hx hb dX2_readLaw_21 rfl ?_
      refine lv_iload_n hx hb dX2_readLaw_23 rfl (lv_at hl 1 rfl) ?_
      refine lv_iadd hx hb dX2_readLaw_24 ?_
      refine lv_istore_n (lv' := [(2, .int ((nI 32) + st.1)), (0, .ref h), (1, .int st.1)]) hx hb dX2_readLaw_25 rfl hl (by decide) rfl (fun ls hl => ?_)
      refine lv_aload_n hx hb dX2_readLaw_26 rfl (lv_at hl 1 rfl) ?_
      refine m_ga E hK hP 17 (by decide) rfl q1430 rfl dX2_readLaw_27 ?_
      refine lv_iload_n hx hb dX2_readLaw_30 rfl (lv_at hl 0 rfl) ?_
      refine lv_aload_n hx hb dX2_readLaw_31 rfl (lv_at hl 1 rfl) ?_
      refine m_get E hK hP 14 (by decide) rfl q1427 rfl dX2_readLaw_32 ?_
      obtain ⟨μ9, hμ9, hf⟩ := ob hf
      refine m_ast E hK hP hS (by decide) rfl rfl hμ9 dX2_readLaw_35 (fun H locs hP hS => ?_)
      refine lv_aload_n hx hb dX2_readLaw_36 rfl (lv_at hl 1 rfl) ?_
      obtain ⟨μ11, hc10, hf⟩ := ob hf
      refine m_callv E hK hP hS (As := []) (tm_reads l D dT h μ9 _ hc10) (lw_V q1625 q1627 qs66 q166 q1628) dm_reads rfl (by decide) (by decide) hl rfl (Nat.le_of_ble_eq_true rfl) dX2_readLaw_37 (fun H locs hP hS => ?_)
      refine lv_aload_n hx hb dX2_readLaw_40 rfl (lv_at hl 1 rfl) ?_
      refine m_ga E hK hP 18 (by decide) rfl q1431 rfl dX2_readLaw_41 ?_
      refine lv_iload_n hx hb dX2_readLaw_44 rfl (lv_at hl 0 rfl) ?_
      refine lv_aload_n hx hb dX2_readLaw_45 rfl (lv_at hl 1 rfl) ?_
      refine m_get E hK hP 24 (by decide) rfl q1437 rfl dX2_readLaw_46 ?_
      obtain ⟨μ12, hμ12, hf⟩ := ob hf
      refine m_ast E hK hP hS (by decide) rfl rfl hμ12 dX2_readLaw_49 (fun H locs hP hS => ?_)
      refine lv_aload_n hx hb dX2_readLaw_50 rfl (lv_at hl 1 rfl) ?_
      obtain ⟨v14, μ15, hc13, hf⟩ := ob2 hf
      refine m_calli E hK hP hS (As := []) (tm_readSum l D dT h μ12 _ hc13) (lw_V q1721 q1723 qs90 q166 q1724) dm_readSum rfl (by decide) (by decide) hl rfl (Nat.le_of_ble_eq_true rfl) dX2_readLaw_51 (fun H locs hP hS => ?_)
      refine lv_iconst (v := (-1)) hx hb dX2_readLaw_54 rfl ?_
      refine lv_icmp_ne (tgt := 60) hx hb dX2_readLaw_55 (by decide) (fun kc16 => ?_) (fun kc16 => ?_)
      · have hf := ite_f kc16 hf
        refine lv_aload_n hx hb dX2_readLaw_60 rfl (lv_at hl 1 rfl) ?_
        refine m_ga E hK hP 19 (by decide) rfl q1432 rfl dX2_readLaw_61 ?_
        refine lv_iload_n hx hb dX2_readLaw_64 rfl (lv_at hl 0 rfl) ?_
        refine lv_aload_n hx hb dX2_readLaw_65 rfl (lv_at hl 1 rfl) ?_
        refine m_get E hK hP 24 (by decide) rfl q1437 rfl dX2_readLaw_66 ?_
        obtain ⟨μ17, hμ17, hf⟩ := ob hf
        refine m_ast E hK hP hS (by decide) rfl rfl hμ17 dX2_readLaw_69 (fun H locs hP hS => ?_)
        refine lv_aload_n hx hb dX2_readLaw_70 rfl (lv_at hl 1 rfl) ?_
        refine lv_bipush (v := nI 8) hx hb dX2_readLaw_71 rfl ?_
        obtain ⟨v19, hc18, hf⟩ := ob hf
        refine m_calli E hK hP hS (As := [.int (nI 8)]) (tm_isWord l D dT h (nI 8) μ17 _ hc18) (lw_V q1669 q1671 qs77 q166 q1672) dm_isWord rfl (by decide) (by decide) hl rfl (Nat.le_of_ble_eq_true rfl) dX2_readLaw_73 (fun H locs hP hS => ?_)
        refine lv_if_eq (tgt := 93) hx hb dX2_readLaw_76 (by decide) (fun kc20 => ?_) (fun kc20 => ?_)
        · have hf := ite_t kc20 hf
          refine lv_aload_n hx hb dX2_readLaw_93 rfl (lv_at hl 1 rfl) ?_
          refine m_ga E hK hP 20 (by decide) rfl q1433 rfl dX2_readLaw_94 ?_
          refine lv_iload_n hx hb dX2_readLaw_97 rfl (lv_at hl 0 rfl) ?_
          refine lv_aload_n hx hb dX2_readLaw_98 rfl (lv_at hl 1 rfl) ?_
          refine m_get E hK hP 24 (by decide) rfl q1437 rfl dX2_readLaw_99 ?_
          obtain ⟨μ21, hμ21, hf⟩ := ob hf
          refine m_ast E hK hP hS (by decide) rfl rfl hμ21 dX2_readLaw_102 (fun H locs hP hS => ?_)
          refine lv_aload_n hx hb dX2_readLaw_103 rfl (lv_at hl 1 rfl) ?_
          refine lv_bipush (v := nI 59) hx hb dX2_readLaw_104 rfl ?_
          obtain ⟨v23, hc22, hf⟩ := ob hf
          refine m_calli E hK hP hS (As := [.int (nI 59)]) (tm_isSign l D dT h (nI 59) μ21 _ hc22) (lw_V q1685 q1687 qs81 q166 q1688) dm_isSign rfl (by decide) (by decide) hl rfl (Nat.le_of_ble_eq_true rfl) dX2_readLaw_106 (fun H locs hP hS => ?_)
          refine lv_if_ne (tgt := 118) hx hb dX2_readLaw_109 (by decide) (fun kc24 => ?_) (fun kc24 => ?_)
          · have hf := ite_f kc24 hf
            refine lv_aload_n hx hb dX2_readLaw_118 rfl (lv_at hl 1 rfl) ?_
            obtain ⟨μ26, hc25, hf⟩ := ob hf
            refine m_callv E hK hP hS (As := []) (tm_reads l D dT h μ21 _ hc25) (lw_V q1625 q1627 qs66 q166 q1628) dm_reads rfl (by decide) (by decide) hl rfl (Nat.le_of_ble_eq_true rfl) dX2_readLaw_119 (fun H locs hP hS => ?_)
            refine lv_iload_n hx hb dX2_readLaw_122 rfl (lv_at hl 2 rfl) ?_
            refine lv_iconst (v := nI 1) hx hb dX2_readLaw_123 rfl ?_
            refine lv_iadd hx hb dX2_readLaw_124 ?_
            refine lv_istore_n (lv' := [(1, .int (st.1 + (nI 1))), (2, .int ((nI 32) + st.1)), (0, .ref h)]) hx hb dX2_readLaw_125 rfl hl (by decide) rfl (fun ls hl => ?_)
            refine lv_goto (tgt := 2) hx hb dX2_readLaw_126 (by decide) ?_
            cases hf
            exact hk _ _ _ (lv_sub hl [2, 0] rfl) hP hS
          · have hf := ite_t kc24 hf
            refine lv_aload_n hx hb dX2_readLaw_112 rfl (lv_at hl 1 rfl) ?_
            refine lv_iconst (v := nI 1) hx hb dX2_readLaw_113 rfl ?_
            obtain ⟨v28, μ29, hc27, hf⟩ := ob2 hf
            refine m_calli E hK hP hS (As := [.int (nI 1)]) (tm_errs l D dT h (nI 1) μ21 _ hc27) (lw_V q1657 q1659 qs74 q166 q1660) dm_errs rfl (by decide) (by decide) hl rfl (Nat.le_of_ble_eq_true rfl) dX2_readLaw_114 (fun H locs hP hS => ?_)
            cases hf
            have hk : (v28, μ29) = res := hk
            subst hk
            exact m_iret E hr hlk hP hS rfl dX2_readLaw_117
        · have hf := ite_f kc20 hf
          refine lv_aload_n hx hb dX2_readLaw_79 rfl (lv_at hl 1 rfl) ?_
          obtain ⟨μ31, hc30, hf⟩ := ob hf
          refine m_callv E hK hP hS (As := []) (tm_reads l D dT h μ17 _ hc30) (lw_V q1625 q1627 qs66 q166 q1628) dm_reads rfl (by decide) (by decide) hl rfl (Nat.le_of_ble_eq_true rfl) dX2_readLaw_80 (fun H locs hP hS => ?_)
          refine lv_aload_n hx hb dX2_readLaw_83 rfl (lv_at hl 1 rfl) ?_
          obtain ⟨v33, μ34, hc32, hf⟩ := ob2 hf
          refine m_calli E hK hP hS (As := []) (tm_readAny l D dT h μ31 _ hc32) (lw_V q1741 q1743 qs95 q166 q1744) dm_readAny rfl (by decide) (by decide) hl rfl (Nat.le_of_ble_eq_true rfl) dX2_readLaw_84 (fun H locs hP hS => ?_)
          refine lv_iconst (v := (-1)) hx hb dX2_readLaw_87 rfl ?_
          refine lv_icmp_ne (tgt := 93) hx hb dX2_readLaw_88 (by decide) (fun kc35 => ?_) (fun kc35 => ?_)
          · have hf := ite_f kc35 hf
            refine lv_aload_n hx hb dX2_readLaw_93 rfl (lv_at hl 1 rfl) ?_
            refine m_ga E hK hP 20 (by decide) rfl q1433 rfl dX2_readLaw_94 ?_
            refine lv_iload_n hx hb dX2_readLaw_97 rfl (lv_at hl 0 rfl) ?_
            refine lv_aload_n hx hb dX2_readLaw_98 rfl (lv_at hl 1 rfl) ?_
            refine m_get E hK hP 24 (by decide) rfl q1437 rfl dX2_readLaw_99 ?_
            obtain ⟨μ36, hμ36, hf⟩ := ob hf
            refine m_ast E hK hP hS (by decide) rfl rfl hμ36 dX2_readLaw_102 (fun H locs hP hS => ?_)
            refine lv_aload_n hx hb dX2_readLaw_103 rfl (lv_at hl 1 rfl) ?_
            refine lv_bipush (v := nI 59) hx hb dX2_readLaw_104 rfl ?_
            obtain ⟨v38, hc37, hf⟩ := ob hf
            refine m_calli E hK hP hS (As := [.int (nI 59)]) (tm_isSign l D dT h (nI 59) μ36 _ hc37) (lw_V q1685 q1687 qs81 q166 q1688) dm_isSign rfl (by decide) (by decide) hl rfl (Nat.le_of_ble_eq_true rfl) dX2_readLaw_106 (fun H locs hP hS => ?_)
            refine lv_if_ne (tgt := 118) hx hb dX2_readLaw_109 (by decide) (fun kc39 => ?_) (fun kc39 => ?_)
            · have hf := ite_f kc39 hf
              refine lv_aload_n hx hb dX2_readLaw_118 rfl (lv_at hl 1 rfl) ?_
              obtain ⟨μ41, hc40, hf⟩ := ob hf
              refine m_callv E hK hP hS (As := []) (tm_reads l D dT h μ36 _ hc40) (lw_V q1625 q1627 qs66 q166 q1628) dm_reads rfl (by decide) (by decide) hl rfl (Nat.le_of_ble_eq_true rfl) dX2_readLaw_119 (fun H locs hP hS => ?_)
              refine lv_iload_n hx hb dX2_readLaw_122 rfl (lv_at hl 2 rfl) ?_
              refine lv_iconst (v := nI 1) hx hb dX2_readLaw_123 rfl ?_
              refine lv_iadd hx hb dX2_readLaw_124 ?_
              refine lv_istore_n (lv' := [(1, .int (st.1 + (nI 1))), (2, .int ((nI 32) + st.1)), (0, .ref h)]) hx hb dX2_readLaw_125 rfl hl (by decide) rfl (fun ls hl => ?_)
              refine lv_goto (tgt := 2) hx hb dX2_readLaw_126 (by decide) ?_
              cases hf
              exact hk _ _ _ (lv_sub hl [2, 0] rfl) hP hS
            · have hf := ite_t kc39 hf
              refine lv_aload_n hx hb dX2_readLaw_112 rfl (lv_at hl 1 rfl) ?_
              refine lv_iconst (v := nI 1) hx hb dX2_readLaw_113 rfl ?_
              obtain ⟨v43, μ44, hc42, hf⟩ := ob2 hf
              refine m_calli E hK hP hS (As := [.int (nI 1)]) (tm_errs l D dT h (nI 1) μ36 _ hc42) (lw_V q1657 q1659 qs74 q166 q1660) dm_errs rfl (by decide) (by decide) hl rfl (Nat.le_of_ble_eq_true rfl) dX2_readLaw_114 (fun H locs hP hS => ?_)
              cases hf
              have hk : (v43, μ44) = res := hk
              subst hk
              exact m_iret E hr hlk hP hS rfl dX2_readLaw_117
          · have hf := ite_t kc35 hf
            refine lv_iconst (v := (-1)) hx hb dX2_readLaw_91 rfl ?_
            cases hf
            have hk : ((-1), μ34) = res := hk
            subst hk
            exact m_iret E hr hlk hP hS rfl dX2_readLaw_92
      · have hf := ite_t kc16 hf
        refine lv_iconst (v := (-1)) hx hb dX2_readLaw_58 rfl ?_
        cases hf
        have hk : ((-1), μ15) = res := hk
        subst hk
        exact m_iret E hr hlk hP hS rfl dX2_readLaw_59
    · have hf := ite_t kc8 hf
      refine lv_aload_n hx hb dX2_readLaw_15 rfl (lv_at hl 0 rfl) ?_
      refine lv_iconst (v := nI 3) hx hb dX2_readLaw_16 rfl ?_
      obtain ⟨v46, μ47, hc45, hf⟩ := ob2 hf
      refine m_calli E hK hP hS (As := [.int (nI 3)]) (tm_errs l D dT h (nI 3) st.2 _ hc45) (lw_V q1657 q1659 qs74 q166 q1660) dm_errs rfl (by decide) (by decide) hl rfl (Nat.le_of_ble_eq_true rfl) dX2_readLaw_17 (fun H locs hP hS => ?_)
      cases hf
      have hk : (v46, μ47) = res := hk
      subst hk
      exact m_iret E hr hlk hP hS rfl dX2_readLaw_20
set_option maxHeartbeats 4000000 in
theorem dm_readLaw : yX2_readLaw.cls = RX2 ∧ yX2_readLaw.cls ≠ "java/lang/invoke/MethodHandle" ∧ yX2_readLaw.cls ≠ "java/lang/invoke/VarHandle" ∧ (parseMethodDescriptor yX2_readLaw.desc).map (fun d => d.parameters.length) = some 0 := ⟨rfl, by decide +kernel, by decide +kernel, by decide +kernel⟩
set_option maxHeartbeats 4000000 in
theorem tm_readLaw (l : Launch) (D : va_G) (dT : Nat → ClassId) (h : Nat) (μ : nwM) (res : Int32 × nwM) (hf : fm_readLaw μ = some res) : Met l yX2_readLaw (ws_ yX2_readLaw cX2_readLaw 3 (some .int)) (rmd 8) (mPc D dT h μ []) (mQi D dT h res.2 res.1) 0 0 (mA h) := by
  refine m_met (by decide) rfl (Nat.le_of_ble_eq_true rfl) ?_
  intro p e s m below meth c ls E hK hr hlk hl hP
  have hS : va_S (mA h) s.heap s.heap [] := va_S.rf
  obtain ⟨hx, hb, -, hown, hts⟩ := id E
  have hl : lv_has ls 3 [(0, .ref h)] := hl
  unfold fm_readLaw at hf
  refine lv_iconst (v := nI 0) hx hb dX2_readLaw_0 rfl ?_
  refine lv_istore_n (lv' := [(1, .int (nI 0)), (0, .ref h)]) hx hb dX2_readLaw_1 rfl hl (by decide) rfl (fun ls hl => ?_)
  exact fm_readLaw_L2_w E hK hr hlk hf rfl _ _ _ (lv_sub hl [1, 0] rfl) hP hS
