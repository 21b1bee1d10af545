/-! walks of NamesWeatherModel, written by genm.py -/
set_option maxRecDepth 100000
set_option maxHeartbeats 4000000 in
def fm_isLetter (x1 : Int32) (μ : nwM) : Option (Int32) := (fm_isIn x1 (nI 97) (nI 122) μ).bind fun v2 => (if v2 = 0 then (fm_isIn x1 (nI 65) (nI 90) μ).bind fun v5 => (if v5 = 0 then some (nI 0) else some (nI 1)) else some (nI 1))
set_option maxHeartbeats 4000000 in
theorem dm_isLetter : yX2_isLetter.cls = RX2 ∧ yX2_isLetter.cls ≠ "java/lang/invoke/MethodHandle" ∧ yX2_isLetter.cls ≠ "java/lang/invoke/VarHandle" ∧ (parseMethodDescriptor yX2_isLetter.desc).map (fun d => d.parameters.length) = some 1 := ⟨rfl, by decide +kernel, by decide +kernel, by decide +kernel⟩
set_option maxHeartbeats 4000000 in
theorem tm_isLetter (l : Launch) (D : va_G) (dT : Nat → ClassId) (h : Nat) (x1 : Int32) (μ : nwM) (res : Int32) (hf : fm_isLetter x1 μ = some res) : Met l yX2_isLetter (ws_ yX2_isLetter cX2_isLetter 2 (some .boolean)) (rmd 1) (mPc D dT h μ [.int x1]) (mQi D dT h μ res) 0 0 (mA h) := by
  refine m_met (by decide) rfl (Nat.le_of_ble_eq_true rfl) ?_
  intro p e s m below meth c ls E hK hr hlk hl hP
  have hS : va_S (mA h) s.heap s.heap [] := va_S.rf
  obtain ⟨hx, hb, -, hown, hts⟩ := id E
  have hl : lv_has ls 2 [(0, .ref h), (1, .int x1)] := hl
  unfold fm_isLetter at hf
  refine lv_aload_n hx hb dX2_isLetter_0 rfl (lv_at hl 0 rfl) ?_
  refine lv_iload_n hx hb dX2_isLetter_1 rfl (lv_at hl 1 rfl) ?_
  refine lv_bipush (v := nI 97) hx hb dX2_isLetter_2 rfl ?_
  refine lv_bipush (v := nI 122) hx hb dX2_isLetter_4 rfl ?_
  obtain ⟨v2, hc1, hf⟩ := ob hf
  refine m_calli E hK hP hS (As := [.int x1, .int (nI 97), .int (nI 122)]) (tm_isIn l D dT h x1 (nI 97) (nI 122) μ _ hc1) (lw_V q1573 q1575 qs59 q166 q1576) dm_isIn rfl (by decide) (by decide) hl rfl (Nat.le_of_ble_eq_true rfl) dX2_isLetter_6 (fun H locs hP hS => ?_)
  refine lv_if_ne (tgt := 24) hx hb dX2_isLetter_9 (by decide) (fun kc3 => ?_) (fun kc3 => ?_)
  · have hf := ite_f kc3 hf
    refine lv_iconst (v := nI 1) hx hb dX2_isLetter_24 rfl ?_
    refine lv_goto (tgt := 29) hx hb dX2_isLetter_25 (by decide) ?_
    cases hf
    exact m_zret E hr hlk hP hS rfl dX2_isLetter_29
  · have hf := ite_t kc3 hf
    refine lv_aload_n hx hb dX2_isLetter_12 rfl (lv_at hl 0 rfl) ?_
    refine lv_iload_n hx hb dX2_isLetter_13 rfl (lv_at hl 1 rfl) ?_
    refine lv_bipush (v := nI 65) hx hb dX2_isLetter_14 rfl ?_
    refine lv_bipush (v := nI 90) hx hb dX2_isLetter_16 rfl ?_
    obtain ⟨v5, hc4, hf⟩ := ob hf
    refine m_calli E hK hP hS (As := [.int x1, .int (nI 65), .int (nI 90)]) (tm_isIn l D dT h x1 (nI 65) (nI 90) μ _ hc4) (lw_V q1573 q1575 qs59 q166 q1576) dm_isIn rfl (by decide) (by decide) hl rfl (Nat.le_of_ble_eq_true rfl) dX2_isLetter_18 (fun H locs hP hS => ?_)
    refine lv_if_eq (tgt := 28) hx hb dX2_isLetter_21 (by decide) (fun kc6 => ?_) (fun kc6 => ?_)
    · have hf := ite_t kc6 hf
      refine lv_iconst (v := nI 0) hx hb dX2_isLetter_28 rfl ?_
      cases hf
      exact m_zret E hr hlk hP hS rfl dX2_isLetter_29
    · have hf := ite_f kc6 hf
      refine lv_iconst (v := nI 1) hx hb dX2_isLetter_24 rfl ?_
      refine lv_goto (tgt := 29) hx hb dX2_isLetter_25 (by decide) ?_
      cases hf
      exact m_zret E hr hlk hP hS rfl dX2_isLetter_29
set_option maxHeartbeats 4000000 in
def fm_isDigit (x1 : Int32) (μ : nwM) : Option (Int32) := (fm_isIn x1 (nI 48) (nI 57) μ).bind fun v2 => (zr_ v2).bind fun v3 => some v3
set_option maxHeartbeats 4000000 in
theorem dm_isDigit : yX2_isDigit.cls = RX2 ∧ yX2_isDigit.cls ≠ "java/lang/invoke/MethodHandle" ∧ yX2_isDigit.cls ≠ "java/lang/invoke/VarHandle" ∧ (parseMethodDescriptor yX2_isDigit.desc).map (fun d => d.parameters.length) = some 1 := ⟨rfl, by decide +kernel, by decide +kernel, by decide +kernel⟩
set_option maxHeartbeats 4000000 in
theorem tm_isDigit (l : Launch) (D : va_G) (dT : Nat → ClassId) (h : Nat) (x1 : Int32) (μ : nwM) (res : Int32) (hf : fm_isDigit x1 μ = some res) : Met l yX2_isDigit (ws_ yX2_isDigit cX2_isDigit 2 (some .boolean)) (rmd 1) (mPc D dT h μ [.int x1]) (mQi D dT h μ res) 0 0 (mA h) := by
  refine m_met (by decide) rfl (Nat.le_of_ble_eq_true rfl) ?_
  intro p e s m below meth c ls E hK hr hlk hl hP
  have hS : va_S (mA h) s.heap s.heap [] := va_S.rf
  obtain ⟨hx, hb, -, hown, hts⟩ := id E
  have hl : lv_has ls 2 [(0, .ref h), (1, .int x1)] := hl
  unfold fm_isDigit at hf
  refine lv_aload_n hx hb dX2_isDigit_0 rfl (lv_at hl 0 rfl) ?_
  refine lv_iload_n hx hb dX2_isDigit_1 rfl (lv_at hl 1 rfl) ?_
  refine lv_bipush (v := nI 48) hx hb dX2_isDigit_2 rfl ?_
  refine lv_bipush (v := nI 57) hx hb dX2_isDigit_4 rfl ?_
  obtain ⟨v2, hc1, hf⟩ := ob hf
  refine m_calli E hK hP hS (As := [.int x1, .int (nI 48), .int (nI 57)]) (tm_isIn l D dT h x1 (nI 48) (nI 57) μ _ hc1) (lw_V q1573 q1575 qs59 q166 q1576) dm_isIn rfl (by decide) (by decide) hl rfl (Nat.le_of_ble_eq_true rfl) dX2_isDigit_6 (fun H locs hP hS => ?_)
  obtain ⟨v3, hv3, hf⟩ := ob hf
  cases hf
  exact m_zret E hr hlk hP hS hv3 dX2_isDigit_9
set_option maxHeartbeats 4000000 in
def fm_isMarkSign (x1 : Int32) (μ : nwM) : Option (Int32) := (if x1 = (nI 59) then some (nI 1) else (if x1 = (nI 43) then some (nI 1) else (if x1 = (nI 45) then some (nI 1) else (if x1 = (nI 42) then some (nI 1) else (if x1 = (nI 47) then some (nI 1) else (if x1 = (nI 40) then some (nI 1) else (if x1 = (nI 41) then some (nI 1) else (if x1 = (nI 60) then some (nI 1) else (if x1 = (nI 61) then some (nI 1) else (if x1 = (nI 62) then some (nI 1) else some (nI 0)))))))))))
set_option maxHeartbeats 4000000 in
theorem dm_isMarkSign : yX2_isMarkSign.cls = RX2 ∧ yX2_isMarkSign.cls ≠ "java/lang/invoke/MethodHandle" ∧ yX2_isMarkSign.cls ≠ "java/lang/invoke/VarHandle" ∧ (parseMethodDescriptor yX2_isMarkSign.desc).map (fun d => d.parameters.length) = some 1 := ⟨rfl, by decide +kernel, by decide +kernel, by decide +kernel⟩
set_option maxHeartbeats 4000000 in
theorem tm_isMarkSign (l : Launch) (D : va_G) (dT : Nat → ClassId) (h : Nat) (x1 : Int32) (μ : nwM) (res : Int32) (hf : fm_isMarkSign x1 μ = some res) : Met l yX2_isMarkSign (ws_ yX2_isMarkSign cX2_isMarkSign 2 (some .boolean)) (rmd 0) (mPc D dT h μ [.int x1]) (mQi D dT h μ res) 0 0 (mA h) := by
  refine m_met (by decide) rfl (Nat.le_of_ble_eq_true rfl) ?_
  intro p e s m below meth c ls E hK hr hlk hl hP
  have hS : va_S (mA h) s.heap s.heap [] := va_S.rf
  obtain ⟨hx, hb, -, hown, hts⟩ := id E
  have hl : lv_has ls 2 [(0, .ref h), (1, .int x1)] := hl
  unfold fm_isMarkSign at hf
  refine lv_iload_n hx hb dX2_isMarkSign_0 rfl (lv_at hl 1 rfl) ?_
  refine lv_bipush (v := nI 59) hx hb dX2_isMarkSign_1 rfl ?_
  refine lv_icmp_eq (tgt := 60) hx hb dX2_isMarkSign_3 (by decide) (fun kc1 => ?_) (fun kc1 => ?_)
  · have hf := ite_t kc1 hf
    refine lv_iconst (v := nI 1) hx hb dX2_isMarkSign_60 rfl ?_
    refine lv_goto (tgt := 65) hx hb dX2_isMarkSign_61 (by decide) ?_
    cases hf
    exact m_zret E hr hlk hP hS rfl dX2_isMarkSign_65
  · have hf := ite_f kc1 hf
    refine lv_iload_n hx hb dX2_isMarkSign_6 rfl (lv_at hl 1 rfl) ?_
    refine lv_bipush (v := nI 43) hx hb dX2_isMarkSign_7 rfl ?_
    refine lv_icmp_eq (tgt := 60) hx hb dX2_isMarkSign_9 (by decide) (fun kc2 => ?_) (fun kc2 => ?_)
    · have hf := ite_t kc2 hf
      refine lv_iconst (v := nI 1) hx hb dX2_isMarkSign_60 rfl ?_
      refine lv_goto (tgt := 65) hx hb dX2_isMarkSign_61 (by decide) ?_
      cases hf
      exact m_zret E hr hlk hP hS rfl dX2_isMarkSign_65
    · have hf := ite_f kc2 hf
      refine lv_iload_n hx hb dX2_isMarkSign_12 rfl (lv_at hl 1 rfl) ?_
      refine lv_bipush (v := nI 45) hx hb dX2_isMarkSign_13 rfl ?_
      refine lv_icmp_eq (tgt := 60) hx hb dX2_isMarkSign_15 (by decide) (fun kc3 => ?_) (fun kc3 => ?_)
      · have hf := ite_t kc3 hf
        refine lv_iconst (v := nI 1) hx hb dX2_isMarkSign_60 rfl ?_
        refine lv_goto (tgt := 65) hx hb dX2_isMarkSign_61 (by decide) ?_
        cases hf
        exact m_zret E hr hlk hP hS rfl dX2_isMarkSign_65
      · have hf := ite_f kc3 hf
        refine lv_iload_n hx hb dX2_isMarkSign_18 rfl (lv_at hl 1 rfl) ?_
        refine lv_bipush (v := nI 42) hx hb dX2_isMarkSign_19 rfl ?_
        refine lv_icmp_eq (tgt := 60) hx hb dX2_isMarkSign_21 (by decide) (fun kc4 => ?_) (fun kc4 => ?_)
        · have hf := ite_t kc4 hf
          refine lv_iconst (v := nI 1) hx hb dX2_isMarkSign_60 rfl ?_
          refine lv_goto (tgt := 65) hx hb dX2_isMarkSign_61 (by decide) ?_
          cases hf
          exact m_zret E hr hlk hP hS rfl dX2_isMarkSign_65
        · have hf := ite_f kc4 hf
          refine lv_iload_n hx hb dX2_isMarkSign_24 rfl (lv_at hl 1 rfl) ?_
          refine lv_bipush (v := nI 47) hx hb dX2_isMarkSign_25 rfl ?_
          refine lv_icmp_eq (tgt := 60) hx hb dX2_isMarkSign_27 (by decide) (fun kc5 => ?_) (fun kc5 => ?_)
          · have hf := ite_t kc5 hf
            refine lv_iconst (v := nI 1) hx hb dX2_isMarkSign_60 rfl ?_
            refine lv_goto (tgt := 65) hx hb dX2_isMarkSign_61 (by decide) ?_
            cases hf
            exact m_zret E hr hlk hP hS rfl dX2_isMarkSign_65
          · have hf := ite_f kc5 hf
            refine lv_iload_n hx hb dX2_isMarkSign_30 rfl (lv_at hl 1 rfl) ?_
            refine lv_bipush (v := nI 40) hx hb dX2_isMarkSign_31 rfl ?_
            refine lv_icmp_eq (tgt := 60) hx hb dX2_isMarkSign_33 (by decide) (fun kc6 => ?_) (fun kc6 => ?_)
            · have hf := ite_t kc6 hf
              refine lv_iconst (v := nI 1) hx hb dX2_isMarkSign_60 rfl ?_
              refine lv_goto (tgt := 65) hx hb dX2_isMarkSign_61 (by decide) ?_
              cases hf
              exact m_zret E hr hlk hP hS rfl dX2_isMarkSign_65
            · have hf := ite_f kc6 hf
              refine lv_iload_n hx hb dX2_isMarkSign_36 rfl (lv_at hl 1 rfl) ?_
              refine lv_bipush (v := nI 41) hx hb dX2_isMarkSign_37 rfl ?_
              refine lv_icmp_eq (tgt := 60) hx hb dX2_isMarkSign_39 (by decide) (fun kc7 => ?_) (fun kc7 => ?_)
              · have hf := ite_t kc7 hf
                refine lv_iconst (v := nI 1) hx hb dX2_isMarkSign_60 rfl ?_
                refine lv_goto (tgt := 65) hx hb dX2_isMarkSign_61 (by decide) ?_
                cases hf
                exact m_zret E hr hlk hP hS rfl dX2_isMarkSign_65
              · have hf := ite_f kc7 hf
                refine lv_iload_n hx hb dX2_isMarkSign_42 rfl (lv_at hl 1 rfl) ?_
                refine lv_bipush (v := nI 60) hx hb dX2_isMarkSign_43 rfl ?_
                refine lv_icmp_eq (tgt := 60) hx hb dX2_isMarkSign_45 (by decide) (fun kc8 => ?_) (fun kc8 => ?_)
                · have hf := ite_t kc8 hf
                  refine lv_iconst (v := nI 1) hx hb dX2_isMarkSign_60 rfl ?_
                  refine lv_goto (tgt := 65) hx hb dX2_isMarkSign_61 (by decide) ?_
                  cases hf
                  exact m_zret E hr hlk hP hS rfl dX2_isMarkSign_65
                · have hf := ite_f kc8 hf
                  refine lv_iload_n hx hb dX2_isMarkSign_48 rfl (lv_at hl 1 rfl) ?_
                  refine lv_bipush (v := nI 61) hx hb dX2_isMarkSign_49 rfl ?_
                  refine lv_icmp_eq (tgt := 60) hx hb dX2_isMarkSign_51 (by decide) (fun kc9 => ?_) (fun kc9 => ?_)
                  · have hf := ite_t kc9 hf
                    refine lv_iconst (v := nI 1) hx hb dX2_isMarkSign_60 rfl ?_
                    refine lv_goto (tgt := 65) hx hb dX2_isMarkSign_61 (by decide) ?_
                    cases hf
                    exact m_zret E hr hlk hP hS rfl dX2_isMarkSign_65
                  · have hf := ite_f kc9 hf
                    refine lv_iload_n hx hb dX2_isMarkSign_54 rfl (lv_at hl 1 rfl) ?_
                    refine lv_bipush (v := nI 62) hx hb dX2_isMarkSign_55 rfl ?_
                    refine lv_icmp_ne (tgt := 64) hx hb dX2_isMarkSign_57 (by decide) (fun kc10 => ?_) (fun kc10 => ?_)
                    · have hf := ite_f kc10 hf
                      refine lv_iconst (v := nI 0) hx hb dX2_isMarkSign_64 rfl ?_
                      cases hf
                      exact m_zret E hr hlk hP hS rfl dX2_isMarkSign_65
                    · have hf := ite_t kc10 hf
                      refine lv_iconst (v := nI 1) hx hb dX2_isMarkSign_60 rfl ?_
                      refine lv_goto (tgt := 65) hx hb dX2_isMarkSign_61 (by decide) ?_
                      cases hf
                      exact m_zret E hr hlk hP hS rfl dX2_isMarkSign_65
set_option maxHeartbeats 4000000 in
def fm_wordAt_L20 (x1 : Int32) (x2 : Int32) (x3 : Int32) (x4 : Int32) (μ : nwM) : Int32 → Option ((Int32) ⊕ (Int32)) := fun st => (if x2 ≤ (x1 + st) then some (.inr st) else (rd_ μ 15 155 ((x4 + (nI 1)) + st)).bind fun v3 => (rd_ μ 9 400 (x1 + st)).bind fun v4 => (if v3 = v4 then some (.inl (st + (nI 1))) else some (.inr st)))
set_option maxHeartbeats 4000000 in
def fm_wordAt_L94 (x1 : Int32) (x2 : Int32) (x3 : Int32) (μ : nwM) : Int32 → Option ((Int32) ⊕ (Int32)) := fun st => (rd_ μ 15 155 st).bind fun v8 => (if v8 = (nI 32) then some (.inr st) else some (.inl (st + (nI 1))))
set_option maxHeartbeats 4000000 in
noncomputable def fm_wordAt_L5 (x1 : Int32) (x2 : Int32) (μ : nwM) : (Int32 × Int32) → Option ((Int32 × Int32) ⊕ (Int32)) := fun st => (if (nI 154) ≤ st.2 then some (.inr (-1)) else (wh_ (fm_wordAt_L20 x1 x2 (st.1 + (nI 1)) st.2 μ) (nI 0)).bind fun x6 => (if (x1 + x6) = x2 then (rd_ μ 15 155 ((st.2 + (nI 1)) + x6)).bind fun v11 => (if v11 = (nI 32) then some (.inr (st.1 + (nI 1))) else (wh_ (fm_wordAt_L94 x1 x2 (st.1 + (nI 1)) μ) (st.2 + (nI 1))).bind fun x13 => some (.inl (st.1 + (nI 1), x13))) else (wh_ (fm_wordAt_L94 x1 x2 (st.1 + (nI 1)) μ) (st.2 + (nI 1))).bind fun x10 => some (.inl (st.1 + (nI 1), x10))))
set_option maxHeartbeats 4000000 in
noncomputable def fm_wordAt (x1 : Int32) (x2 : Int32) (μ : nwM) : Option (Int32) := wh_ (fm_wordAt_L5 x1 x2 μ) ((-1), nI 0)
set_option maxHeartbeats 4000000 in
theorem fm_wordAt_L20_w {p : Program} {l : Launch} {e : Env} {s : State} {m : MethodId} {args : Array Value} {below : List Frame} {meth : Method} {c : Code} {Q : State → Prop} {D : va_G} {dT : Nat → ClassId} {h : Nat} (E : CallFix p m c cX2_wordAt 6 s args lw_all RX2) (hK : va_K D nwCl (nwT dT) s) (x1 : Int32) (x2 : Int32) (x3 : Int32) (x4 : Int32) (μ : nwM) {st : Int32} {x : Int32} (hw : wh_ (fm_wordAt_L20 x1 x2 x3 x4 μ) st = some x) (hk : (fun x : Int32 => ∀ (ls : Array Slot) (H : Heap) (locs : List Loc), lv_has ls 6 [(0, .ref h), (1, .int x1), (2, .int x2), (3, .int x3), (4, .int x4), (5, .int x)] → PM D dT h μ H → va_S (mA h) s.heap H locs → W p l e (rmd 0) s m args below meth c H locs 0 0 Q (F0 m 61 ls [])) x) : (fun st : Int32 => ∀ (ls : Array Slot) (H : Heap) (locs : List Loc), lv_has ls 6 [(0, .ref h), (1, .int x1), (2, .int x2), (3, .int x3), (4, .int x4), (5, .int st)] → PM D dT h μ H → va_S (mA h) s.heap H locs → W p l e (rmd 0) s m args below meth c H locs 0 0 Q (F0 m 20 ls [])) st := by
  obtain ⟨hx, hb, -, hown, hts⟩ := id E
  refine wh_run (P := (fun st : Int32 => ∀ (ls : Array Slot) (H : Heap) (locs : List Loc), lv_has ls 6 [(0, .ref h), (1, .int x1), (2, .int x2), (3, .int x3), (4, .int x4), (5, .int st)] → PM D dT h μ H → va_S (mA h) s.heap H locs → W p l e (rmd 0) s m args below meth c H locs 0 0 Q (F0 m 20 ls []))) (PE := (fun x : Int32 => ∀ (ls : Array Slot) (H : Heap) (locs : List Loc), lv_has ls 6 [(0, .ref h), (1, .int x1), (2, .int x2), (3, .int x3), (4, .int x4), (5, .int x)] → PM D dT h μ H → va_S (mA h) s.heap H locs → W p l e (rmd 0) s m args below meth c H locs 0 0 Q (F0 m 61 ls []))) ?_ hw hk
  clear hw hk
  intro st x hf hk ls H locs hl hP hS
  refine lv_iload_n hx hb dX2_wordAt_20 rfl (lv_at hl 1 rfl) ?_
  refine lv_iload hx hb dX2_wordAt_21 (lv_at hl 5 rfl) ?_
  refine lv_iadd hx hb dX2_wordAt_23 ?_
  refine lv_iload_n hx hb dX2_wordAt_24 rfl (lv_at hl 2 rfl) ?_
  refine lv_icmp_ge (tgt := 61) hx hb dX2_wordAt_25 (by decide) (fun kc2 => ?_) (fun kc2 => ?_)
  · have hf := ite_t kc2 hf
    cases hf
    exact hk _ _ _ (lv_sub hl [0, 1, 2, 3, 4, 5] rfl) hP hS
  · have hf := ite_f kc2 hf
    refine lv_aload_n hx hb dX2_wordAt_28 rfl (lv_at hl 0 rfl) ?_
    refine m_ga E hK hP 15 (by decide) rfl q1428 rfl dX2_wordAt_29 ?_
    refine lv_iload hx hb dX2_wordAt_32 (lv_at hl 4 rfl) ?_
    refine lv_iconst (v := nI 1) hx hb dX2_wordAt_34 rfl ?_
    refine lv_iadd hx hb dX2_wordAt_35 ?_
    refine lv_iload hx hb dX2_wordAt_36 (lv_at hl 5 rfl) ?_
    refine lv_iadd hx hb dX2_wordAt_38 ?_
    obtain ⟨v3, hv3, hf⟩ := ob hf
    refine m_ald E hK hP (by decide) rfl rfl hv3 dX2_wordAt_39 ?_
    refine lv_aload_n hx hb dX2_wordAt_40 rfl (lv_at hl 0 rfl) ?_
    refine m_ga E hK hP 9 (by decide) rfl q1422 rfl dX2_wordAt_41 ?_
    refine lv_iload_n hx hb dX2_wordAt_44 rfl (lv_at hl 1 rfl) ?_
    refine lv_iload hx hb dX2_wordAt_45 (lv_at hl 5 rfl) ?_
    refine lv_iadd hx hb dX2_wordAt_47 ?_
    obtain ⟨v4, hv4, hf⟩ := ob hf
    refine m_ald E hK hP (by decide) rfl rfl hv4 dX2_wordAt_48 ?_
    refine lv_icmp_ne (tgt := 61) hx hb dX2_wordAt_49 (by decide) (fun kc5 => ?_) (fun kc5 => ?_)
    · have hf := ite_f kc5 hf
      cases hf
      exact hk _ _ _ (lv_sub hl [0, 1, 2, 3, 4, 5] rfl) hP hS
    · have hf := ite_t kc5 hf
      refine lv_iload hx hb dX2_wordAt_52 (lv_at hl 5 rfl) ?_
      refine lv_iconst (v := nI 1) hx hb dX2_wordAt_54 rfl ?_
      refine lv_iadd hx hb dX2_wordAt_55 ?_
      refine lv_istore (lv' := [(5, .int (st + (nI 1))), (0, .ref h), (1, .int x1), (2, .int x2), (3, .int x3), (4, .int x4)]) hx hb dX2_wordAt_56 hl (by decide) rfl (fun ls hl => ?_)
      refine lv_goto (tgt := 20) hx hb dX2_wordAt_58 (by decide) ?_
      cases hf
      exact hk _ _ _ (lv_sub hl [1, 2, 3, 4, 5, 0] rfl) hP hS
set_option maxHeartbeats 4000000 in
theorem fm_wordAt_L94_w {p : Program} {l : Launch} {e : Env} {s : State} {m : MethodId} {args : Array Value} {below : List Frame} {meth : Method} {c : Code} {Q : State → Prop} {D : va_G} {dT : Nat → ClassId} {h : Nat} (E : CallFix p m c cX2_wordAt 6 s args lw_all RX2) (hK : va_K D nwCl (nwT dT) s) (x1 : Int32) (x2 : Int32) (x3 : Int32) (μ : nwM) {st : Int32} {x : Int32} (hw : wh_ (fm_wordAt_L94 x1 x2 x3 μ) st = some x) (hk : (fun x : Int32 => ∀ (ls : Array Slot) (H : Heap) (locs : List Loc), lv_has ls 6 [(0, .ref h), (1, .int x1), (2, .int x2), (3, .int x3), (4, .int x)] → PM D dT h μ H → va_S (mA h) s.heap H locs → W p l e (rmd 0) s m args below meth c H locs 0 0 Q (F0 m 115 ls [])) x) : (fun st : Int32 => ∀ (ls : Array Slot) (H : Heap) (locs : List Loc), lv_has ls 6 [(0, .ref h), (1, .int x1), (2, .int x2), (3, .int x3), (4, .int st)] → PM D dT h μ H → va_S (mA h) s.heap H locs → W p l e (rmd 0) s m args below meth c H locs 0 0 Q (F0 m 94 ls [])) st := by
  obtain ⟨hx, hb, -, hown, hts⟩ := id E
  refine wh_run (P := (fun st : Int32 => ∀ (ls : Array Slot) (H : Heap) (locs : List Loc), lv_has ls 6 [(0, .ref h), (1, .int x1), (2, .int x2), (3, .int x3), (4, .int st)] → PM D dT h μ H → va_S (mA h) s.heap H locs → W p l e (rmd 0) s m args below meth c H locs 0 0 Q (F0 m 94 ls []))) (PE := (fun x : Int32 => ∀ (ls : Array Slot) (H : Heap) (locs : List Loc), lv_has ls 6 [(0, .ref h), (1, .int x1), (2, .int x2), (3, .int x3), (4, .int x)] → PM D dT h μ H → va_S (mA h) s.heap H locs → W p l e (rmd 0) s m args below meth c H locs 0 0 Q (F0 m 115 ls []))) ?_ hw hk
  clear hw hk
  intro st x hf hk ls H locs hl hP hS
  refine lv_aload_n hx hb dX2_wordAt_94 rfl (lv_at hl 0 rfl) ?_
  refine m_ga E hK hP 15 (by decide) rfl q1428 rfl dX2_wordAt_95 ?_
  refine lv_iload hx hb dX2_wordAt_98 (lv_at hl 4 rfl) ?_
  obtain ⟨v8, hv8, hf⟩ := ob hf
  refine m_ald E hK hP (by decide) rfl rfl hv8 dX2_wordAt_100 ?_
  refine lv_bipush (v := nI 32) hx hb dX2_wordAt_101 rfl ?_
  refine lv_icmp_eq (tgt := 115) hx hb dX2_wordAt_103 (by decide) (fun kc9 => ?_) (fun kc9 => ?_)
  · have hf := ite_t kc9 hf
    cases hf
    exact hk _ _ _ (lv_sub hl [0, 1, 2, 3, 4] rfl) hP hS
  · have hf := ite_f kc9 hf
    refine lv_iload hx hb dX2_wordAt_106 (lv_at hl 4 rfl) ?_
    refine lv_iconst (v := nI 1) hx hb dX2_wordAt_108 rfl ?_
    refine lv_iadd hx hb dX2_wordAt_109 ?_
    refine lv_istore (lv' := [(4, .int (st + (nI 1))), (0, .ref h), (1, .int x1), (2, .int x2), (3, .int x3)]) hx hb dX2_wordAt_110 hl (by decide) rfl (fun ls hl => ?_)
    refine lv_goto (tgt := 94) hx hb dX2_wordAt_112 (by decide) ?_
    cases hf
    exact hk _ _ _ (lv_sub hl [1, 2, 3, 4, 0] rfl) hP hS
set_option maxHeartbeats 4000000 in
theorem fm_wordAt_L5_w {p : Program} {l : Launch} {e : Env} {s : State} {m : MethodId} {args : Array Value} {below : List Frame} {meth : Method} {c : Code} {D : va_G} {dT : Nat → ClassId} {h : Nat} (E : CallFix p m c cX2_wordAt 6 s args lw_all RX2) (hK : va_K D nwCl (nwT dT) s) (hr : meth.sig.returnType = (some .int)) (hlk : meth.locks = false) (x1 : Int32) (x2 : Int32) (μ : nwM) {res : Int32} {st : Int32 × Int32} {x : Int32} (hw : wh_ (fm_wordAt_L5 x1 x2 μ) st = some x) (hk : (fun r : Int32 => r = res) x) : (fun st : Int32 × Int32 => ∀ (ls : Array Slot) (H : Heap) (locs : List Loc), lv_has ls 6 [(0, .ref h), (1, .int x1), (2, .int x2), (3, .int st.1), (4, .int st.2)] → PM D dT h μ H → va_S (mA h) s.heap H locs → W p l e (rmd 0) s m args below meth c H locs 0 0 (MQ below (mQi D dT h μ res) args s 0 0 (mA h)) (F0 m 5 ls [])) st := by
  obtain ⟨hx, hb, -, hown, hts⟩ := id E
  refine wh_run (P := (fun st : Int32 × Int32 => ∀ (ls : Array Slot) (H : Heap) (locs : List Loc), lv_has ls 6 [(0, .ref h), (1, .int x1), (2, .int x2), (3, .int st.1), (4, .int st.2)] → PM D dT h μ H → va_S (mA h) s.heap H locs → W p l e (rmd 0) s m args below meth c H locs 0 0 (MQ below (mQi D dT h μ res) args s 0 0 (mA h)) (F0 m 5 ls []))) (PE := (fun r : Int32 => r = res)) ?_ hw hk
  clear hw hk
  intro st x hf hk ls H locs hl hP hS
  refine lv_iload hx hb dX2_wordAt_5 (lv_at hl 4 rfl) ?_
  refine lv_sipush (v := nI 154) hx hb dX2_wordAt_7 rfl ?_
  refine lv_icmp_ge (tgt := 118) hx hb dX2_wordAt_10 (by decide) (fun kc1 => ?_) (fun kc1 => ?_)
  · have hf := ite_t kc1 hf
    refine lv_iconst (v := (-1)) hx hb dX2_wordAt_118 rfl ?_
    cases hf
    have hk : (-1) = res := hk
    subst hk
    exact m_iret E hr hlk hP hS rfl dX2_wordAt_119
  · have hf := ite_f kc1 hf
    refine lv_iconst (v := nI 0) hx hb dX2_wordAt_13 rfl ?_
    refine lv_istore (lv' := [(5, .int (nI 0)), (0, .ref h), (1, .int x1), (2, .int x2), (3, .int st.1), (4, .int st.2)]) hx hb dX2_wordAt_14 hl (by decide) rfl (fun ls hl => ?_)
    refine lv_iload_n hx hb dX2_wordAt_16 rfl (lv_at hl 4 rfl) ?_
    refine lv_iconst (v := nI 1) hx hb dX2_wordAt_17 rfl ?_
    refine lv_iadd hx hb dX2_wordAt_18 ?_
    refine lv_istore_n (lv' := [(3, .int (st.1 + (nI 1))), (5, .int (nI 0)), (0, .ref h), (1, .int x1), (2, .int x2), (4, .int st.2)]) hx hb dX2_wordAt_19 rfl hl (by decide) rfl (fun ls hl => ?_)
    obtain ⟨x6, hx6, hf⟩ := ob hf
    refine fm_wordAt_L20_w E hK x1 x2 (st.1 + (nI 1)) st.2 μ hx6 (fun ls H locs hl hP hS => ?_) _ _ _ (lv_sub hl [2, 3, 4, 0, 5, 1] rfl) hP hS
    refine lv_iload_n hx hb dX2_wordAt_61 rfl (lv_at hl 1 rfl) ?_
    refine lv_iload hx hb dX2_wordAt_62 (lv_at hl 5 rfl) ?_
    refine lv_iadd hx hb dX2_wordAt_64 ?_
    refine lv_iload_n hx hb dX2_wordAt_65 rfl (lv_at hl 2 rfl) ?_
    refine lv_icmp_ne (tgt := 88) hx hb dX2_wordAt_66 (by decide) (fun kc7 => ?_) (fun kc7 => ?_)
    · have hf := ite_f kc7 hf
      refine lv_iload hx hb dX2_wordAt_88 (lv_at hl 4 rfl) ?_
      refine lv_iconst (v := nI 1) hx hb dX2_wordAt_90 rfl ?_
      refine lv_iadd hx hb dX2_wordAt_91 ?_
      refine lv_istore (lv' := [(4, .int (st.2 + (nI 1))), (0, .ref h), (1, .int x1), (2, .int x2), (3, .int (st.1 + (nI 1))), (5, .int x6)]) hx hb dX2_wordAt_92 hl (by decide) rfl (fun ls hl => ?_)
      obtain ⟨x10, hx10, hf⟩ := ob hf
      refine fm_wordAt_L94_w E hK x1 x2 (st.1 + (nI 1)) μ hx10 (fun ls H locs hl hP hS => ?_) _ _ _ (lv_sub hl [1, 2, 3, 4, 0] rfl) hP hS
      refine lv_goto (tgt := 5) hx hb dX2_wordAt_115 (by decide) ?_
      cases hf
      exact hk _ _ _ (lv_sub hl [0, 1, 2, 3, 4] rfl) hP hS
    · have hf := ite_t kc7 hf
      refine lv_aload_n hx hb dX2_wordAt_69 rfl (lv_at hl 0 rfl) ?_
      refine m_ga E hK hP 15 (by decide) rfl q1428 rfl dX2_wordAt_70 ?_
      refine lv_iload hx hb dX2_wordAt_73 (lv_at hl 4 rfl) ?_
      refine lv_iconst (v := nI 1) hx hb dX2_wordAt_75 rfl ?_
      refine lv_iadd hx hb dX2_wordAt_76 ?_
      refine lv_iload hx hb dX2_wordAt_77 (lv_at hl 5 rfl) ?_
      refine lv_iadd hx hb dX2_wordAt_79 ?_
      obtain ⟨v11, hv11, hf⟩ := ob hf
      refine m_ald E hK hP (by decide) rfl rfl hv11 dX2_wordAt_80 ?_
      refine lv_bipush (v := nI 32) hx hb dX2_wordAt_81 rfl ?_
      refine lv_icmp_ne (tgt := 88) hx hb dX2_wordAt_83 (by decide) (fun kc12 => ?_) (fun kc12 => ?_)
      · have hf := ite_f kc12 hf
        refine lv_iload hx hb dX2_wordAt_88 (lv_at hl 4 rfl) ?_
        refine lv_iconst (v := nI 1) hx hb dX2_wordAt_90 rfl ?_
        refine lv_iadd hx hb dX2_wordAt_91 ?_
        refine lv_istore (lv' := [(4, .int (st.2 + (nI 1))), (0, .ref h), (1, .int x1), (2, .int x2), (3, .int (st.1 + (nI 1))), (5, .int x6)]) hx hb dX2_wordAt_92 hl (by decide) rfl (fun ls hl => ?_)
        obtain ⟨x13, hx13, hf⟩ := ob hf
        refine fm_wordAt_L94_w E hK x1 x2 (st.1 + (nI 1)) μ hx13 (fun ls H locs hl hP hS => ?_) _ _ _ (lv_sub hl [1, 2, 3, 4, 0] rfl) hP hS
        refine lv_goto (tgt := 5) hx hb dX2_wordAt_115 (by decide) ?_
        cases hf
        exact hk _ _ _ (lv_sub hl [0, 1, 2, 3, 4] rfl) hP hS
      · have hf := ite_t kc12 hf
        refine lv_iload_n hx hb dX2_wordAt_86 rfl (lv_at hl 3 rfl) ?_
        cases hf
        have hk : st.1 + (nI 1) = res := hk
        subst hk
        exact m_iret E hr hlk hP hS rfl dX2_wordAt_87
set_option maxHeartbeats 4000000 in
theorem dm_wordAt : yX2_wordAt.cls = RX2 ∧ yX2_wordAt.cls ≠ "java/lang/invoke/MethodHandle" ∧ yX2_wordAt.cls ≠ "java/lang/invoke/VarHandle" ∧ (parseMethodDescriptor yX2_wordAt.desc).map (fun d => d.parameters.length) = some 2 := ⟨rfl, by decide +kernel, by decide +kernel, by decide +kernel⟩
set_option maxHeartbeats 4000000 in
theorem tm_wordAt (l : Launch) (D : va_G) (dT : Nat → ClassId) (h : Nat) (x1 : Int32) (x2 : Int32) (μ : nwM) (res : Int32) (hf : fm_wordAt x1 x2 μ = some res) : Met l yX2_wordAt (ws_ yX2_wordAt cX2_wordAt 6 (some .int)) (rmd 0) (mPc D dT h μ [.int x1, .int x2]) (mQi D dT h μ res) 0 0 (mA h) := by
  refine m_met (by decide) rfl (Nat.le_of_ble_eq_true rfl) ?_
  intro p e s m below meth c ls E hK hr hlk hl hP
  have hS : va_S (mA h) s.heap s.heap [] := va_S.rf
  obtain ⟨hx, hb, -, hown, hts⟩ := id E
  have hl : lv_has ls 6 [(0, .ref h), (1, .int x1), (2, .int x2)] := hl
  unfold fm_wordAt at hf
  refine lv_iconst (v := (-1)) hx hb dX2_wordAt_0 rfl ?_
  refine lv_istore_n (lv' := [(3, .int (-1)), (0, .ref h), (1, .int x1), (2, .int x2)]) hx hb dX2_wordAt_1 rfl hl (by decide) rfl (fun ls hl => ?_)
  refine lv_iconst (v := nI 0) hx hb dX2_wordAt_2 rfl ?_
  refine lv_istore (lv' := [(4, .int (nI 0)), (3, .int (-1)), (0, .ref h), (1, .int x1), (2, .int x2)]) hx hb dX2_wordAt_3 hl (by decide) rfl (fun ls hl => ?_)
  exact fm_wordAt_L5_w E hK hr hlk x1 x2 μ hf rfl _ _ _ (lv_sub hl [2, 3, 4, 1, 0] rfl) hP hS
set_option maxHeartbeats 4000000 in
def fm_reads_L0 : nwM → Option ((nwM) ⊕ (nwM)) := fun st => (fm_raw (st 11 0) st).bind fun v2 => (if v2 = (nI 32) then (wf_ st 11 ((st 11 0) + (nI 1))).bind fun μ4 => some (.inl μ4) else (fm_raw (st 11 0) st).bind fun v6 => (if v6 = (nI 10) then (wf_ st 11 ((st 11 0) + (nI 1))).bind fun μ8 => some (.inl μ8) else some (.inr st)))
set_option maxHeartbeats 4000000 in
def fm_reads_L171 : nwM → Option ((nwM) ⊕ (nwM)) := fun st => (fm_raw (st 11 0) st).bind fun v29 => (fm_isDigit v29 st).bind fun v31 => (if v31 = 0 then some (.inr st) else (if (nI 10000) ≤ (st 14 0) then (wf_ st 14 (st 14 0)).bind fun μ34 => (wf_ μ34 11 ((μ34 11 0) + (nI 1))).bind fun μ35 => some (.inl μ35) else (fm_raw (st 11 0) st).bind fun v37 => (wf_ st 14 ((((nI 10) * (st 14 0)) + v37) - (nI 48))).bind fun μ38 => (wf_ μ38 11 ((μ38 11 0) + (nI 1))).bind fun μ39 => some (.inl μ39)))
set_option maxHeartbeats 4000000 in
def fm_reads_L95 : nwM → Option ((nwM) ⊕ (nwM)) := fun st => (fm_raw (st 11 0) st).bind fun v44 => (fm_isLetter v44 st).bind fun v46 => (if v46 = 0 then some (.inr st) else (wf_ st 11 ((st 11 0) + (nI 1))).bind fun μ48 => some (.inl μ48))
set_option maxHeartbeats 4000000 in
noncomputable def fm_reads (μ : nwM) : Option (nwM) := (wh_ (fm_reads_L0) μ).bind fun x9 => (wf_ x9 12 (x9 11 0)).bind fun μ10 => (wf_ μ10 13 (nI 1)).bind fun μ11 => (fm_raw (μ11 11 0) μ11).bind fun v13 => (if v13 = (-1) then (wf_ μ11 13 (nI 0)).bind fun μ55 => some μ55 else (wf_ μ11 11 ((μ11 11 0) + (nI 1))).bind fun μ15 => (wf_ μ15 14 v13).bind fun μ16 => (fm_isLetter v13 μ16).bind fun v18 => (if v18 = 0 then (fm_isDigit v13 μ16).bind fun v21 => (if v21 = 0 then (fm_isMarkSign v13 μ16).bind fun v24 => (if v24 = 0 then some μ16 else (wf_ μ16 13 (nI 4)).bind fun μ26 => some μ26) else (wf_ μ16 14 (v13 - (nI 48))).bind fun μ27 => (wh_ (fm_reads_L171) μ27).bind fun x40 => (if (nI 5) ≤ ((x40 11 0) - (x40 12 0)) then some x40 else (wf_ x40 13 (nI 3)).bind fun μ42 => some μ42)) else (wh_ (fm_reads_L95) μ16).bind fun x49 => (fm_wordAt (x49 12 0) (x49 11 0) x49).bind fun v51 => (wf_ x49 14 v51).bind fun μ52 => (if (μ52 14 0) = (-1) then some μ52 else (wf_ μ52 13 (nI 2)).bind fun μ54 => some μ54)))
set_option maxHeartbeats 4000000 in
theorem fm_reads_L0_w {p : Program} {l : Launch} {e : Env} {s : State} {m : MethodId} {args : Array Value} {below : List Frame} {meth : Method} {c : Code} {Q : State → Prop} {D : va_G} {dT : Nat → ClassId} {h : Nat} (E : CallFix p m c cX2_reads 2 s args lw_all RX2) (hK : va_K D nwCl (nwT dT) s) {st : nwM} {x : nwM} (hw : wh_ (fm_reads_L0) st = some x) (hk : (fun x : nwM => ∀ (ls : Array Slot) (H : Heap) (locs : List Loc), lv_has ls 2 [(0, .ref h)] → PM D dT h x H → va_S (mA h) s.heap H locs → W p l e (rmd 2) s m args below meth c H locs 0 0 Q (F0 m 39 ls [])) x) : (fun st : nwM => ∀ (ls : Array Slot) (H : Heap) (locs : List Loc), lv_has ls 2 [(0, .ref h)] → PM D dT h st H → va_S (mA h) s.heap H locs → W p l e (rmd 2) s m args below meth c H locs 0 0 Q (F0 m 0 ls [])) st := by
  obtain ⟨hx, hb, -, hown, hts⟩ := id E
  refine wh_run (P := (fun st : nwM => ∀ (ls : Array Slot) (H : Heap) (locs : List Loc), lv_has ls 2 [(0, .ref h)] → PM D dT h st H → va_S (mA h) s.heap H locs → W p l e (rmd 2) s m args below meth c H locs 0 0 Q (F0 m 0 ls []))) (PE := (fun x : nwM => ∀ (ls : Array Slot) (H : Heap) (locs : List Loc), lv_has ls 2 [(0, .ref h)] → PM D dT h x H → va_S (mA h) s.heap H locs → W p l e (rmd 2) s m args below meth c H locs 0 0 Q (F0 m 39 ls []))) ?_ hw hk
  clear hw hk
  intro st x hf hk ls H locs hl hP hS
  refine lv_aload_n hx hb dX2_reads_0 rfl (lv_at hl 0 rfl) ?_
  refine lv_aload_n hx hb dX2_reads_1 rfl (lv_at hl 0 rfl) ?_
  refine m_get E hK hP 11 (by decide) rfl q1424 rfl dX2_reads_2 ?_
  obtain ⟨v2, hc1, hf⟩ := ob hf
  refine m_calli E hK hP hS (As := [.int (st 11 0)]) (tm_raw l D dT h (st 11 0) st _ hc1) (lw_V q1629 q1631 qs67 q166 q1632) dm_raw rfl (by decide) (by decide) hl rfl (Nat.le_of_ble_eq_true rfl) dX2_reads_5 (fun H locs hP hS => ?_)
  refine lv_bipush (v := nI 32) hx hb dX2_reads_8 rfl ?_
  refine lv_icmp_eq (tgt := 26) hx hb dX2_reads_10 (by decide) (fun kc3 => ?_) (fun kc3 => ?_)
  · have hf := ite_t kc3 hf
    refine lv_aload_n hx hb dX2_reads_26 rfl (lv_at hl 0 rfl) ?_
    refine lv_aload_n hx hb dX2_reads_27 rfl (lv_at hl 0 rfl) ?_
    refine m_get E hK hP 11 (by decide) rfl q1424 rfl dX2_reads_28 ?_
    refine lv_iconst (v := nI 1) hx hb dX2_reads_31 rfl ?_
    refine lv_iadd hx hb dX2_reads_32 ?_
    obtain ⟨μ4, hμ4, hf⟩ := ob hf
    refine m_put E hK hP hS 11 (by decide) rfl q1424 rfl rfl rfl hμ4 dX2_reads_33 (fun H locs hP hS => ?_)
    refine lv_goto (tgt := 0) hx hb dX2_reads_36 (by decide) ?_
    cases hf
    exact hk _ _ _ (lv_sub hl [0] rfl) hP hS
  · have hf := ite_f kc3 hf
    refine lv_aload_n hx hb dX2_reads_13 rfl (lv_at hl 0 rfl) ?_
    refine lv_aload_n hx hb dX2_reads_14 rfl (lv_at hl 0 rfl) ?_
    refine m_get E hK hP 11 (by decide) rfl q1424 rfl dX2_reads_15 ?_
    obtain ⟨v6, hc5, hf⟩ := ob hf
    refine m_calli E hK hP hS (As := [.int (st 11 0)]) (tm_raw l D dT h (st 11 0) st _ hc5) (lw_V q1629 q1631 qs67 q166 q1632) dm_raw rfl (by decide) (by decide) hl rfl (Nat.le_of_ble_eq_true rfl) dX2_reads_18 (fun H locs hP hS => ?_)
    refine lv_bipush (v := nI 10) hx hb dX2_reads_21 rfl ?_
    refine lv_icmp_ne (tgt := 39) hx hb dX2_reads_23 (by decide) (fun kc7 => ?_) (fun kc7 => ?_)
    · have hf := ite_f kc7 hf
      cases hf
      exact hk _ _ _ (lv_sub hl [0] rfl) hP hS
    · have hf := ite_t kc7 hf
      refine lv_aload_n hx hb dX2_reads_26 rfl (lv_at hl 0 rfl) ?_
      refine lv_aload_n hx hb dX2_reads_27 rfl (lv_at hl 0 rfl) ?_
      refine m_get E hK hP 11 (by decide) rfl q1424 rfl dX2_reads_28 ?_
      refine lv_iconst (v := nI 1) hx hb dX2_reads_31 rfl ?_
      refine lv_iadd hx hb dX2_reads_32 ?_
      obtain ⟨μ8, hμ8, hf⟩ := ob hf
      refine m_put E hK hP hS 11 (by decide) rfl q1424 rfl rfl rfl hμ8 dX2_reads_33 (fun H locs hP hS => ?_)
      refine lv_goto (tgt := 0) hx hb dX2_reads_36 (by decide) ?_
      cases hf
      exact hk _ _ _ (lv_sub hl [0] rfl) hP hS
set_option maxHeartbeats 4000000 in
theorem fm_reads_L171_w {p : Program} {l : Launch} {e : Env} {s : State} {m : MethodId} {args : Array Value} {below : List Frame} {meth : Method} {c : Code} {Q : State → Prop} {D : va_G} {dT : Nat → ClassId} {h : Nat} (E : CallFix p m c cX2_reads 2 s args lw_all RX2) (hK : va_K D nwCl (nwT dT) s) {st : nwM} {x : nwM} (hw : wh_ (fm_reads_L171) st = some x) (hk : (fun x : nwM => ∀ (ls : Array Slot) (H : Heap) (locs : List Loc), lv_has ls 2 [(0, .ref h)] → PM D dT h x H → va_S (mA h) s.heap H locs → W p l e (rmd 2) s m args below meth c H locs 0 0 Q (F0 m 239 ls [])) x) : (fun st : nwM => ∀ (ls : Array Slot) (H : Heap) (locs : List Loc), lv_has ls 2 [(0, .ref h)] → PM D dT h st H → va_S (mA h) s.heap H locs → W p l e (rmd 2) s m args below meth c H locs 0 0 Q (F0 m 171 ls [])) st := by
  obtain ⟨hx, hb, -, hown, hts⟩ := id E
  refine wh_run (P := (fun st : nwM => ∀ (ls : Array Slot) (H : Heap) (locs : List Loc), lv_has ls 2 [(0, .ref h)] → PM D dT h st H → va_S (mA h) s.heap H locs → W p l e (rmd 2) s m args below meth c H locs 0 0 Q (F0 m 171 ls []))) (PE := (fun x : nwM => ∀ (ls : Array Slot) (H : Heap) (locs : List Loc), lv_has ls 2 [(0, .ref h)] → PM D dT h x H → va_S (mA h) s.heap H locs → W p l e (rmd 2) s m args below meth c H locs 0 0 Q (F0 m 239 ls []))) ?_ hw hk
  clear hw hk
  intro st x hf hk ls H locs hl hP hS
  refine lv_aload_n hx hb dX2_reads_171 rfl (lv_at hl 0 rfl) ?_
  refine lv_aload_n hx hb dX2_reads_172 rfl (lv_at hl 0 rfl) ?_
  refine lv_aload_n hx hb dX2_reads_173 rfl (lv_at hl 0 rfl) ?_
  refine m_get E hK hP 11 (by decide) rfl q1424 rfl dX2_reads_174 ?_
  obtain ⟨v29, hc28, hf⟩ := ob hf
  refine m_calli E hK hP hS (As := [.int (st 11 0)]) (tm_raw l D dT h (st 11 0) st _ hc28) (lw_V q1629 q1631 qs67 q166 q1632) dm_raw rfl (by decide) (by decide) hl rfl (Nat.le_of_ble_eq_true rfl) dX2_reads_177 (fun H locs hP hS => ?_)
  obtain ⟨v31, hc30, hf⟩ := ob hf
  refine m_calli E hK hP hS (As := [.int v29]) (tm_isDigit l D dT h v29 st _ hc30) (lw_V q1641 q1643 qs70 q166 q1644) dm_isDigit rfl (by decide) (by decide) hl rfl (Nat.le_of_ble_eq_true rfl) dX2_reads_180 (fun H locs hP hS => ?_)
  refine lv_if_eq (tgt := 239) hx hb dX2_reads_183 (by decide) (fun kc32 => ?_) (fun kc32 => ?_)
  · have hf := ite_t kc32 hf
    cases hf
    exact hk _ _ _ (lv_sub hl [0] rfl) hP hS
  · have hf := ite_f kc32 hf
    refine lv_aload_n hx hb dX2_reads_186 rfl (lv_at hl 0 rfl) ?_
    refine lv_aload_n hx hb dX2_reads_187 rfl (lv_at hl 0 rfl) ?_
    refine m_get E hK hP 14 (by decide) rfl q1427 rfl dX2_reads_188 ?_
    refine lv_sipush (v := nI 10000) hx hb dX2_reads_191 rfl ?_
    refine lv_icmp_ge (tgt := 219) hx hb dX2_reads_194 (by decide) (fun kc33 => ?_) (fun kc33 => ?_)
    · have hf := ite_t kc33 hf
      refine lv_aload_n hx hb dX2_reads_219 rfl (lv_at hl 0 rfl) ?_
      refine m_get E hK hP 14 (by decide) rfl q1427 rfl dX2_reads_220 ?_
      obtain ⟨μ34, hμ34, hf⟩ := ob hf
      refine m_put E hK hP hS 14 (by decide) rfl q1427 rfl rfl rfl hμ34 dX2_reads_223 (fun H locs hP hS => ?_)
      refine lv_aload_n hx hb dX2_reads_226 rfl (lv_at hl 0 rfl) ?_
      refine lv_aload_n hx hb dX2_reads_227 rfl (lv_at hl 0 rfl) ?_
      refine m_get E hK hP 11 (by decide) rfl q1424 rfl dX2_reads_228 ?_
      refine lv_iconst (v := nI 1) hx hb dX2_reads_231 rfl ?_
      refine lv_iadd hx hb dX2_reads_232 ?_
      obtain ⟨μ35, hμ35, hf⟩ := ob hf
      refine m_put E hK hP hS 11 (by decide) rfl q1424 rfl rfl rfl hμ35 dX2_reads_233 (fun H locs hP hS => ?_)
      refine lv_goto (tgt := 171) hx hb dX2_reads_236 (by decide) ?_
      cases hf
      exact hk _ _ _ (lv_sub hl [0] rfl) hP hS
    · have hf := ite_f kc33 hf
      refine lv_bipush (v := nI 10) hx hb dX2_reads_197 rfl ?_
      refine lv_aload_n hx hb dX2_reads_199 rfl (lv_at hl 0 rfl) ?_
      refine m_get E hK hP 14 (by decide) rfl q1427 rfl dX2_reads_200 ?_
      refine lv_imul hx hb dX2_reads_203 ?_
      refine lv_aload_n hx hb dX2_reads_204 rfl (lv_at hl 0 rfl) ?_
      refine lv_aload_n hx hb dX2_reads_205 rfl (lv_at hl 0 rfl) ?_
      refine m_get E hK hP 11 (by decide) rfl q1424 rfl dX2_reads_206 ?_
      obtain ⟨v37, hc36, hf⟩ := ob hf
      refine m_calli E hK hP hS (As := [.int (st 11 0)]) (tm_raw l D dT h (st 11 0) st _ hc36) (lw_V q1629 q1631 qs67 q166 q1632) dm_raw rfl (by decide) (by decide) hl rfl (Nat.le_of_ble_eq_true rfl) dX2_reads_209 (fun H locs hP hS => ?_)
      refine lv_iadd hx hb dX2_reads_212 ?_
      refine lv_bipush (v := nI 48) hx hb dX2_reads_213 rfl ?_
      refine lv_isub hx hb dX2_reads_215 ?_
      refine lv_goto (tgt := 223) hx hb dX2_reads_216 (by decide) ?_
      obtain ⟨μ38, hμ38, hf⟩ := ob hf
      refine m_put E hK hP hS 14 (by decide) rfl q1427 rfl rfl rfl hμ38 dX2_reads_223 (fun H locs hP hS => ?_)
      refine lv_aload_n hx hb dX2_reads_226 rfl (lv_at hl 0 rfl) ?_
      refine lv_aload_n hx hb dX2_reads_227 rfl (lv_at hl 0 rfl) ?_
      refine m_get E hK hP 11 (by decide) rfl q1424 rfl dX2_reads_228 ?_
      refine lv_iconst (v := nI 1) hx hb dX2_reads_231 rfl ?_
      refine lv_iadd hx hb dX2_reads_232 ?_
      obtain ⟨μ39, hμ39, hf⟩ := ob hf
      refine m_put E hK hP hS 11 (by decide) rfl q1424 rfl rfl rfl hμ39 dX2_reads_233 (fun H locs hP hS => ?_)
      refine lv_goto (tgt := 171) hx hb dX2_reads_236 (by decide) ?_
      cases hf
      exact hk _ _ _ (lv_sub hl [0] rfl) hP hS
set_option maxHeartbeats 4000000 in
theorem fm_reads_L95_w {p : Program} {l : Launch} {e : Env} {s : State} {m : MethodId} {args : Array Value} {below : List Frame} {meth : Method} {c : Code} {Q : State → Prop} {D : va_G} {dT : Nat → ClassId} {h : Nat} (E : CallFix p m c cX2_reads 2 s args lw_all RX2) (hK : va_K D nwCl (nwT dT) s) {st : nwM} {x : nwM} (hw : wh_ (fm_reads_L95) st = some x) (hk : (fun x : nwM => ∀ (ls : Array Slot) (H : Heap) (locs : List Loc), lv_has ls 2 [(0, .ref h)] → PM D dT h x H → va_S (mA h) s.heap H locs → W p l e (rmd 2) s m args below meth c H locs 0 0 Q (F0 m 123 ls [])) x) : (fun st : nwM => ∀ (ls : Array Slot) (H : Heap) (locs : List Loc), lv_has ls 2 [(0, .ref h)] → PM D dT h st H → va_S (mA h) s.heap H locs → W p l e (rmd 2) s m args below meth c H locs 0 0 Q (F0 m 95 ls [])) st := by
  obtain ⟨hx, hb, -, hown, hts⟩ := id E
  refine wh_run (P := (fun st : nwM => ∀ (ls : Array Slot) (H : Heap) (locs : List Loc), lv_has ls 2 [(0, .ref h)] → PM D dT h st H → va_S (mA h) s.heap H locs → W p l e (rmd 2) s m args below meth c H locs 0 0 Q (F0 m 95 ls []))) (PE := (fun x : nwM => ∀ (ls : Array Slot) (H : Heap) (locs : List Loc), lv_has ls 2 [(0, .ref h)] → PM D dT h x H → va_S (mA h) s.heap H locs → W p l e (rmd 2) s m args below meth c H locs 0 0 Q (F0 m 123 ls []))) ?_ hw hk
  clear hw hk
  intro st x hf hk ls H locs hl hP hS
  refine lv_aload_n hx hb dX2_reads_95 rfl (lv_at hl 0 rfl) ?_
  refine lv_aload_n hx hb dX2_reads_96 rfl (lv_at hl 0 rfl) ?_
  refine lv_aload_n hx hb dX2_reads_97 rfl (lv_at hl 0 rfl) ?_
  refine m_get E hK hP 11 (by decide) rfl q1424 rfl dX2_reads_98 ?_
  obtain ⟨v44, hc43, hf⟩ := ob hf
  refine m_calli E hK hP hS (As := [.int (st 11 0)]) (tm_raw l D dT h (st 11 0) st _ hc43) (lw_V q1629 q1631 qs67 q166 q1632) dm_raw rfl (by decide) (by decide) hl rfl (Nat.le_of_ble_eq_true rfl) dX2_reads_101 (fun H locs hP hS => ?_)
  obtain ⟨v46, hc45, hf⟩ := ob hf
  refine m_calli E hK hP hS (As := [.int v44]) (tm_isLetter l D dT h v44 st _ hc45) (lw_V q1633 q1635 qs68 q166 q1636) dm_isLetter rfl (by decide) (by decide) hl rfl (Nat.le_of_ble_eq_true rfl) dX2_reads_104 (fun H locs hP hS => ?_)
  refine lv_if_eq (tgt := 123) hx hb dX2_reads_107 (by decide) (fun kc47 => ?_) (fun kc47 => ?_)
  · have hf := ite_t kc47 hf
    cases hf
    exact hk _ _ _ (lv_sub hl [0] rfl) hP hS
  · have hf := ite_f kc47 hf
    refine lv_aload_n hx hb dX2_reads_110 rfl (lv_at hl 0 rfl) ?_
    refine lv_aload_n hx hb dX2_reads_111 rfl (lv_at hl 0 rfl) ?_
    refine m_get E hK hP 11 (by decide) rfl q1424 rfl dX2_reads_112 ?_
    refine lv_iconst (v := nI 1) hx hb dX2_reads_115 rfl ?_
    refine lv_iadd hx hb dX2_reads_116 ?_
    obtain ⟨μ48, hμ48, hf⟩ := ob hf
    refine m_put E hK hP hS 11 (by decide) rfl q1424 rfl rfl rfl hμ48 dX2_reads_117 (fun H locs hP hS => ?_)
    refine lv_goto (tgt := 95) hx hb dX2_reads_120 (by decide) ?_
    cases hf
    exact hk _ _ _ (lv_sub hl [0] rfl) hP hS
set_option maxHeartbeats 4000000 in
theorem dm_reads : yX2_reads.cls = RX2 ∧ yX2_reads.cls ≠ "java/lang/invoke/MethodHandle" ∧ yX2_reads.cls ≠ "java/lang/invoke/VarHandle" ∧ (parseMethodDescriptor yX2_reads.desc).map (fun d => d.parameters.length) = some 0 := ⟨rfl, by decide +kernel, by decide +kernel, by decide +kernel⟩
set_option maxHeartbeats 4000000 in
theorem tm_reads (l : Launch) (D : va_G) (dT : Nat → ClassId) (h : Nat) (μ : nwM) (res : nwM) (hf : fm_reads μ = some res) : Met l yX2_reads (ws_ yX2_reads cX2_reads 2 none) (rmd 2) (mPc D dT h μ []) (mQv D dT h res) 0 0 (mA h) := by
  refine m_met (by decide) rfl (Nat.le_of_ble_eq_true rfl) ?_
  intro p e s m below meth c ls E hK hr hlk hl hP
  have hS : va_S (mA h) s.heap s.heap [] := va_S.rf
  obtain ⟨hx, hb, -, hown, hts⟩ := id E
  have hl : lv_has ls 2 [(0, .ref h)] := hl
  unfold fm_reads at hf
  obtain ⟨x9, hx9, hf⟩ := ob hf
  refine fm_reads_L0_w E hK hx9 (fun ls H locs hl hP hS => ?_) _ _ _ (lv_sub hl [0] rfl) hP hS
  refine lv_aload_n hx hb dX2_reads_39 rfl (lv_at hl 0 rfl) ?_
  refine lv_aload_n hx hb dX2_reads_40 rfl (lv_at hl 0 rfl) ?_
  refine m_get E hK hP 11 (by decide) rfl q1424 rfl dX2_reads_41 ?_
  obtain ⟨μ10, hμ10, hf⟩ := ob hf
  refine m_put E hK hP hS 12 (by decide) rfl q1425 rfl rfl rfl hμ10 dX2_reads_44 (fun H locs hP hS => ?_)
  refine lv_aload_n hx hb dX2_reads_47 rfl (lv_at hl 0 rfl) ?_
  refine lv_iconst (v := nI 1) hx hb dX2_reads_48 rfl ?_
  obtain ⟨μ11, hμ11, hf⟩ := ob hf
  refine m_put E hK hP hS 13 (by decide) rfl q1426 rfl rfl rfl hμ11 dX2_reads_49 (fun H locs hP hS => ?_)
  refine lv_aload_n hx hb dX2_reads_52 rfl (lv_at hl 0 rfl) ?_
  refine lv_aload_n hx hb dX2_reads_53 rfl (lv_at hl 0 rfl) ?_
  refine m_get E hK hP 11 (by decide) rfl q1424 rfl dX2_reads_54 ?_
  obtain ⟨v13, hc12, hf⟩ := ob hf
  refine m_calli E hK hP hS (As := [.int (μ11 11 0)]) (tm_raw l D dT h (μ11 11 0) μ11 _ hc12) (lw_V q1629 q1631 qs67 q166 q1632) dm_raw rfl (by decide) (by decide) hl rfl (Nat.le_of_ble_eq_true rfl) dX2_reads_57 (fun H locs hP hS => ?_)
  refine lv_istore_n (lv' := [(1, .int v13), (0, .ref h)]) hx hb dX2_reads_60 rfl hl (by decide) rfl (fun ls hl => ?_)
  refine lv_iload_n hx hb dX2_reads_61 rfl (lv_at hl 0 rfl) ?_
  refine lv_iconst (v := (-1)) hx hb dX2_reads_62 rfl ?_
  refine lv_icmp_ne (tgt := 72) hx hb dX2_reads_63 (by decide) (fun kc14 => ?_) (fun kc14 => ?_)
  · have hf := ite_f kc14 hf
    refine lv_aload_n hx hb dX2_reads_72 rfl (lv_at hl 1 rfl) ?_
    refine lv_aload_n hx hb dX2_reads_73 rfl (lv_at hl 1 rfl) ?_
    refine m_get E hK hP 11 (by decide) rfl q1424 rfl dX2_reads_74 ?_
    refine lv_iconst (v := nI 1) hx hb dX2_reads_77 rfl ?_
    refine lv_iadd hx hb dX2_reads_78 ?_
    obtain ⟨μ15, hμ15, hf⟩ := ob hf
    refine m_put E hK hP hS 11 (by decide) rfl q1424 rfl rfl rfl hμ15 dX2_reads_79 (fun H locs hP hS => ?_)
    refine lv_aload_n hx hb dX2_reads_82 rfl (lv_at hl 1 rfl) ?_
    refine lv_iload_n hx hb dX2_reads_83 rfl (lv_at hl 0 rfl) ?_
    obtain ⟨μ16, hμ16, hf⟩ := ob hf
    refine m_put E hK hP hS 14 (by decide) rfl q1427 rfl rfl rfl hμ16 dX2_reads_84 (fun H locs hP hS => ?_)
    refine lv_aload_n hx hb dX2_reads_87 rfl (lv_at hl 1 rfl) ?_
    refine lv_iload_n hx hb dX2_reads_88 rfl (lv_at hl 0 rfl) ?_
    obtain ⟨v18, hc17, hf⟩ := ob hf
    refine m_calli E hK hP hS (As := [.int v13]) (tm_isLetter l D dT h v13 μ16 _ hc17) (lw_V q1633 q1635 qs68 q166 q1636) dm_isLetter rfl (by decide) (by decide) hl rfl (Nat.le_of_ble_eq_true rfl) dX2_reads_89 (fun H locs hP hS => ?_)
    refine lv_if_eq (tgt := 155) hx hb dX2_reads_92 (by decide) (fun kc19 => ?_) (fun kc19 => ?_)
    · have hf := ite_t kc19 hf
      refine lv_aload_n hx hb dX2_reads_155 rfl (lv_at hl 1 rfl) ?_
      refine lv_iload_n hx hb dX2_reads_156 rfl (lv_at hl 0 rfl) ?_
      obtain ⟨v21, hc20, hf⟩ := ob hf
      refine m_calli E hK hP hS (As := [.int v13]) (tm_isDigit l D dT h v13 μ16 _ hc20) (lw_V q1641 q1643 qs70 q166 q1644) dm_isDigit rfl (by decide) (by decide) hl rfl (Nat.le_of_ble_eq_true rfl) dX2_reads_157 (fun H locs hP hS => ?_)
      refine lv_if_eq (tgt := 260) hx hb dX2_reads_160 (by decide) (fun kc22 => ?_) (fun kc22 => ?_)
      · have hf := ite_t kc22 hf
        refine lv_aload_n hx hb dX2_reads_260 rfl (lv_at hl 1 rfl) ?_
        refine lv_iload_n hx hb dX2_reads_261 rfl (lv_at hl 0 rfl) ?_
        obtain ⟨v24, hc23, hf⟩ := ob hf
        refine m_calli E hK hP hS (As := [.int v13]) (tm_isMarkSign l D dT h v13 μ16 _ hc23) (lw_V q1645 q1647 qs71 q166 q1648) dm_isMarkSign rfl (by decide) (by decide) hl rfl (Nat.le_of_ble_eq_true rfl) dX2_reads_262 (fun H locs hP hS => ?_)
        refine lv_if_eq (tgt := 273) hx hb dX2_reads_265 (by decide) (fun kc25 => ?_) (fun kc25 => ?_)
        · have hf := ite_t kc25 hf
          cases hf
          exact m_vret E hr hlk hP hS dX2_reads_273
        · have hf := ite_f kc25 hf
          refine lv_aload_n hx hb dX2_reads_268 rfl (lv_at hl 1 rfl) ?_
          refine lv_iconst (v := nI 4) hx hb dX2_reads_269 rfl ?_
          obtain ⟨μ26, hμ26, hf⟩ := ob hf
          refine m_put E hK hP hS 13 (by decide) rfl q1426 rfl rfl rfl hμ26 dX2_reads_270 (fun H locs hP hS => ?_)
          cases hf
          exact m_vret E hr hlk hP hS dX2_reads_273
      · have hf := ite_f kc22 hf
        refine lv_aload_n hx hb dX2_reads_163 rfl (lv_at hl 1 rfl) ?_
        refine lv_iload_n hx hb dX2_reads_164 rfl (lv_at hl 0 rfl) ?_
        refine lv_bipush (v := nI 48) hx hb dX2_reads_165 rfl ?_
        refine lv_isub hx hb dX2_reads_167 ?_
        obtain ⟨μ27, hμ27, hf⟩ := ob hf
        refine m_put E hK hP hS 14 (by decide) rfl q1427 rfl rfl rfl hμ27 dX2_reads_168 (fun H locs hP hS => ?_)
        obtain ⟨x40, hx40, hf⟩ := ob hf
        refine fm_reads_L171_w E hK hx40 (fun ls H locs hl hP hS => ?_) _ _ _ (lv_sub hl [1] rfl) hP hS
        refine lv_aload_n hx hb dX2_reads_239 rfl (lv_at hl 0 rfl) ?_
        refine m_get E hK hP 11 (by decide) rfl q1424 rfl dX2_reads_240 ?_
        refine lv_aload_n hx hb dX2_reads_243 rfl (lv_at hl 0 rfl) ?_
        refine m_get E hK hP 12 (by decide) rfl q1425 rfl dX2_reads_244 ?_
        refine lv_isub hx hb dX2_reads_247 ?_
        refine lv_iconst (v := nI 5) hx hb dX2_reads_248 rfl ?_
        refine lv_icmp_ge (tgt := 273) hx hb dX2_reads_249 (by decide) (fun kc41 => ?_) (fun kc41 => ?_)
        · have hf := ite_t kc41 hf
          cases hf
          exact m_vret E hr hlk hP hS dX2_reads_273
        · have hf := ite_f kc41 hf
          refine lv_aload_n hx hb dX2_reads_252 rfl (lv_at hl 0 rfl) ?_
          refine lv_iconst (v := nI 3) hx hb dX2_reads_253 rfl ?_
          obtain ⟨μ42, hμ42, hf⟩ := ob hf
          refine m_put E hK hP hS 13 (by decide) rfl q1426 rfl rfl rfl hμ42 dX2_reads_254 (fun H locs hP hS => ?_)
          refine lv_goto (tgt := 273) hx hb dX2_reads_257 (by decide) ?_
          cases hf
          exact m_vret E hr hlk hP hS dX2_reads_273
    · have hf := ite_f kc19 hf
      obtain ⟨x49, hx49, hf⟩ := ob hf
      refine fm_reads_L95_w E hK hx49 (fun ls H locs hl hP hS => ?_) _ _ _ (lv_sub hl [1] rfl) hP hS
      refine lv_aload_n hx hb dX2_reads_123 rfl (lv_at hl 0 rfl) ?_
      refine lv_aload_n hx hb dX2_reads_124 rfl (lv_at hl 0 rfl) ?_
      refine lv_aload_n hx hb dX2_reads_125 rfl (lv_at hl 0 rfl) ?_
      refine m_get E hK hP 12 (by decide) rfl q1425 rfl dX2_reads_126 ?_
      refine lv_aload_n hx hb dX2_reads_129 rfl (lv_at hl 0 rfl) ?_
      refine m_get E hK hP 11 (by decide) rfl q1424 rfl dX2_reads_130 ?_
      obtain ⟨v51, hc50, hf⟩ := ob hf
      refine m_calli E hK hP hS (As := [.int (x49 12 0), .int (x49 11 0)]) (tm_wordAt l D dT h (x49 12 0) (x49 11 0) x49 _ hc50) (lw_V q1637 q1639 qs69 q166 q1640) dm_wordAt rfl (by decide) (by decide) hl rfl (Nat.le_of_ble_eq_true rfl) dX2_reads_133 (fun H locs hP hS => ?_)
      obtain ⟨μ52, hμ52, hf⟩ := ob hf
      refine m_put E hK hP hS 14 (by decide) rfl q1427 rfl rfl rfl hμ52 dX2_reads_136 (fun H locs hP hS => ?_)
      refine lv_aload_n hx hb dX2_reads_139 rfl (lv_at hl 0 rfl) ?_
      refine m_get E hK hP 14 (by decide) rfl q1427 rfl dX2_reads_140 ?_
      refine lv_iconst (v := (-1)) hx hb dX2_reads_143 rfl ?_
      refine lv_icmp_eq (tgt := 273) hx hb dX2_reads_144 (by decide) (fun kc53 => ?_) (fun kc53 => ?_)
      · have hf := ite_t kc53 hf
        cases hf
        exact m_vret E hr hlk hP hS dX2_reads_273
      · have hf := ite_f kc53 hf
        refine lv_aload_n hx hb dX2_reads_147 rfl (lv_at hl 0 rfl) ?_
        refine lv_iconst (v := nI 2) hx hb dX2_reads_148 rfl ?_
        obtain ⟨μ54, hμ54, hf⟩ := ob hf
        refine m_put E hK hP hS 13 (by decide) rfl q1426 rfl rfl rfl hμ54 dX2_reads_149 (fun H locs hP hS => ?_)
        refine lv_goto (tgt := 273) hx hb dX2_reads_152 (by decide) ?_
        cases hf
        exact m_vret E hr hlk hP hS dX2_reads_273
  · have hf := ite_t kc14 hf
    refine lv_aload_n hx hb dX2_reads_66 rfl (lv_at hl 1 rfl) ?_
    refine lv_iconst (v := nI 0) hx hb dX2_reads_67 rfl ?_
    obtain ⟨μ55, hμ55, hf⟩ := ob hf
    refine m_put E hK hP hS 13 (by decide) rfl q1426 rfl rfl rfl hμ55 dX2_reads_68 (fun H locs hP hS => ?_)
    cases hf
    exact m_vret E hr hlk hP hS dX2_reads_71
set_option maxHeartbeats 4000000 in
def fm_errs (x1 : Int32) (μ : nwM) : Option (Int32 × nwM) := (wf_ μ 28 x1).bind fun μ1 => (wf_ μ1 29 (μ1 12 0)).bind fun μ2 => some ((-1), μ2)
set_option maxHeartbeats 4000000 in
theorem dm_errs : yX2_errs.cls = RX2 ∧ yX2_errs.cls ≠ "java/lang/invoke/MethodHandle" ∧ yX2_errs.cls ≠ "java/lang/invoke/VarHandle" ∧ (parseMethodDescriptor yX2_errs.desc).map (fun d => d.parameters.length) = some 1 := ⟨rfl, by decide +kernel, by decide +kernel, by decide +kernel⟩
set_option maxHeartbeats 4000000 in
theorem tm_errs (l : Launch) (D : va_G) (dT : Nat → ClassId) (h : Nat) (x1 : Int32) (μ : nwM) (res : Int32 × nwM) (hf : fm_errs x1 μ = some res) : Met l yX2_errs (ws_ yX2_errs cX2_errs 2 (some .int)) (rmd 0) (mPc D dT h μ [.int x1]) (mQi D dT h res.2 res.1) 0 0 (mA h) := by
  refine m_met (by decide) rfl (Nat.le_of_ble_eq_true rfl) ?_
  intro p e s m below meth c ls E hK hr hlk hl hP
  have hS : va_S (mA h) s.heap s.heap [] := va_S.rf
  obtain ⟨hx, hb, -, hown, hts⟩ := id E
  have hl : lv_has ls 2 [(0, .ref h), (1, .int x1)] := hl
  unfold fm_errs at hf
  refine lv_aload_n hx hb dX2_errs_0 rfl (lv_at hl 0 rfl) ?_
  refine lv_iload_n hx hb dX2_errs_1 rfl (lv_at hl 1 rfl) ?_
  obtain ⟨μ1, hμ1, hf⟩ := ob hf
  refine m_put E hK hP hS 28 (by decide) rfl q1441 rfl rfl rfl hμ1 dX2_errs_2 (fun H locs hP hS => ?_)
  refine lv_aload_n hx hb dX2_errs_5 rfl (lv_at hl 0 rfl) ?_
  refine lv_aload_n hx hb dX2_errs_6 rfl (lv_at hl 0 rfl) ?_
  refine m_get E hK hP 12 (by decide) rfl q1425 rfl dX2_errs_7 ?_
  obtain ⟨μ2, hμ2, hf⟩ := ob hf
  refine m_put E hK hP hS 29 (by decide) rfl q1442 rfl rfl rfl hμ2 dX2_errs_10 (fun H locs hP hS => ?_)
  refine lv_iconst (v := (-1)) hx hb dX2_errs_13 rfl ?_
  cases hf
  exact m_iret E hr hlk hP hS rfl dX2_errs_14
set_option maxHeartbeats 4000000 in
def fm_isWord (x1 : Int32) (μ : nwM) : Option (Int32) := (if (μ 13 0) = (nI 2) then (if (μ 14 0) = x1 then some (nI 1) else some (nI 0)) else some (nI 0))
set_option maxHeartbeats 4000000 in
theorem dm_isWord : yX2_isWord.cls = RX2 ∧ yX2_isWord.cls ≠ "java/lang/invoke/MethodHandle" ∧ yX2_isWord.cls ≠ "java/lang/invoke/VarHandle" ∧ (parseMethodDescriptor yX2_isWord.desc).map (fun d => d.parameters.length) = some 1 := ⟨rfl, by decide +kernel, by decide +kernel, by decide +kernel⟩
set_option maxHeartbeats 4000000 in
theorem tm_isWord (l : Launch) (D : va_G) (dT : Nat → ClassId) (h : Nat) (x1 : Int32) (μ : nwM) (res : Int32) (hf : fm_isWord x1 μ = some res) : Met l yX2_isWord (ws_ yX2_isWord cX2_isWord 2 (some .boolean)) (rmd 0) (mPc D dT h μ [.int x1]) (mQi D dT h μ res) 0 0 (mA h) := by
  refine m_met (by decide) rfl (Nat.le_of_ble_eq_true rfl) ?_
  intro p e s m below meth c ls E hK hr hlk hl hP
  have hS : va_S (mA h) s.heap s.heap [] := va_S.rf
  obtain ⟨hx, hb, -, hown, hts⟩ := id E
  have hl : lv_has ls 2 [(0, .ref h), (1, .int x1)] := hl
  unfold fm_isWord at hf
  refine lv_aload_n hx hb dX2_isWord_0 rfl (lv_at hl 0 rfl) ?_
  refine m_get E hK hP 13 (by decide) rfl q1426 rfl dX2_isWord_1 ?_
  refine lv_iconst (v := nI 2) hx hb dX2_isWord_4 rfl ?_
  refine lv_icmp_ne (tgt := 20) hx hb dX2_isWord_5 (by decide) (fun kc1 => ?_) (fun kc1 => ?_)
  · have hf := ite_f kc1 hf
    refine lv_iconst (v := nI 0) hx hb dX2_isWord_20 rfl ?_
    cases hf
    exact m_zret E hr hlk hP hS rfl dX2_isWord_21
  · have hf := ite_t kc1 hf
    refine lv_aload_n hx hb dX2_isWord_8 rfl (lv_at hl 0 rfl) ?_
    refine m_get E hK hP 14 (by decide) rfl q1427 rfl dX2_isWord_9 ?_
    refine lv_iload_n hx hb dX2_isWord_12 rfl (lv_at hl 1 rfl) ?_
    refine lv_icmp_ne (tgt := 20) hx hb dX2_isWord_13 (by decide) (fun kc2 => ?_) (fun kc2 => ?_)
    · have hf := ite_f kc2 hf
      refine lv_iconst (v := nI 0) hx hb dX2_isWord_20 rfl ?_
      cases hf
      exact m_zret E hr hlk hP hS rfl dX2_isWord_21
    · have hf := ite_t kc2 hf
      refine lv_iconst (v := nI 1) hx hb dX2_isWord_16 rfl ?_
      refine lv_goto (tgt := 21) hx hb dX2_isWord_17 (by decide) ?_
      cases hf
      exact m_zret E hr hlk hP hS rfl dX2_isWord_21
set_option maxHeartbeats 4000000 in
def fm_isSign (x1 : Int32) (μ : nwM) : Option (Int32) := (if (μ 13 0) = (nI 4) then (if (μ 14 0) = x1 then some (nI 1) else some (nI 0)) else some (nI 0))
set_option maxHeartbeats 4000000 in
theorem dm_isSign : yX2_isSign.cls = RX2 ∧ yX2_isSign.cls ≠ "java/lang/invoke/MethodHandle" ∧ yX2_isSign.cls ≠ "java/lang/invoke/VarHandle" ∧ (parseMethodDescriptor yX2_isSign.desc).map (fun d => d.parameters.length) = some 1 := ⟨rfl, by decide +kernel, by decide +kernel, by decide +kernel⟩
set_option maxHeartbeats 4000000 in
theorem tm_isSign (l : Launch) (D : va_G) (dT : Nat → ClassId) (h : Nat) (x1 : Int32) (μ : nwM) (res : Int32) (hf : fm_isSign x1 μ = some res) : Met l yX2_isSign (ws_ yX2_isSign cX2_isSign 2 (some .boolean)) (rmd 0) (mPc D dT h μ [.int x1]) (mQi D dT h μ res) 0 0 (mA h) := by
  refine m_met (by decide) rfl (Nat.le_of_ble_eq_true rfl) ?_
  intro p e s m below meth c ls E hK hr hlk hl hP
  have hS : va_S (mA h) s.heap s.heap [] := va_S.rf
  obtain ⟨hx, hb, -, hown, hts⟩ := id E
  have hl : lv_has ls 2 [(0, .ref h), (1, .int x1)] := hl
  unfold fm_isSign at hf
  refine lv_aload_n hx hb dX2_isSign_0 rfl (lv_at hl 0 rfl) ?_
  refine m_get E hK hP 13 (by decide) rfl q1426 rfl dX2_isSign_1 ?_
  refine lv_iconst (v := nI 4) hx hb dX2_isSign_4 rfl ?_
  refine lv_icmp_ne (tgt := 20) hx hb dX2_isSign_5 (by decide) (fun kc1 => ?_) (fun kc1 => ?_)
  · have hf := ite_f kc1 hf
    refine lv_iconst (v := nI 0) hx hb dX2_isSign_20 rfl ?_
    cases hf
    exact m_zret E hr hlk hP hS rfl dX2_isSign_21
  · have hf := ite_t kc1 hf
    refine lv_aload_n hx hb dX2_isSign_8 rfl (lv_at hl 0 rfl) ?_
    refine m_get E hK hP 14 (by decide) rfl q1427 rfl dX2_isSign_9 ?_
    refine lv_iload_n hx hb dX2_isSign_12 rfl (lv_at hl 1 rfl) ?_
    refine lv_icmp_ne (tgt := 20) hx hb dX2_isSign_13 (by decide) (fun kc2 => ?_) (fun kc2 => ?_)
    · have hf := ite_f kc2 hf
      refine lv_iconst (v := nI 0) hx hb dX2_isSign_20 rfl ?_
      cases hf
      exact m_zret E hr hlk hP hS rfl dX2_isSign_21
    · have hf := ite_t kc2 hf
      refine lv_iconst (v := nI 1) hx hb dX2_isSign_16 rfl ?_
      refine lv_goto (tgt := 21) hx hb dX2_isSign_17 (by decide) ?_
      cases hf
      exact m_zret E hr hlk hP hS rfl dX2_isSign_21
set_option maxHeartbeats 4000000 in
def fm_emits (x1 : Int32) (x2 : Int32) (μ : nwM) : Option (nwM) := (wr_ μ 21 1200 ((nI 800) + (μ 24 0)) x1).bind fun μ1 => (wr_ μ1 22 1200 ((nI 800) + (μ1 24 0)) x2).bind fun μ2 => (wf_ μ2 24 ((μ2 24 0) + (nI 1))).bind fun μ3 => some μ3
set_option maxHeartbeats 4000000 in
theorem dm_emits : yX2_emits.cls = RX2 ∧ yX2_emits.cls ≠ "java/lang/invoke/MethodHandle" ∧ yX2_emits.cls ≠ "java/lang/invoke/VarHandle" ∧ (parseMethodDescriptor yX2_emits.desc).map (fun d => d.parameters.length) = some 2 := ⟨rfl, by decide +kernel, by decide +kernel, by decide +kernel⟩
set_option maxHeartbeats 4000000 in
theorem tm_emits (l : Launch) (D : va_G) (dT : Nat → ClassId) (h : Nat) (x1 : Int32) (x2 : Int32) (μ : nwM) (res : nwM) (hf : fm_emits x1 x2 μ = some res) : Met l yX2_emits (ws_ yX2_emits cX2_emits 3 none) (rmd 0) (mPc D dT h μ [.int x1, .int x2]) (mQv D dT h res) 0 0 (mA h) := by
  refine m_met (by decide) rfl (Nat.le_of_ble_eq_true rfl) ?_
  intro p e s m below meth c ls E hK hr hlk hl hP
  have hS : va_S (mA h) s.heap s.heap [] := va_S.rf
  obtain ⟨hx, hb, -, hown, hts⟩ := id E
  have hl : lv_has ls 3 [(0, .ref h), (1, .int x1), (2, .int x2)] := hl
  unfold fm_emits at hf
  refine lv_aload_n hx hb dX2_emits_0 rfl (lv_at hl 0 rfl) ?_
  refine m_ga E hK hP 21 (by decide) rfl q1434 rfl dX2_emits_1 ?_
  refine lv_sipush (v := nI 800) hx hb dX2_emits_4 rfl ?_
  refine lv_aload_n hx hb dX2_emits_7 rfl (lv_at hl 0 rfl) ?_
  refine m_get E hK hP 24 (by decide) rfl q1437 rfl dX2_emits_8 ?_
  refine lv_iadd hx hb dX2_emits_11 ?_
  refine lv_iload_n hx hb dX2_emits_12 rfl (lv_at hl 1 rfl) ?_
  obtain ⟨μ1, hμ1, hf⟩ := ob hf
  refine m_ast E hK hP hS (by decide) rfl rfl hμ1 dX2_emits_13 (fun H locs hP hS => ?_)
  refine lv_aload_n hx hb dX2_emits_14 rfl (lv_at hl 0 rfl) ?_
  refine m_ga E hK hP 22 (by decide) rfl q1435 rfl dX2_emits_15 ?_
  refine lv_sipush (v := nI 800) hx hb dX2_emits_18 rfl ?_
  refine lv_aload_n hx hb dX2_emits_21 rfl (lv_at hl 0 rfl) ?_
  refine m_get E hK hP 24 (by decide) rfl q1437 rfl dX2_emits_22 ?_
  refine lv_iadd hx hb dX2_emits_25 ?_
  refine lv_iload_n hx hb dX2_emits_26 rfl (lv_at hl 2 rfl) ?_
  obtain ⟨μ2, hμ2, hf⟩ := ob hf
  refine m_ast E hK hP hS (by decide) rfl rfl hμ2 dX2_emits_27 (fun H locs hP hS => ?_)
  refine lv_aload_n hx hb dX2_emits_28 rfl (lv_at hl 0 rfl) ?_
  refine lv_aload_n hx hb dX2_emits_29 rfl (lv_at hl 0 rfl) ?_
  refine m_get E hK hP 24 (by decide) rfl q1437 rfl dX2_emits_30 ?_
  refine lv_iconst (v := nI 1) hx hb dX2_emits_33 rfl ?_
  refine lv_iadd hx hb dX2_emits_34 ?_
  obtain ⟨μ3, hμ3, hf⟩ := ob hf
  refine m_put E hK hP hS 24 (by decide) rfl q1437 rfl rfl rfl hμ3 dX2_emits_35 (fun H locs hP hS => ?_)
  cases hf
  exact m_vret E hr hlk hP hS dX2_emits_38
set_option maxHeartbeats 4000000 in
def fm_canAsk (x1 : Int32) (μ : nwM) : Option (Int32) := (fm_isIn x1 (nI 12) (nI 20) μ).bind fun v2 => (zr_ v2).bind fun v3 => some v3
set_option maxHeartbeats 4000000 in
theorem dm_canAsk : yX2_canAsk.cls = RX2 ∧ yX2_canAsk.cls ≠ "java/lang/invoke/MethodHandle" ∧ yX2_canAsk.cls ≠ "java/lang/invoke/VarHandle" ∧ (parseMethodDescriptor yX2_canAsk.desc).map (fun d => d.parameters.length) = some 1 := ⟨rfl, by decide +kernel, by decide +kernel, by decide +kernel⟩
set_option maxHeartbeats 4000000 in
theorem tm_canAsk (l : Launch) (D : va_G) (dT : Nat → ClassId) (h : Nat) (x1 : Int32) (μ : nwM) (res : Int32) (hf : fm_canAsk x1 μ = some res) : Met l yX2_canAsk (ws_ yX2_canAsk cX2_canAsk 2 (some .boolean)) (rmd 1) (mPc D dT h μ [.int x1]) (mQi D dT h μ res) 0 0 (mA h) := by
  refine m_met (by decide) rfl (Nat.le_of_ble_eq_true rfl) ?_
  intro p e s m below meth c ls E hK hr hlk hl hP
  have hS : va_S (mA h) s.heap s.heap [] := va_S.rf
  obtain ⟨hx, hb, -, hown, hts⟩ := id E
  have hl : lv_has ls 2 [(0, .ref h), (1, .int x1)] := hl
  unfold fm_canAsk at hf
  refine lv_aload_n hx hb dX2_canAsk_0 rfl (lv_at hl 0 rfl) ?_
  refine lv_iload_n hx hb dX2_canAsk_1 rfl (lv_at hl 1 rfl) ?_
  refine lv_bipush (v := nI 12) hx hb dX2_canAsk_2 rfl ?_
  refine lv_bipush (v := nI 20) hx hb dX2_canAsk_4 rfl ?_
  obtain ⟨v2, hc1, hf⟩ := ob hf
  refine m_calli E hK hP hS (As := [.int x1, .int (nI 12), .int (nI 20)]) (tm_isIn l D dT h x1 (nI 12) (nI 20) μ _ hc1) (lw_V q1573 q1575 qs59 q166 q1576) dm_isIn rfl (by decide) (by decide) hl rfl (Nat.le_of_ble_eq_true rfl) dX2_canAsk_6 (fun H locs hP hS => ?_)
  obtain ⟨v3, hv3, hf⟩ := ob hf
  cases hf
  exact m_zret E hr hlk hP hS hv3 dX2_canAsk_9
set_option maxHeartbeats 4000000 in
noncomputable def fm_readUnit (μ : nwM) : Option (Int32 × nwM) := (if (μ 13 0) = (nI 2) then (fm_canAsk (μ 14 0) μ).bind fun v14 => (if v14 = 0 then (if (μ 13 0) = (nI 3) then (fm_emits (nI 0) (μ 14 0) μ).bind fun μ21 => (fm_reads μ21).bind fun μ23 => some (nI 0, μ23) else bd2 (fm_errs (nI 1) μ) fun v25 μ26 => some (v25, μ26)) else (fm_emits (nI 1) ((μ 14 0) - (nI 12)) μ).bind fun μ31 => (fm_reads μ31).bind fun μ33 => some (nI 0, μ33)) else (if (μ 13 0) = (nI 3) then (fm_emits (nI 0) (μ 14 0) μ).bind fun μ7 => (fm_reads μ7).bind fun μ9 => some (nI 0, μ9) else bd2 (fm_errs (nI 1) μ) fun v11 μ12 => some (v11, μ12)))
set_option maxHeartbeats 4000000 in
theorem dm_readUnit : yX2_readUnit.cls = RX2 ∧ yX2_readUnit.cls ≠ "java/lang/invoke/MethodHandle" ∧ yX2_readUnit.cls ≠ "java/lang/invoke/VarHandle" ∧ (parseMethodDescriptor yX2_readUnit.desc).map (fun d => d.parameters.length) = some 0 := ⟨rfl, by decide +kernel, by decide +kernel, by decide +kernel⟩
set_option maxHeartbeats 4000000 in
theorem tm_readUnit (l : Launch) (D : va_G) (dT : Nat → ClassId) (h : Nat) (μ : nwM) (res : Int32 × nwM) (hf : fm_readUnit μ = some res) : Met l yX2_readUnit (ws_ yX2_readUnit cX2_readUnit 2 (some .int)) (rmd 3) (mPc D dT h μ []) (mQi D dT h res.2 res.1) 0 0 (mA h) := by
  refine m_met (by decide) rfl (Nat.le_of_ble_eq_true rfl) ?_
  intro p e s m below meth c ls E hK hr hlk hl hP
  have hS : va_S (mA h) s.heap s.heap [] := va_S.rf
  obtain ⟨hx, hb, -, hown, hts⟩ := id E
  have hl : lv_has ls 2 [(0, .ref h)] := hl
  unfold fm_readUnit at hf
  refine lv_aload_n hx hb dX2_readUnit_0 rfl (lv_at hl 0 rfl) ?_
  refine m_get E hK hP 13 (by decide) rfl q1426 rfl dX2_readUnit_1 ?_
  refine lv_iconst (v := nI 2) hx hb dX2_readUnit_4 rfl ?_
  refine lv_icmp_ne (tgt := 23) hx hb dX2_readUnit_5 (by decide) (fun kc1 => ?_) (fun kc1 => ?_)
  · have hf := ite_f kc1 hf
    refine lv_iconst (v := nI 0) hx hb dX2_readUnit_23 rfl ?_
    refine lv_istore_n (lv' := [(1, .int (nI 0)), (0, .ref h)]) hx hb dX2_readUnit_24 rfl hl (by decide) rfl (fun ls hl => ?_)
    refine lv_iload_n hx hb dX2_readUnit_25 rfl (lv_at hl 0 rfl) ?_
    refine lv_if_ne (tgt := 43) hx hb dX2_readUnit_26 (by decide) (fun kc2 => ?_) (fun kc2 => ?_)
    · exact absurd (by decide) kc2
    · skip
      refine lv_aload_n hx hb dX2_readUnit_29 rfl (lv_at hl 1 rfl) ?_
      refine m_get E hK hP 13 (by decide) rfl q1426 rfl dX2_readUnit_30 ?_
      refine lv_iconst (v := nI 3) hx hb dX2_readUnit_33 rfl ?_
      refine lv_icmp_eq (tgt := 43) hx hb dX2_readUnit_34 (by decide) (fun kc3 => ?_) (fun kc3 => ?_)
      · have hf := ite_t kc3 hf
        refine lv_aload_n hx hb dX2_readUnit_43 rfl (lv_at hl 1 rfl) ?_
        refine lv_iload_n hx hb dX2_readUnit_44 rfl (lv_at hl 0 rfl) ?_
        refine lv_if_eq (tgt := 52) hx hb dX2_readUnit_45 (by decide) (fun kc4 => ?_) (fun kc4 => ?_)
        · skip
          refine lv_iconst (v := nI 0) hx hb dX2_readUnit_52 rfl ?_
          refine lv_iload_n hx hb dX2_readUnit_53 rfl (lv_at hl 0 rfl) ?_
          refine lv_if_eq (tgt := 67) hx hb dX2_readUnit_54 (by decide) (fun kc5 => ?_) (fun kc5 => ?_)
          · skip
            refine lv_aload_n hx hb dX2_readUnit_67 rfl (lv_at hl 1 rfl) ?_
            refine m_get E hK hP 14 (by decide) rfl q1427 rfl dX2_readUnit_68 ?_
            obtain ⟨μ7, hc6, hf⟩ := ob hf
            refine m_callv E hK hP hS (As := [.int (nI 0), .int (μ 14 0)]) (tm_emits l D dT h (nI 0) (μ 14 0) μ _ hc6) (lw_V q1737 q1739 qs94 q166 q1740) dm_emits rfl (by decide) (by decide) hl rfl (Nat.le_of_ble_eq_true rfl) dX2_readUnit_71 (fun H locs hP hS => ?_)
            refine lv_aload_n hx hb dX2_readUnit_74 rfl (lv_at hl 1 rfl) ?_
            obtain ⟨μ9, hc8, hf⟩ := ob hf
            refine m_callv E hK hP hS (As := []) (tm_reads l D dT h μ7 _ hc8) (lw_V q1625 q1627 qs66 q166 q1628) dm_reads rfl (by decide) (by decide) hl rfl (Nat.le_of_ble_eq_true rfl) dX2_readUnit_75 (fun H locs hP hS => ?_)
            refine lv_iconst (v := nI 0) hx hb dX2_readUnit_78 rfl ?_
            cases hf
            exact m_iret E hr hlk hP hS rfl dX2_readUnit_79
          · exact absurd (by decide) kc5
        · exact absurd (by decide) kc4
      · have hf := ite_f kc3 hf
        refine lv_aload_n hx hb dX2_readUnit_37 rfl (lv_at hl 1 rfl) ?_
        refine lv_iconst (v := nI 1) hx hb dX2_readUnit_38 rfl ?_
        obtain ⟨v11, μ12, hc10, hf⟩ := ob2 hf
        refine m_calli E hK hP hS (As := [.int (nI 1)]) (tm_errs l D dT h (nI 1) μ _ hc10) (lw_V q1657 q1659 qs74 q166 q1660) dm_errs rfl (by decide) (by decide) hl rfl (Nat.le_of_ble_eq_true rfl) dX2_readUnit_39 (fun H locs hP hS => ?_)
        cases hf
        exact m_iret E hr hlk hP hS rfl dX2_readUnit_42
  · have hf := ite_t kc1 hf
    refine lv_aload_n hx hb dX2_readUnit_8 rfl (lv_at hl 0 rfl) ?_
    refine lv_aload_n hx hb dX2_readUnit_9 rfl (lv_at hl 0 rfl) ?_
    refine m_get E hK hP 14 (by decide) rfl q1427 rfl dX2_readUnit_10 ?_
    obtain ⟨v14, hc13, hf⟩ := ob hf
    refine m_calli E hK hP hS (As := [.int (μ 14 0)]) (tm_canAsk l D dT h (μ 14 0) μ _ hc13) (lw_V q1733 q1735 qs93 q166 q1736) dm_canAsk rfl (by decide) (by decide) hl rfl (Nat.le_of_ble_eq_true rfl) dX2_readUnit_13 (fun H locs hP hS => ?_)
    refine lv_if_eq (tgt := 23) hx hb dX2_readUnit_16 (by decide) (fun kc15 => ?_) (fun kc15 => ?_)
    · have hf := ite_t kc15 hf
      refine lv_iconst (v := nI 0) hx hb dX2_readUnit_23 rfl ?_
      refine lv_istore_n (lv' := [(1, .int (nI 0)), (0, .ref h)]) hx hb dX2_readUnit_24 rfl hl (by decide) rfl (fun ls hl => ?_)
      refine lv_iload_n hx hb dX2_readUnit_25 rfl (lv_at hl 0 rfl) ?_
      refine lv_if_ne (tgt := 43) hx hb dX2_readUnit_26 (by decide) (fun kc16 => ?_) (fun kc16 => ?_)
      · exact absurd (by decide) kc16
      · skip
        refine lv_aload_n hx hb dX2_readUnit_29 rfl (lv_at hl 1 rfl) ?_
        refine m_get E hK hP 13 (by decide) rfl q1426 rfl dX2_readUnit_30 ?_
        refine lv_iconst (v := nI 3) hx hb dX2_readUnit_33 rfl ?_
        refine lv_icmp_eq (tgt := 43) hx hb dX2_readUnit_34 (by decide) (fun kc17 => ?_) (fun kc17 => ?_)
        · have hf := ite_t kc17 hf
          refine lv_aload_n hx hb dX2_readUnit_43 rfl (lv_at hl 1 rfl) ?_
          refine lv_iload_n hx hb dX2_readUnit_44 rfl (lv_at hl 0 rfl) ?_
          refine lv_if_eq (tgt := 52) hx hb dX2_readUnit_45 (by decide) (fun kc18 => ?_) (fun kc18 => ?_)
          · skip
            refine lv_iconst (v := nI 0) hx hb dX2_readUnit_52 rfl ?_
            refine lv_iload_n hx hb dX2_readUnit_53 rfl (lv_at hl 0 rfl) ?_
            refine lv_if_eq (tgt := 67) hx hb dX2_readUnit_54 (by decide) (fun kc19 => ?_) (fun kc19 => ?_)
            · skip
              refine lv_aload_n hx hb dX2_readUnit_67 rfl (lv_at hl 1 rfl) ?_
              refine m_get E hK hP 14 (by decide) rfl q1427 rfl dX2_readUnit_68 ?_
              obtain ⟨μ21, hc20, hf⟩ := ob hf
              refine m_callv E hK hP hS (As := [.int (nI 0), .int (μ 14 0)]) (tm_emits l D dT h (nI 0) (μ 14 0) μ _ hc20) (lw_V q1737 q1739 qs94 q166 q1740) dm_emits rfl (by decide) (by decide) hl rfl (Nat.le_of_ble_eq_true rfl) dX2_readUnit_71 (fun H locs hP hS => ?_)
              refine lv_aload_n hx hb dX2_readUnit_74 rfl (lv_at hl 1 rfl) ?_
              obtain ⟨μ23, hc22, hf⟩ := ob hf
              refine m_callv E hK hP hS (As := []) (tm_reads l D dT h μ21 _ hc22) (lw_V q1625 q1627 qs66 q166 q1628) dm_reads rfl (by decide) (by decide) hl rfl (Nat.le_of_ble_eq_true rfl) dX2_readUnit_75 (fun H locs hP hS => ?_)
              refine lv_iconst (v := nI 0) hx hb dX2_readUnit_78 rfl ?_
              cases hf
              exact m_iret E hr hlk hP hS rfl dX2_readUnit_79
            · exact absurd (by decide) kc19
          · exact absurd (by decide) kc18
        · have hf := ite_f kc17 hf
          refine lv_aload_n hx hb dX2_readUnit_37 rfl (lv_at hl 1 rfl) ?_
          refine lv_iconst (v := nI 1) hx hb dX2_readUnit_38 rfl ?_
          obtain ⟨v25, μ26, hc24, hf⟩ := ob2 hf
          refine m_calli E hK hP hS (As := [.int (nI 1)]) (tm_errs l D dT h (nI 1) μ _ hc24) (lw_V q1657 q1659 qs74 q166 q1660) dm_errs rfl (by decide) (by decide) hl rfl (Nat.le_of_ble_eq_true rfl) dX2_readUnit_39 (fun H locs hP hS => ?_)
          cases hf
          exact m_iret E hr hlk hP hS rfl dX2_readUnit_42
    · have hf := ite_f kc15 hf
      refine lv_iconst (v := nI 1) hx hb dX2_readUnit_19 rfl ?_
      refine lv_goto (tgt := 24) hx hb dX2_readUnit_20 (by decide) ?_
      refine lv_istore_n (lv' := [(1, .int (nI 1)), (0, .ref h)]) hx hb dX2_readUnit_24 rfl hl (by decide) rfl (fun ls hl => ?_)
      refine lv_iload_n hx hb dX2_readUnit_25 rfl (lv_at hl 0 rfl) ?_
      refine lv_if_ne (tgt := 43) hx hb dX2_readUnit_26 (by decide) (fun kc27 => ?_) (fun kc27 => ?_)
      · skip
        refine lv_aload_n hx hb dX2_readUnit_43 rfl (lv_at hl 1 rfl) ?_
        refine lv_iload_n hx hb dX2_readUnit_44 rfl (lv_at hl 0 rfl) ?_
        refine lv_if_eq (tgt := 52) hx hb dX2_readUnit_45 (by decide) (fun kc28 => ?_) (fun kc28 => ?_)
        · exact absurd kc28 (by decide)
        · skip
          refine lv_iconst (v := nI 1) hx hb dX2_readUnit_48 rfl ?_
          refine lv_goto (tgt := 53) hx hb dX2_readUnit_49 (by decide) ?_
          refine lv_iload_n hx hb dX2_readUnit_53 rfl (lv_at hl 0 rfl) ?_
          refine lv_if_eq (tgt := 67) hx hb dX2_readUnit_54 (by decide) (fun kc29 => ?_) (fun kc29 => ?_)
          · exact absurd kc29 (by decide)
          · skip
            refine lv_aload_n hx hb dX2_readUnit_57 rfl (lv_at hl 1 rfl) ?_
            refine m_get E hK hP 14 (by decide) rfl q1427 rfl dX2_readUnit_58 ?_
            refine lv_bipush (v := nI 12) hx hb dX2_readUnit_61 rfl ?_
            refine lv_isub hx hb dX2_readUnit_63 ?_
            refine lv_goto (tgt := 71) hx hb dX2_readUnit_64 (by decide) ?_
            obtain ⟨μ31, hc30, hf⟩ := ob hf
            refine m_callv E hK hP hS (As := [.int (nI 1), .int ((μ 14 0) - (nI 12))]) (tm_emits l D dT h (nI 1) ((μ 14 0) - (nI 12)) μ _ hc30) (lw_V q1737 q1739 qs94 q166 q1740) dm_emits rfl (by decide) (by decide) hl rfl (Nat.le_of_ble_eq_true rfl) dX2_readUnit_71 (fun H locs hP hS => ?_)
            refine lv_aload_n hx hb dX2_readUnit_74 rfl (lv_at hl 1 rfl) ?_
            obtain ⟨μ33, hc32, hf⟩ := ob hf
            refine m_callv E hK hP hS (As := []) (tm_reads l D dT h μ31 _ hc32) (lw_V q1625 q1627 qs66 q166 q1628) dm_reads rfl (by decide) (by decide) hl rfl (Nat.le_of_ble_eq_true rfl) dX2_readUnit_75 (fun H locs hP hS => ?_)
            refine lv_iconst (v := nI 0) hx hb dX2_readUnit_78 rfl ?_
            cases hf
            exact m_iret E hr hlk hP hS rfl dX2_readUnit_79
      · exact absurd kc27 (by decide)
set_option maxHeartbeats 4000000 in
noncomputable def fm_readProduct_L10 : nwM → Option ((nwM) ⊕ (Int32 × nwM)) := fun st => (fm_isSign (nI 42) st).bind fun v6 => (if v6 = 0 then (fm_isSign (nI 47) st).bind fun v64 => (if v64 = 0 then some (.inr (nI 0, st)) else (fm_isSign (nI 42) st).bind fun v67 => (fm_reads st).bind fun μ69 => (if v67 = 0 then (if (μ69 13 0) = (nI 3) then (if v67 = 0 then (if (μ69 14 0) = 0 then bd2 (fm_errs (nI 2) μ69) fun v116 μ117 => some (.inr (v116, μ117)) else bd2 (fm_readUnit μ69) fun v107 μ108 => (if v107 = (-1) then some (.inr ((-1), μ108)) else (if v67 = 0 then (fm_emits (nI 5) (nI 0) μ108).bind fun μ112 => some (.inl μ112) else (fm_emits (nI 4) (nI 0) μ108).bind fun μ114 => some (.inl μ114)))) else bd2 (fm_readUnit μ69) fun v97 μ98 => (if v97 = (-1) then some (.inr ((-1), μ98)) else (if v67 = 0 then (fm_emits (nI 5) (nI 0) μ98).bind fun μ102 => some (.inl μ102) else (fm_emits (nI 4) (nI 0) μ98).bind fun μ104 => some (.inl μ104)))) else bd2 (fm_errs (nI 1) μ69) fun v119 μ120 => some (.inr (v119, μ120))) else (if v67 = 0 then (if (μ69 14 0) = 0 then bd2 (fm_errs (nI 2) μ69) fun v92 μ93 => some (.inr (v92, μ93)) else bd2 (fm_readUnit μ69) fun v83 μ84 => (if v83 = (-1) then some (.inr ((-1), μ84)) else (if v67 = 0 then (fm_emits (nI 5) (nI 0) μ84).bind fun μ88 => some (.inl μ88) else (fm_emits (nI 4) (nI 0) μ84).bind fun μ90 => some (.inl μ90)))) else bd2 (fm_readUnit μ69) fun v73 μ74 => (if v73 = (-1) then some (.inr ((-1), μ74)) else (if v67 = 0 then (fm_emits (nI 5) (nI 0) μ74).bind fun μ78 => some (.inl μ78) else (fm_emits (nI 4) (nI 0) μ74).bind fun μ80 => some (.inl μ80)))))) else (fm_isSign (nI 42) st).bind fun v9 => (fm_reads st).bind fun μ11 => (if v9 = 0 then (if (μ11 13 0) = (nI 3) then (if v9 = 0 then (if (μ11 14 0) = 0 then bd2 (fm_errs (nI 2) μ11) fun v58 μ59 => some (.inr (v58, μ59)) else bd2 (fm_readUnit μ11) fun v49 μ50 => (if v49 = (-1) then some (.inr ((-1), μ50)) else (if v9 = 0 then (fm_emits (nI 5) (nI 0) μ50).bind fun μ54 => some (.inl μ54) else (fm_emits (nI 4) (nI 0) μ50).bind fun μ56 => some (.inl μ56)))) else bd2 (fm_readUnit μ11) fun v39 μ40 => (if v39 = (-1) then some (.inr ((-1), μ40)) else (if v9 = 0 then (fm_emits (nI 5) (nI 0) μ40).bind fun μ44 => some (.inl μ44) else (fm_emits (nI 4) (nI 0) μ40).bind fun μ46 => some (.inl μ46)))) else bd2 (fm_errs (nI 1) μ11) fun v61 μ62 => some (.inr (v61, μ62))) else (if v9 = 0 then (if (μ11 14 0) = 0 then bd2 (fm_errs (nI 2) μ11) fun v34 μ35 => some (.inr (v34, μ35)) else bd2 (fm_readUnit μ11) fun v25 μ26 => (if v25 = (-1) then some (.inr ((-1), μ26)) else (if v9 = 0 then (fm_emits (nI 5) (nI 0) μ26).bind fun μ30 => some (.inl μ30) else (fm_emits (nI 4) (nI 0) μ26).bind fun μ32 => some (.inl μ32)))) else bd2 (fm_readUnit μ11) fun v15 μ16 => (if v15 = (-1) then some (.inr ((-1), μ16)) else (if v9 = 0 then (fm_emits (nI 5) (nI 0) μ16).bind fun μ20 => some (.inl μ20) else (fm_emits (nI 4) (nI 0) μ16).bind fun μ22 => some (.inl μ22))))))
set_option maxHeartbeats 4000000 in
noncomputable def fm_readProduct (μ : nwM) : Option (Int32 × nwM) := bd2 (fm_readUnit μ) fun v2 μ3 => (if v2 = (-1) then some ((-1), μ3) else wh_ (fm_readProduct_L10) μ3)
set_option maxHeartbeats 4000000 in
theorem fm_readProduct_L10_w {p : Program} {l : Launch} {e : Env} {s : State} {m : MethodId} {args : Array Value} {below : List Frame} {meth : Method} {c : Code} {D : va_G} {dT : Nat → ClassId} {h : Nat} (E : CallFix p m c cX2_readProduct 2 s args lw_all RX2) (hK : va_K D nwCl (nwT dT) s) (hr : meth.sig.returnType = (some .int)) (hlk : meth.locks = false) {res : Int32 × nwM} {st : nwM} {x : Int32 × nwM} (hw : wh_ (fm_readProduct_L10) st = some x) (hk : (fun r : Int32 × nwM => r = res) x) : (fun st : nwM => ∀ (ls : Array Slot) (H : Heap) (locs : List Loc), lv_has ls 2 [(0, .ref h)] → PM D dT h st H → va_S (mA h) s.heap H locs → W p l e (rmd 4) s m args below meth c H locs 0 0 (MQ below (mQi D dT h res.2 res.1) args s 0 0 (mA h)) (F0 m 10 ls [])) st := by
  obtain ⟨hx, hb, -, hown, hts⟩ := id E
  refine wh_run (P := (fun st : nwM => ∀ (ls : Array Slot) (H : Heap) (locs : List Loc), lv_has ls 2 [(0, .ref h)] → PM D dT h st H → va_S (mA h) s.heap H locs → W p l e (rmd 4) s m args below meth c H locs 0 0 (MQ below (mQi D dT h res.2 res.1) args s 0 0 (mA h)) (F0 m 10 ls []))) (PE := (fun r : Int32 × nwM => r = res)) ?_ hw hk
  clear hw hk
  intro st x hf hk ls H locs hl hP hS
  refine lv_aload_n hx hb dX2_readProduct_10 rfl (lv_at hl 0 rfl) ?_
  refine lv_bipush (v := nI 42) hx hb dX2_readProduct_11 rfl ?_
  obtain ⟨v6, hc5, hf⟩ := ob hf
  refine m_calli E hK hP hS (As := [.int (nI 42)]) (tm_isSign l D dT h (nI 42) st _ hc5) (lw_V q1685 q1687 qs81 q166 q1688) dm_isSign rfl (by decide) (by decide) hl rfl (Nat.le_of_ble_eq_true rfl) dX2_readProduct_13 (fun H locs hP hS => ?_)
  refine lv_if_ne (tgt := 28) hx hb dX2_readProduct_16 (by decide) (fun kc7 => ?_) (fun kc7 => ?_)
  · have hf := ite_f kc7 hf
    refine lv_aload_n hx hb dX2_readProduct_28 rfl (lv_at hl 0 rfl) ?_
    refine lv_bipush (v := nI 42) hx hb dX2_readProduct_29 rfl ?_
    obtain ⟨v9, hc8, hf⟩ := ob hf
    refine m_calli E hK hP hS (As := [.int (nI 42)]) (tm_isSign l D dT h (nI 42) st _ hc8) (lw_V q1685 q1687 qs81 q166 q1688) dm_isSign rfl (by decide) (by decide) hl rfl (Nat.le_of_ble_eq_true rfl) dX2_readProduct_31 (fun H locs hP hS => ?_)
    refine lv_istore_n (lv' := [(1, .int v9), (0, .ref h)]) hx hb dX2_readProduct_34 rfl hl (by decide) rfl (fun ls hl => ?_)
    refine lv_aload_n hx hb dX2_readProduct_35 rfl (lv_at hl 1 rfl) ?_
    obtain ⟨μ11, hc10, hf⟩ := ob hf
    refine m_callv E hK hP hS (As := []) (tm_reads l D dT h st _ hc10) (lw_V q1625 q1627 qs66 q166 q1628) dm_reads rfl (by decide) (by decide) hl rfl (Nat.le_of_ble_eq_true rfl) dX2_readProduct_36 (fun H locs hP hS => ?_)
    refine lv_iload_n hx hb dX2_readProduct_39 rfl (lv_at hl 0 rfl) ?_
    refine lv_if_ne (tgt := 57) hx hb dX2_readProduct_40 (by decide) (fun kc12 => ?_) (fun kc12 => ?_)
    · have hf := ite_f kc12 hf
      refine lv_iload_n hx hb dX2_readProduct_57 rfl (lv_at hl 0 rfl) ?_
      refine lv_if_ne (tgt := 74) hx hb dX2_readProduct_58 (by decide) (fun kc13 => ?_) (fun kc13 => ?_)
      · have hf := ite_f kc13 hf
        refine lv_aload_n hx hb dX2_readProduct_74 rfl (lv_at hl 1 rfl) ?_
        obtain ⟨v15, μ16, hc14, hf⟩ := ob2 hf
        refine m_calli E hK hP hS (As := []) (tm_readUnit l D dT h μ11 _ hc14) (lw_V q1729 q1731 qs92 q166 q1732) dm_readUnit rfl (by decide) (by decide) hl rfl (Nat.le_of_ble_eq_true rfl) dX2_readProduct_75 (fun H locs hP hS => ?_)
        refine lv_iconst (v := (-1)) hx hb dX2_readProduct_78 rfl ?_
        refine lv_icmp_ne (tgt := 84) hx hb dX2_readProduct_79 (by decide) (fun kc17 => ?_) (fun kc17 => ?_)
        · have hf := ite_f kc17 hf
          refine lv_aload_n hx hb dX2_readProduct_84 rfl (lv_at hl 1 rfl) ?_
          refine lv_iload_n hx hb dX2_readProduct_85 rfl (lv_at hl 0 rfl) ?_
          refine lv_if_eq (tgt := 93) hx hb dX2_readProduct_86 (by decide) (fun kc18 => ?_) (fun kc18 => ?_)
          · have hf := ite_t kc18 hf
            refine lv_iconst (v := nI 5) hx hb dX2_readProduct_93 rfl ?_
            refine lv_iconst (v := nI 0) hx hb dX2_readProduct_94 rfl ?_
            obtain ⟨μ20, hc19, hf⟩ := ob hf
            refine m_callv E hK hP hS (As := [.int (nI 5), .int (nI 0)]) (tm_emits l D dT h (nI 5) (nI 0) μ16 _ hc19) (lw_V q1737 q1739 qs94 q166 q1740) dm_emits rfl (by decide) (by decide) hl rfl (Nat.le_of_ble_eq_true rfl) dX2_readProduct_95 (fun H locs hP hS => ?_)
            refine lv_goto (tgt := 10) hx hb dX2_readProduct_98 (by decide) ?_
            cases hf
            exact hk _ _ _ (lv_sub hl [1] rfl) hP hS
          · have hf := ite_f kc18 hf
            refine lv_iconst (v := nI 4) hx hb dX2_readProduct_89 rfl ?_
            refine lv_goto (tgt := 94) hx hb dX2_readProduct_90 (by decide) ?_
            refine lv_iconst (v := nI 0) hx hb dX2_readProduct_94 rfl ?_
            obtain ⟨μ22, hc21, hf⟩ := ob hf
            refine m_callv E hK hP hS (As := [.int (nI 4), .int (nI 0)]) (tm_emits l D dT h (nI 4) (nI 0) μ16 _ hc21) (lw_V q1737 q1739 qs94 q166 q1740) dm_emits rfl (by decide) (by decide) hl rfl (Nat.le_of_ble_eq_true rfl) dX2_readProduct_95 (fun H locs hP hS => ?_)
            refine lv_goto (tgt := 10) hx hb dX2_readProduct_98 (by decide) ?_
            cases hf
            exact hk _ _ _ (lv_sub hl [1] rfl) hP hS
        · have hf := ite_t kc17 hf
          refine lv_iconst (v := (-1)) hx hb dX2_readProduct_82 rfl ?_
          cases hf
          have hk : ((-1), μ16) = res := hk
          subst hk
          exact m_iret E hr hlk hP hS rfl dX2_readProduct_83
      · have hf := ite_t kc13 hf
        refine lv_aload_n hx hb dX2_readProduct_61 rfl (lv_at hl 1 rfl) ?_
        refine m_get E hK hP 14 (by decide) rfl q1427 rfl dX2_readProduct_62 ?_
        refine lv_if_ne (tgt := 74) hx hb dX2_readProduct_65 (by decide) (fun kc23 => ?_) (fun kc23 => ?_)
        · have hf := ite_f kc23 hf
          refine lv_aload_n hx hb dX2_readProduct_74 rfl (lv_at hl 1 rfl) ?_
          obtain ⟨v25, μ26, hc24, hf⟩ := ob2 hf
          refine m_calli E hK hP hS (As := []) (tm_readUnit l D dT h μ11 _ hc24) (lw_V q1729 q1731 qs92 q166 q1732) dm_readUnit rfl (by decide) (by decide) hl rfl (Nat.le_of_ble_eq_true rfl) dX2_readProduct_75 (fun H locs hP hS => ?_)
          refine lv_iconst (v := (-1)) hx hb dX2_readProduct_78 rfl ?_
          refine lv_icmp_ne (tgt := 84) hx hb dX2_readProduct_79 (by decide) (fun kc27 => ?_) (fun kc27 => ?_)
          · have hf := ite_f kc27 hf
            refine lv_aload_n hx hb dX2_readProduct_84 rfl (lv_at hl 1 rfl) ?_
            refine lv_iload_n hx hb dX2_readProduct_85 rfl (lv_at hl 0 rfl) ?_
            refine lv_if_eq (tgt := 93) hx hb dX2_readProduct_86 (by decide) (fun kc28 => ?_) (fun kc28 => ?_)
            · have hf := ite_t kc28 hf
              refine lv_iconst (v := nI 5) hx hb dX2_readProduct_93 rfl ?_
              refine lv_iconst (v := nI 0) hx hb dX2_readProduct_94 rfl ?_
              obtain ⟨μ30, hc29, hf⟩ := ob hf
              refine m_callv E hK hP hS (As := [.int (nI 5), .int (nI 0)]) (tm_emits l D dT h (nI 5) (nI 0) μ26 _ hc29) (lw_V q1737 q1739 qs94 q166 q1740) dm_emits rfl (by decide) (by decide) hl rfl (Nat.le_of_ble_eq_true rfl) dX2_readProduct_95 (fun H locs hP hS => ?_)
              refine lv_goto (tgt := 10) hx hb dX2_readProduct_98 (by decide) ?_
              cases hf
              exact hk _ _ _ (lv_sub hl [1] rfl) hP hS
            · have hf := ite_f kc28 hf
              refine lv_iconst (v := nI 4) hx hb dX2_readProduct_89 rfl ?_
              refine lv_goto (tgt := 94) hx hb dX2_readProduct_90 (by decide) ?_
              refine lv_iconst (v := nI 0) hx hb dX2_readProduct_94 rfl ?_
              obtain ⟨μ32, hc31, hf⟩ := ob hf
              refine m_callv E hK hP hS (As := [.int (nI 4), .int (nI 0)]) (tm_emits l D dT h (nI 4) (nI 0) μ26 _ hc31) (lw_V q1737 q1739 qs94 q166 q1740) dm_emits rfl (by decide) (by decide) hl rfl (Nat.le_of_ble_eq_true rfl) dX2_readProduct_95 (fun H locs hP hS => ?_)
              refine lv_goto (tgt := 10) hx hb dX2_readProduct_98 (by decide) ?_
              cases hf
              exact hk _ _ _ (lv_sub hl [1] rfl) hP hS
          · have hf := ite_t kc27 hf
            refine lv_iconst (v := (-1)) hx hb dX2_readProduct_82 rfl ?_
            cases hf
            have hk : ((-1), μ26) = res := hk
            subst hk
            exact m_iret E hr hlk hP hS rfl dX2_readProduct_83
        · have hf := ite_t kc23 hf
          refine lv_aload_n hx hb dX2_readProduct_68 rfl (lv_at hl 1 rfl) ?_
          refine lv_iconst (v := nI 2) hx hb dX2_readProduct_69 rfl ?_
          obtain ⟨v34, μ35, hc33, hf⟩ := ob2 hf
          refine m_calli E hK hP hS (As := [.int (nI 2)]) (tm_errs l D dT h (nI 2) μ11 _ hc33) (lw_V q1657 q1659 qs74 q166 q1660) dm_errs rfl (by decide) (by decide) hl rfl (Nat.le_of_ble_eq_true rfl) dX2_readProduct_70 (fun H locs hP hS => ?_)
          cases hf
          have hk : (v34, μ35) = res := hk
          subst hk
          exact m_iret E hr hlk hP hS rfl dX2_readProduct_73
    · have hf := ite_t kc12 hf
      refine lv_aload_n hx hb dX2_readProduct_43 rfl (lv_at hl 1 rfl) ?_
      refine m_get E hK hP 13 (by decide) rfl q1426 rfl dX2_readProduct_44 ?_
      refine lv_iconst (v := nI 3) hx hb dX2_readProduct_47 rfl ?_
      refine lv_icmp_eq (tgt := 57) hx hb dX2_readProduct_48 (by decide) (fun kc36 => ?_) (fun kc36 => ?_)
      · have hf := ite_t kc36 hf
        refine lv_iload_n hx hb dX2_readProduct_57 rfl (lv_at hl 0 rfl) ?_
        refine lv_if_ne (tgt := 74) hx hb dX2_readProduct_58 (by decide) (fun kc37 => ?_) (fun kc37 => ?_)
        · have hf := ite_f kc37 hf
          refine lv_aload_n hx hb dX2_readProduct_74 rfl (lv_at hl 1 rfl) ?_
          obtain ⟨v39, μ40, hc38, hf⟩ := ob2 hf
          refine m_calli E hK hP hS (As := []) (tm_readUnit l D dT h μ11 _ hc38) (lw_V q1729 q1731 qs92 q166 q1732) dm_readUnit rfl (by decide) (by decide) hl rfl (Nat.le_of_ble_eq_true rfl) dX2_readProduct_75 (fun H locs hP hS => ?_)
          refine lv_iconst (v := (-1)) hx hb dX2_readProduct_78 rfl ?_
          refine lv_icmp_ne (tgt := 84) hx hb dX2_readProduct_79 (by decide) (fun kc41 => ?_) (fun kc41 => ?_)
          · have hf := ite_f kc41 hf
            refine lv_aload_n hx hb dX2_readProduct_84 rfl (lv_at hl 1 rfl) ?_
            refine lv_iload_n hx hb dX2_readProduct_85 rfl (lv_at hl 0 rfl) ?_
            refine lv_if_eq (tgt := 93) hx hb dX2_readProduct_86 (by decide) (fun kc42 => ?_) (fun kc42 => ?_)
            · have hf := ite_t kc42 hf
              refine lv_iconst (v := nI 5) hx hb dX2_readProduct_93 rfl ?_
              refine lv_iconst (v := nI 0) hx hb dX2_readProduct_94 rfl ?_
              obtain ⟨μ44, hc43, hf⟩ := ob hf
              refine m_callv E hK hP hS (As := [.int (nI 5), .int (nI 0)]) (tm_emits l D dT h (nI 5) (nI 0) μ40 _ hc43) (lw_V q1737 q1739 qs94 q166 q1740) dm_emits rfl (by decide) (by decide) hl rfl (Nat.le_of_ble_eq_true rfl) dX2_readProduct_95 (fun H locs hP hS => ?_)
              refine lv_goto (tgt := 10) hx hb dX2_readProduct_98 (by decide) ?_
              cases hf
              exact hk _ _ _ (lv_sub hl [1] rfl) hP hS
            · have hf := ite_f kc42 hf
              refine lv_iconst (v := nI 4) hx hb dX2_readProduct_89 rfl ?_
              refine lv_goto (tgt := 94) hx hb dX2_readProduct_90 (by decide) ?_
              refine lv_iconst (v := nI 0) hx hb dX2_readProduct_94 rfl ?_
              obtain ⟨μ46, hc45, hf⟩ := ob hf
              refine m_callv E hK hP hS (As := [.int (nI 4), .int (nI 0)]) (tm_emits l D dT h (nI 4) (nI 0) μ40 _ hc45) (lw_V q1737 q1739 qs94 q166 q1740) dm_emits rfl (by decide) (by decide) hl rfl (Nat.le_of_ble_eq_true rfl) dX2_readProduct_95 (fun H locs hP hS => ?_)
              refine lv_goto (tgt := 10) hx hb dX2_readProduct_98 (by decide) ?_
              cases hf
              exact hk _ _ _ (lv_sub hl [1] rfl) hP hS
          · have hf := ite_t kc41 hf
            refine lv_iconst (v := (-1)) hx hb dX2_readProduct_82 rfl ?_
            cases hf
            have hk : ((-1), μ40) = res := hk
            subst hk
            exact m_iret E hr hlk hP hS rfl dX2_readProduct_83
        · have hf := ite_t kc37 hf
          refine lv_aload_n hx hb dX2_readProduct_61 rfl (lv_at hl 1 rfl) ?_
          refine m_get E hK hP 14 (by decide) rfl q1427 rfl dX2_readProduct_62 ?_
          refine lv_if_ne (tgt := 74) hx hb dX2_readProduct_65 (by decide) (fun kc47 => ?_) (fun kc47 => ?_)
          · have hf := ite_f kc47 hf
            refine lv_aload_n hx hb dX2_readProduct_74 rfl (lv_at hl 1 rfl) ?_
            obtain ⟨v49, μ50, hc48, hf⟩ := ob2 hf
            refine m_calli E hK hP hS (As := []) (tm_readUnit l D dT h μ11 _ hc48) (lw_V q1729 q1731 qs92 q166 q1732) dm_readUnit rfl (by decide) (by decide) hl rfl (Nat.le_of_ble_eq_true rfl) dX2_readProduct_75 (fun H locs hP hS => ?_)
            refine lv_iconst (v := (-1)) hx hb dX2_readProduct_78 rfl ?_
            refine lv_icmp_ne (tgt := 84) hx hb dX2_readProduct_79 (by decide) (fun kc51 => ?_) (fun kc51 => ?_)
            · have hf := ite_f kc51 hf
              refine lv_aload_n hx hb dX2_readProduct_84 rfl (lv_at hl 1 rfl) ?_
              refine lv_iload_n hx hb dX2_readProduct_85 rfl (lv_at hl 0 rfl) ?_
              refine lv_if_eq (tgt := 93) hx hb dX2_readProduct_86 (by decide) (fun kc52 => ?_) (fun kc52 => ?_)
              · have hf := ite_t kc52 hf
                refine lv_iconst (v := nI 5) hx hb dX2_readProduct_93 rfl ?_
                refine lv_iconst (v := nI 0) hx hb dX2_readProduct_94 rfl ?_
                obtain ⟨μ54, hc53, hf⟩ := ob hf
                refine m_callv E hK hP hS (As := [.int (nI 5), .int (nI 0)]) (tm_emits l D dT h (nI 5) (nI 0) μ50 _ hc53) (lw_V q1737 q1739 qs94 q166 q1740) dm_emits rfl (by decide) (by decide) hl rfl (Nat.le_of_ble_eq_true rfl) dX2_readProduct_95 (fun H locs hP hS => ?_)
                refine lv_goto (tgt := 10) hx hb dX2_readProduct_98 (by decide) ?_
                cases hf
                exact hk _ _ _ (lv_sub hl [1] rfl) hP hS
              · have hf := ite_f kc52 hf
                refine lv_iconst (v := nI 4) hx hb dX2_readProduct_89 rfl ?_
                refine lv_goto (tgt := 94) hx hb dX2_readProduct_90 (by decide) ?_
                refine lv_iconst (v := nI 0) hx hb dX2_readProduct_94 rfl ?_
                obtain ⟨μ56, hc55, hf⟩ := ob hf
                refine m_callv E hK hP hS (As := [.int (nI 4), .int (nI 0)]) (tm_emits l D dT h (nI 4) (nI 0) μ50 _ hc55) (lw_V q1737 q1739 qs94 q166 q1740) dm_emits rfl (by decide) (by decide) hl rfl (Nat.le_of_ble_eq_true rfl) dX2_readProduct_95 (fun H locs hP hS => ?_)
                refine lv_goto (tgt := 10) hx hb dX2_readProduct_98 (by decide) ?_
                cases hf
                exact hk _ _ _ (lv_sub hl [1] rfl) hP hS
            · have hf := ite_t kc51 hf
              refine lv_iconst (v := (-1)) hx hb dX2_readProduct_82 rfl ?_
              cases hf
              have hk : ((-1), μ50) = res := hk
              subst hk
              exact m_iret E hr hlk hP hS rfl dX2_readProduct_83
          · have hf := ite_t kc47 hf
            refine lv_aload_n hx hb dX2_readProduct_68 rfl (lv_at hl 1 rfl) ?_
            refine lv_iconst (v := nI 2) hx hb dX2_readProduct_69 rfl ?_
            obtain ⟨v58, μ59, hc57, hf⟩ := ob2 hf
            refine m_calli E hK hP hS (As := [.int (nI 2)]) (tm_errs l D dT h (nI 2) μ11 _ hc57) (lw_V q1657 q1659 qs74 q166 q1660) dm_errs rfl (by decide) (by decide) hl rfl (Nat.le_of_ble_eq_true rfl) dX2_readProduct_70 (fun H locs hP hS => ?_)
            cases hf
            have hk : (v58, μ59) = res := hk
            subst hk
            exact m_iret E hr hlk hP hS rfl dX2_readProduct_73
      · have hf := ite_f kc36 hf
        refine lv_aload_n hx hb dX2_readProduct_51 rfl (lv_at hl 1 rfl) ?_
        refine lv_iconst (v := nI 1) hx hb dX2_readProduct_52 rfl ?_
        obtain ⟨v61, μ62, hc60, hf⟩ := ob2 hf
        refine m_calli E hK hP hS (As := [.int (nI 1)]) (tm_errs l D dT h (nI 1) μ11 _ hc60) (lw_V q1657 q1659 qs74 q166 q1660) dm_errs rfl (by decide) (by decide) hl rfl (Nat.le_of_ble_eq_true rfl) dX2_readProduct_53 (fun H locs hP hS => ?_)
        cases hf
        have hk : (v61, μ62) = res := hk
        subst hk
        exact m_iret E hr hlk hP hS rfl dX2_readProduct_56
  · have hf := ite_t kc7 hf
    refine lv_aload_n hx hb dX2_readProduct_19 rfl (lv_at hl 0 rfl) ?_
    refine lv_bipush (v := nI 47) hx hb dX2_readProduct_20 rfl ?_
    obtain ⟨v64, hc63, hf⟩ := ob hf
    refine m_calli E hK hP hS (As := [.int (nI 47)]) (tm_isSign l D dT h (nI 47) st _ hc63) (lw_V q1685 q1687 qs81 q166 q1688) dm_isSign rfl (by decide) (by decide) hl rfl (Nat.le_of_ble_eq_true rfl) dX2_readProduct_22 (fun H locs hP hS => ?_)
    refine lv_if_eq (tgt := 101) hx hb dX2_readProduct_25 (by decide) (fun kc65 => ?_) (fun kc65 => ?_)
    · have hf := ite_t kc65 hf
      refine lv_iconst (v := nI 0) hx hb dX2_readProduct_101 rfl ?_
      cases hf
      have hk : (nI 0, st) = res := hk
      subst hk
      exact m_iret E hr hlk hP hS rfl dX2_readProduct_102
    · have hf := ite_f kc65 hf
      refine lv_aload_n hx hb dX2_readProduct_28 rfl (lv_at hl 0 rfl) ?_
      refine lv_bipush (v := nI 42) hx hb dX2_readProduct_29 rfl ?_
      obtain ⟨v67, hc66, hf⟩ := ob hf
      refine m_calli E hK hP hS (As := [.int (nI 42)]) (tm_isSign l D dT h (nI 42) st _ hc66) (lw_V q1685 q1687 qs81 q166 q1688) dm_isSign rfl (by decide) (by decide) hl rfl (Nat.le_of_ble_eq_true rfl) dX2_readProduct_31 (fun H locs hP hS => ?_)
      refine lv_istore_n (lv' := [(1, .int v67), (0, .ref h)]) hx hb dX2_readProduct_34 rfl hl (by decide) rfl (fun ls hl => ?_)
      refine lv_aload_n hx hb dX2_readProduct_35 rfl (lv_at hl 1 rfl) ?_
      obtain ⟨μ69, hc68, hf⟩ := ob hf
      refine m_callv E hK hP hS (As := []) (tm_reads l D dT h st _ hc68) (lw_V q1625 q1627 qs66 q166 q1628) dm_reads rfl (by decide) (by decide) hl rfl (Nat.le_of_ble_eq_true rfl) dX2_readProduct_36 (fun H locs hP hS => ?_)
      refine lv_iload_n hx hb dX2_readProduct_39 rfl (lv_at hl 0 rfl) ?_
      refine lv_if_ne (tgt := 57) hx hb dX2_readProduct_40 (by decide) (fun kc70 => ?_) (fun kc70 => ?_)
      · have hf := ite_f kc70 hf
        refine lv_iload_n hx hb dX2_readProduct_57 rfl (lv_at hl 0 rfl) ?_
        refine lv_if_ne (tgt := 74) hx hb dX2_readProduct_58 (by decide) (fun kc71 => ?_) (fun kc71 => ?_)
        · have hf := ite_f kc71 hf
          refine lv_aload_n hx hb dX2_readProduct_74 rfl (lv_at hl 1 rfl) ?_
          obtain ⟨v73, μ74, hc72, hf⟩ := ob2 hf
          refine m_calli E hK hP hS (As := []) (tm_readUnit l D dT h μ69 _ hc72) (lw_V q1729 q1731 qs92 q166 q1732) dm_readUnit rfl (by decide) (by decide) hl rfl (Nat.le_of_ble_eq_true rfl) dX2_readProduct_75 (fun H locs hP hS => ?_)
          refine lv_iconst (v := (-1)) hx hb dX2_readProduct_78 rfl ?_
          refine lv_icmp_ne (tgt := 84) hx hb dX2_readProduct_79 (by decide) (fun kc75 => ?_) (fun kc75 => ?_)
          · have hf := ite_f kc75 hf
            refine lv_aload_n hx hb dX2_readProduct_84 rfl (lv_at hl 1 rfl) ?_
            refine lv_iload_n hx hb dX2_readProduct_85 rfl (lv_at hl 0 rfl) ?_
            refine lv_if_eq (tgt := 93) hx hb dX2_readProduct_86 (by decide) (fun kc76 => ?_) (fun kc76 => ?_)
            · have hf := ite_t kc76 hf
              refine lv_iconst (v := nI 5) hx hb dX2_readProduct_93 rfl ?_
              refine lv_iconst (v := nI 0) hx hb dX2_readProduct_94 rfl ?_
              obtain ⟨μ78, hc77, hf⟩ := ob hf
              refine m_callv E hK hP hS (As := [.int (nI 5), .int (nI 0)]) (tm_emits l D dT h (nI 5) (nI 0) μ74 _ hc77) (lw_V q1737 q1739 qs94 q166 q1740) dm_emits rfl (by decide) (by decide) hl rfl (Nat.le_of_ble_eq_true rfl) dX2_readProduct_95 (fun H locs hP hS => ?_)
              refine lv_goto (tgt := 10) hx hb dX2_readProduct_98 (by decide) ?_
              cases hf
              exact hk _ _ _ (lv_sub hl [1] rfl) hP hS
            · have hf := ite_f kc76 hf
              refine lv_iconst (v := nI 4) hx hb dX2_readProduct_89 rfl ?_
              refine lv_goto (tgt := 94) hx hb dX2_readProduct_90 (by decide) ?_
              refine lv_iconst (v := nI 0) hx hb dX2_readProduct_94 rfl ?_
              obtain ⟨μ80, hc79, hf⟩ := ob hf
              refine m_callv E hK hP hS (As := [.int (nI 4), .int (nI 0)]) (tm_emits l D dT h (nI 4) (nI 0) μ74 _ hc79) (lw_V q1737 q1739 qs94 q166 q1740) dm_emits rfl (by decide) (by decide) hl rfl (Nat.le_of_ble_eq_true rfl) dX2_readProduct_95 (fun H locs hP hS => ?_)
              refine lv_goto (tgt := 10) hx hb dX2_readProduct_98 (by decide) ?_
              cases hf
              exact hk _ _ _ (lv_sub hl [1] rfl) hP hS
          · have hf := ite_t kc75 hf
            refine lv_iconst (v := (-1)) hx hb dX2_readProduct_82 rfl ?_
            cases hf
            have hk : ((-1), μ74) = res := hk
            subst hk
            exact m_iret E hr hlk hP hS rfl dX2_readProduct_83
        · have hf := ite_t kc71 hf
          refine lv_aload_n hx hb dX2_readProduct_61 rfl (lv_at hl 1 rfl) ?_
          refine m_get E hK hP 14 (by decide) rfl q1427 rfl dX2_readProduct_62 ?_
          refine lv_if_ne (tgt := 74) hx hb dX2_readProduct_65 (by decide) (fun kc81 => ?_) (fun kc81 => ?_)
          · have hf := ite_f kc81 hf
            refine lv_aload_n hx hb dX2_readProduct_74 rfl (lv_at hl 1 rfl) ?_
            obtain ⟨v83, μ84, hc82, hf⟩ := ob2 hf
            refine m_calli E hK hP hS (As := []) (tm_readUnit l D dT h μ69 _ hc82) (lw_V q1729 q1731 qs92 q166 q1732) dm_readUnit rfl (by decide) (by decide) hl rfl (Nat.le_of_ble_eq_true rfl) dX2_readProduct_75 (fun H locs hP hS => ?_)
            refine lv_iconst (v := (-1)) hx hb dX2_readProduct_78 rfl ?_
            refine lv_icmp_ne (tgt := 84) hx hb dX2_readProduct_79 (by decide) (fun kc85 => ?_) (fun kc85 => ?_)
            · have hf := ite_f kc85 hf
              refine lv_aload_n hx hb dX2_readProduct_84 rfl (lv_at hl 1 rfl) ?_
              refine lv_iload_n hx hb dX2_readProduct_85 rfl (lv_at hl 0 rfl) ?_
              refine lv_if_eq (tgt := 93) hx hb dX2_readProduct_86 (by decide) (fun kc86 => ?_) (fun kc86 => ?_)
              · have hf := ite_t kc86 hf
                refine lv_iconst (v := nI 5) hx hb dX2_readProduct_93 rfl ?_
                refine lv_iconst (v := nI 0) hx hb dX2_readProduct_94 rfl ?_
                obtain ⟨μ88, hc87, hf⟩ := ob hf
                refine m_callv E hK hP hS (As := [.int (nI 5), .int (nI 0)]) (tm_emits l D dT h (nI 5) (nI 0) μ84 _ hc87) (lw_V q1737 q1739 qs94 q166 q1740) dm_emits rfl (by decide) (by decide) hl rfl (Nat.le_of_ble_eq_true rfl) dX2_readProduct_95 (fun H locs hP hS => ?_)
                refine lv_goto (tgt := 10) hx hb dX2_readProduct_98 (by decide) ?_
                cases hf
                exact hk _ _ _ (lv_sub hl [1] rfl) hP hS
              · have hf := ite_f kc86 hf
                refine lv_iconst (v := nI 4) hx hb dX2_readProduct_89 rfl ?_
                refine lv_goto (tgt := 94) hx hb dX2_readProduct_90 (by decide) ?_
                refine lv_iconst (v := nI 0) hx hb dX2_readProduct_94 rfl ?_
                obtain ⟨μ90, hc89, hf⟩ := ob hf
                refine m_callv E hK hP hS (As := [.int (nI 4), .int (nI 0)]) (tm_emits l D dT h (nI 4) (nI 0) μ84 _ hc89) (lw_V q1737 q1739 qs94 q166 q1740) dm_emits rfl (by decide) (by decide) hl rfl (Nat.le_of_ble_eq_true rfl) dX2_readProduct_95 (fun H locs hP hS => ?_)
                refine lv_goto (tgt := 10) hx hb dX2_readProduct_98 (by decide) ?_
                cases hf
                exact hk _ _ _ (lv_sub hl [1] rfl) hP hS
            · have hf := ite_t kc85 hf
              refine lv_iconst (v := (-1)) hx hb dX2_readProduct_82 rfl ?_
              cases hf
              have hk : ((-1), μ84) = res := hk
              subst hk
              exact m_iret E hr hlk hP hS rfl dX2_readProduct_83
          · have hf := ite_t kc81 hf
            refine lv_aload_n hx hb dX2_readProduct_68 rfl (lv_at hl 1 rfl) ?_
            refine lv_iconst (v := nI 2) hx hb dX2_readProduct_69 rfl ?_
            obtain ⟨v92, μ93, hc91, hf⟩ := ob2 hf
            refine m_calli E hK hP hS (As := [.int (nI 2)]) (tm_errs l D dT h (nI 2) μ69 _ hc91) (lw_V q1657 q1659 qs74 q166 q1660) dm_errs rfl (by decide) (by decide) hl rfl (Nat.le_of_ble_eq_true rfl) dX2_readProduct_70 (fun H locs hP hS => ?_)
            cases hf
            have hk : (v92, μ93) = res := hk
            subst hk
            exact m_iret E hr hlk hP hS rfl dX2_readProduct_73
      · have hf := ite_t kc70 hf
        refine lv_aload_n hx hb dX2_readProduct_43 rfl (lv_at hl 1 rfl) ?_
        refine m_get E hK hP 13 (by decide) rfl q1426 rfl dX2_readProduct_44 ?_
        refine lv_iconst (v := nI 3) hx hb dX2_readProduct_47 rfl ?_
        refine lv_icmp_eq (tgt := 57) hx hb dX2_readProduct_48 (by decide) (fun kc94 => ?_) (fun kc94 => ?_)
        · have hf := ite_t kc94 hf
          refine lv_iload_n hx hb dX2_readProduct_57 rfl (lv_at hl 0 rfl) ?_
          refine lv_if_ne (tgt := 74) hx hb dX2_readProduct_58 (by decide) (fun kc95 => ?_) (fun kc95 => ?_)
          · have hf := ite_f kc95 hf
            refine lv_aload_n hx hb dX2_readProduct_74 rfl (lv_at hl 1 rfl) ?_
            obtain ⟨v97, μ98, hc96, hf⟩ := ob2 hf
            refine m_calli E hK hP hS (As := []) (tm_readUnit l D dT h μ69 _ hc96) (lw_V q1729 q1731 qs92 q166 q1732) dm_readUnit rfl (by decide) (by decide) hl rfl (Nat.le_of_ble_eq_true rfl) dX2_readProduct_75 (fun H locs hP hS => ?_)
            refine lv_iconst (v := (-1)) hx hb dX2_readProduct_78 rfl ?_
            refine lv_icmp_ne (tgt := 84) hx hb dX2_readProduct_79 (by decide) (fun kc99 => ?_) (fun kc99 => ?_)
            · have hf := ite_f kc99 hf
              refine lv_aload_n hx hb dX2_readProduct_84 rfl (lv_at hl 1 rfl) ?_
              refine lv_iload_n hx hb dX2_readProduct_85 rfl (lv_at hl 0 rfl) ?_
              refine lv_if_eq (tgt := 93) hx hb dX2_readProduct_86 (by decide) (fun kc100 => ?_) (fun kc100 => ?_)
              · have hf := ite_t kc100 hf
                refine lv_iconst (v := nI 5) hx hb dX2_readProduct_93 rfl ?_
                refine lv_iconst (v := nI 0) hx hb dX2_readProduct_94 rfl ?_
                obtain ⟨μ102, hc101, hf⟩ := ob hf
                refine m_callv E hK hP hS (As := [.int (nI 5), .int (nI 0)]) (tm_emits l D dT h (nI 5) (nI 0) μ98 _ hc101) (lw_V q1737 q1739 qs94 q166 q1740) dm_emits rfl (by decide) (by decide) hl rfl (Nat.le_of_ble_eq_true rfl) dX2_readProduct_95 (fun H locs hP hS => ?_)
                refine lv_goto (tgt := 10) hx hb dX2_readProduct_98 (by decide) ?_
                cases hf
                exact hk _ _ _ (lv_sub hl [1] rfl) hP hS
              · have hf := ite_f kc100 hf
                refine lv_iconst (v := nI 4) hx hb dX2_readProduct_89 rfl ?_
                refine lv_goto (tgt := 94) hx hb dX2_readProduct_90 (by decide) ?_
                refine lv_iconst (v := nI 0) hx hb dX2_readProduct_94 rfl ?_
                obtain ⟨μ104, hc103, hf⟩ := ob hf
                refine m_callv E hK hP hS (As := [.int (nI 4), .int (nI 0)]) (tm_emits l D dT h (nI 4) (nI 0) μ98 _ hc103) (lw_V q1737 q1739 qs94 q166 q1740) dm_emits rfl (by decide) (by decide) hl rfl (Nat.le_of_ble_eq_true rfl) dX2_readProduct_95 (fun H locs hP hS => ?_)
                refine lv_goto (tgt := 10) hx hb dX2_readProduct_98 (by decide) ?_
                cases hf
                exact hk _ _ _ (lv_sub hl [1] rfl) hP hS
            · have hf := ite_t kc99 hf
              refine lv_iconst (v := (-1)) hx hb dX2_readProduct_82 rfl ?_
              cases hf
              have hk : ((-1), μ98) = res := hk
              subst hk
              exact m_iret E hr hlk hP hS rfl dX2_readProduct_83
          · have hf := ite_t kc95 hf
            refine lv_aload_n hx hb dX2_readProduct_61 rfl (lv_at hl 1 rfl) ?_
            refine m_get E hK hP 14 (by decide) rfl q1427 rfl dX2_readProduct_62 ?_
            refine lv_if_ne (tgt := 74) hx hb dX2_readProduct_65 (by decide) (fun kc105 => ?_) (fun kc105 => ?_)
            · have hf := ite_f kc105 hf
              refine lv_aload_n hx hb dX2_readProduct_74 rfl (lv_at hl 1 rfl) ?_
              obtain ⟨v107, μ108, hc106, hf⟩ := ob2 hf
              refine m_calli E hK hP hS (As := []) (tm_readUnit l D dT h μ69 _ hc106) (lw_V q1729 q1731 qs92 q166 q1732) dm_readUnit rfl (by decide) (by decide) hl rfl (Nat.le_of_ble_eq_true rfl) dX2_readProduct_75 (fun H locs hP hS => ?_)
              refine lv_iconst (v := (-1)) hx hb dX2_readProduct_78 rfl ?_
              refine lv_icmp_ne (tgt := 84) hx hb dX2_readProduct_79 (by decide) (fun kc109 => ?_) (fun kc109 => ?_)
              · have hf := ite_f kc109 hf
                refine lv_aload_n hx hb dX2_readProduct_84 rfl (lv_at hl 1 rfl) ?_
                refine lv_iload_n hx hb dX2_readProduct_85 rfl (lv_at hl 0 rfl) ?_
                refine lv_if_eq (tgt := 93) hx hb dX2_readProduct_86 (by decide) (fun kc110 => ?_) (fun kc110 => ?_)
                · have hf := ite_t kc110 hf
                  refine lv_iconst (v := nI 5) hx hb dX2_readProduct_93 rfl ?_
                  refine lv_iconst (v := nI 0) hx hb dX2_readProduct_94 rfl ?_
                  obtain ⟨μ112, hc111, hf⟩ := ob hf
                  refine m_callv E hK hP hS (As := [.int (nI 5), .int (nI 0)]) (tm_emits l D dT h (nI 5) (nI 0) μ108 _ hc111) (lw_V q1737 q1739 qs94 q166 q1740) dm_emits rfl (by decide) (by decide) hl rfl (Nat.le_of_ble_eq_true rfl) dX2_readProduct_95 (fun H locs hP hS => ?_)
                  refine lv_goto (tgt := 10) hx hb dX2_readProduct_98 (by decide) ?_
                  cases hf
                  exact hk _ _ _ (lv_sub hl [1] rfl) hP hS
                · have hf := ite_f kc110 hf
                  refine lv_iconst (v := nI 4) hx hb dX2_readProduct_89 rfl ?_
                  refine lv_goto (tgt := 94) hx hb dX2_readProduct_90 (by decide) ?_
                  refine lv_iconst (v := nI 0) hx hb dX2_readProduct_94 rfl ?_
                  obtain ⟨μ114, hc113, hf⟩ := ob hf
                  refine m_callv E hK hP hS (As := [.int (nI 4), .int (nI 0)]) (tm_emits l D dT h (nI 4) (nI 0) μ108 _ hc113) (lw_V q1737 q1739 qs94 q166 q1740) dm_emits rfl (by decide) (by decide) hl rfl (Nat.le_of_ble_eq_true rfl) dX2_readProduct_95 (fun H locs hP hS => ?_)
                  refine lv_goto (tgt := 10) hx hb dX2_readProduct_98 (by decide) ?_
                  cases hf
                  exact hk _ _ _ (lv_sub hl [1] rfl) hP hS
              · have hf := ite_t kc109 hf
                refine lv_iconst (v := (-1)) hx hb dX2_readProduct_82 rfl ?_
                cases hf
                have hk : ((-1), μ108) = res := hk
                subst hk
                exact m_iret E hr hlk hP hS rfl dX2_readProduct_83
            · have hf := ite_t kc105 hf
              refine lv_aload_n hx hb dX2_readProduct_68 rfl (lv_at hl 1 rfl) ?_
              refine lv_iconst (v := nI 2) hx hb dX2_readProduct_69 rfl ?_
              obtain ⟨v116, μ117, hc115, hf⟩ := ob2 hf
              refine m_calli E hK hP hS (As := [.int (nI 2)]) (tm_errs l D dT h (nI 2) μ69 _ hc115) (lw_V q1657 q1659 qs74 q166 q1660) dm_errs rfl (by decide) (by decide) hl rfl (Nat.le_of_ble_eq_true rfl) dX2_readProduct_70 (fun H locs hP hS => ?_)
              cases hf
              have hk : (v116, μ117) = res := hk
              subst hk
              exact m_iret E hr hlk hP hS rfl dX2_readProduct_73
        · have hf := ite_f kc94 hf
          refine lv_aload_n hx hb dX2_readProduct_51 rfl (lv_at hl 1 rfl) ?_
          refine lv_iconst (v := nI 1) hx hb dX2_readProduct_52 rfl ?_
          obtain ⟨v119, μ120, hc118, hf⟩ := ob2 hf
          refine m_calli E hK hP hS (As := [.int (nI 1)]) (tm_errs l D dT h (nI 1) μ69 _ hc118) (lw_V q1657 q1659 qs74 q166 q1660) dm_errs rfl (by decide) (by decide) hl rfl (Nat.le_of_ble_eq_true rfl) dX2_readProduct_53 (fun H locs hP hS => ?_)
          cases hf
          have hk : (v119, μ120) = res := hk
          subst hk
          exact m_iret E hr hlk hP hS rfl dX2_readProduct_56
set_option maxHeartbeats 4000000 in
theorem dm_readProduct : yX2_readProduct.cls = RX2 ∧ yX2_readProduct.cls ≠ "java/lang/invoke/MethodHandle" ∧ yX2_readProduct.cls ≠ "java/lang/invoke/VarHandle" ∧ (parseMethodDescriptor yX2_readProduct.desc).map (fun d => d.parameters.length) = some 0 := ⟨rfl, by decide +kernel, by decide +kernel, by decide +kernel⟩
set_option maxHeartbeats 4000000 in
theorem tm_readProduct (l : Launch) (D : va_G) (dT : Nat → ClassId) (h : Nat) (μ : nwM) (res : Int32 × nwM) (hf : fm_readProduct μ = some res) : Met l yX2_readProduct (ws_ yX2_readProduct cX2_readProduct 2 (some .int)) (rmd 4) (mPc D dT h μ []) (mQi D dT h res.2 res.1) 0 0 (mA h) := by
  refine m_met (by decide) rfl (Nat.le_of_ble_eq_true rfl) ?_
  intro p e s m below meth c ls E hK hr hlk hl hP
  have hS : va_S (mA h) s.heap s.heap [] := va_S.rf
  obtain ⟨hx, hb, -, hown, hts⟩ := id E
  have hl : lv_has ls 2 [(0, .ref h)] := hl
  unfold fm_readProduct at hf
  refine lv_aload_n hx hb dX2_readProduct_0 rfl (lv_at hl 0 rfl) ?_
  obtain ⟨v2, μ3, hc1, hf⟩ := ob2 hf
  refine m_calli E hK hP hS (As := []) (tm_readUnit l D dT h μ _ hc1) (lw_V q1729 q1731 qs92 q166 q1732) dm_readUnit rfl (by decide) (by decide) hl rfl (Nat.le_of_ble_eq_true rfl) dX2_readProduct_1 (fun H locs hP hS => ?_)
  refine lv_iconst (v := (-1)) hx hb dX2_readProduct_4 rfl ?_
  refine lv_icmp_ne (tgt := 10) hx hb dX2_readProduct_5 (by decide) (fun kc4 => ?_) (fun kc4 => ?_)
  · have hf := ite_f kc4 hf
    exact fm_readProduct_L10_w E hK hr hlk hf rfl _ _ _ (lv_sub hl [0] rfl) hP hS
  · have hf := ite_t kc4 hf
    refine lv_iconst (v := (-1)) hx hb dX2_readProduct_8 rfl ?_
    cases hf
    exact m_iret E hr hlk hP hS rfl dX2_readProduct_9
