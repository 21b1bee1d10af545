/-! walks, written by my programs -/
set_option maxRecDepth 100000
set_option maxHeartbeats 4000000 in
noncomputable def fx_call (x1 : Int32) (x2 : Int32) (μ : nwX) : Option (Int32 × nwX) := (fs_canCall x1 x2 (μ.2.1 0)).bind fun v2 => (if v2 = 0 then some ((-1), μ) else (fx_keeps μ).bind fun χ5 => bd2 (xc_ χ5 0 (fs_calls x1 x2 (nI 0) (χ5.2.2.2.2 0) (χ5.2.1 0))) fun v7 χ8 => some (v7, χ8))
set_option maxHeartbeats 4000000 in
theorem dx_call : yX0_call.cls = RX0 ∧ yX0_call.cls ≠ "java/lang/invoke/MethodHandle" ∧ yX0_call.cls ≠ "java/lang/invoke/VarHandle" ∧ (parseMethodDescriptor yX0_call.desc).map (fun d => d.parameters.length) = some 2 := ⟨rfl, by decide +kernel, by decide +kernel, by decide +kernel⟩
set_option maxHeartbeats 4000000 in
theorem tx_call (l : Launch) (D : va_G) (dT : Nat → ClassId) (g : Nat) (x1 : Int32) (x2 : Int32) (μ : nwX) (res : Int32 × nwX) (hf : fx_call x1 x2 μ = some res) : Met l yX0_call (ws_ yX0_call cX0_call 3 (some .int)) (rmd 407) (va_Pc [.ref g, .int x1, .int x2] (fun U => PX D dT g μ U.heap ∧ EV D dT U)) (va_Qi (fun r' (_ : Unit) => r' = res.1) (fun _ t => PX D dT g res.2 t.heap) (xA g)) 0 0 (xA g) := by
  refine g_met (D := D) (dT := dT) (A := xA g) (own := RX0) (Pic := fun H => PX D dT g μ H) (by decide) rfl (Nat.le_of_ble_eq_true rfl) ?_
  intro p e s m below meth c ls E hE hr hlk hl hP
  have hK := hE.1
  have hS : va_S (xA g) s.heap s.heap [] := va_S.rf
  obtain ⟨hx, hb, hml, hown, hts⟩ := id E
  have hl : lv_has ls 3 [(0, .ref g), (1, .int x1), (2, .int x2)] := hl
  unfold fx_call at hf
  refine lv_aload_n hx hb dX0_call_0 rfl (lv_at hl 0 rfl) ?_
  refine gp_get (C := RX0) (T := TX0) E hK hP.1 (shO_g g) rfl in_X0 4 (by decide) (hts _ q337) (fun _ z => z) vO_4 dX0_call_1 ?_
  refine lv_iload_n hx hb dX0_call_4 rfl (lv_at hl 1 rfl) ?_
  refine lv_iload_n hx hb dX0_call_5 rfl (lv_at hl 2 rfl) ?_
  obtain ⟨v2, hc1, hf⟩ := ob hf
  refine gx_calli E hE (Pic := fun H => PS D dT (skA g 0) (μ.2.1 0) (μ.2.2.2.1 0) H) (Pic1 := fun H => PS D dT (skA g 0) (μ.2.1 0) (μ.2.2.2.1 0) H) (hP.2.1 0 (by decide)).1 hS (fun _ z => z.elim) (As := [.int x1, .int x2]) (ts_canCall l D dT (skA g 0) (μ.2.2.2.1 0) x1 x2 (μ.2.1 0) _ hc1) (g_recv hK (hP.2.1 0 (by decide)).1 (shS_h _) rfl) (lw_V q980 q981 q982 q162 q983) ds_canCall rfl (by decide) (by decide) hl rfl (Nat.le_of_ble_eq_true rfl) dX0_call_6 (fun H1 locs1 hG hz1 hq1 hS => ?_)
  have hP := PX_same hP hz1 (fun q z => hq1 q z (fun y => y))
  refine lv_if_ne (tgt := 14) hx hb dX0_call_9 (by decide) (fun kc3 => ?_) (fun kc3 => ?_)
  · have hf := ite_f kc3 hf
    refine lv_aload_n hx hb dX0_call_14 rfl (lv_at hl 0 rfl) ?_
    obtain ⟨χ5, hc4, hf⟩ := ob hf
    refine gx_callv E hE (Pic := fun H => PX D dT g μ H) (Pic1 := fun H => PX D dT g χ5 H) hP hS (fun _ z => z) (As := []) (tx_keeps l D dT g μ _ hc4) (g_recv hK hP.1 (shO_g g) rfl) (lw_V q989 q991 qs34 q161 q992) dx_keeps rfl (by decide) (by decide) hl rfl (Nat.le_of_ble_eq_true rfl) dX0_call_15 (fun H locs hP _ _ hS => ?_)
    refine lv_aload_n hx hb dX0_call_18 rfl (lv_at hl 0 rfl) ?_
    refine gp_get (C := RX0) (T := TX0) E hK hP.1 (shO_g g) rfl in_X0 4 (by decide) (hts _ q337) (fun _ z => z) vO_4 dX0_call_19 ?_
    refine lv_iload_n hx hb dX0_call_22 rfl (lv_at hl 1 rfl) ?_
    refine lv_iload_n hx hb dX0_call_23 rfl (lv_at hl 2 rfl) ?_
    refine lv_iconst (v := nI 0) hx hb dX0_call_24 rfl ?_
    obtain ⟨v7, χ8, hc6, hf⟩ := ob2 hf
    obtain ⟨sχ8, hc6, eχ8⟩ := xc_in hc6
    refine gx_calli E hE (Pic := fun H => PS D dT (skA g 0) (χ5.2.1 0) (χ5.2.2.2.1 0) H ∧ LR D dT (sA (skA g 0)) (χ5.2.2.2.1 0) (χ5.2.2.2.2 0) H) (Pic1 := fun H => PS D dT (skA g 0) sχ8 (χ5.2.2.2.1 0) H) ⟨(hP.2.1 0 (by decide)).1, (hP.2.1 0 (by decide)).2.weak (fun _ z => xA_s (by decide) z)⟩ hS (fun _ z => xA_s (by decide) z) (As := [.int x1, .int x2, .int (nI 0)]) (ts_calls l D dT (skA g 0) (χ5.2.2.2.1 0) x1 x2 (nI 0) (χ5.2.2.2.2 0) (χ5.2.1 0) _ hc6) (g_recv hK (hP.2.1 0 (by decide)).1 (shS_h _) rfl) (lw_V q993 q994 q995 q162 q996) ds_calls rfl (by decide) (by decide) hl rfl (Nat.le_of_ble_eq_true rfl) dX0_call_25 (fun H1 locs1 hG hz1 hq1 hS => ?_)
    have hP := PX_set hP (by decide) hG hz1 hq1
    rw [← eχ8] at hP
    cases hf
    exact g_iret (Pic := fun H => PX D dT g _ H) E hr hlk hP hS rfl dX0_call_28
  · have hf := ite_t kc3 hf
    refine lv_iconst (v := (-1)) hx hb dX0_call_12 rfl ?_
    cases hf
    exact g_iret (Pic := fun H => PX D dT g _ H) E hr hlk hP hS rfl dX0_call_13
set_option maxHeartbeats 4000000 in
noncomputable def fx_move (x1 : Int32) (x2 : Int32) (μ : nwX) : Option (Int32 × nwX) := (fs_canMove x1 x2 (μ.2.1 0)).bind fun v2 => (if v2 = 0 then some (nI 0, μ) else (fx_keeps μ).bind fun χ5 => (xs_ χ5 0 (fs_moveTo x1 x2 (χ5.2.1 0))).bind fun χ7 => some (nI 1, χ7))
set_option maxHeartbeats 4000000 in
theorem dx_move : yX0_move.cls = RX0 ∧ yX0_move.cls ≠ "java/lang/invoke/MethodHandle" ∧ yX0_move.cls ≠ "java/lang/invoke/VarHandle" ∧ (parseMethodDescriptor yX0_move.desc).map (fun d => d.parameters.length) = some 2 := ⟨rfl, by decide +kernel, by decide +kernel, by decide +kernel⟩
set_option maxHeartbeats 4000000 in
theorem tx_move (l : Launch) (D : va_G) (dT : Nat → ClassId) (g : Nat) (x1 : Int32) (x2 : Int32) (μ : nwX) (res : Int32 × nwX) (hf : fx_move x1 x2 μ = some res) : Met l yX0_move (ws_ yX0_move cX0_move 3 (some .boolean)) (rmd 4) (va_Pc [.ref g, .int x1, .int x2] (fun U => PX D dT g μ U.heap ∧ EV D dT U)) (va_Qi (fun r' (_ : Unit) => r' = res.1) (fun _ t => PX D dT g res.2 t.heap) (xA g)) 0 0 (xA g) := by
  refine g_met (D := D) (dT := dT) (A := xA g) (own := RX0) (Pic := fun H => PX D dT g μ H) (by decide) rfl (Nat.le_of_ble_eq_true rfl) ?_
  intro p e s m below meth c ls E hE hr hlk hl hP
  have hK := hE.1
  have hS : va_S (xA g) s.heap s.heap [] := va_S.rf
  obtain ⟨hx, hb, hml, hown, hts⟩ := id E
  have hl : lv_has ls 3 [(0, .ref g), (1, .int x1), (2, .int x2)] := hl
  unfold fx_move at hf
  refine lv_aload_n hx hb dX0_move_0 rfl (lv_at hl 0 rfl) ?_
  refine gp_get (C := RX0) (T := TX0) E hK hP.1 (shO_g g) rfl in_X0 4 (by decide) (hts _ q337) (fun _ z => z) vO_4 dX0_move_1 ?_
  refine lv_iload_n hx hb dX0_move_4 rfl (lv_at hl 1 rfl) ?_
  refine lv_iload_n hx hb dX0_move_5 rfl (lv_at hl 2 rfl) ?_
  obtain ⟨v2, hc1, hf⟩ := ob hf
  refine gx_calli E hE (Pic := fun H => PS D dT (skA g 0) (μ.2.1 0) (μ.2.2.2.1 0) H) (Pic1 := fun H => PS D dT (skA g 0) (μ.2.1 0) (μ.2.2.2.1 0) H) (hP.2.1 0 (by decide)).1 hS (fun _ z => z.elim) (As := [.int x1, .int x2]) (ts_canMove l D dT (skA g 0) (μ.2.2.2.1 0) x1 x2 (μ.2.1 0) _ hc1) (g_recv hK (hP.2.1 0 (by decide)).1 (shS_h _) rfl) (lw_V q1068 q1069 q1070 q162 q1071) ds_canMove rfl (by decide) (by decide) hl rfl (Nat.le_of_ble_eq_true rfl) dX0_move_6 (fun H1 locs1 hG hz1 hq1 hS => ?_)
  have hP := PX_same hP hz1 (fun q z => hq1 q z (fun y => y))
  refine lv_if_ne (tgt := 14) hx hb dX0_move_9 (by decide) (fun kc3 => ?_) (fun kc3 => ?_)
  · have hf := ite_f kc3 hf
    refine lv_aload_n hx hb dX0_move_14 rfl (lv_at hl 0 rfl) ?_
    obtain ⟨χ5, hc4, hf⟩ := ob hf
    refine gx_callv E hE (Pic := fun H => PX D dT g μ H) (Pic1 := fun H => PX D dT g χ5 H) hP hS (fun _ z => z) (As := []) (tx_keeps l D dT g μ _ hc4) (g_recv hK hP.1 (shO_g g) rfl) (lw_V q989 q991 qs34 q161 q992) dx_keeps rfl (by decide) (by decide) hl rfl (Nat.le_of_ble_eq_true rfl) dX0_move_15 (fun H locs hP _ _ hS => ?_)
    refine lv_aload_n hx hb dX0_move_18 rfl (lv_at hl 0 rfl) ?_
    refine gp_get (C := RX0) (T := TX0) E hK hP.1 (shO_g g) rfl in_X0 4 (by decide) (hts _ q337) (fun _ z => z) vO_4 dX0_move_19 ?_
    refine lv_iload_n hx hb dX0_move_22 rfl (lv_at hl 1 rfl) ?_
    refine lv_iload_n hx hb dX0_move_23 rfl (lv_at hl 2 rfl) ?_
    obtain ⟨χ7, hc6, hf⟩ := ob hf
    obtain ⟨sχ7, hc6, eχ7⟩ := xs_in hc6
    refine gx_callv E hE (Pic := fun H => PS D dT (skA g 0) (χ5.2.1 0) (χ5.2.2.2.1 0) H) (Pic1 := fun H => PS D dT (skA g 0) sχ7 (χ5.2.2.2.1 0) H) (hP.2.1 0 (by decide)).1 hS (fun _ z => xA_s (by decide) z) (As := [.int x1, .int x2]) (ts_moveTo l D dT (skA g 0) (χ5.2.2.2.1 0) x1 x2 (χ5.2.1 0) _ hc6) (g_recv hK (hP.2.1 0 (by decide)).1 (shS_h _) rfl) (lw_V q1076 q1077 q1078 q162 q1079) ds_moveTo rfl (by decide) (by decide) hl rfl (Nat.le_of_ble_eq_true rfl) dX0_move_24 (fun H1 locs1 hG hz1 hq1 hS => ?_)
    have hP := PX_set hP (by decide) hG hz1 hq1
    rw [← eχ7] at hP
    refine lv_iconst (v := nI 1) hx hb dX0_move_27 rfl ?_
    cases hf
    exact g_zret (Pic := fun H => PX D dT g _ H) E hr hlk hP hS rfl dX0_move_28
  · have hf := ite_t kc3 hf
    refine lv_iconst (v := nI 0) hx hb dX0_move_12 rfl ?_
    cases hf
    exact g_zret (Pic := fun H => PX D dT g _ H) E hr hlk hP hS rfl dX0_move_13
set_option maxHeartbeats 4000000 in
noncomputable def fx_bury (x1 : Int32) (μ : nwX) : Option (Int32 × nwX) := (fs_lives x1 (μ.2.1 0)).bind fun v2 => (if v2 = 0 then some (nI 0, μ) else (fx_keeps μ).bind fun χ5 => (xs_ χ5 0 (fs_buries x1 (χ5.2.1 0))).bind fun χ7 => some (nI 1, χ7))
set_option maxHeartbeats 4000000 in
theorem dx_bury : yX0_bury.cls = RX0 ∧ yX0_bury.cls ≠ "java/lang/invoke/MethodHandle" ∧ yX0_bury.cls ≠ "java/lang/invoke/VarHandle" ∧ (parseMethodDescriptor yX0_bury.desc).map (fun d => d.parameters.length) = some 1 := ⟨rfl, by decide +kernel, by decide +kernel, by decide +kernel⟩
set_option maxHeartbeats 4000000 in
theorem tx_bury (l : Launch) (D : va_G) (dT : Nat → ClassId) (g : Nat) (x1 : Int32) (μ : nwX) (res : Int32 × nwX) (hf : fx_bury x1 μ = some res) : Met l yX0_bury (ws_ yX0_bury cX0_bury 2 (some .boolean)) (rmd 3) (va_Pc [.ref g, .int x1] (fun U => PX D dT g μ U.heap ∧ EV D dT U)) (va_Qi (fun r' (_ : Unit) => r' = res.1) (fun _ t => PX D dT g res.2 t.heap) (xA g)) 0 0 (xA g) := by
  refine g_met (D := D) (dT := dT) (A := xA g) (own := RX0) (Pic := fun H => PX D dT g μ H) (by decide) rfl (Nat.le_of_ble_eq_true rfl) ?_
  intro p e s m below meth c ls E hE hr hlk hl hP
  have hK := hE.1
  have hS : va_S (xA g) s.heap s.heap [] := va_S.rf
  obtain ⟨hx, hb, hml, hown, hts⟩ := id E
  have hl : lv_has ls 2 [(0, .ref g), (1, .int x1)] := hl
  unfold fx_bury at hf
  refine lv_aload_n hx hb dX0_bury_0 rfl (lv_at hl 0 rfl) ?_
  refine gp_get (C := RX0) (T := TX0) E hK hP.1 (shO_g g) rfl in_X0 4 (by decide) (hts _ q337) (fun _ z => z) vO_4 dX0_bury_1 ?_
  refine lv_iload_n hx hb dX0_bury_4 rfl (lv_at hl 1 rfl) ?_
  obtain ⟨v2, hc1, hf⟩ := ob hf
  refine gx_calli E hE (Pic := fun H => PS D dT (skA g 0) (μ.2.1 0) (μ.2.2.2.1 0) H) (Pic1 := fun H => PS D dT (skA g 0) (μ.2.1 0) (μ.2.2.2.1 0) H) (hP.2.1 0 (by decide)).1 hS (fun _ z => z.elim) (As := [.int x1]) (ts_lives l D dT (skA g 0) (μ.2.2.2.1 0) x1 (μ.2.1 0) _ hc1) (g_recv hK (hP.2.1 0 (by decide)).1 (shS_h _) rfl) (lw_V q1084 q1073 q1074 q162 q1075) ds_lives rfl (by decide) (by decide) hl rfl (Nat.le_of_ble_eq_true rfl) dX0_bury_5 (fun H1 locs1 hG hz1 hq1 hS => ?_)
  have hP := PX_same hP hz1 (fun q z => hq1 q z (fun y => y))
  refine lv_if_ne (tgt := 13) hx hb dX0_bury_8 (by decide) (fun kc3 => ?_) (fun kc3 => ?_)
  · have hf := ite_f kc3 hf
    refine lv_aload_n hx hb dX0_bury_13 rfl (lv_at hl 0 rfl) ?_
    obtain ⟨χ5, hc4, hf⟩ := ob hf
    refine gx_callv E hE (Pic := fun H => PX D dT g μ H) (Pic1 := fun H => PX D dT g χ5 H) hP hS (fun _ z => z) (As := []) (tx_keeps l D dT g μ _ hc4) (g_recv hK hP.1 (shO_g g) rfl) (lw_V q989 q991 qs34 q161 q992) dx_keeps rfl (by decide) (by decide) hl rfl (Nat.le_of_ble_eq_true rfl) dX0_bury_14 (fun H locs hP _ _ hS => ?_)
    refine lv_aload_n hx hb dX0_bury_17 rfl (lv_at hl 0 rfl) ?_
    refine gp_get (C := RX0) (T := TX0) E hK hP.1 (shO_g g) rfl in_X0 4 (by decide) (hts _ q337) (fun _ z => z) vO_4 dX0_bury_18 ?_
    refine lv_iload_n hx hb dX0_bury_21 rfl (lv_at hl 1 rfl) ?_
    obtain ⟨χ7, hc6, hf⟩ := ob hf
    obtain ⟨sχ7, hc6, eχ7⟩ := xs_in hc6
    refine gx_callv E hE (Pic := fun H => PS D dT (skA g 0) (χ5.2.1 0) (χ5.2.2.2.1 0) H) (Pic1 := fun H => PS D dT (skA g 0) sχ7 (χ5.2.2.2.1 0) H) (hP.2.1 0 (by decide)).1 hS (fun _ z => xA_s (by decide) z) (As := [.int x1]) (ts_buries l D dT (skA g 0) (χ5.2.2.2.1 0) x1 (χ5.2.1 0) _ hc6) (g_recv hK (hP.2.1 0 (by decide)).1 (shS_h _) rfl) (lw_V q1085 q1086 q1087 q162 q1088) ds_buries rfl (by decide) (by decide) hl rfl (Nat.le_of_ble_eq_true rfl) dX0_bury_22 (fun H1 locs1 hG hz1 hq1 hS => ?_)
    have hP := PX_set hP (by decide) hG hz1 hq1
    rw [← eχ7] at hP
    refine lv_iconst (v := nI 1) hx hb dX0_bury_25 rfl ?_
    cases hf
    exact g_zret (Pic := fun H => PX D dT g _ H) E hr hlk hP hS rfl dX0_bury_26
  · have hf := ite_t kc3 hf
    refine lv_iconst (v := nI 0) hx hb dX0_bury_11 rfl ?_
    cases hf
    exact g_zret (Pic := fun H => PX D dT g _ H) E hr hlk hP hS rfl dX0_bury_12
set_option maxHeartbeats 4000000 in
noncomputable def fx_birth (x1 : Int32) (μ : nwX) : Option (Int32 × nwX) := (fi_isIsland x1 ()).bind fun v1 => (if v1 = 0 then some ((-1), μ) else (if ((μ.2.1 0) 13 0) = (nI 12) then some ((-1), μ) else (fs_mostOf x1 (μ.2.1 0)).bind fun v5 => (if v5 = (-1) then some ((-1), μ) else (fx_keeps μ).bind fun χ8 => bd2 (xc_ χ8 0 (fs_births x1 (χ8.2.1 0))) fun v10 χ11 => some (v10, χ11))))
set_option maxHeartbeats 4000000 in
theorem dx_birth : yX0_birth.cls = RX0 ∧ yX0_birth.cls ≠ "java/lang/invoke/MethodHandle" ∧ yX0_birth.cls ≠ "java/lang/invoke/VarHandle" ∧ (parseMethodDescriptor yX0_birth.desc).map (fun d => d.parameters.length) = some 1 := ⟨rfl, by decide +kernel, by decide +kernel, by decide +kernel⟩
set_option maxHeartbeats 4000000 in
theorem tx_birth (l : Launch) (D : va_G) (dT : Nat → ClassId) (g : Nat) (x1 : Int32) (μ : nwX) (res : Int32 × nwX) (hf : fx_birth x1 μ = some res) : Met l yX0_birth (ws_ yX0_birth cX0_birth 2 (some .int)) (rmd 3) (va_Pc [.ref g, .int x1] (fun U => PX D dT g μ U.heap ∧ EV D dT U)) (va_Qi (fun r' (_ : Unit) => r' = res.1) (fun _ t => PX D dT g res.2 t.heap) (xA g)) 0 0 (xA g) := by
  refine g_met (D := D) (dT := dT) (A := xA g) (own := RX0) (Pic := fun H => PX D dT g μ H) (by decide) rfl (Nat.le_of_ble_eq_true rfl) ?_
  intro p e s m below meth c ls E hE hr hlk hl hP
  have hK := hE.1
  have hS : va_S (xA g) s.heap s.heap [] := va_S.rf
  obtain ⟨hx, hb, hml, hown, hts⟩ := id E
  have hl : lv_has ls 2 [(0, .ref g), (1, .int x1)] := hl
  unfold fx_birth at hf
  refine lv_iload_n hx hb dX0_birth_0 rfl (lv_at hl 1 rfl) ?_
  obtain ⟨v1, hv1, hf⟩ := ob hf
  refine p_calli E hS (As := [.int x1]) (ti_isIsland l x1 _ hv1) (lw_S q957 q958 q161 q959) di_isIsland rfl (by decide) (by decide) hl rfl (Nat.le_of_ble_eq_true rfl) dX0_birth_1 (fun H1 locs1 hq1 hS => ?_)
  have hP := PX_same hP (hz_all hq1) hq1
  refine lv_if_eq (tgt := 31) hx hb dX0_birth_4 (by decide) (fun kc2 => ?_) (fun kc2 => ?_)
  · have hf := ite_t kc2 hf
    refine lv_iconst (v := (-1)) hx hb dX0_birth_31 rfl ?_
    cases hf
    exact g_iret (Pic := fun H => PX D dT g _ H) E hr hlk hP hS rfl dX0_birth_32
  · have hf := ite_f kc2 hf
    refine lv_aload_n hx hb dX0_birth_7 rfl (lv_at hl 0 rfl) ?_
    refine gp_get (C := RX0) (T := TX0) E hK hP.1 (shO_g g) rfl in_X0 4 (by decide) (hts _ q337) (fun _ z => z) vO_4 dX0_birth_8 ?_
    refine gp_getN (C := RX1) (T := TX1) E hK (hP.2.1 0 (by decide)).1 (shS_h _) rfl in_X1 13 (by decide) (nfw_12 hE.2) (fun _ z => z) (vS_i (by decide)) dX0_birth_11 ?_
    refine lv_bipush (v := nI 12) hx hb dX0_birth_14 rfl ?_
    refine lv_icmp_eq (tgt := 31) hx hb dX0_birth_16 (by decide) (fun kc3 => ?_) (fun kc3 => ?_)
    · have hf := ite_t kc3 hf
      refine lv_iconst (v := (-1)) hx hb dX0_birth_31 rfl ?_
      cases hf
      exact g_iret (Pic := fun H => PX D dT g _ H) E hr hlk hP hS rfl dX0_birth_32
    · have hf := ite_f kc3 hf
      refine lv_aload_n hx hb dX0_birth_19 rfl (lv_at hl 0 rfl) ?_
      refine gp_get (C := RX0) (T := TX0) E hK hP.1 (shO_g g) rfl in_X0 4 (by decide) (hts _ q337) (fun _ z => z) vO_4 dX0_birth_20 ?_
      refine lv_iload_n hx hb dX0_birth_23 rfl (lv_at hl 1 rfl) ?_
      obtain ⟨v5, hc4, hf⟩ := ob hf
      refine gx_calli E hE (Pic := fun H => PS D dT (skA g 0) (μ.2.1 0) (μ.2.2.2.1 0) H) (Pic1 := fun H => PS D dT (skA g 0) (μ.2.1 0) (μ.2.2.2.1 0) H) (hP.2.1 0 (by decide)).1 hS (fun _ z => z.elim) (As := [.int x1]) (ts_mostOf l D dT (skA g 0) (μ.2.2.2.1 0) x1 (μ.2.1 0) _ hc4) (g_recv hK (hP.2.1 0 (by decide)).1 (shS_h _) rfl) (lw_V q1093 q1094 q1095 q162 q1096) ds_mostOf rfl (by decide) (by decide) hl rfl (Nat.le_of_ble_eq_true rfl) dX0_birth_24 (fun H1 locs1 hG hz1 hq1 hS => ?_)
      have hP := PX_same hP hz1 (fun q z => hq1 q z (fun y => y))
      refine lv_iconst (v := (-1)) hx hb dX0_birth_27 rfl ?_
      refine lv_icmp_ne (tgt := 33) hx hb dX0_birth_28 (by decide) (fun kc6 => ?_) (fun kc6 => ?_)
      · have hf := ite_f kc6 hf
        refine lv_aload_n hx hb dX0_birth_33 rfl (lv_at hl 0 rfl) ?_
        obtain ⟨χ8, hc7, hf⟩ := ob hf
        refine gx_callv E hE (Pic := fun H => PX D dT g μ H) (Pic1 := fun H => PX D dT g χ8 H) hP hS (fun _ z => z) (As := []) (tx_keeps l D dT g μ _ hc7) (g_recv hK hP.1 (shO_g g) rfl) (lw_V q989 q991 qs34 q161 q992) dx_keeps rfl (by decide) (by decide) hl rfl (Nat.le_of_ble_eq_true rfl) dX0_birth_34 (fun H locs hP _ _ hS => ?_)
        refine lv_aload_n hx hb dX0_birth_37 rfl (lv_at hl 0 rfl) ?_
        refine gp_get (C := RX0) (T := TX0) E hK hP.1 (shO_g g) rfl in_X0 4 (by decide) (hts _ q337) (fun _ z => z) vO_4 dX0_birth_38 ?_
        refine lv_iload_n hx hb dX0_birth_41 rfl (lv_at hl 1 rfl) ?_
        obtain ⟨v10, χ11, hc9, hf⟩ := ob2 hf
        obtain ⟨sχ11, hc9, eχ11⟩ := xc_in hc9
        refine gx_calli E hE (Pic := fun H => PS D dT (skA g 0) (χ8.2.1 0) (χ8.2.2.2.1 0) H) (Pic1 := fun H => PS D dT (skA g 0) sχ11 (χ8.2.2.2.1 0) H) (hP.2.1 0 (by decide)).1 hS (fun _ z => xA_s (by decide) z) (As := [.int x1]) (ts_births l D dT (skA g 0) (χ8.2.2.2.1 0) x1 (χ8.2.1 0) _ hc9) (g_recv hK (hP.2.1 0 (by decide)).1 (shS_h _) rfl) (lw_V q1097 q1098 q1099 q162 q1100) ds_births rfl (by decide) (by decide) hl rfl (Nat.le_of_ble_eq_true rfl) dX0_birth_42 (fun H1 locs1 hG hz1 hq1 hS => ?_)
        have hP := PX_set hP (by decide) hG hz1 hq1
        rw [← eχ11] at hP
        cases hf
        exact g_iret (Pic := fun H => PX D dT g _ H) E hr hlk hP hS rfl dX0_birth_45
      · have hf := ite_t kc6 hf
        refine lv_iconst (v := (-1)) hx hb dX0_birth_31 rfl ?_
        cases hf
        exact g_iret (Pic := fun H => PX D dT g _ H) E hr hlk hP hS rfl dX0_birth_32
set_option maxHeartbeats 4000000 in
noncomputable def fx_days_L37 (x1 : Int32) : (Int32 × nwX) → Option ((Int32 × nwX) ⊕ (nwX)) := fun st => (if x1 ≤ st.1 then some (.inr st.2) else (fx_keeps st.2).bind fun χ7 => (xs_ χ7 0 (fs_morning (χ7.2.2.2.2 0) (χ7.2.1 0))).bind fun χ9 => (xs_ χ9 0 (fs_evening (nI 1) (χ9.2.2.2.2 0) (χ9.2.1 0))).bind fun χ11 => some (.inl (st.1 + nI 1, χ11)))
set_option maxHeartbeats 4000000 in
noncomputable def fx_days (x1 : Int32) (μ : nwX) : Option (Int32 × nwX) := (fi_isIn x1 (nI 1) (nI 60) ()).bind fun v1 => (if v1 = 0 then some ((-1), μ) else (if (((μ.2.1 0) 15 0) + x1) ≤ (nI 999) then (xs_ μ 0 (wf_ (μ.2.1 0) 19 (nI 0))).bind fun χ4 => (wh_ (fx_days_L37 x1) (nI 0, χ4)).bind fun x12 => some ((x12.2.1 0) 19 0, x12) else some ((-1), μ)))
set_option maxHeartbeats 4000000 in
theorem fx_days_L37_w {p : Program} {l : Launch} {e : Env} {s : State} {m : MethodId} {args : Array Value} {below : List Frame} {meth : Method} {c : Code} {D : va_G} {dT : Nat → ClassId} {Q : State → Prop} {g : Nat} (E : CallFix p m c cX0_days 3 s args lw_all RX0) (hK : va_K D nwCl (nwT dT) s) (hE : EV D dT s) (x1 : Int32) {st : Int32 × nwX} {x : nwX} (hw : wh_ (fx_days_L37 x1) st = some x) (hk : (fun x : nwX => ∀ (ls : Array Slot) (H : Heap) (locs : List Loc), lv_has ls 3 [(0, .ref g)] → PX D dT g x H → va_S (xA g) s.heap H locs → W p l e (rmd 409) s m args below meth c H locs 0 0 Q (F0 m 67 ls [])) x) : (fun st : Int32 × nwX => ∀ (ls : Array Slot) (H : Heap) (locs : List Loc), lv_has ls 3 [(0, .ref g), (1, .int x1), (2, .int st.1)] → PX D dT g st.2 H → va_S (xA g) s.heap H locs → W p l e (rmd 409) s m args below meth c H locs 0 0 Q (F0 m 37 ls [])) st := by
  obtain ⟨hx, hb, hml, hown, hts⟩ := id E
  refine wh_run (P := (fun st : Int32 × nwX => ∀ (ls : Array Slot) (H : Heap) (locs : List Loc), lv_has ls 3 [(0, .ref g), (1, .int x1), (2, .int st.1)] → PX D dT g st.2 H → va_S (xA g) s.heap H locs → W p l e (rmd 409) s m args below meth c H locs 0 0 Q (F0 m 37 ls []))) (PE := (fun x : nwX => ∀ (ls : Array Slot) (H : Heap) (locs : List Loc), lv_has ls 3 [(0, .ref g)] → PX D dT g x H → va_S (xA g) s.heap H locs → W p l e (rmd 409) s m args below meth c H locs 0 0 Q (F0 m 67 ls []))) ?_ hw hk
  clear hw hk
  intro st x hf hk ls H locs hl hP hS
  refine lv_iload_n hx hb dX0_days_37 rfl (lv_at hl 2 rfl) ?_
  refine lv_iload_n hx hb dX0_days_38 rfl (lv_at hl 1 rfl) ?_
  refine lv_icmp_ge (tgt := 67) hx hb dX0_days_39 (by decide) (fun kc5 => ?_) (fun kc5 => ?_)
  · have hf := ite_t kc5 hf
    cases hf
    exact hk _ _ _ (lv_sub hl [0] rfl) hP hS
  · have hf := ite_f kc5 hf
    refine lv_aload_n hx hb dX0_days_42 rfl (lv_at hl 0 rfl) ?_
    obtain ⟨χ7, hc6, hf⟩ := ob hf
    refine gx_callv E hE (Pic := fun H => PX D dT g st.2 H) (Pic1 := fun H => PX D dT g χ7 H) hP hS (fun _ z => z) (As := []) (tx_keeps l D dT g st.2 _ hc6) (g_recv hK hP.1 (shO_g g) rfl) (lw_V q989 q991 qs34 q161 q992) dx_keeps rfl (by decide) (by decide) hl rfl (Nat.le_of_ble_eq_true rfl) dX0_days_43 (fun H locs hP _ _ hS => ?_)
    refine lv_aload_n hx hb dX0_days_46 rfl (lv_at hl 0 rfl) ?_
    refine gp_get (C := RX0) (T := TX0) E hK hP.1 (shO_g g) rfl in_X0 4 (by decide) (hts _ q337) (fun _ z => z) vO_4 dX0_days_47 ?_
    obtain ⟨χ9, hc8, hf⟩ := ob hf
    obtain ⟨sχ9, hc8, eχ9⟩ := xs_in hc8
    refine gx_callv E hE (Pic := fun H => PS D dT (skA g 0) (χ7.2.1 0) (χ7.2.2.2.1 0) H ∧ LR D dT (sA (skA g 0)) (χ7.2.2.2.1 0) (χ7.2.2.2.2 0) H) (Pic1 := fun H => PS D dT (skA g 0) sχ9 (χ7.2.2.2.1 0) H) ⟨(hP.2.1 0 (by decide)).1, (hP.2.1 0 (by decide)).2.weak (fun _ z => xA_s (by decide) z)⟩ hS (fun _ z => xA_s (by decide) z) (As := []) (ts_morning l D dT (skA g 0) (χ7.2.2.2.1 0) (χ7.2.2.2.2 0) (χ7.2.1 0) _ hc8) (g_recv hK (hP.2.1 0 (by decide)).1 (shS_h _) rfl) (lw_V q1111 q1112 q1113 q162 q1114) ds_morning rfl (by decide) (by decide) hl rfl (Nat.le_of_ble_eq_true rfl) dX0_days_50 (fun H1 locs1 hG hz1 hq1 hS => ?_)
    have hP := PX_set hP (by decide) hG hz1 hq1
    rw [← eχ9] at hP
    refine lv_aload_n hx hb dX0_days_53 rfl (lv_at hl 0 rfl) ?_
    refine gp_get (C := RX0) (T := TX0) E hK hP.1 (shO_g g) rfl in_X0 4 (by decide) (hts _ q337) (fun _ z => z) vO_4 dX0_days_54 ?_
    refine lv_iconst (v := nI 1) hx hb dX0_days_57 rfl ?_
    obtain ⟨χ11, hc10, hf⟩ := ob hf
    obtain ⟨sχ11, hc10, eχ11⟩ := xs_in hc10
    refine gx_callv E hE (Pic := fun H => PS D dT (skA g 0) (χ9.2.1 0) (χ9.2.2.2.1 0) H ∧ LR D dT (sA (skA g 0)) (χ9.2.2.2.1 0) (χ9.2.2.2.2 0) H) (Pic1 := fun H => PS D dT (skA g 0) sχ11 (χ9.2.2.2.1 0) H) ⟨(hP.2.1 0 (by decide)).1, (hP.2.1 0 (by decide)).2.weak (fun _ z => xA_s (by decide) z)⟩ hS (fun _ z => xA_s (by decide) z) (As := [.int (nI 1)]) (ts_evening l D dT (skA g 0) (χ9.2.2.2.1 0) (nI 1) (χ9.2.2.2.2 0) (χ9.2.1 0) _ hc10) (g_recv hK (hP.2.1 0 (by decide)).1 (shS_h _) rfl) (lw_V q1158 q1159 q1160 q162 q1161) ds_evening rfl (by decide) (by decide) hl rfl (Nat.le_of_ble_eq_true rfl) dX0_days_58 (fun H1 locs1 hG hz1 hq1 hS => ?_)
    have hP := PX_set hP (by decide) hG hz1 hq1
    rw [← eχ11] at hP
    refine lv_iinc (v := st.1 + nI 1) (lv' := [(2, .int (st.1 + nI 1)), (0, .ref g), (1, .int x1)]) hx hb dX0_days_61 hl (k := 2) rfl rfl (by decide) rfl (fun ls hl => ?_)
    refine lv_goto (tgt := 37) hx hb dX0_days_64 (by decide) ?_
    cases hf
    exact hk _ _ _ (lv_sub hl [1, 2, 0] rfl) hP hS
set_option maxHeartbeats 4000000 in
theorem dx_days : yX0_days.cls = RX0 ∧ yX0_days.cls ≠ "java/lang/invoke/MethodHandle" ∧ yX0_days.cls ≠ "java/lang/invoke/VarHandle" ∧ (parseMethodDescriptor yX0_days.desc).map (fun d => d.parameters.length) = some 1 := ⟨rfl, by decide +kernel, by decide +kernel, by decide +kernel⟩
set_option maxHeartbeats 4000000 in
theorem tx_days (l : Launch) (D : va_G) (dT : Nat → ClassId) (g : Nat) (x1 : Int32) (μ : nwX) (res : Int32 × nwX) (hf : fx_days x1 μ = some res) : Met l yX0_days (ws_ yX0_days cX0_days 3 (some .int)) (rmd 409) (va_Pc [.ref g, .int x1] (fun U => PX D dT g μ U.heap ∧ EV D dT U)) (va_Qi (fun r' (_ : Unit) => r' = res.1) (fun _ t => PX D dT g res.2 t.heap) (xA g)) 0 0 (xA g) := by
  refine g_met (D := D) (dT := dT) (A := xA g) (own := RX0) (Pic := fun H => PX D dT g μ H) (by decide) rfl (Nat.le_of_ble_eq_true rfl) ?_
  intro p e s m below meth c ls E hE hr hlk hl hP
  have hK := hE.1
  have hS : va_S (xA g) s.heap s.heap [] := va_S.rf
  obtain ⟨hx, hb, hml, hown, hts⟩ := id E
  have hl : lv_has ls 3 [(0, .ref g), (1, .int x1)] := hl
  unfold fx_days at hf
  refine lv_iload_n hx hb dX0_days_0 rfl (lv_at hl 1 rfl) ?_
  refine lv_iconst (v := nI 1) hx hb dX0_days_1 rfl ?_
  refine lv_bipush (v := nI 60) hx hb dX0_days_2 rfl ?_
  obtain ⟨v1, hv1, hf⟩ := ob hf
  refine p_calli E hS (As := [.int x1, .int (nI 1), .int (nI 60)]) (ti_isIn l x1 (nI 1) (nI 60) _ hv1) (lw_S q386 q387 q161 q388) di_isIn rfl (by decide) (by decide) hl rfl (Nat.le_of_ble_eq_true rfl) dX0_days_4 (fun H1 locs1 hq1 hS => ?_)
  have hP := PX_same hP (hz_all hq1) hq1
  refine lv_if_eq (tgt := 25) hx hb dX0_days_7 (by decide) (fun kc2 => ?_) (fun kc2 => ?_)
  · have hf := ite_t kc2 hf
    refine lv_iconst (v := (-1)) hx hb dX0_days_25 rfl ?_
    cases hf
    exact g_iret (Pic := fun H => PX D dT g _ H) E hr hlk hP hS rfl dX0_days_26
  · have hf := ite_f kc2 hf
    refine lv_aload_n hx hb dX0_days_10 rfl (lv_at hl 0 rfl) ?_
    refine gp_get (C := RX0) (T := TX0) E hK hP.1 (shO_g g) rfl in_X0 4 (by decide) (hts _ q337) (fun _ z => z) vO_4 dX0_days_11 ?_
    refine gp_getN (C := RX1) (T := TX1) E hK (hP.2.1 0 (by decide)).1 (shS_h _) rfl in_X1 15 (by decide) (nfw_14 hE.2) (fun _ z => z) (vS_i (by decide)) dX0_days_14 ?_
    refine lv_iload_n hx hb dX0_days_17 rfl (lv_at hl 1 rfl) ?_
    refine lv_iadd hx hb dX0_days_18 ?_
    refine lv_sipush (v := nI 999) hx hb dX0_days_19 rfl ?_
    refine lv_icmp_le (tgt := 27) hx hb dX0_days_22 (by decide) (fun kc3 => ?_) (fun kc3 => ?_)
    · have hf := ite_t kc3 hf
      refine lv_aload_n hx hb dX0_days_27 rfl (lv_at hl 0 rfl) ?_
      refine gp_get (C := RX0) (T := TX0) E hK hP.1 (shO_g g) rfl in_X0 4 (by decide) (hts _ q337) (fun _ z => z) vO_4 dX0_days_28 ?_
      refine lv_iconst (v := nI 0) hx hb dX0_days_31 rfl ?_
      obtain ⟨χ4, hχ4, hf⟩ := ob hf
      obtain ⟨sχ4, hχ4, eχ4⟩ := xs_in hχ4
      refine gp_putN (C := RX1) (T := TX1) (ty := .int) E hK (hP.2.1 0 (by decide)).1 hS (xA_s (by decide) (sA_h _)) (shS_h _) rfl in_X1 tyX1 tyX1_ok nmX1 19 (by decide) (nfw_18 hE.2) (fun _ z => z) rfl rfl rfl rfl dX0_days_32 (fun H locs hG oq hS => ?_)
      have hP := PX_set hP (by decide) (PS_put (by decide) hχ4 hG) (hz_put hG (by rw [shS_h]; exact fun z => by cases z) oq) (fun q _ z => oq q (fun e => z (by rw [e]; exact sA_h _)))
      rw [← eχ4] at hP
      refine lv_iconst (v := nI 0) hx hb dX0_days_35 rfl ?_
      refine lv_istore_n (lv' := [(2, .int (nI 0)), (0, .ref g), (1, .int x1)]) hx hb dX0_days_36 rfl hl (by decide) rfl (fun ls hl => ?_)
      obtain ⟨x12, hx12, hf⟩ := ob hf
      refine fx_days_L37_w E hK hE x1 hx12 (fun ls H locs hl hP hS => ?_) _ _ _ (lv_sub hl [1, 2, 0] rfl) hP hS
      refine lv_aload_n hx hb dX0_days_67 rfl (lv_at hl 0 rfl) ?_
      refine gp_get (C := RX0) (T := TX0) E hK hP.1 (shO_g g) rfl in_X0 4 (by decide) (hts _ q337) (fun _ z => z) vO_4 dX0_days_68 ?_
      refine gp_getN (C := RX1) (T := TX1) E hK (hP.2.1 0 (by decide)).1 (shS_h _) rfl in_X1 19 (by decide) (nfw_18 hE.2) (fun _ z => z) (vS_i (by decide)) dX0_days_71 ?_
      cases hf
      exact g_iret (Pic := fun H => PX D dT g _ H) E hr hlk hP hS rfl dX0_days_74
    · have hf := ite_f kc3 hf
      refine lv_iconst (v := (-1)) hx hb dX0_days_25 rfl ?_
      cases hf
      exact g_iret (Pic := fun H => PX D dT g _ H) E hr hlk hP hS rfl dX0_days_26
set_option maxHeartbeats 4000000 in
noncomputable def fx_of (x1 : Int32) (x2 : Int32) (μ : nwX) : Option (Int32 × nwX) := (fs_is x1 (μ.2.1 0)).bind fun v2 => (if v2 = 0 then some ((-2), μ) else (if x2 = nI 0 then (rd_ (μ.2.1 0) 3 12 x1).bind fun v5 => some (v5, μ) else (if x2 = nI 1 then (rd_ (μ.2.1 0) 4 12 x1).bind fun v7 => some (v7, μ) else (if x2 = nI 2 then (rd_ (μ.2.1 0) 5 12 x1).bind fun v9 => some (v9, μ) else (if x2 = nI 3 then (rd_ (μ.2.1 0) 6 12 x1).bind fun v11 => some (v11, μ) else (if x2 = nI 4 then (rd_ (μ.2.1 0) 7 12 x1).bind fun v13 => some (v13, μ) else (if x2 = nI 5 then bd2 (xc_ μ 0 (fs_cost x1 (μ.2.2.2.2 0) (μ.2.1 0))) fun v16 χ17 => some (v16, χ17) else (fi_isIsland (x2 - (nI 10)) ()).bind fun v18 => (if v18 = 0 then some ((-2), μ) else (fs_canCall x1 (x2 - (nI 10)) (μ.2.1 0)).bind fun v21 => (if v21 = 0 then some ((-1), μ) else bd2 (xc_ μ 0 (fs_add x1 (x2 - (nI 10)) (μ.2.2.2.2 0) (μ.2.1 0))) fun v24 χ25 => some (v24, χ25))))))))))
set_option maxHeartbeats 4000000 in
theorem dx_of : yX0_of.cls = RX0 ∧ yX0_of.cls ≠ "java/lang/invoke/MethodHandle" ∧ yX0_of.cls ≠ "java/lang/invoke/VarHandle" ∧ (parseMethodDescriptor yX0_of.desc).map (fun d => d.parameters.length) = some 2 := ⟨rfl, by decide +kernel, by decide +kernel, by decide +kernel⟩
set_option maxHeartbeats 4000000 in
theorem tx_of (l : Launch) (D : va_G) (dT : Nat → ClassId) (g : Nat) (x1 : Int32) (x2 : Int32) (μ : nwX) (res : Int32 × nwX) (hf : fx_of x1 x2 μ = some res) : Met l yX0_of (ws_ yX0_of cX0_of 3 (some .int)) (rmd 406) (va_Pc [.ref g, .int x1, .int x2] (fun U => PX D dT g μ U.heap ∧ EV D dT U)) (va_Qi (fun r' (_ : Unit) => r' = res.1) (fun _ t => PX D dT g res.2 t.heap) (xA g)) 0 0 (xA g) := by
  refine g_met (D := D) (dT := dT) (A := xA g) (own := RX0) (Pic := fun H => PX D dT g μ H) (by decide) rfl (Nat.le_of_ble_eq_true rfl) ?_
  intro p e s m below meth c ls E hE hr hlk hl hP
  have hK := hE.1
  have hS : va_S (xA g) s.heap s.heap [] := va_S.rf
  obtain ⟨hx, hb, hml, hown, hts⟩ := id E
  have hl : lv_has ls 3 [(0, .ref g), (1, .int x1), (2, .int x2)] := hl
  unfold fx_of at hf
  refine lv_aload_n hx hb dX0_of_0 rfl (lv_at hl 0 rfl) ?_
  refine gp_get (C := RX0) (T := TX0) E hK hP.1 (shO_g g) rfl in_X0 4 (by decide) (hts _ q337) (fun _ z => z) vO_4 dX0_of_1 ?_
  refine lv_iload_n hx hb dX0_of_4 rfl (lv_at hl 1 rfl) ?_
  obtain ⟨v2, hc1, hf⟩ := ob hf
  refine gx_calli E hE (Pic := fun H => PS D dT (skA g 0) (μ.2.1 0) (μ.2.2.2.1 0) H) (Pic1 := fun H => PS D dT (skA g 0) (μ.2.1 0) (μ.2.2.2.1 0) H) (hP.2.1 0 (by decide)).1 hS (fun _ z => z.elim) (As := [.int x1]) (ts_is l D dT (skA g 0) (μ.2.2.2.1 0) x1 (μ.2.1 0) _ hc1) (g_recv hK (hP.2.1 0 (by decide)).1 (shS_h _) rfl) (lw_V q1198 q985 q986 q162 q987) ds_is rfl (by decide) (by decide) hl rfl (Nat.le_of_ble_eq_true rfl) dX0_of_5 (fun H1 locs1 hG hz1 hq1 hS => ?_)
  have hP := PX_same hP hz1 (fun q z => hq1 q z (fun y => y))
  refine lv_if_ne (tgt := 14) hx hb dX0_of_8 (by decide) (fun kc3 => ?_) (fun kc3 => ?_)
  · have hf := ite_f kc3 hf
    refine lv_iload_n hx hb dX0_of_14 rfl (lv_at hl 2 rfl) ?_
    by_cases kc4 : x2 = nI 0
    · have hf := ite_t kc4 hf
      refine lv_tableIn (tgt := 52) hx hb dX0_of_15 (sw_lo kc4 (by decide) (by decide)) (sw_hi kc4 (by decide) (by decide)) (sw_at kc4 (by decide) rfl) (by decide) ?_
      refine lv_aload_n hx hb dX0_of_52 rfl (lv_at hl 0 rfl) ?_
      refine gp_get (C := RX0) (T := TX0) E hK hP.1 (shO_g g) rfl in_X0 4 (by decide) (hts _ q337) (fun _ z => z) vO_4 dX0_of_53 ?_
      refine gp_getN (C := RX1) (T := TX1) E hK (hP.2.1 0 (by decide)).1 (shS_h _) rfl in_X1 3 (by decide) (nfw_2 hE.2) (fun _ z => z) (vS_a (by decide) (by decide)) dX0_of_56 ?_
      refine lv_iload_n hx hb dX0_of_59 rfl (lv_at hl 1 rfl) ?_
      obtain ⟨v5, hv5, hf⟩ := ob hf
      refine gp_iald E hK (hP.2.1 0 (by decide)).1 (shS_a (by decide) (by decide)) (rd_in hv5).1 (by rw [vS_e (by decide) (by decide), ← (rd_in hv5).2]) dX0_of_60 ?_
      cases hf
      exact g_iret (Pic := fun H => PX D dT g _ H) E hr hlk hP hS rfl dX0_of_61
    · have hf := ite_f kc4 hf
      by_cases kc6 : x2 = nI 1
      · have hf := ite_t kc6 hf
        refine lv_tableIn (tgt := 62) hx hb dX0_of_15 (sw_lo kc6 (by decide) (by decide)) (sw_hi kc6 (by decide) (by decide)) (sw_at kc6 (by decide) rfl) (by decide) ?_
        refine lv_aload_n hx hb dX0_of_62 rfl (lv_at hl 0 rfl) ?_
        refine gp_get (C := RX0) (T := TX0) E hK hP.1 (shO_g g) rfl in_X0 4 (by decide) (hts _ q337) (fun _ z => z) vO_4 dX0_of_63 ?_
        refine gp_getN (C := RX1) (T := TX1) E hK (hP.2.1 0 (by decide)).1 (shS_h _) rfl in_X1 4 (by decide) (nfw_3 hE.2) (fun _ z => z) (vS_a (by decide) (by decide)) dX0_of_66 ?_
        refine lv_iload_n hx hb dX0_of_69 rfl (lv_at hl 1 rfl) ?_
        obtain ⟨v7, hv7, hf⟩ := ob hf
        refine gp_iald E hK (hP.2.1 0 (by decide)).1 (shS_a (by decide) (by decide)) (rd_in hv7).1 (by rw [vS_e (by decide) (by decide), ← (rd_in hv7).2]) dX0_of_70 ?_
        cases hf
        exact g_iret (Pic := fun H => PX D dT g _ H) E hr hlk hP hS rfl dX0_of_71
      · have hf := ite_f kc6 hf
        by_cases kc8 : x2 = nI 2
        · have hf := ite_t kc8 hf
          refine lv_tableIn (tgt := 72) hx hb dX0_of_15 (sw_lo kc8 (by decide) (by decide)) (sw_hi kc8 (by decide) (by decide)) (sw_at kc8 (by decide) rfl) (by decide) ?_
          refine lv_aload_n hx hb dX0_of_72 rfl (lv_at hl 0 rfl) ?_
          refine gp_get (C := RX0) (T := TX0) E hK hP.1 (shO_g g) rfl in_X0 4 (by decide) (hts _ q337) (fun _ z => z) vO_4 dX0_of_73 ?_
          refine gp_getN (C := RX1) (T := TX1) E hK (hP.2.1 0 (by decide)).1 (shS_h _) rfl in_X1 5 (by decide) (nfw_4 hE.2) (fun _ z => z) (vS_a (by decide) (by decide)) dX0_of_76 ?_
          refine lv_iload_n hx hb dX0_of_79 rfl (lv_at hl 1 rfl) ?_
          obtain ⟨v9, hv9, hf⟩ := ob hf
          refine gp_iald E hK (hP.2.1 0 (by decide)).1 (shS_a (by decide) (by decide)) (rd_in hv9).1 (by rw [vS_e (by decide) (by decide), ← (rd_in hv9).2]) dX0_of_80 ?_
          cases hf
          exact g_iret (Pic := fun H => PX D dT g _ H) E hr hlk hP hS rfl dX0_of_81
        · have hf := ite_f kc8 hf
          by_cases kc10 : x2 = nI 3
          · have hf := ite_t kc10 hf
            refine lv_tableIn (tgt := 82) hx hb dX0_of_15 (sw_lo kc10 (by decide) (by decide)) (sw_hi kc10 (by decide) (by decide)) (sw_at kc10 (by decide) rfl) (by decide) ?_
            refine lv_aload_n hx hb dX0_of_82 rfl (lv_at hl 0 rfl) ?_
            refine gp_get (C := RX0) (T := TX0) E hK hP.1 (shO_g g) rfl in_X0 4 (by decide) (hts _ q337) (fun _ z => z) vO_4 dX0_of_83 ?_
            refine gp_getN (C := RX1) (T := TX1) E hK (hP.2.1 0 (by decide)).1 (shS_h _) rfl in_X1 6 (by decide) (nfw_5 hE.2) (fun _ z => z) (vS_a (by decide) (by decide)) dX0_of_86 ?_
            refine lv_iload_n hx hb dX0_of_89 rfl (lv_at hl 1 rfl) ?_
            obtain ⟨v11, hv11, hf⟩ := ob hf
            refine gp_iald E hK (hP.2.1 0 (by decide)).1 (shS_a (by decide) (by decide)) (rd_in hv11).1 (by rw [vS_e (by decide) (by decide), ← (rd_in hv11).2]) dX0_of_90 ?_
            cases hf
            exact g_iret (Pic := fun H => PX D dT g _ H) E hr hlk hP hS rfl dX0_of_91
          · have hf := ite_f kc10 hf
            by_cases kc12 : x2 = nI 4
            · have hf := ite_t kc12 hf
              refine lv_tableIn (tgt := 92) hx hb dX0_of_15 (sw_lo kc12 (by decide) (by decide)) (sw_hi kc12 (by decide) (by decide)) (sw_at kc12 (by decide) rfl) (by decide) ?_
              refine lv_aload_n hx hb dX0_of_92 rfl (lv_at hl 0 rfl) ?_
              refine gp_get (C := RX0) (T := TX0) E hK hP.1 (shO_g g) rfl in_X0 4 (by decide) (hts _ q337) (fun _ z => z) vO_4 dX0_of_93 ?_
              refine gp_getN (C := RX1) (T := TX1) E hK (hP.2.1 0 (by decide)).1 (shS_h _) rfl in_X1 7 (by decide) (nfw_6 hE.2) (fun _ z => z) (vS_a (by decide) (by decide)) dX0_of_96 ?_
              refine lv_iload_n hx hb dX0_of_99 rfl (lv_at hl 1 rfl) ?_
              obtain ⟨v13, hv13, hf⟩ := ob hf
              refine gp_iald E hK (hP.2.1 0 (by decide)).1 (shS_a (by decide) (by decide)) (rd_in hv13).1 (by rw [vS_e (by decide) (by decide), ← (rd_in hv13).2]) dX0_of_100 ?_
              cases hf
              exact g_iret (Pic := fun H => PX D dT g _ H) E hr hlk hP hS rfl dX0_of_101
            · have hf := ite_f kc12 hf
              by_cases kc14 : x2 = nI 5
              · have hf := ite_t kc14 hf
                refine lv_tableIn (tgt := 102) hx hb dX0_of_15 (sw_lo kc14 (by decide) (by decide)) (sw_hi kc14 (by decide) (by decide)) (sw_at kc14 (by decide) rfl) (by decide) ?_
                refine lv_aload_n hx hb dX0_of_102 rfl (lv_at hl 0 rfl) ?_
                refine gp_get (C := RX0) (T := TX0) E hK hP.1 (shO_g g) rfl in_X0 4 (by decide) (hts _ q337) (fun _ z => z) vO_4 dX0_of_103 ?_
                refine lv_iload_n hx hb dX0_of_106 rfl (lv_at hl 1 rfl) ?_
                obtain ⟨v16, χ17, hc15, hf⟩ := ob2 hf
                obtain ⟨sχ17, hc15, eχ17⟩ := xc_in hc15
                refine gx_calli E hE (Pic := fun H => PS D dT (skA g 0) (μ.2.1 0) (μ.2.2.2.1 0) H ∧ LR D dT (sA (skA g 0)) (μ.2.2.2.1 0) (μ.2.2.2.2 0) H) (Pic1 := fun H => PS D dT (skA g 0) sχ17 (μ.2.2.2.1 0) H) ⟨(hP.2.1 0 (by decide)).1, (hP.2.1 0 (by decide)).2.weak (fun _ z => xA_s (by decide) z)⟩ hS (fun _ z => xA_s (by decide) z) (As := [.int x1]) (ts_cost l D dT (skA g 0) (μ.2.2.2.1 0) x1 (μ.2.2.2.2 0) (μ.2.1 0) _ hc15) (g_recv hK (hP.2.1 0 (by decide)).1 (shS_h _) rfl) (lw_V q1199 q1200 q1201 q162 q1202) ds_cost rfl (by decide) (by decide) hl rfl (Nat.le_of_ble_eq_true rfl) dX0_of_107 (fun H1 locs1 hG hz1 hq1 hS => ?_)
                have hP := PX_set hP (by decide) hG hz1 hq1
                rw [← eχ17] at hP
                cases hf
                exact g_iret (Pic := fun H => PX D dT g _ H) E hr hlk hP hS rfl dX0_of_110
              · have hf := ite_f kc14 hf
                refine lv_tableOut (tgt := 111) hx hb dX0_of_15 (sw_no 0 5 rfl rfl (fun k a b => by rcases (show k = 0 ∨ k = 1 ∨ k = 2 ∨ k = 3 ∨ k = 4 ∨ k = 5 by omega) with rfl | rfl | rfl | rfl | rfl | rfl <;> assumption)) (by decide) ?_
                refine lv_iload_n hx hb dX0_of_111 rfl (lv_at hl 2 rfl) ?_
                refine lv_bipush (v := nI 10) hx hb dX0_of_112 rfl ?_
                refine lv_isub hx hb dX0_of_114 ?_
                obtain ⟨v18, hv18, hf⟩ := ob hf
                refine p_calli E hS (As := [.int (x2 - (nI 10))]) (ti_isIsland l (x2 - (nI 10)) _ hv18) (lw_S q957 q958 q161 q959) di_isIsland rfl (by decide) (by decide) hl rfl (Nat.le_of_ble_eq_true rfl) dX0_of_115 (fun H1 locs1 hq1 hS => ?_)
                have hP := PX_same hP (hz_all hq1) hq1
                refine lv_if_ne (tgt := 124) hx hb dX0_of_118 (by decide) (fun kc19 => ?_) (fun kc19 => ?_)
                · have hf := ite_f kc19 hf
                  refine lv_aload_n hx hb dX0_of_124 rfl (lv_at hl 0 rfl) ?_
                  refine gp_get (C := RX0) (T := TX0) E hK hP.1 (shO_g g) rfl in_X0 4 (by decide) (hts _ q337) (fun _ z => z) vO_4 dX0_of_125 ?_
                  refine lv_iload_n hx hb dX0_of_128 rfl (lv_at hl 1 rfl) ?_
                  refine lv_iload_n hx hb dX0_of_129 rfl (lv_at hl 2 rfl) ?_
                  refine lv_bipush (v := nI 10) hx hb dX0_of_130 rfl ?_
                  refine lv_isub hx hb dX0_of_132 ?_
                  obtain ⟨v21, hc20, hf⟩ := ob hf
                  refine gx_calli E hE (Pic := fun H => PS D dT (skA g 0) (μ.2.1 0) (μ.2.2.2.1 0) H) (Pic1 := fun H => PS D dT (skA g 0) (μ.2.1 0) (μ.2.2.2.1 0) H) (hP.2.1 0 (by decide)).1 hS (fun _ z => z.elim) (As := [.int x1, .int (x2 - (nI 10))]) (ts_canCall l D dT (skA g 0) (μ.2.2.2.1 0) x1 (x2 - (nI 10)) (μ.2.1 0) _ hc20) (g_recv hK (hP.2.1 0 (by decide)).1 (shS_h _) rfl) (lw_V q980 q981 q982 q162 q983) ds_canCall rfl (by decide) (by decide) hl rfl (Nat.le_of_ble_eq_true rfl) dX0_of_133 (fun H1 locs1 hG hz1 hq1 hS => ?_)
                  have hP := PX_same hP hz1 (fun q z => hq1 q z (fun y => y))
                  refine lv_if_eq (tgt := 154) hx hb dX0_of_136 (by decide) (fun kc22 => ?_) (fun kc22 => ?_)
                  · have hf := ite_t kc22 hf
                    refine lv_iconst (v := (-1)) hx hb dX0_of_154 rfl ?_
                    cases hf
                    exact g_iret (Pic := fun H => PX D dT g _ H) E hr hlk hP hS rfl dX0_of_155
                  · have hf := ite_f kc22 hf
                    refine lv_aload_n hx hb dX0_of_139 rfl (lv_at hl 0 rfl) ?_
                    refine gp_get (C := RX0) (T := TX0) E hK hP.1 (shO_g g) rfl in_X0 4 (by decide) (hts _ q337) (fun _ z => z) vO_4 dX0_of_140 ?_
                    refine lv_iload_n hx hb dX0_of_143 rfl (lv_at hl 1 rfl) ?_
                    refine lv_iload_n hx hb dX0_of_144 rfl (lv_at hl 2 rfl) ?_
                    refine lv_bipush (v := nI 10) hx hb dX0_of_145 rfl ?_
                    refine lv_isub hx hb dX0_of_147 ?_
                    obtain ⟨v24, χ25, hc23, hf⟩ := ob2 hf
                    obtain ⟨sχ25, hc23, eχ25⟩ := xc_in hc23
                    refine gx_calli E hE (Pic := fun H => PS D dT (skA g 0) (μ.2.1 0) (μ.2.2.2.1 0) H ∧ LR D dT (sA (skA g 0)) (μ.2.2.2.1 0) (μ.2.2.2.2 0) H) (Pic1 := fun H => PS D dT (skA g 0) sχ25 (μ.2.2.2.1 0) H) ⟨(hP.2.1 0 (by decide)).1, (hP.2.1 0 (by decide)).2.weak (fun _ z => xA_s (by decide) z)⟩ hS (fun _ z => xA_s (by decide) z) (As := [.int x1, .int (x2 - (nI 10))]) (ts_add l D dT (skA g 0) (μ.2.2.2.1 0) x1 (x2 - (nI 10)) (μ.2.2.2.2 0) (μ.2.1 0) _ hc23) (g_recv hK (hP.2.1 0 (by decide)).1 (shS_h _) rfl) (lw_V q1203 q998 q999 q162 q1000) ds_add rfl (by decide) (by decide) hl rfl (Nat.le_of_ble_eq_true rfl) dX0_of_148 (fun H1 locs1 hG hz1 hq1 hS => ?_)
                    have hP := PX_set hP (by decide) hG hz1 hq1
                    rw [← eχ25] at hP
                    refine lv_goto (tgt := 155) hx hb dX0_of_151 (by decide) ?_
                    cases hf
                    exact g_iret (Pic := fun H => PX D dT g _ H) E hr hlk hP hS rfl dX0_of_155
                · have hf := ite_t kc19 hf
                  refine lv_bipush (v := (-2)) hx hb dX0_of_121 rfl ?_
                  cases hf
                  exact g_iret (Pic := fun H => PX D dT g _ H) E hr hlk hP hS rfl dX0_of_123
  · have hf := ite_t kc3 hf
    refine lv_bipush (v := (-2)) hx hb dX0_of_11 rfl ?_
    cases hf
    exact g_iret (Pic := fun H => PX D dT g _ H) E hr hlk hP hS rfl dX0_of_13
set_option maxHeartbeats 4000000 in
noncomputable def fx_thinksOf_L13 (x1 : Int32) : (Int32 × nwX) → Option ((Int32 × nwX) ⊕ (nwX)) := fun st => (if x1 ≤ st.1 then some (.inr st.2) else (xs_ st.2 2 (fs_morning (st.2.2.2.2.2 2) (st.2.2.1 2))).bind fun χ5 => (xs_ χ5 2 (fs_evening (nI 0) (χ5.2.2.2.2 2) (χ5.2.1 2))).bind fun χ7 => some (.inl (st.1 + nI 1, χ7)))
set_option maxHeartbeats 4000000 in
noncomputable def fx_thinksOf (x1 : Int32) (μ : nwX) : Option (nwX) := (xt_ μ 2 0 (fs_thinks (μ.2.1 0) (μ.2.1 2))).bind fun χ2 => (wh_ (fx_thinksOf_L13 x1) (nI 0, χ2)).bind fun x8 => some x8
set_option maxHeartbeats 4000000 in
theorem fx_thinksOf_L13_w {p : Program} {l : Launch} {e : Env} {s : State} {m : MethodId} {args : Array Value} {below : List Frame} {meth : Method} {c : Code} {D : va_G} {dT : Nat → ClassId} {Q : State → Prop} {g : Nat} (E : CallFix p m c cX0_thinksOf 3 s args lw_all RX0) (hK : va_K D nwCl (nwT dT) s) (hE : EV D dT s) (x1 : Int32) {st : Int32 × nwX} {x : nwX} (hw : wh_ (fx_thinksOf_L13 x1) st = some x) (hk : (fun x : nwX => ∀ (ls : Array Slot) (H : Heap) (locs : List Loc), lv_has ls 3 [] → PX D dT g x H → va_S (xA g) s.heap H locs → W p l e (rmd 409) s m args below meth c H locs 0 0 Q (F0 m 39 ls [])) x) : (fun st : Int32 × nwX => ∀ (ls : Array Slot) (H : Heap) (locs : List Loc), lv_has ls 3 [(0, .ref g), (1, .int x1), (2, .int st.1)] → PX D dT g st.2 H → va_S (xA g) s.heap H locs → W p l e (rmd 409) s m args below meth c H locs 0 0 Q (F0 m 13 ls [])) st := by
  obtain ⟨hx, hb, hml, hown, hts⟩ := id E
  refine wh_run (P := (fun st : Int32 × nwX => ∀ (ls : Array Slot) (H : Heap) (locs : List Loc), lv_has ls 3 [(0, .ref g), (1, .int x1), (2, .int st.1)] → PX D dT g st.2 H → va_S (xA g) s.heap H locs → W p l e (rmd 409) s m args below meth c H locs 0 0 Q (F0 m 13 ls []))) (PE := (fun x : nwX => ∀ (ls : Array Slot) (H : Heap) (locs : List Loc), lv_has ls 3 [] → PX D dT g x H → va_S (xA g) s.heap H locs → W p l e (rmd 409) s m args below meth c H locs 0 0 Q (F0 m 39 ls []))) ?_ hw hk
  clear hw hk
  intro st x hf hk ls H locs hl hP hS
  refine lv_iload_n hx hb dX0_thinksOf_13 rfl (lv_at hl 2 rfl) ?_
  refine lv_iload_n hx hb dX0_thinksOf_14 rfl (lv_at hl 1 rfl) ?_
  refine lv_icmp_ge (tgt := 39) hx hb dX0_thinksOf_15 (by decide) (fun kc3 => ?_) (fun kc3 => ?_)
  · have hf := ite_t kc3 hf
    cases hf
    exact hk _ _ _ (lv_sub hl [] rfl) hP hS
  · have hf := ite_f kc3 hf
    refine lv_aload_n hx hb dX0_thinksOf_18 rfl (lv_at hl 0 rfl) ?_
    refine gp_get (C := RX0) (T := TX0) E hK hP.1 (shO_g g) rfl in_X0 6 (by decide) (hts _ q340) (fun _ z => z) vO_6 dX0_thinksOf_19 ?_
    obtain ⟨χ5, hc4, hf⟩ := ob hf
    obtain ⟨sχ5, hc4, eχ5⟩ := xs_in hc4
    refine gx_callv E hE (Pic := fun H => PS D dT (skA g 2) (st.2.2.1 2) (st.2.2.2.2.1 2) H ∧ LR D dT (sA (skA g 2)) (st.2.2.2.2.1 2) (st.2.2.2.2.2 2) H) (Pic1 := fun H => PS D dT (skA g 2) sχ5 (st.2.2.2.2.1 2) H) ⟨(hP.2.1 2 (by decide)).1, (hP.2.1 2 (by decide)).2.weak (fun _ z => xA_s (by decide) z)⟩ hS (fun _ z => xA_s (by decide) z) (As := []) (ts_morning l D dT (skA g 2) (st.2.2.2.2.1 2) (st.2.2.2.2.2 2) (st.2.2.1 2) _ hc4) (g_recv hK (hP.2.1 2 (by decide)).1 (shS_h _) rfl) (lw_V q1111 q1112 q1113 q162 q1114) ds_morning rfl (by decide) (by decide) hl rfl (Nat.le_of_ble_eq_true rfl) dX0_thinksOf_22 (fun H1 locs1 hG hz1 hq1 hS => ?_)
    have hP := PX_set hP (by decide) hG hz1 hq1
    rw [← eχ5] at hP
    refine lv_aload_n hx hb dX0_thinksOf_25 rfl (lv_at hl 0 rfl) ?_
    refine gp_get (C := RX0) (T := TX0) E hK hP.1 (shO_g g) rfl in_X0 6 (by decide) (hts _ q340) (fun _ z => z) vO_6 dX0_thinksOf_26 ?_
    refine lv_iconst (v := nI 0) hx hb dX0_thinksOf_29 rfl ?_
    obtain ⟨χ7, hc6, hf⟩ := ob hf
    obtain ⟨sχ7, hc6, eχ7⟩ := xs_in hc6
    refine gx_callv E hE (Pic := fun H => PS D dT (skA g 2) (χ5.2.1 2) (χ5.2.2.2.1 2) H ∧ LR D dT (sA (skA g 2)) (χ5.2.2.2.1 2) (χ5.2.2.2.2 2) H) (Pic1 := fun H => PS D dT (skA g 2) sχ7 (χ5.2.2.2.1 2) H) ⟨(hP.2.1 2 (by decide)).1, (hP.2.1 2 (by decide)).2.weak (fun _ z => xA_s (by decide) z)⟩ hS (fun _ z => xA_s (by decide) z) (As := [.int (nI 0)]) (ts_evening l D dT (skA g 2) (χ5.2.2.2.1 2) (nI 0) (χ5.2.2.2.2 2) (χ5.2.1 2) _ hc6) (g_recv hK (hP.2.1 2 (by decide)).1 (shS_h _) rfl) (lw_V q1158 q1159 q1160 q162 q1161) ds_evening rfl (by decide) (by decide) hl rfl (Nat.le_of_ble_eq_true rfl) dX0_thinksOf_30 (fun H1 locs1 hG hz1 hq1 hS => ?_)
    have hP := PX_set hP (by decide) hG hz1 hq1
    rw [← eχ7] at hP
    refine lv_iinc (v := st.1 + nI 1) (lv' := [(2, .int (st.1 + nI 1)), (0, .ref g), (1, .int x1)]) hx hb dX0_thinksOf_33 hl (k := 2) rfl rfl (by decide) rfl (fun ls hl => ?_)
    refine lv_goto (tgt := 13) hx hb dX0_thinksOf_36 (by decide) ?_
    cases hf
    exact hk _ _ _ (lv_sub hl [1, 2, 0] rfl) hP hS
set_option maxHeartbeats 4000000 in
theorem dx_thinksOf : yX0_thinksOf.cls = RX0 ∧ yX0_thinksOf.cls ≠ "java/lang/invoke/MethodHandle" ∧ yX0_thinksOf.cls ≠ "java/lang/invoke/VarHandle" ∧ (parseMethodDescriptor yX0_thinksOf.desc).map (fun d => d.parameters.length) = some 1 := ⟨rfl, by decide +kernel, by decide +kernel, by decide +kernel⟩
set_option maxHeartbeats 4000000 in
theorem tx_thinksOf (l : Launch) (D : va_G) (dT : Nat → ClassId) (g : Nat) (x1 : Int32) (μ : nwX) (res : nwX) (hf : fx_thinksOf x1 μ = some res) : Met l yX0_thinksOf (ws_ yX0_thinksOf cX0_thinksOf 3 none) (rmd 409) (va_Pc [.ref g, .int x1] (fun U => PX D dT g μ U.heap ∧ EV D dT U)) (va_Qv (fun (_ : Unit) => True) (fun _ t => PX D dT g res t.heap) (xA g)) 0 0 (xA g) := by
  refine g_met (D := D) (dT := dT) (A := xA g) (own := RX0) (Pic := fun H => PX D dT g μ H) (by decide) rfl (Nat.le_of_ble_eq_true rfl) ?_
  intro p e s m below meth c ls E hE hr hlk hl hP
  have hK := hE.1
  have hS : va_S (xA g) s.heap s.heap [] := va_S.rf
  obtain ⟨hx, hb, hml, hown, hts⟩ := id E
  have hl : lv_has ls 3 [(0, .ref g), (1, .int x1)] := hl
  unfold fx_thinksOf at hf
  refine lv_aload_n hx hb dX0_thinksOf_0 rfl (lv_at hl 0 rfl) ?_
  refine gp_get (C := RX0) (T := TX0) E hK hP.1 (shO_g g) rfl in_X0 6 (by decide) (hts _ q340) (fun _ z => z) vO_6 dX0_thinksOf_1 ?_
  refine lv_aload_n hx hb dX0_thinksOf_4 rfl (lv_at hl 0 rfl) ?_
  refine gp_get (C := RX0) (T := TX0) E hK hP.1 (shO_g g) rfl in_X0 4 (by decide) (hts _ q337) (fun _ z => z) vO_4 dX0_thinksOf_5 ?_
  obtain ⟨χ2, hc1, hf⟩ := ob hf
  obtain ⟨sχ2, hc1, eχ2⟩ := xt_in hc1
  refine gx_callv E hE (Pic := fun H => PS D dT (skA g 2) (μ.2.1 2) (μ.2.2.2.1 2) H ∧ (PS D dT (skA g 0) (μ.2.1 0) (μ.2.2.2.1 0) H ∧ ∀ q, shS (skA g 0) q ≠ none → ¬ sA (skA g 2) q)) (Pic1 := fun H => PS D dT (skA g 2) sχ2 (μ.2.2.2.1 0) H) ⟨(hP.2.1 2 (by decide)).1, (hP.2.1 0 (by decide)).1, fun q hq1 hq2 => absurd (skA_ap (by decide) (by decide) (shS_in hq1) hq2) (by omega)⟩ hS (fun _ z => xA_s (by decide) z) (As := [.ref (skA g 0)]) (ts_thinks l D dT (skA g 2) (μ.2.2.2.1 2) (skA g 0) (μ.2.1 0) (μ.2.2.2.1 0) (μ.2.1 2) _ hc1) (g_recv hK (hP.2.1 2 (by decide)).1 (shS_h _) rfl) (lw_V q1212 q1213 q1214 q162 q1215) ds_thinks rfl (by decide) (by decide) hl rfl (Nat.le_of_ble_eq_true rfl) dX0_thinksOf_8 (fun H1 locs1 hG hz1 hq1 hS => ?_)
  have hP := PX_think hP (by decide) (by decide) hG hz1 hq1
  rw [← eχ2] at hP
  refine lv_iconst (v := nI 0) hx hb dX0_thinksOf_11 rfl ?_
  refine lv_istore_n (lv' := [(2, .int (nI 0)), (0, .ref g), (1, .int x1)]) hx hb dX0_thinksOf_12 rfl hl (by decide) rfl (fun ls hl => ?_)
  obtain ⟨x8, hx8, hf⟩ := ob hf
  refine fx_thinksOf_L13_w E hK hE x1 hx8 (fun ls H locs hl hP hS => ?_) _ _ _ (lv_sub hl [1, 2, 0] rfl) hP hS
  cases hf
  exact g_vret (Pic := fun H => PX D dT g _ H) E hr hlk hP hS dX0_thinksOf_39
set_option maxHeartbeats 4000000 in
noncomputable def fx_skyOf (x1 : Int32) (x2 : Int32) (x3 : Int32) (μ : nwX) : Option (Int32 × nwX) := (fi_isIsland x1 ()).bind fun v1 => (if v1 = 0 then some ((-1), μ) else (fi_isKind x2 ()).bind fun v3 => (if v3 = 0 then some ((-1), μ) else (fi_isIn x3 (nI 0) (nI 60) ()).bind fun v5 => (if v5 = 0 then some ((-1), μ) else (fx_thinksOf x3 μ).bind fun χ8 => (rw_ 8 x1).bind fun r9 => (rr_ (χ8.2.1 2) 0 r9 x2).bind fun v10 => some (v10, χ8))))
set_option maxHeartbeats 4000000 in
theorem dx_skyOf : yX0_skyOf.cls = RX0 ∧ yX0_skyOf.cls ≠ "java/lang/invoke/MethodHandle" ∧ yX0_skyOf.cls ≠ "java/lang/invoke/VarHandle" ∧ (parseMethodDescriptor yX0_skyOf.desc).map (fun d => d.parameters.length) = some 3 := ⟨rfl, by decide +kernel, by decide +kernel, by decide +kernel⟩
set_option maxHeartbeats 4000000 in
theorem tx_skyOf (l : Launch) (D : va_G) (dT : Nat → ClassId) (g : Nat) (x1 : Int32) (x2 : Int32) (x3 : Int32) (μ : nwX) (res : Int32 × nwX) (hf : fx_skyOf x1 x2 x3 μ = some res) : Met l yX0_skyOf (ws_ yX0_skyOf cX0_skyOf 4 (some .int)) (rmd 410) (va_Pc [.ref g, .int x1, .int x2, .int x3] (fun U => PX D dT g μ U.heap ∧ EV D dT U)) (va_Qi (fun r' (_ : Unit) => r' = res.1) (fun _ t => PX D dT g res.2 t.heap) (xA g)) 0 0 (xA g) := by
  refine g_met (D := D) (dT := dT) (A := xA g) (own := RX0) (Pic := fun H => PX D dT g μ H) (by decide) rfl (Nat.le_of_ble_eq_true rfl) ?_
  intro p e s m below meth c ls E hE hr hlk hl hP
  have hK := hE.1
  have hS : va_S (xA g) s.heap s.heap [] := va_S.rf
  obtain ⟨hx, hb, hml, hown, hts⟩ := id E
  have hl : lv_has ls 4 [(0, .ref g), (1, .int x1), (2, .int x2), (3, .int x3)] := hl
  unfold fx_skyOf at hf
  refine lv_iload_n hx hb dX0_skyOf_0 rfl (lv_at hl 1 rfl) ?_
  obtain ⟨v1, hv1, hf⟩ := ob hf
  refine p_calli E hS (As := [.int x1]) (ti_isIsland l x1 _ hv1) (lw_S q957 q958 q161 q959) di_isIsland rfl (by decide) (by decide) hl rfl (Nat.le_of_ble_eq_true rfl) dX0_skyOf_1 (fun H1 locs1 hq1 hS => ?_)
  have hP := PX_same hP (hz_all hq1) hq1
  refine lv_if_eq (tgt := 24) hx hb dX0_skyOf_4 (by decide) (fun kc2 => ?_) (fun kc2 => ?_)
  · have hf := ite_t kc2 hf
    refine lv_iconst (v := (-1)) hx hb dX0_skyOf_24 rfl ?_
    cases hf
    exact g_iret (Pic := fun H => PX D dT g _ H) E hr hlk hP hS rfl dX0_skyOf_25
  · have hf := ite_f kc2 hf
    refine lv_iload_n hx hb dX0_skyOf_7 rfl (lv_at hl 2 rfl) ?_
    obtain ⟨v3, hv3, hf⟩ := ob hf
    refine p_calli E hS (As := [.int x2]) (ti_isKind l x2 _ hv3) (lw_S q954 q955 q161 q956) di_isKind rfl (by decide) (by decide) hl rfl (Nat.le_of_ble_eq_true rfl) dX0_skyOf_8 (fun H1 locs1 hq1 hS => ?_)
    have hP := PX_same hP (hz_all hq1) hq1
    refine lv_if_eq (tgt := 24) hx hb dX0_skyOf_11 (by decide) (fun kc4 => ?_) (fun kc4 => ?_)
    · have hf := ite_t kc4 hf
      refine lv_iconst (v := (-1)) hx hb dX0_skyOf_24 rfl ?_
      cases hf
      exact g_iret (Pic := fun H => PX D dT g _ H) E hr hlk hP hS rfl dX0_skyOf_25
    · have hf := ite_f kc4 hf
      refine lv_iload_n hx hb dX0_skyOf_14 rfl (lv_at hl 3 rfl) ?_
      refine lv_iconst (v := nI 0) hx hb dX0_skyOf_15 rfl ?_
      refine lv_bipush (v := nI 60) hx hb dX0_skyOf_16 rfl ?_
      obtain ⟨v5, hv5, hf⟩ := ob hf
      refine p_calli E hS (As := [.int x3, .int (nI 0), .int (nI 60)]) (ti_isIn l x3 (nI 0) (nI 60) _ hv5) (lw_S q386 q387 q161 q388) di_isIn rfl (by decide) (by decide) hl rfl (Nat.le_of_ble_eq_true rfl) dX0_skyOf_18 (fun H1 locs1 hq1 hS => ?_)
      have hP := PX_same hP (hz_all hq1) hq1
      refine lv_if_ne (tgt := 26) hx hb dX0_skyOf_21 (by decide) (fun kc6 => ?_) (fun kc6 => ?_)
      · have hf := ite_f kc6 hf
        refine lv_aload_n hx hb dX0_skyOf_26 rfl (lv_at hl 0 rfl) ?_
        refine lv_iload_n hx hb dX0_skyOf_27 rfl (lv_at hl 3 rfl) ?_
        obtain ⟨χ8, hc7, hf⟩ := ob hf
        refine gx_callv E hE (Pic := fun H => PX D dT g μ H) (Pic1 := fun H => PX D dT g χ8 H) hP hS (fun _ z => z) (As := [.int x3]) (tx_thinksOf l D dT g x3 μ _ hc7) (g_recv hK hP.1 (shO_g g) rfl) (lw_V q1208 q1210 qs44 q161 q1211) dx_thinksOf rfl (by decide) (by decide) hl rfl (Nat.le_of_ble_eq_true rfl) dX0_skyOf_28 (fun H locs hP _ _ hS => ?_)
        refine lv_aload_n hx hb dX0_skyOf_31 rfl (lv_at hl 0 rfl) ?_
        refine gp_get (C := RX0) (T := TX0) E hK hP.1 (shO_g g) rfl in_X0 6 (by decide) (hts _ q340) (fun _ z => z) vO_6 dX0_skyOf_32 ?_
        refine gp_getN (C := RX1) (T := TX1) E hK (hP.2.1 2 (by decide)).1 (shS_h _) rfl in_X1 0 (by decide) (nfw_0 hE.2) (fun _ z => z) (vS_2 (by decide)) dX0_skyOf_35 ?_
        refine lv_iload_n hx hb dX0_skyOf_38 rfl (lv_at hl 1 rfl) ?_
        obtain ⟨r9, hr9, hf⟩ := ob hf
        refine gp_aald (t := 2) (ty := .array .int) E hK (hP.2.1 2 (by decide)).1 rfl rfl (shS_2 (by decide)) (rw_in hr9).1 (by rw [vS_o (by decide), (rw_in hr9).2.1]) dX0_skyOf_39 ?_
        refine lv_iload_n hx hb dX0_skyOf_40 rfl (lv_at hl 2 rfl) ?_
        obtain ⟨v10, hv10, hf⟩ := ob hf
        refine gp_iald E hK (hP.2.1 2 (by decide)).1 (shS_r (by decide) (rw_in hr9).2.2) (rr_in hv10).1 (by rw [vS_r (by decide) (rw_in hr9).2.2, ← (rr_in hv10).2]) dX0_skyOf_41 ?_
        cases hf
        exact g_iret (Pic := fun H => PX D dT g _ H) E hr hlk hP hS rfl dX0_skyOf_42
      · have hf := ite_t kc6 hf
        refine lv_iconst (v := (-1)) hx hb dX0_skyOf_24 rfl ?_
        cases hf
        exact g_iret (Pic := fun H => PX D dT g _ H) E hr hlk hP hS rfl dX0_skyOf_25
set_option maxHeartbeats 4000000 in
def fx_thereOf_L5 (x1 : Int32) (x2 : Int32) (μ : nwX) : (Int32 × Int32) → Option ((Int32 × Int32) ⊕ (Int32)) := fun st => (if ((μ.2.1 0) 13 0) ≤ st.2 then some (.inr st.1) else (rd_ (μ.2.1 0) 5 12 st.2).bind fun v2 => (if v2 = x1 then (rd_ (μ.2.1 0) 6 12 st.2).bind fun v4 => (if v4 = x2 then some (.inl (st.1 ||| ((nI 1) <<< (st.2 &&& 31)), st.2 + nI 1)) else some (.inl (st.1 ||| (nI 0), st.2 + nI 1))) else some (.inl (st.1 ||| (nI 0), st.2 + nI 1))))
set_option maxHeartbeats 4000000 in
noncomputable def fx_thereOf (x1 : Int32) (x2 : Int32) (μ : nwX) : Option (Int32) := (wh_ (fx_thereOf_L5 x1 x2 μ) (nI 0, nI 0)).bind fun x6 => some x6
set_option maxHeartbeats 4000000 in
theorem fx_thereOf_L5_w {p : Program} {l : Launch} {e : Env} {s : State} {m : MethodId} {args : Array Value} {below : List Frame} {meth : Method} {c : Code} {D : va_G} {dT : Nat → ClassId} {Q : State → Prop} {g : Nat} (E : CallFix p m c cX0_thereOf 5 s args lw_all RX0) (hK : va_K D nwCl (nwT dT) s) (hE : EV D dT s) (x1 : Int32) (x2 : Int32) (μ : nwX) {st : Int32 × Int32} {x : Int32} (hw : wh_ (fx_thereOf_L5 x1 x2 μ) st = some x) (hk : (fun x : Int32 => ∀ (ls : Array Slot) (H : Heap) (locs : List Loc), lv_has ls 5 [(3, .int x)] → PX D dT g μ H → va_S (fun _ => False) s.heap H locs → W p l e (rmd 0) s m args below meth c H locs 0 0 Q (F0 m 62 ls [])) x) : (fun st : Int32 × Int32 => ∀ (ls : Array Slot) (H : Heap) (locs : List Loc), lv_has ls 5 [(0, .ref g), (1, .int x1), (2, .int x2), (3, .int st.1), (4, .int st.2)] → PX D dT g μ H → va_S (fun _ => False) s.heap H locs → W p l e (rmd 0) s m args below meth c H locs 0 0 Q (F0 m 5 ls [])) st := by
  obtain ⟨hx, hb, hml, hown, hts⟩ := id E
  refine wh_run (P := (fun st : Int32 × Int32 => ∀ (ls : Array Slot) (H : Heap) (locs : List Loc), lv_has ls 5 [(0, .ref g), (1, .int x1), (2, .int x2), (3, .int st.1), (4, .int st.2)] → PX D dT g μ H → va_S (fun _ => False) s.heap H locs → W p l e (rmd 0) s m args below meth c H locs 0 0 Q (F0 m 5 ls []))) (PE := (fun x : Int32 => ∀ (ls : Array Slot) (H : Heap) (locs : List Loc), lv_has ls 5 [(3, .int x)] → PX D dT g μ H → va_S (fun _ => False) s.heap H locs → W p l e (rmd 0) s m args below meth c H locs 0 0 Q (F0 m 62 ls []))) ?_ hw hk
  clear hw hk
  intro st x hf hk ls H locs hl hP hS
  refine lv_iload hx hb dX0_thereOf_5 (lv_at hl 4 rfl) ?_
  refine lv_aload_n hx hb dX0_thereOf_7 rfl (lv_at hl 0 rfl) ?_
  refine gp_get (C := RX0) (T := TX0) E hK hP.1 (shO_g g) rfl in_X0 4 (by decide) (hts _ q337) (fun _ z => z) vO_4 dX0_thereOf_8 ?_
  refine gp_getN (C := RX1) (T := TX1) E hK (hP.2.1 0 (by decide)).1 (shS_h _) rfl in_X1 13 (by decide) (nfw_12 hE.2) (fun _ z => z) (vS_i (by decide)) dX0_thereOf_11 ?_
  refine lv_icmp_ge (tgt := 62) hx hb dX0_thereOf_14 (by decide) (fun kc1 => ?_) (fun kc1 => ?_)
  · have hf := ite_t kc1 hf
    cases hf
    exact hk _ _ _ (lv_sub hl [3] rfl) hP hS
  · have hf := ite_f kc1 hf
    refine lv_iload_n hx hb dX0_thereOf_17 rfl (lv_at hl 3 rfl) ?_
    refine lv_aload_n hx hb dX0_thereOf_18 rfl (lv_at hl 0 rfl) ?_
    refine gp_get (C := RX0) (T := TX0) E hK hP.1 (shO_g g) rfl in_X0 4 (by decide) (hts _ q337) (fun _ z => z) vO_4 dX0_thereOf_19 ?_
    refine gp_getN (C := RX1) (T := TX1) E hK (hP.2.1 0 (by decide)).1 (shS_h _) rfl in_X1 5 (by decide) (nfw_4 hE.2) (fun _ z => z) (vS_a (by decide) (by decide)) dX0_thereOf_22 ?_
    refine lv_iload hx hb dX0_thereOf_25 (lv_at hl 4 rfl) ?_
    obtain ⟨v2, hv2, hf⟩ := ob hf
    refine gp_iald E hK (hP.2.1 0 (by decide)).1 (shS_a (by decide) (by decide)) (rd_in hv2).1 (by rw [vS_e (by decide) (by decide), ← (rd_in hv2).2]) dX0_thereOf_27 ?_
    refine lv_iload_n hx hb dX0_thereOf_28 rfl (lv_at hl 1 rfl) ?_
    refine lv_icmp_ne (tgt := 53) hx hb dX0_thereOf_29 (by decide) (fun kc3 => ?_) (fun kc3 => ?_)
    · have hf := ite_f kc3 hf
      refine lv_iconst (v := nI 0) hx hb dX0_thereOf_53 rfl ?_
      refine lv_ior hx hb dX0_thereOf_54 ?_
      refine lv_istore_n (lv' := [(3, .int (st.1 ||| (nI 0))), (0, .ref g), (1, .int x1), (2, .int x2), (4, .int st.2)]) hx hb dX0_thereOf_55 rfl hl (by decide) rfl (fun ls hl => ?_)
      refine lv_iinc (v := st.2 + nI 1) (lv' := [(4, .int (st.2 + nI 1)), (3, .int (st.1 ||| (nI 0))), (0, .ref g), (1, .int x1), (2, .int x2)]) hx hb dX0_thereOf_56 hl (k := 4) rfl rfl (by decide) rfl (fun ls hl => ?_)
      refine lv_goto (tgt := 5) hx hb dX0_thereOf_59 (by decide) ?_
      cases hf
      exact hk _ _ _ (lv_sub hl [2, 3, 4, 1, 0] rfl) hP hS
    · have hf := ite_t kc3 hf
      refine lv_aload_n hx hb dX0_thereOf_32 rfl (lv_at hl 0 rfl) ?_
      refine gp_get (C := RX0) (T := TX0) E hK hP.1 (shO_g g) rfl in_X0 4 (by decide) (hts _ q337) (fun _ z => z) vO_4 dX0_thereOf_33 ?_
      refine gp_getN (C := RX1) (T := TX1) E hK (hP.2.1 0 (by decide)).1 (shS_h _) rfl in_X1 6 (by decide) (nfw_5 hE.2) (fun _ z => z) (vS_a (by decide) (by decide)) dX0_thereOf_36 ?_
      refine lv_iload hx hb dX0_thereOf_39 (lv_at hl 4 rfl) ?_
      obtain ⟨v4, hv4, hf⟩ := ob hf
      refine gp_iald E hK (hP.2.1 0 (by decide)).1 (shS_a (by decide) (by decide)) (rd_in hv4).1 (by rw [vS_e (by decide) (by decide), ← (rd_in hv4).2]) dX0_thereOf_41 ?_
      refine lv_iload_n hx hb dX0_thereOf_42 rfl (lv_at hl 2 rfl) ?_
      refine lv_icmp_ne (tgt := 53) hx hb dX0_thereOf_43 (by decide) (fun kc5 => ?_) (fun kc5 => ?_)
      · have hf := ite_f kc5 hf
        refine lv_iconst (v := nI 0) hx hb dX0_thereOf_53 rfl ?_
        refine lv_ior hx hb dX0_thereOf_54 ?_
        refine lv_istore_n (lv' := [(3, .int (st.1 ||| (nI 0))), (0, .ref g), (1, .int x1), (2, .int x2), (4, .int st.2)]) hx hb dX0_thereOf_55 rfl hl (by decide) rfl (fun ls hl => ?_)
        refine lv_iinc (v := st.2 + nI 1) (lv' := [(4, .int (st.2 + nI 1)), (3, .int (st.1 ||| (nI 0))), (0, .ref g), (1, .int x1), (2, .int x2)]) hx hb dX0_thereOf_56 hl (k := 4) rfl rfl (by decide) rfl (fun ls hl => ?_)
        refine lv_goto (tgt := 5) hx hb dX0_thereOf_59 (by decide) ?_
        cases hf
        exact hk _ _ _ (lv_sub hl [2, 3, 4, 1, 0] rfl) hP hS
      · have hf := ite_t kc5 hf
        refine lv_iconst (v := nI 1) hx hb dX0_thereOf_46 rfl ?_
        refine lv_iload hx hb dX0_thereOf_47 (lv_at hl 4 rfl) ?_
        refine lv_ishl hx hb dX0_thereOf_49 ?_
        refine lv_goto (tgt := 54) hx hb dX0_thereOf_50 (by decide) ?_
        refine lv_ior hx hb dX0_thereOf_54 ?_
        refine lv_istore_n (lv' := [(3, .int (st.1 ||| ((nI 1) <<< (st.2 &&& 31)))), (0, .ref g), (1, .int x1), (2, .int x2), (4, .int st.2)]) hx hb dX0_thereOf_55 rfl hl (by decide) rfl (fun ls hl => ?_)
        refine lv_iinc (v := st.2 + nI 1) (lv' := [(4, .int (st.2 + nI 1)), (3, .int (st.1 ||| ((nI 1) <<< (st.2 &&& 31)))), (0, .ref g), (1, .int x1), (2, .int x2)]) hx hb dX0_thereOf_56 hl (k := 4) rfl rfl (by decide) rfl (fun ls hl => ?_)
        refine lv_goto (tgt := 5) hx hb dX0_thereOf_59 (by decide) ?_
        cases hf
        exact hk _ _ _ (lv_sub hl [2, 3, 4, 1, 0] rfl) hP hS
set_option maxHeartbeats 4000000 in
theorem dx_thereOf : yX0_thereOf.cls = RX0 ∧ yX0_thereOf.cls ≠ "java/lang/invoke/MethodHandle" ∧ yX0_thereOf.cls ≠ "java/lang/invoke/VarHandle" ∧ (parseMethodDescriptor yX0_thereOf.desc).map (fun d => d.parameters.length) = some 2 := ⟨rfl, by decide +kernel, by decide +kernel, by decide +kernel⟩
set_option maxHeartbeats 4000000 in
theorem tx_thereOf (l : Launch) (D : va_G) (dT : Nat → ClassId) (g : Nat) (x1 : Int32) (x2 : Int32) (μ : nwX) (res : Int32) (hf : fx_thereOf x1 x2 μ = some res) : Met l yX0_thereOf (ws_ yX0_thereOf cX0_thereOf 5 (some .int)) (rmd 0) (va_Pc [.ref g, .int x1, .int x2] (fun U => PX D dT g μ U.heap ∧ EV D dT U)) (va_Qi (fun r' (_ : Unit) => r' = res) (fun _ t => PX D dT g μ t.heap) (fun _ => False)) 0 0 (fun _ => False) := by
  refine g_met (D := D) (dT := dT) (A := fun _ => False) (own := RX0) (Pic := fun H => PX D dT g μ H) (by decide) rfl (Nat.le_of_ble_eq_true rfl) ?_
  intro p e s m below meth c ls E hE hr hlk hl hP
  have hK := hE.1
  have hS : va_S (fun _ => False) s.heap s.heap [] := va_S.rf
  obtain ⟨hx, hb, hml, hown, hts⟩ := id E
  have hl : lv_has ls 5 [(0, .ref g), (1, .int x1), (2, .int x2)] := hl
  unfold fx_thereOf at hf
  refine lv_iconst (v := nI 0) hx hb dX0_thereOf_0 rfl ?_
  refine lv_istore_n (lv' := [(3, .int (nI 0)), (0, .ref g), (1, .int x1), (2, .int x2)]) hx hb dX0_thereOf_1 rfl hl (by decide) rfl (fun ls hl => ?_)
  refine lv_iconst (v := nI 0) hx hb dX0_thereOf_2 rfl ?_
  refine lv_istore (lv' := [(4, .int (nI 0)), (3, .int (nI 0)), (0, .ref g), (1, .int x1), (2, .int x2)]) hx hb dX0_thereOf_3 hl (by decide) rfl (fun ls hl => ?_)
  obtain ⟨x6, hx6, hf⟩ := ob hf
  refine fx_thereOf_L5_w E hK hE x1 x2 μ hx6 (fun ls H locs hl hP hS => ?_) _ _ _ (lv_sub hl [2, 3, 4, 1, 0] rfl) hP hS
  refine lv_iload_n hx hb dX0_thereOf_62 rfl (lv_at hl 0 rfl) ?_
  cases hf
  exact g_iret (Pic := fun H => PX D dT g _ H) E hr hlk hP hS rfl dX0_thereOf_63
