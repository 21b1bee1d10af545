/-! walks, written by my programs -/
set_option maxRecDepth 100000
set_option maxHeartbeats 4000000 in
noncomputable def fd_Call_does (t : nwD) (L : nwL) (μ : nwM) : Option (nwM) := (fo_Deed_who t).bind fun v1 => (fs_canCall v1 t.2.2.2 μ).bind fun v3 => (if v3 = 0 then some μ else (fo_Deed_who t).bind fun v5 => bd2 (fs_calls v5 t.2.2.2 (nI 0) L μ) fun v7 μ8 => some μ8)
set_option maxHeartbeats 4000000 in
theorem dd_Call_does : yX17_does.cls ≠ "java/lang/invoke/MethodHandle" ∧ yX17_does.cls ≠ "java/lang/invoke/VarHandle" ∧ (parseMethodDescriptor yX17_does.desc).map (fun d => d.parameters.length) = some 1 := ⟨by decide +kernel, by decide +kernel, by decide +kernel⟩
set_option maxHeartbeats 4000000 in
theorem td_Call_does (l : Launch) (D : va_G) (dT : Nat → ClassId) (a h : Nat) (ρ : Nat → Nat) (t : nwD) (L : nwL) (μ : nwM) (res : nwM) (hf : fd_Call_does t L μ = some res) : Met l yX17_does (ws_ yX17_does cX17_does 2 none) (rmd 407) (va_Pc [.ref a, .ref h] (fun U => ((PS D dT h μ ρ U.heap ∧ LR D dT (sA h) ρ L U.heap) ∧ oO D 14 3 [.int t.2.1, .int t.2.2.1, .int t.2.2.2] (sA h) a U.heap) ∧ EV D dT U)) (va_Qv (fun (_ : Unit) => True) (fun _ t => PS D dT h res ρ t.heap) (sA h)) 0 0 (sA h) := by
  refine g_met (D := D) (dT := dT) (A := sA h) (own := RX17) (Pic := fun H => (PS D dT h μ ρ H ∧ LR D dT (sA h) ρ L H) ∧ oO D 14 3 [.int t.2.1, .int t.2.2.1, .int t.2.2.2] (sA h) a H) (by decide) rfl (Nat.le_of_ble_eq_true rfl) ?_
  intro p e s m below meth c ls E hE hr hlk hl hP
  obtain ⟨⟨hP, hL⟩, hO⟩ := hP
  have hK := hE.1
  have hS : va_S (sA h) s.heap s.heap [] := va_S.rf
  obtain ⟨hx, hb, hml, hown, hts⟩ := id E
  have hl : lv_has ls 2 [(0, .ref a), (1, .ref h)] := hl
  unfold fd_Call_does at hf
  refine lv_aload_n hx hb dX17_does_0 rfl (lv_at hl 1 rfl) ?_
  refine lv_aload_n hx hb dX17_does_1 rfl (lv_at hl 0 rfl) ?_
  obtain ⟨v1, hv1, hf⟩ := ob hf
  refine u_calli (Pic := fun H => oO D 14 3 [.int t.2.1, .int t.2.2.1, .int t.2.2.2] nN a H) (Pic1 := fun _ => True) (A1 := nN) (owner := "NamesWeather$Deed") (x := ⟨"NamesWeather$Call", "who", "()I"⟩) E hE ((hO.keep hS (fun _ z => z)).weak (fun _ z => z.elim)) hS (fun _ z => z.elim) (As := []) (to_Deed_who l D dT a t _ hv1) (o_recv hK (hO.keep hS (fun _ z => z)) rfl) (va_cwU 0 hts (lw_U q1140 q1141 q1142 q1133 q189 q1134) rfl rfl rfl rfl ⟨by decide +kernel, by decide +kernel, by decide +kernel⟩ (rmd_ok (by decide) (by decide))) rfl hl rfl (Nat.le_of_ble_eq_true rfl) dX17_does_2 (fun H1 locs1 _ hq1 hS => ?_)
  have hP := GP.same hP (fun q z => hq1 q z (fun y => y))
  refine lv_aload_n hx hb dX17_does_5 rfl (lv_at hl 0 rfl) ?_
  refine o_get (C := RX17) (T := TX17) E hK (hO.keep hS (fun _ z => z)) rfl in_X17 2 (by decide) (hts _ q912) (fun _ z => z) (v := .int t.2.2.2) rfl dX17_does_6 ?_
  obtain ⟨v3, hc2, hf⟩ := ob hf
  refine g_calli E hE (Pic1 := fun H => PS D dT h μ _ H) hP hS (fun _ z => z.elim) (As := [.int v1, .int t.2.2.2]) (ts_canCall l D dT h _ v1 t.2.2.2 μ _ hc2) (g_recv hK hP (shS_h h) rfl) (lw_V q1143 q981 q982 q162 q983) ds_canCall rfl (by decide) (by decide) hl rfl (Nat.le_of_ble_eq_true rfl) dX17_does_9 (fun H locs hP _ hS => ?_)
  refine lv_if_eq (tgt := 29) hx hb dX17_does_12 (by decide) (fun kc4 => ?_) (fun kc4 => ?_)
  · have hf := ite_t kc4 hf
    cases hf
    exact g_vret (Pic := fun H => PS D dT h _ ρ H) E hr hlk hP hS dX17_does_29
  · have hf := ite_f kc4 hf
    refine lv_aload_n hx hb dX17_does_15 rfl (lv_at hl 1 rfl) ?_
    refine lv_aload_n hx hb dX17_does_16 rfl (lv_at hl 0 rfl) ?_
    obtain ⟨v5, hv5, hf⟩ := ob hf
    refine u_calli (Pic := fun H => oO D 14 3 [.int t.2.1, .int t.2.2.1, .int t.2.2.2] nN a H) (Pic1 := fun _ => True) (A1 := nN) (owner := "NamesWeather$Deed") (x := ⟨"NamesWeather$Call", "who", "()I"⟩) E hE ((hO.keep hS (fun _ z => z)).weak (fun _ z => z.elim)) hS (fun _ z => z.elim) (As := []) (to_Deed_who l D dT a t _ hv5) (o_recv hK (hO.keep hS (fun _ z => z)) rfl) (va_cwU 0 hts (lw_U q1140 q1141 q1142 q1133 q189 q1134) rfl rfl rfl rfl ⟨by decide +kernel, by decide +kernel, by decide +kernel⟩ (rmd_ok (by decide) (by decide))) rfl hl rfl (Nat.le_of_ble_eq_true rfl) dX17_does_17 (fun H1 locs1 _ hq1 hS => ?_)
    have hP := GP.same hP (fun q z => hq1 q z (fun y => y))
    refine lv_aload_n hx hb dX17_does_20 rfl (lv_at hl 0 rfl) ?_
    refine o_get (C := RX17) (T := TX17) E hK (hO.keep hS (fun _ z => z)) rfl in_X17 2 (by decide) (hts _ q912) (fun _ z => z) (v := .int t.2.2.2) rfl dX17_does_21 ?_
    refine lv_iconst (v := nI 0) hx hb dX17_does_24 rfl ?_
    obtain ⟨v7, μ8, hc6, hf⟩ := ob2 hf
    refine g_calli E hE (Pic := fun H => PS D dT h μ _ H ∧ LR D dT (sA h) ρ L H) (Pic1 := fun H => PS D dT h μ8 _ H) ⟨hP, hL.keep hS (fun _ z => z)⟩ hS (fun _ z => z) (As := [.int v5, .int t.2.2.2, .int (nI 0)]) (ts_calls l D dT h _ v5 t.2.2.2 (nI 0) L μ _ hc6) (g_recv hK hP (shS_h h) rfl) (lw_V q1144 q994 q995 q162 q996) ds_calls rfl (by decide) (by decide) hl rfl (Nat.le_of_ble_eq_true rfl) dX17_does_25 (fun H locs hP _ hS => ?_)
    refine lv_pop hx hb dX17_does_28 rfl ?_
    cases hf
    exact g_vret (Pic := fun H => PS D dT h _ ρ H) E hr hlk hP hS dX17_does_29
set_option maxHeartbeats 4000000 in
def fd_Move_does (t : nwD) (L : nwL) (μ : nwM) : Option (nwM) := (fo_Deed_who t).bind fun v1 => (fs_canMove v1 t.2.2.2 μ).bind fun v3 => (if v3 = 0 then some μ else (fo_Deed_who t).bind fun v5 => (fs_moveTo v5 t.2.2.2 μ).bind fun μ7 => some μ7)
set_option maxHeartbeats 4000000 in
theorem dd_Move_does : yX18_does.cls ≠ "java/lang/invoke/MethodHandle" ∧ yX18_does.cls ≠ "java/lang/invoke/VarHandle" ∧ (parseMethodDescriptor yX18_does.desc).map (fun d => d.parameters.length) = some 1 := ⟨by decide +kernel, by decide +kernel, by decide +kernel⟩
set_option maxHeartbeats 4000000 in
theorem td_Move_does (l : Launch) (D : va_G) (dT : Nat → ClassId) (a h : Nat) (ρ : Nat → Nat) (t : nwD) (L : nwL) (μ : nwM) (res : nwM) (hf : fd_Move_does t L μ = some res) : Met l yX18_does (ws_ yX18_does cX18_does 2 none) (rmd 407) (va_Pc [.ref a, .ref h] (fun U => ((PS D dT h μ ρ U.heap ∧ LR D dT (sA h) ρ L U.heap) ∧ oO D 15 3 [.int t.2.1, .int t.2.2.1, .int t.2.2.2] (sA h) a U.heap) ∧ EV D dT U)) (va_Qv (fun (_ : Unit) => True) (fun _ t => PS D dT h res ρ t.heap) (sA h)) 0 0 (sA h) := by
  refine g_met (D := D) (dT := dT) (A := sA h) (own := RX18) (Pic := fun H => (PS D dT h μ ρ H ∧ LR D dT (sA h) ρ L H) ∧ oO D 15 3 [.int t.2.1, .int t.2.2.1, .int t.2.2.2] (sA h) a H) (by decide) rfl (Nat.le_of_ble_eq_true rfl) ?_
  intro p e s m below meth c ls E hE hr hlk hl hP
  obtain ⟨⟨hP, hL⟩, hO⟩ := hP
  have hK := hE.1
  have hS : va_S (sA h) s.heap s.heap [] := va_S.rf
  obtain ⟨hx, hb, hml, hown, hts⟩ := id E
  have hl : lv_has ls 2 [(0, .ref a), (1, .ref h)] := hl
  unfold fd_Move_does at hf
  refine lv_aload_n hx hb dX18_does_0 rfl (lv_at hl 1 rfl) ?_
  refine lv_aload_n hx hb dX18_does_1 rfl (lv_at hl 0 rfl) ?_
  obtain ⟨v1, hv1, hf⟩ := ob hf
  refine u_calli (Pic := fun H => oO D 15 3 [.int t.2.1, .int t.2.2.1, .int t.2.2.2] nN a H) (Pic1 := fun _ => True) (A1 := nN) (owner := "NamesWeather$Deed") (x := ⟨"NamesWeather$Move", "who", "()I"⟩) E hE ((hO.keep hS (fun _ z => z)).weak (fun _ z => z.elim)) hS (fun _ z => z.elim) (As := []) (to_Deed_who_15 l D dT a t _ hv1) (o_recv hK (hO.keep hS (fun _ z => z)) rfl) (va_cwU 0 hts (lw_U q1148 q1149 q1150 q1133 q189 q1134) rfl rfl rfl rfl ⟨by decide +kernel, by decide +kernel, by decide +kernel⟩ (rmd_ok (by decide) (by decide))) rfl hl rfl (Nat.le_of_ble_eq_true rfl) dX18_does_2 (fun H1 locs1 _ hq1 hS => ?_)
  have hP := GP.same hP (fun q z => hq1 q z (fun y => y))
  refine lv_aload_n hx hb dX18_does_5 rfl (lv_at hl 0 rfl) ?_
  refine o_get (C := RX18) (T := TX18) E hK (hO.keep hS (fun _ z => z)) rfl in_X18 2 (by decide) (hts _ q924) (fun _ z => z) (v := .int t.2.2.2) rfl dX18_does_6 ?_
  obtain ⟨v3, hc2, hf⟩ := ob hf
  refine g_calli E hE (Pic1 := fun H => PS D dT h μ _ H) hP hS (fun _ z => z.elim) (As := [.int v1, .int t.2.2.2]) (ts_canMove l D dT h _ v1 t.2.2.2 μ _ hc2) (g_recv hK hP (shS_h h) rfl) (lw_V q1151 q1069 q1070 q162 q1071) ds_canMove rfl (by decide) (by decide) hl rfl (Nat.le_of_ble_eq_true rfl) dX18_does_9 (fun H locs hP _ hS => ?_)
  refine lv_if_eq (tgt := 27) hx hb dX18_does_12 (by decide) (fun kc4 => ?_) (fun kc4 => ?_)
  · have hf := ite_t kc4 hf
    cases hf
    exact g_vret (Pic := fun H => PS D dT h _ ρ H) E hr hlk hP hS dX18_does_27
  · have hf := ite_f kc4 hf
    refine lv_aload_n hx hb dX18_does_15 rfl (lv_at hl 1 rfl) ?_
    refine lv_aload_n hx hb dX18_does_16 rfl (lv_at hl 0 rfl) ?_
    obtain ⟨v5, hv5, hf⟩ := ob hf
    refine u_calli (Pic := fun H => oO D 15 3 [.int t.2.1, .int t.2.2.1, .int t.2.2.2] nN a H) (Pic1 := fun _ => True) (A1 := nN) (owner := "NamesWeather$Deed") (x := ⟨"NamesWeather$Move", "who", "()I"⟩) E hE ((hO.keep hS (fun _ z => z)).weak (fun _ z => z.elim)) hS (fun _ z => z.elim) (As := []) (to_Deed_who_15 l D dT a t _ hv5) (o_recv hK (hO.keep hS (fun _ z => z)) rfl) (va_cwU 0 hts (lw_U q1148 q1149 q1150 q1133 q189 q1134) rfl rfl rfl rfl ⟨by decide +kernel, by decide +kernel, by decide +kernel⟩ (rmd_ok (by decide) (by decide))) rfl hl rfl (Nat.le_of_ble_eq_true rfl) dX18_does_17 (fun H1 locs1 _ hq1 hS => ?_)
    have hP := GP.same hP (fun q z => hq1 q z (fun y => y))
    refine lv_aload_n hx hb dX18_does_20 rfl (lv_at hl 0 rfl) ?_
    refine o_get (C := RX18) (T := TX18) E hK (hO.keep hS (fun _ z => z)) rfl in_X18 2 (by decide) (hts _ q924) (fun _ z => z) (v := .int t.2.2.2) rfl dX18_does_21 ?_
    obtain ⟨μ7, hc6, hf⟩ := ob hf
    refine g_callv E hE (Pic1 := fun H => PS D dT h μ7 _ H) hP hS (fun _ z => z) (As := [.int v5, .int t.2.2.2]) (ts_moveTo l D dT h _ v5 t.2.2.2 μ _ hc6) (g_recv hK hP (shS_h h) rfl) (lw_V q1152 q1077 q1078 q162 q1079) ds_moveTo rfl (by decide) (by decide) hl rfl (Nat.le_of_ble_eq_true rfl) dX18_does_24 (fun H locs hP _ hS => ?_)
    cases hf
    exact g_vret (Pic := fun H => PS D dT h _ ρ H) E hr hlk hP hS dX18_does_27
set_option maxHeartbeats 4000000 in
def fd_Bury_does (t : nwD) (L : nwL) (μ : nwM) : Option (nwM) := (fo_Deed_who t).bind fun v1 => (fs_lives v1 μ).bind fun v3 => (if v3 = 0 then some μ else (fo_Deed_who t).bind fun v5 => (fs_buries v5 μ).bind fun μ7 => some μ7)
set_option maxHeartbeats 4000000 in
theorem dd_Bury_does : yX16_does.cls ≠ "java/lang/invoke/MethodHandle" ∧ yX16_does.cls ≠ "java/lang/invoke/VarHandle" ∧ (parseMethodDescriptor yX16_does.desc).map (fun d => d.parameters.length) = some 1 := ⟨by decide +kernel, by decide +kernel, by decide +kernel⟩
set_option maxHeartbeats 4000000 in
theorem td_Bury_does (l : Launch) (D : va_G) (dT : Nat → ClassId) (a h : Nat) (ρ : Nat → Nat) (t : nwD) (L : nwL) (μ : nwM) (res : nwM) (hf : fd_Bury_does t L μ = some res) : Met l yX16_does (ws_ yX16_does cX16_does 2 none) (rmd 407) (va_Pc [.ref a, .ref h] (fun U => ((PS D dT h μ ρ U.heap ∧ LR D dT (sA h) ρ L U.heap) ∧ oO D 13 2 [.int t.2.1, .int t.2.2.1] (sA h) a U.heap) ∧ EV D dT U)) (va_Qv (fun (_ : Unit) => True) (fun _ t => PS D dT h res ρ t.heap) (sA h)) 0 0 (sA h) := by
  refine g_met (D := D) (dT := dT) (A := sA h) (own := RX16) (Pic := fun H => (PS D dT h μ ρ H ∧ LR D dT (sA h) ρ L H) ∧ oO D 13 2 [.int t.2.1, .int t.2.2.1] (sA h) a H) (by decide) rfl (Nat.le_of_ble_eq_true rfl) ?_
  intro p e s m below meth c ls E hE hr hlk hl hP
  obtain ⟨⟨hP, hL⟩, hO⟩ := hP
  have hK := hE.1
  have hS : va_S (sA h) s.heap s.heap [] := va_S.rf
  obtain ⟨hx, hb, hml, hown, hts⟩ := id E
  have hl : lv_has ls 2 [(0, .ref a), (1, .ref h)] := hl
  unfold fd_Bury_does at hf
  refine lv_aload_n hx hb dX16_does_0 rfl (lv_at hl 1 rfl) ?_
  refine lv_aload_n hx hb dX16_does_1 rfl (lv_at hl 0 rfl) ?_
  obtain ⟨v1, hv1, hf⟩ := ob hf
  refine u_calli (Pic := fun H => oO D 13 2 [.int t.2.1, .int t.2.2.1] nN a H) (Pic1 := fun _ => True) (A1 := nN) (owner := "NamesWeather$Deed") (x := ⟨"NamesWeather$Bury", "who", "()I"⟩) E hE ((hO.keep hS (fun _ z => z)).weak (fun _ z => z.elim)) hS (fun _ z => z.elim) (As := []) (to_Deed_who_13 l D dT a t _ hv1) (o_recv hK (hO.keep hS (fun _ z => z)) rfl) (va_cwU 0 hts (lw_U q1129 q1130 q1132 q1133 q189 q1134) rfl rfl rfl rfl ⟨by decide +kernel, by decide +kernel, by decide +kernel⟩ (rmd_ok (by decide) (by decide))) rfl hl rfl (Nat.le_of_ble_eq_true rfl) dX16_does_2 (fun H1 locs1 _ hq1 hS => ?_)
  have hP := GP.same hP (fun q z => hq1 q z (fun y => y))
  obtain ⟨v3, hc2, hf⟩ := ob hf
  refine g_calli E hE (Pic1 := fun H => PS D dT h μ _ H) hP hS (fun _ z => z.elim) (As := [.int v1]) (ts_lives l D dT h _ v1 μ _ hc2) (g_recv hK hP (shS_h h) rfl) (lw_V q1135 q1073 q1074 q162 q1075) ds_lives rfl (by decide) (by decide) hl rfl (Nat.le_of_ble_eq_true rfl) dX16_does_5 (fun H locs hP _ hS => ?_)
  refine lv_if_eq (tgt := 19) hx hb dX16_does_8 (by decide) (fun kc4 => ?_) (fun kc4 => ?_)
  · have hf := ite_t kc4 hf
    cases hf
    exact g_vret (Pic := fun H => PS D dT h _ ρ H) E hr hlk hP hS dX16_does_19
  · have hf := ite_f kc4 hf
    refine lv_aload_n hx hb dX16_does_11 rfl (lv_at hl 1 rfl) ?_
    refine lv_aload_n hx hb dX16_does_12 rfl (lv_at hl 0 rfl) ?_
    obtain ⟨v5, hv5, hf⟩ := ob hf
    refine u_calli (Pic := fun H => oO D 13 2 [.int t.2.1, .int t.2.2.1] nN a H) (Pic1 := fun _ => True) (A1 := nN) (owner := "NamesWeather$Deed") (x := ⟨"NamesWeather$Bury", "who", "()I"⟩) E hE ((hO.keep hS (fun _ z => z)).weak (fun _ z => z.elim)) hS (fun _ z => z.elim) (As := []) (to_Deed_who_13 l D dT a t _ hv5) (o_recv hK (hO.keep hS (fun _ z => z)) rfl) (va_cwU 0 hts (lw_U q1129 q1130 q1132 q1133 q189 q1134) rfl rfl rfl rfl ⟨by decide +kernel, by decide +kernel, by decide +kernel⟩ (rmd_ok (by decide) (by decide))) rfl hl rfl (Nat.le_of_ble_eq_true rfl) dX16_does_13 (fun H1 locs1 _ hq1 hS => ?_)
    have hP := GP.same hP (fun q z => hq1 q z (fun y => y))
    obtain ⟨μ7, hc6, hf⟩ := ob hf
    refine g_callv E hE (Pic1 := fun H => PS D dT h μ7 _ H) hP hS (fun _ z => z) (As := [.int v5]) (ts_buries l D dT h _ v5 μ _ hc6) (g_recv hK hP (shS_h h) rfl) (lw_V q1136 q1086 q1087 q162 q1088) ds_buries rfl (by decide) (by decide) hl rfl (Nat.le_of_ble_eq_true rfl) dX16_does_16 (fun H locs hP _ hS => ?_)
    cases hf
    exact g_vret (Pic := fun H => PS D dT h _ ρ H) E hr hlk hP hS dX16_does_19
