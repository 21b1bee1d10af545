/-! walks, written by my programs -/
set_option maxRecDepth 100000
set_option maxHeartbeats 4000000 in
def fr_see (ξ : nwM) (μ : nwM) : Option (Int32) := (if (ξ 1 0) ≤ (μ 1 0) then some (-1) else (rd_ ξ 0 400 (μ 1 0)).bind fun v2 => some (v2 &&& (nI 255)))
set_option maxHeartbeats 4000000 in
theorem dr_see : yX3_see.cls = RX3 ∧ yX3_see.cls ≠ "java/lang/invoke/MethodHandle" ∧ yX3_see.cls ≠ "java/lang/invoke/VarHandle" ∧ (parseMethodDescriptor yX3_see.desc).map (fun d => d.parameters.length) = some 0 := ⟨rfl, by decide +kernel, by decide +kernel, by decide +kernel⟩
set_option maxHeartbeats 4000000 in
theorem tr_see (l : Launch) (D : va_G) (dT : Nat → ClassId) (a g : Nat) (ξ : nwM) (β : Nat → Nat) (σ : nwM) (ρ : Nat → Nat) (Z : nwZ) (μ : nwM) (res : Int32) (hf : fr_see ξ μ = some res) : Met l yX3_see (ws_ yX3_see cX3_see 1 (some .int)) (rmd 0) (va_Pc [.ref a] (RP D dT a g ξ β σ ρ Z μ)) (va_Qi (fun r' (_ : Unit) => r' = res) (fun _ t => RD D a g μ t.heap) (fun _ => False)) 0 0 (fun _ => False) := by
  refine k_met (own := RX3) (by decide) rfl (Nat.le_of_ble_eq_true rfl) ?_
  intro p e s m below meth c ls E hP hr hlk hl _
  obtain ⟨hP, hB⟩ := hP
  have hE := hB.2.1
  have hK := hE.1
  have hS : va_S (fun _ => False) s.heap s.heap [] := va_S.rf
  obtain ⟨hx, hb, hml, hown, hts⟩ := id E
  have hl : lv_has ls 1 [(0, .ref a)] := hl
  unfold fr_see at hf
  refine lv_aload_n hx hb dX3_see_0 rfl (lv_at hl 0 rfl) ?_
  refine gp_get (C := RX3) (T := TX3) E hK (oneO (dT := dT) hP) (if_pos rfl) rfl in_X3 1 (by decide) (hts _ q405) (fun _ z => z) (v := .int (μ 1 0)) rfl dX3_see_1 ?_
  refine lv_aload_n hx hb dX3_see_4 rfl (lv_at hl 0 rfl) ?_
  refine gp_get (C := RX3) (T := TX3) E hK (oneO (dT := dT) hP) (if_pos rfl) rfl in_X3 6 (by decide) (hts _ q410) (fun _ z => z) (v := .ref g) rfl dX3_see_5 ?_
  refine gp_getN (C := RX0) (T := TX0) E hK (RB_at hB hS (fun _ z => z.elim)).1 (shO_g g) rfl in_X0 1 (by decide) (nfw_32 hE.2) (fun _ z => z) (vO_i (by decide)) dX3_see_8 ?_
  refine lv_icmp_ge (tgt := 33) hx hb dX3_see_11 (by decide) (fun kc1 => ?_) (fun kc1 => ?_)
  · have hf := ite_t kc1 hf
    refine lv_iconst (v := (-1)) hx hb dX3_see_33 rfl ?_
    cases hf
    exact g_iret (Pic := fun H => RD D a g _ H) E hr hlk hP hS rfl dX3_see_34
  · have hf := ite_f kc1 hf
    refine lv_aload_n hx hb dX3_see_14 rfl (lv_at hl 0 rfl) ?_
    refine gp_get (C := RX3) (T := TX3) E hK (oneO (dT := dT) hP) (if_pos rfl) rfl in_X3 6 (by decide) (hts _ q410) (fun _ z => z) (v := .ref g) rfl dX3_see_15 ?_
    refine gp_getN (C := RX0) (T := TX0) E hK (RB_at hB hS (fun _ z => z.elim)).1 (shO_g g) rfl in_X0 0 (by decide) (nfw_31 hE.2) (fun _ z => z) vO_0 dX3_see_18 ?_
    refine lv_aload_n hx hb dX3_see_21 rfl (lv_at hl 0 rfl) ?_
    refine gp_get (C := RX3) (T := TX3) E hK (oneO (dT := dT) hP) (if_pos rfl) rfl in_X3 1 (by decide) (hts _ q405) (fun _ z => z) (v := .int (μ 1 0)) rfl dX3_see_22 ?_
    obtain ⟨v2, hv2, hf⟩ := ob hf
    refine gp_bald E hK (RB_at hB hS (fun _ z => z.elim)).1 (shO_t g) (rd_in hv2).1 (by rw [vO_te, ← (rd_in hv2).2]) dX3_see_25 ?_
    refine lv_sipush (v := nI 255) hx hb dX3_see_26 rfl ?_
    refine lv_iand hx hb dX3_see_29 ?_
    refine lv_goto (tgt := 34) hx hb dX3_see_30 (by decide) ?_
    cases hf
    exact g_iret (Pic := fun H => RD D a g _ H) E hr hlk hP hS rfl dX3_see_34
set_option maxHeartbeats 4000000 in
def fr_isLetter (ξ : nwM) (μ : nwM) : Option (Int32) := (fr_see ξ μ).bind fun v2 => (fi_isIn v2 (nI 97) (nI 122) ()).bind fun v3 => (if v3 = 0 then (fr_see ξ μ).bind fun v6 => (fi_isIn v6 (nI 65) (nI 90) ()).bind fun v7 => (if v7 = 0 then some (nI 0) else some (nI 1)) else some (nI 1))
set_option maxHeartbeats 4000000 in
theorem dr_isLetter : yX3_isLetter.cls = RX3 ∧ yX3_isLetter.cls ≠ "java/lang/invoke/MethodHandle" ∧ yX3_isLetter.cls ≠ "java/lang/invoke/VarHandle" ∧ (parseMethodDescriptor yX3_isLetter.desc).map (fun d => d.parameters.length) = some 0 := ⟨rfl, by decide +kernel, by decide +kernel, by decide +kernel⟩
set_option maxHeartbeats 4000000 in
theorem tr_isLetter (l : Launch) (D : va_G) (dT : Nat → ClassId) (a g : Nat) (ξ : nwM) (β : Nat → Nat) (σ : nwM) (ρ : Nat → Nat) (Z : nwZ) (μ : nwM) (res : Int32) (hf : fr_isLetter ξ μ = some res) : Met l yX3_isLetter (ws_ yX3_isLetter cX3_isLetter 1 (some .boolean)) (rmd 1) (va_Pc [.ref a] (RP D dT a g ξ β σ ρ Z μ)) (va_Qi (fun r' (_ : Unit) => r' = res) (fun _ t => RD D a g μ t.heap) (fun _ => False)) 0 0 (fun _ => False) := by
  refine k_met (own := RX3) (by decide) rfl (Nat.le_of_ble_eq_true rfl) ?_
  intro p e s m below meth c ls E hP hr hlk hl _
  obtain ⟨hP, hB⟩ := hP
  have hE := hB.2.1
  have hK := hE.1
  have hS : va_S (fun _ => False) s.heap s.heap [] := va_S.rf
  obtain ⟨hx, hb, hml, hown, hts⟩ := id E
  have hl : lv_has ls 1 [(0, .ref a)] := hl
  unfold fr_isLetter at hf
  refine lv_aload_n hx hb dX3_isLetter_0 rfl (lv_at hl 0 rfl) ?_
  obtain ⟨v2, hc1, hf⟩ := ob hf
  refine k_vi (Pic := RP D dT a g ξ β σ ρ Z μ) (Pic1 := fun H => RD D a g μ H) (A1 := fun _ => False) E hS (fun _ _ z => z.elim) (fun _ z => z.elim) (As := []) (tr_see l D dT a g ξ β σ ρ Z μ _ hc1) RP_bl (RP_pre hB hP hS (fun _ z => z.elim)) (RD_recv hK hP) (lw_V q436 q438 qs3 q167 q439) dr_see rfl ⟨rfl, rfl⟩ (rmd_ok (by decide) (by decide)) ⟨Nat.le_refl 0, Nat.le_refl 0⟩ hl rfl (Nat.le_of_ble_eq_true rfl) dX3_isLetter_1 (fun H locs hP _ _ hS => ?_)
  refine lv_bipush (v := nI 97) hx hb dX3_isLetter_4 rfl ?_
  refine lv_bipush (v := nI 122) hx hb dX3_isLetter_6 rfl ?_
  obtain ⟨v3, hv3, hf⟩ := ob hf
  refine p_calliN E hS (As := [.int v2, .int (nI 97), .int (nI 122)]) (ti_isIn l v2 (nI 97) (nI 122) _ hv3) (nmw_1 hE.2) q161 q387 q388 di_isIn rfl (by decide) (by decide) hl rfl (Nat.le_of_ble_eq_true rfl) dX3_isLetter_8 (fun H1 locs1 hq1 hS => ?_)
  have hP := RD_same hP hq1
  refine lv_if_ne (tgt := 28) hx hb dX3_isLetter_11 (by decide) (fun kc4 => ?_) (fun kc4 => ?_)
  · have hf := ite_f kc4 hf
    refine lv_iconst (v := nI 1) hx hb dX3_isLetter_28 rfl ?_
    refine lv_goto (tgt := 33) hx hb dX3_isLetter_29 (by decide) ?_
    cases hf
    exact g_zret (Pic := fun H => RD D a g _ H) E hr hlk hP hS rfl dX3_isLetter_33
  · have hf := ite_t kc4 hf
    refine lv_aload_n hx hb dX3_isLetter_14 rfl (lv_at hl 0 rfl) ?_
    obtain ⟨v6, hc5, hf⟩ := ob hf
    refine k_vi (Pic := RP D dT a g ξ β σ ρ Z μ) (Pic1 := fun H => RD D a g μ H) (A1 := fun _ => False) E hS (fun _ _ z => z.elim) (fun _ z => z.elim) (As := []) (tr_see l D dT a g ξ β σ ρ Z μ _ hc5) RP_bl (RP_pre hB hP hS (fun _ z => z.elim)) (RD_recv hK hP) (lw_V q436 q438 qs3 q167 q439) dr_see rfl ⟨rfl, rfl⟩ (rmd_ok (by decide) (by decide)) ⟨Nat.le_refl 0, Nat.le_refl 0⟩ hl rfl (Nat.le_of_ble_eq_true rfl) dX3_isLetter_15 (fun H locs hP _ _ hS => ?_)
    refine lv_bipush (v := nI 65) hx hb dX3_isLetter_18 rfl ?_
    refine lv_bipush (v := nI 90) hx hb dX3_isLetter_20 rfl ?_
    obtain ⟨v7, hv7, hf⟩ := ob hf
    refine p_calliN E hS (As := [.int v6, .int (nI 65), .int (nI 90)]) (ti_isIn l v6 (nI 65) (nI 90) _ hv7) (nmw_1 hE.2) q161 q387 q388 di_isIn rfl (by decide) (by decide) hl rfl (Nat.le_of_ble_eq_true rfl) dX3_isLetter_22 (fun H1 locs1 hq1 hS => ?_)
    have hP := RD_same hP hq1
    refine lv_if_eq (tgt := 32) hx hb dX3_isLetter_25 (by decide) (fun kc8 => ?_) (fun kc8 => ?_)
    · have hf := ite_t kc8 hf
      refine lv_iconst (v := nI 0) hx hb dX3_isLetter_32 rfl ?_
      cases hf
      exact g_zret (Pic := fun H => RD D a g _ H) E hr hlk hP hS rfl dX3_isLetter_33
    · have hf := ite_f kc8 hf
      refine lv_iconst (v := nI 1) hx hb dX3_isLetter_28 rfl ?_
      refine lv_goto (tgt := 33) hx hb dX3_isLetter_29 (by decide) ?_
      cases hf
      exact g_zret (Pic := fun H => RD D a g _ H) E hr hlk hP hS rfl dX3_isLetter_33
set_option maxHeartbeats 4000000 in
def fr_isDigit (ξ : nwM) (μ : nwM) : Option (Int32) := (fr_see ξ μ).bind fun v2 => (fi_isIn v2 (nI 48) (nI 57) ()).bind fun v3 => (zr_ v3).bind fun v4 => some v4
set_option maxHeartbeats 4000000 in
theorem dr_isDigit : yX3_isDigit.cls = RX3 ∧ yX3_isDigit.cls ≠ "java/lang/invoke/MethodHandle" ∧ yX3_isDigit.cls ≠ "java/lang/invoke/VarHandle" ∧ (parseMethodDescriptor yX3_isDigit.desc).map (fun d => d.parameters.length) = some 0 := ⟨rfl, by decide +kernel, by decide +kernel, by decide +kernel⟩
set_option maxHeartbeats 4000000 in
theorem tr_isDigit (l : Launch) (D : va_G) (dT : Nat → ClassId) (a g : Nat) (ξ : nwM) (β : Nat → Nat) (σ : nwM) (ρ : Nat → Nat) (Z : nwZ) (μ : nwM) (res : Int32) (hf : fr_isDigit ξ μ = some res) : Met l yX3_isDigit (ws_ yX3_isDigit cX3_isDigit 1 (some .boolean)) (rmd 1) (va_Pc [.ref a] (RP D dT a g ξ β σ ρ Z μ)) (va_Qi (fun r' (_ : Unit) => r' = res) (fun _ t => RD D a g μ t.heap) (fun _ => False)) 0 0 (fun _ => False) := by
  refine k_met (own := RX3) (by decide) rfl (Nat.le_of_ble_eq_true rfl) ?_
  intro p e s m below meth c ls E hP hr hlk hl _
  obtain ⟨hP, hB⟩ := hP
  have hE := hB.2.1
  have hK := hE.1
  have hS : va_S (fun _ => False) s.heap s.heap [] := va_S.rf
  obtain ⟨hx, hb, hml, hown, hts⟩ := id E
  have hl : lv_has ls 1 [(0, .ref a)] := hl
  unfold fr_isDigit at hf
  refine lv_aload_n hx hb dX3_isDigit_0 rfl (lv_at hl 0 rfl) ?_
  obtain ⟨v2, hc1, hf⟩ := ob hf
  refine k_vi (Pic := RP D dT a g ξ β σ ρ Z μ) (Pic1 := fun H => RD D a g μ H) (A1 := fun _ => False) E hS (fun _ _ z => z.elim) (fun _ z => z.elim) (As := []) (tr_see l D dT a g ξ β σ ρ Z μ _ hc1) RP_bl (RP_pre hB hP hS (fun _ z => z.elim)) (RD_recv hK hP) (lw_V q436 q438 qs3 q167 q439) dr_see rfl ⟨rfl, rfl⟩ (rmd_ok (by decide) (by decide)) ⟨Nat.le_refl 0, Nat.le_refl 0⟩ hl rfl (Nat.le_of_ble_eq_true rfl) dX3_isDigit_1 (fun H locs hP _ _ hS => ?_)
  refine lv_bipush (v := nI 48) hx hb dX3_isDigit_4 rfl ?_
  refine lv_bipush (v := nI 57) hx hb dX3_isDigit_6 rfl ?_
  obtain ⟨v3, hv3, hf⟩ := ob hf
  refine p_calliN E hS (As := [.int v2, .int (nI 48), .int (nI 57)]) (ti_isIn l v2 (nI 48) (nI 57) _ hv3) (nmw_1 hE.2) q161 q387 q388 di_isIn rfl (by decide) (by decide) hl rfl (Nat.le_of_ble_eq_true rfl) dX3_isDigit_8 (fun H1 locs1 hq1 hS => ?_)
  have hP := RD_same hP hq1
  obtain ⟨v4, hv4, hf⟩ := ob hf
  cases hf
  exact g_zret (Pic := fun H => RD D a g _ H) E hr hlk hP hS hv4 dX3_isDigit_11
set_option maxHeartbeats 4000000 in
noncomputable def fr_asked (ξ : nwM) (μ : nwM) : Option (Int32) := (fr_is bw_kind ξ μ).bind fun v2 => (if v2 = 0 then (fr_is bw_strength ξ μ).bind fun v5 => (if v5 = 0 then (fr_is bw_sky ξ μ).bind fun v8 => (if v8 = 0 then (fr_is bw_all ξ μ).bind fun v11 => (if v11 = 0 then (fr_is bw_day ξ μ).bind fun v14 => (if v14 = 0 then (fr_is bw_dead ξ μ).bind fun v17 => (if v17 = 0 then (fr_is bw_calls ξ μ).bind fun v20 => (if v20 = 0 then (fr_is bw_today ξ μ).bind fun v23 => (if v23 = 0 then (fr_is bw_folk ξ μ).bind fun v26 => (if v26 = 0 then some (nI 1) else some (nI 188)) else some (nI 187)) else some (nI 186)) else some (nI 185)) else some (nI 184)) else some (nI 183)) else some (nI 182)) else some (nI 181)) else some (nI 180))
set_option maxHeartbeats 4000000 in
theorem dr_asked : yX3_asked.cls = RX3 ∧ yX3_asked.cls ≠ "java/lang/invoke/MethodHandle" ∧ yX3_asked.cls ≠ "java/lang/invoke/VarHandle" ∧ (parseMethodDescriptor yX3_asked.desc).map (fun d => d.parameters.length) = some 0 := ⟨rfl, by decide +kernel, by decide +kernel, by decide +kernel⟩
set_option maxHeartbeats 4000000 in
theorem tr_asked (l : Launch) (D : va_G) (dT : Nat → ClassId) (a g : Nat) (ξ : nwM) (β : Nat → Nat) (σ : nwM) (ρ : Nat → Nat) (Z : nwZ) (μ : nwM) (res : Int32) (hf : fr_asked ξ μ = some res) : Met l yX3_asked (ws_ yX3_asked cX3_asked 1 (some .int)) (rmd 5) (va_Pc [.ref a] (RP D dT a g ξ β σ ρ Z μ)) (va_Qi (fun r' (_ : Unit) => r' = res) (fun _ t => RD D a g μ t.heap) (fun _ => False)) 0 0 (fun _ => False) := by
  refine k_met (own := RX3) (by decide) rfl (Nat.le_of_ble_eq_true rfl) ?_
  intro p e s m below meth c ls E hP hr hlk hl _
  obtain ⟨hP, hB⟩ := hP
  have hE := hB.2.1
  have hK := hE.1
  have hS : va_S (fun _ => False) s.heap s.heap [] := va_S.rf
  obtain ⟨hx, hb, hml, hown, hts⟩ := id E
  have hl : lv_has ls 1 [(0, .ref a)] := hl
  unfold fr_asked at hf
  refine lv_aload_n hx hb dX3_asked_0 rfl (lv_at hl 0 rfl) ?_
  refine va_ldcS hx hb hown (RB_str hB sx_kind) dX3_asked_1 ?_
  obtain ⟨v2, hc1, hf⟩ := ob hf
  refine k_vi (Pic := fun U => RP D dT a g ξ β σ ρ Z μ U ∧ sC bw_kind (Z.2.1 49) (ge_ Z.1) U U.heap) (Pic1 := fun H => RD D a g μ H) (A1 := fun _ => False) E hS (fun _ _ z => z.elim) (fun _ z => z.elim) (As := [.ref (Z.2.1 49)]) (tr_is l D dT a g ξ β σ ρ Z bw_kind (Z.2.1 49) μ _ hc1) is_bl (is_pre hB hP (RB_sc hB sx_kind) hS (fun _ z => z.elim)) (RD_recv hK hP) (lw_V q454 q456 qs7 q167 q457) dr_is rfl ⟨rfl, rfl⟩ (rmd_ok (by decide) (by decide)) ⟨Nat.le_refl 0, Nat.le_refl 0⟩ hl rfl (Nat.le_of_ble_eq_true rfl) dX3_asked_3 (fun H locs hP _ _ hS => ?_)
  refine lv_if_eq (tgt := 13) hx hb dX3_asked_6 (by decide) (fun kc3 => ?_) (fun kc3 => ?_)
  · have hf := ite_t kc3 hf
    refine lv_aload_n hx hb dX3_asked_13 rfl (lv_at hl 0 rfl) ?_
    refine va_ldcS hx hb hown (RB_str hB sx_strength) dX3_asked_14 ?_
    obtain ⟨v5, hc4, hf⟩ := ob hf
    refine k_vi (Pic := fun U => RP D dT a g ξ β σ ρ Z μ U ∧ sC bw_strength (Z.2.1 55) (ge_ Z.1) U U.heap) (Pic1 := fun H => RD D a g μ H) (A1 := fun _ => False) E hS (fun _ _ z => z.elim) (fun _ z => z.elim) (As := [.ref (Z.2.1 55)]) (tr_is l D dT a g ξ β σ ρ Z bw_strength (Z.2.1 55) μ _ hc4) is_bl (is_pre hB hP (RB_sc hB sx_strength) hS (fun _ z => z.elim)) (RD_recv hK hP) (lw_V q454 q456 qs7 q167 q457) dr_is rfl ⟨rfl, rfl⟩ (rmd_ok (by decide) (by decide)) ⟨Nat.le_refl 0, Nat.le_refl 0⟩ hl rfl (Nat.le_of_ble_eq_true rfl) dX3_asked_16 (fun H locs hP _ _ hS => ?_)
    refine lv_if_eq (tgt := 26) hx hb dX3_asked_19 (by decide) (fun kc6 => ?_) (fun kc6 => ?_)
    · have hf := ite_t kc6 hf
      refine lv_aload_n hx hb dX3_asked_26 rfl (lv_at hl 0 rfl) ?_
      refine va_ldcS hx hb hown (RB_str hB sx_sky) dX3_asked_27 ?_
      obtain ⟨v8, hc7, hf⟩ := ob hf
      refine k_vi (Pic := fun U => RP D dT a g ξ β σ ρ Z μ U ∧ sC bw_sky (Z.2.1 57) (ge_ Z.1) U U.heap) (Pic1 := fun H => RD D a g μ H) (A1 := fun _ => False) E hS (fun _ _ z => z.elim) (fun _ z => z.elim) (As := [.ref (Z.2.1 57)]) (tr_is l D dT a g ξ β σ ρ Z bw_sky (Z.2.1 57) μ _ hc7) is_bl (is_pre hB hP (RB_sc hB sx_sky) hS (fun _ z => z.elim)) (RD_recv hK hP) (lw_V q454 q456 qs7 q167 q457) dr_is rfl ⟨rfl, rfl⟩ (rmd_ok (by decide) (by decide)) ⟨Nat.le_refl 0, Nat.le_refl 0⟩ hl rfl (Nat.le_of_ble_eq_true rfl) dX3_asked_29 (fun H locs hP _ _ hS => ?_)
      refine lv_if_eq (tgt := 39) hx hb dX3_asked_32 (by decide) (fun kc9 => ?_) (fun kc9 => ?_)
      · have hf := ite_t kc9 hf
        refine lv_aload_n hx hb dX3_asked_39 rfl (lv_at hl 0 rfl) ?_
        refine va_ldcS hx hb hown (RB_str hB sx_all) dX3_asked_40 ?_
        obtain ⟨v11, hc10, hf⟩ := ob hf
        refine k_vi (Pic := fun U => RP D dT a g ξ β σ ρ Z μ U ∧ sC bw_all (Z.2.1 59) (ge_ Z.1) U U.heap) (Pic1 := fun H => RD D a g μ H) (A1 := fun _ => False) E hS (fun _ _ z => z.elim) (fun _ z => z.elim) (As := [.ref (Z.2.1 59)]) (tr_is l D dT a g ξ β σ ρ Z bw_all (Z.2.1 59) μ _ hc10) is_bl (is_pre hB hP (RB_sc hB sx_all) hS (fun _ z => z.elim)) (RD_recv hK hP) (lw_V q454 q456 qs7 q167 q457) dr_is rfl ⟨rfl, rfl⟩ (rmd_ok (by decide) (by decide)) ⟨Nat.le_refl 0, Nat.le_refl 0⟩ hl rfl (Nat.le_of_ble_eq_true rfl) dX3_asked_42 (fun H locs hP _ _ hS => ?_)
        refine lv_if_eq (tgt := 52) hx hb dX3_asked_45 (by decide) (fun kc12 => ?_) (fun kc12 => ?_)
        · have hf := ite_t kc12 hf
          refine lv_aload_n hx hb dX3_asked_52 rfl (lv_at hl 0 rfl) ?_
          refine va_ldcS hx hb hown (RB_str hB sx_day) dX3_asked_53 ?_
          obtain ⟨v14, hc13, hf⟩ := ob hf
          refine k_vi (Pic := fun U => RP D dT a g ξ β σ ρ Z μ U ∧ sC bw_day (Z.2.1 61) (ge_ Z.1) U U.heap) (Pic1 := fun H => RD D a g μ H) (A1 := fun _ => False) E hS (fun _ _ z => z.elim) (fun _ z => z.elim) (As := [.ref (Z.2.1 61)]) (tr_is l D dT a g ξ β σ ρ Z bw_day (Z.2.1 61) μ _ hc13) is_bl (is_pre hB hP (RB_sc hB sx_day) hS (fun _ z => z.elim)) (RD_recv hK hP) (lw_V q454 q456 qs7 q167 q457) dr_is rfl ⟨rfl, rfl⟩ (rmd_ok (by decide) (by decide)) ⟨Nat.le_refl 0, Nat.le_refl 0⟩ hl rfl (Nat.le_of_ble_eq_true rfl) dX3_asked_55 (fun H locs hP _ _ hS => ?_)
          refine lv_if_eq (tgt := 65) hx hb dX3_asked_58 (by decide) (fun kc15 => ?_) (fun kc15 => ?_)
          · have hf := ite_t kc15 hf
            refine lv_aload_n hx hb dX3_asked_65 rfl (lv_at hl 0 rfl) ?_
            refine va_ldcS hx hb hown (RB_str hB sx_dead) dX3_asked_66 ?_
            obtain ⟨v17, hc16, hf⟩ := ob hf
            refine k_vi (Pic := fun U => RP D dT a g ξ β σ ρ Z μ U ∧ sC bw_dead (Z.2.1 63) (ge_ Z.1) U U.heap) (Pic1 := fun H => RD D a g μ H) (A1 := fun _ => False) E hS (fun _ _ z => z.elim) (fun _ z => z.elim) (As := [.ref (Z.2.1 63)]) (tr_is l D dT a g ξ β σ ρ Z bw_dead (Z.2.1 63) μ _ hc16) is_bl (is_pre hB hP (RB_sc hB sx_dead) hS (fun _ z => z.elim)) (RD_recv hK hP) (lw_V q454 q456 qs7 q167 q457) dr_is rfl ⟨rfl, rfl⟩ (rmd_ok (by decide) (by decide)) ⟨Nat.le_refl 0, Nat.le_refl 0⟩ hl rfl (Nat.le_of_ble_eq_true rfl) dX3_asked_68 (fun H locs hP _ _ hS => ?_)
            refine lv_if_eq (tgt := 78) hx hb dX3_asked_71 (by decide) (fun kc18 => ?_) (fun kc18 => ?_)
            · have hf := ite_t kc18 hf
              refine lv_aload_n hx hb dX3_asked_78 rfl (lv_at hl 0 rfl) ?_
              refine va_ldcS hx hb hown (RB_str hB sx_calls) dX3_asked_79 ?_
              obtain ⟨v20, hc19, hf⟩ := ob hf
              refine k_vi (Pic := fun U => RP D dT a g ξ β σ ρ Z μ U ∧ sC bw_calls (Z.2.1 65) (ge_ Z.1) U U.heap) (Pic1 := fun H => RD D a g μ H) (A1 := fun _ => False) E hS (fun _ _ z => z.elim) (fun _ z => z.elim) (As := [.ref (Z.2.1 65)]) (tr_is l D dT a g ξ β σ ρ Z bw_calls (Z.2.1 65) μ _ hc19) is_bl (is_pre hB hP (RB_sc hB sx_calls) hS (fun _ z => z.elim)) (RD_recv hK hP) (lw_V q454 q456 qs7 q167 q457) dr_is rfl ⟨rfl, rfl⟩ (rmd_ok (by decide) (by decide)) ⟨Nat.le_refl 0, Nat.le_refl 0⟩ hl rfl (Nat.le_of_ble_eq_true rfl) dX3_asked_81 (fun H locs hP _ _ hS => ?_)
              refine lv_if_eq (tgt := 91) hx hb dX3_asked_84 (by decide) (fun kc21 => ?_) (fun kc21 => ?_)
              · have hf := ite_t kc21 hf
                refine lv_aload_n hx hb dX3_asked_91 rfl (lv_at hl 0 rfl) ?_
                refine va_ldcS hx hb hown (RB_str hB sx_today) dX3_asked_92 ?_
                obtain ⟨v23, hc22, hf⟩ := ob hf
                refine k_vi (Pic := fun U => RP D dT a g ξ β σ ρ Z μ U ∧ sC bw_today (Z.2.1 67) (ge_ Z.1) U U.heap) (Pic1 := fun H => RD D a g μ H) (A1 := fun _ => False) E hS (fun _ _ z => z.elim) (fun _ z => z.elim) (As := [.ref (Z.2.1 67)]) (tr_is l D dT a g ξ β σ ρ Z bw_today (Z.2.1 67) μ _ hc22) is_bl (is_pre hB hP (RB_sc hB sx_today) hS (fun _ z => z.elim)) (RD_recv hK hP) (lw_V q454 q456 qs7 q167 q457) dr_is rfl ⟨rfl, rfl⟩ (rmd_ok (by decide) (by decide)) ⟨Nat.le_refl 0, Nat.le_refl 0⟩ hl rfl (Nat.le_of_ble_eq_true rfl) dX3_asked_94 (fun H locs hP _ _ hS => ?_)
                refine lv_if_eq (tgt := 104) hx hb dX3_asked_97 (by decide) (fun kc24 => ?_) (fun kc24 => ?_)
                · have hf := ite_t kc24 hf
                  refine lv_aload_n hx hb dX3_asked_104 rfl (lv_at hl 0 rfl) ?_
                  refine va_ldcS hx hb hown (RB_str hB sx_folk) dX3_asked_105 ?_
                  obtain ⟨v26, hc25, hf⟩ := ob hf
                  refine k_vi (Pic := fun U => RP D dT a g ξ β σ ρ Z μ U ∧ sC bw_folk (Z.2.1 69) (ge_ Z.1) U U.heap) (Pic1 := fun H => RD D a g μ H) (A1 := fun _ => False) E hS (fun _ _ z => z.elim) (fun _ z => z.elim) (As := [.ref (Z.2.1 69)]) (tr_is l D dT a g ξ β σ ρ Z bw_folk (Z.2.1 69) μ _ hc25) is_bl (is_pre hB hP (RB_sc hB sx_folk) hS (fun _ z => z.elim)) (RD_recv hK hP) (lw_V q454 q456 qs7 q167 q457) dr_is rfl ⟨rfl, rfl⟩ (rmd_ok (by decide) (by decide)) ⟨Nat.le_refl 0, Nat.le_refl 0⟩ hl rfl (Nat.le_of_ble_eq_true rfl) dX3_asked_107 (fun H locs hP _ _ hS => ?_)
                  refine lv_if_eq (tgt := 119) hx hb dX3_asked_110 (by decide) (fun kc27 => ?_) (fun kc27 => ?_)
                  · have hf := ite_t kc27 hf
                    refine lv_iconst (v := nI 1) hx hb dX3_asked_119 rfl ?_
                    cases hf
                    exact g_iret (Pic := fun H => RD D a g _ H) E hr hlk hP hS rfl dX3_asked_120
                  · have hf := ite_f kc27 hf
                    refine lv_sipush (v := nI 188) hx hb dX3_asked_113 rfl ?_
                    refine lv_goto (tgt := 120) hx hb dX3_asked_116 (by decide) ?_
                    cases hf
                    exact g_iret (Pic := fun H => RD D a g _ H) E hr hlk hP hS rfl dX3_asked_120
                · have hf := ite_f kc24 hf
                  refine lv_sipush (v := nI 187) hx hb dX3_asked_100 rfl ?_
                  cases hf
                  exact g_iret (Pic := fun H => RD D a g _ H) E hr hlk hP hS rfl dX3_asked_103
              · have hf := ite_f kc21 hf
                refine lv_sipush (v := nI 186) hx hb dX3_asked_87 rfl ?_
                cases hf
                exact g_iret (Pic := fun H => RD D a g _ H) E hr hlk hP hS rfl dX3_asked_90
            · have hf := ite_f kc18 hf
              refine lv_sipush (v := nI 185) hx hb dX3_asked_74 rfl ?_
              cases hf
              exact g_iret (Pic := fun H => RD D a g _ H) E hr hlk hP hS rfl dX3_asked_77
          · have hf := ite_f kc15 hf
            refine lv_sipush (v := nI 184) hx hb dX3_asked_61 rfl ?_
            cases hf
            exact g_iret (Pic := fun H => RD D a g _ H) E hr hlk hP hS rfl dX3_asked_64
        · have hf := ite_f kc12 hf
          refine lv_sipush (v := nI 183) hx hb dX3_asked_48 rfl ?_
          cases hf
          exact g_iret (Pic := fun H => RD D a g _ H) E hr hlk hP hS rfl dX3_asked_51
      · have hf := ite_f kc9 hf
        refine lv_sipush (v := nI 182) hx hb dX3_asked_35 rfl ?_
        cases hf
        exact g_iret (Pic := fun H => RD D a g _ H) E hr hlk hP hS rfl dX3_asked_38
    · have hf := ite_f kc6 hf
      refine lv_sipush (v := nI 181) hx hb dX3_asked_22 rfl ?_
      cases hf
      exact g_iret (Pic := fun H => RD D a g _ H) E hr hlk hP hS rfl dX3_asked_25
  · have hf := ite_f kc3 hf
    refine lv_sipush (v := nI 180) hx hb dX3_asked_9 rfl ?_
    cases hf
    exact g_iret (Pic := fun H => RD D a g _ H) E hr hlk hP hS rfl dX3_asked_12
set_option maxHeartbeats 4000000 in
noncomputable def fr_lawWord (ξ : nwM) (μ : nwM) : Option (Int32) := (fr_is bw_when ξ μ).bind fun v2 => (if v2 = 0 then (fr_is bw_or ξ μ).bind fun v5 => (if v5 = 0 then (fr_is bw_and ξ μ).bind fun v8 => (if v8 = 0 then (fr_is bw_not ξ μ).bind fun v11 => (if v11 = 0 then (fr_is bw_add ξ μ).bind fun v14 => (if v14 = 0 then (fr_is bw_fade ξ μ).bind fun v17 => (if v17 = 0 then (fr_is bw_cost ξ μ).bind fun v20 => (if v20 = 0 then (fr_asked ξ μ).bind fun v23 => some v23 else some (nI 9)) else some (nI 8)) else some (nI 7)) else some (nI 6)) else some (nI 5)) else some (nI 4)) else some (nI 3))
set_option maxHeartbeats 4000000 in
theorem dr_lawWord : yX3_lawWord.cls = RX3 ∧ yX3_lawWord.cls ≠ "java/lang/invoke/MethodHandle" ∧ yX3_lawWord.cls ≠ "java/lang/invoke/VarHandle" ∧ (parseMethodDescriptor yX3_lawWord.desc).map (fun d => d.parameters.length) = some 0 := ⟨rfl, by decide +kernel, by decide +kernel, by decide +kernel⟩
set_option maxHeartbeats 4000000 in
theorem tr_lawWord (l : Launch) (D : va_G) (dT : Nat → ClassId) (a g : Nat) (ξ : nwM) (β : Nat → Nat) (σ : nwM) (ρ : Nat → Nat) (Z : nwZ) (μ : nwM) (res : Int32) (hf : fr_lawWord ξ μ = some res) : Met l yX3_lawWord (ws_ yX3_lawWord cX3_lawWord 1 (some .int)) (rmd 6) (va_Pc [.ref a] (RP D dT a g ξ β σ ρ Z μ)) (va_Qi (fun r' (_ : Unit) => r' = res) (fun _ t => RD D a g μ t.heap) (fun _ => False)) 0 0 (fun _ => False) := by
  refine k_met (own := RX3) (by decide) rfl (Nat.le_of_ble_eq_true rfl) ?_
  intro p e s m below meth c ls E hP hr hlk hl _
  obtain ⟨hP, hB⟩ := hP
  have hE := hB.2.1
  have hK := hE.1
  have hS : va_S (fun _ => False) s.heap s.heap [] := va_S.rf
  obtain ⟨hx, hb, hml, hown, hts⟩ := id E
  have hl : lv_has ls 1 [(0, .ref a)] := hl
  unfold fr_lawWord at hf
  refine lv_aload_n hx hb dX3_lawWord_0 rfl (lv_at hl 0 rfl) ?_
  refine va_ldcS hx hb hown (RB_str hB sx_when) dX3_lawWord_1 ?_
  obtain ⟨v2, hc1, hf⟩ := ob hf
  refine k_vi (Pic := fun U => RP D dT a g ξ β σ ρ Z μ U ∧ sC bw_when (Z.2.1 71) (ge_ Z.1) U U.heap) (Pic1 := fun H => RD D a g μ H) (A1 := fun _ => False) E hS (fun _ _ z => z.elim) (fun _ z => z.elim) (As := [.ref (Z.2.1 71)]) (tr_is l D dT a g ξ β σ ρ Z bw_when (Z.2.1 71) μ _ hc1) is_bl (is_pre hB hP (RB_sc hB sx_when) hS (fun _ z => z.elim)) (RD_recv hK hP) (lw_V q454 q456 qs7 q167 q457) dr_is rfl ⟨rfl, rfl⟩ (rmd_ok (by decide) (by decide)) ⟨Nat.le_refl 0, Nat.le_refl 0⟩ hl rfl (Nat.le_of_ble_eq_true rfl) dX3_lawWord_3 (fun H locs hP _ _ hS => ?_)
  refine lv_if_eq (tgt := 11) hx hb dX3_lawWord_6 (by decide) (fun kc3 => ?_) (fun kc3 => ?_)
  · have hf := ite_t kc3 hf
    refine lv_aload_n hx hb dX3_lawWord_11 rfl (lv_at hl 0 rfl) ?_
    refine va_ldcS hx hb hown (RB_str hB sx_or) dX3_lawWord_12 ?_
    obtain ⟨v5, hc4, hf⟩ := ob hf
    refine k_vi (Pic := fun U => RP D dT a g ξ β σ ρ Z μ U ∧ sC bw_or (Z.2.1 73) (ge_ Z.1) U U.heap) (Pic1 := fun H => RD D a g μ H) (A1 := fun _ => False) E hS (fun _ _ z => z.elim) (fun _ z => z.elim) (As := [.ref (Z.2.1 73)]) (tr_is l D dT a g ξ β σ ρ Z bw_or (Z.2.1 73) μ _ hc4) is_bl (is_pre hB hP (RB_sc hB sx_or) hS (fun _ z => z.elim)) (RD_recv hK hP) (lw_V q454 q456 qs7 q167 q457) dr_is rfl ⟨rfl, rfl⟩ (rmd_ok (by decide) (by decide)) ⟨Nat.le_refl 0, Nat.le_refl 0⟩ hl rfl (Nat.le_of_ble_eq_true rfl) dX3_lawWord_14 (fun H locs hP _ _ hS => ?_)
    refine lv_if_eq (tgt := 22) hx hb dX3_lawWord_17 (by decide) (fun kc6 => ?_) (fun kc6 => ?_)
    · have hf := ite_t kc6 hf
      refine lv_aload_n hx hb dX3_lawWord_22 rfl (lv_at hl 0 rfl) ?_
      refine va_ldcS hx hb hown (RB_str hB sx_and) dX3_lawWord_23 ?_
      obtain ⟨v8, hc7, hf⟩ := ob hf
      refine k_vi (Pic := fun U => RP D dT a g ξ β σ ρ Z μ U ∧ sC bw_and (Z.2.1 75) (ge_ Z.1) U U.heap) (Pic1 := fun H => RD D a g μ H) (A1 := fun _ => False) E hS (fun _ _ z => z.elim) (fun _ z => z.elim) (As := [.ref (Z.2.1 75)]) (tr_is l D dT a g ξ β σ ρ Z bw_and (Z.2.1 75) μ _ hc7) is_bl (is_pre hB hP (RB_sc hB sx_and) hS (fun _ z => z.elim)) (RD_recv hK hP) (lw_V q454 q456 qs7 q167 q457) dr_is rfl ⟨rfl, rfl⟩ (rmd_ok (by decide) (by decide)) ⟨Nat.le_refl 0, Nat.le_refl 0⟩ hl rfl (Nat.le_of_ble_eq_true rfl) dX3_lawWord_25 (fun H locs hP _ _ hS => ?_)
      refine lv_if_eq (tgt := 33) hx hb dX3_lawWord_28 (by decide) (fun kc9 => ?_) (fun kc9 => ?_)
      · have hf := ite_t kc9 hf
        refine lv_aload_n hx hb dX3_lawWord_33 rfl (lv_at hl 0 rfl) ?_
        refine va_ldcS hx hb hown (RB_str hB sx_not) dX3_lawWord_34 ?_
        obtain ⟨v11, hc10, hf⟩ := ob hf
        refine k_vi (Pic := fun U => RP D dT a g ξ β σ ρ Z μ U ∧ sC bw_not (Z.2.1 77) (ge_ Z.1) U U.heap) (Pic1 := fun H => RD D a g μ H) (A1 := fun _ => False) E hS (fun _ _ z => z.elim) (fun _ z => z.elim) (As := [.ref (Z.2.1 77)]) (tr_is l D dT a g ξ β σ ρ Z bw_not (Z.2.1 77) μ _ hc10) is_bl (is_pre hB hP (RB_sc hB sx_not) hS (fun _ z => z.elim)) (RD_recv hK hP) (lw_V q454 q456 qs7 q167 q457) dr_is rfl ⟨rfl, rfl⟩ (rmd_ok (by decide) (by decide)) ⟨Nat.le_refl 0, Nat.le_refl 0⟩ hl rfl (Nat.le_of_ble_eq_true rfl) dX3_lawWord_36 (fun H locs hP _ _ hS => ?_)
        refine lv_if_eq (tgt := 45) hx hb dX3_lawWord_39 (by decide) (fun kc12 => ?_) (fun kc12 => ?_)
        · have hf := ite_t kc12 hf
          refine lv_aload_n hx hb dX3_lawWord_45 rfl (lv_at hl 0 rfl) ?_
          refine va_ldcS hx hb hown (RB_str hB sx_add) dX3_lawWord_46 ?_
          obtain ⟨v14, hc13, hf⟩ := ob hf
          refine k_vi (Pic := fun U => RP D dT a g ξ β σ ρ Z μ U ∧ sC bw_add (Z.2.1 79) (ge_ Z.1) U U.heap) (Pic1 := fun H => RD D a g μ H) (A1 := fun _ => False) E hS (fun _ _ z => z.elim) (fun _ z => z.elim) (As := [.ref (Z.2.1 79)]) (tr_is l D dT a g ξ β σ ρ Z bw_add (Z.2.1 79) μ _ hc13) is_bl (is_pre hB hP (RB_sc hB sx_add) hS (fun _ z => z.elim)) (RD_recv hK hP) (lw_V q454 q456 qs7 q167 q457) dr_is rfl ⟨rfl, rfl⟩ (rmd_ok (by decide) (by decide)) ⟨Nat.le_refl 0, Nat.le_refl 0⟩ hl rfl (Nat.le_of_ble_eq_true rfl) dX3_lawWord_48 (fun H locs hP _ _ hS => ?_)
          refine lv_if_eq (tgt := 57) hx hb dX3_lawWord_51 (by decide) (fun kc15 => ?_) (fun kc15 => ?_)
          · have hf := ite_t kc15 hf
            refine lv_aload_n hx hb dX3_lawWord_57 rfl (lv_at hl 0 rfl) ?_
            refine va_ldcS hx hb hown (RB_str hB sx_fade) dX3_lawWord_58 ?_
            obtain ⟨v17, hc16, hf⟩ := ob hf
            refine k_vi (Pic := fun U => RP D dT a g ξ β σ ρ Z μ U ∧ sC bw_fade (Z.2.1 81) (ge_ Z.1) U U.heap) (Pic1 := fun H => RD D a g μ H) (A1 := fun _ => False) E hS (fun _ _ z => z.elim) (fun _ z => z.elim) (As := [.ref (Z.2.1 81)]) (tr_is l D dT a g ξ β σ ρ Z bw_fade (Z.2.1 81) μ _ hc16) is_bl (is_pre hB hP (RB_sc hB sx_fade) hS (fun _ z => z.elim)) (RD_recv hK hP) (lw_V q454 q456 qs7 q167 q457) dr_is rfl ⟨rfl, rfl⟩ (rmd_ok (by decide) (by decide)) ⟨Nat.le_refl 0, Nat.le_refl 0⟩ hl rfl (Nat.le_of_ble_eq_true rfl) dX3_lawWord_60 (fun H locs hP _ _ hS => ?_)
            refine lv_if_eq (tgt := 69) hx hb dX3_lawWord_63 (by decide) (fun kc18 => ?_) (fun kc18 => ?_)
            · have hf := ite_t kc18 hf
              refine lv_aload_n hx hb dX3_lawWord_69 rfl (lv_at hl 0 rfl) ?_
              refine va_ldcS hx hb hown (RB_str hB sx_cost) dX3_lawWord_70 ?_
              obtain ⟨v20, hc19, hf⟩ := ob hf
              refine k_vi (Pic := fun U => RP D dT a g ξ β σ ρ Z μ U ∧ sC bw_cost (Z.2.1 83) (ge_ Z.1) U U.heap) (Pic1 := fun H => RD D a g μ H) (A1 := fun _ => False) E hS (fun _ _ z => z.elim) (fun _ z => z.elim) (As := [.ref (Z.2.1 83)]) (tr_is l D dT a g ξ β σ ρ Z bw_cost (Z.2.1 83) μ _ hc19) is_bl (is_pre hB hP (RB_sc hB sx_cost) hS (fun _ z => z.elim)) (RD_recv hK hP) (lw_V q454 q456 qs7 q167 q457) dr_is rfl ⟨rfl, rfl⟩ (rmd_ok (by decide) (by decide)) ⟨Nat.le_refl 0, Nat.le_refl 0⟩ hl rfl (Nat.le_of_ble_eq_true rfl) dX3_lawWord_72 (fun H locs hP _ _ hS => ?_)
              refine lv_if_eq (tgt := 83) hx hb dX3_lawWord_75 (by decide) (fun kc21 => ?_) (fun kc21 => ?_)
              · have hf := ite_t kc21 hf
                refine lv_aload_n hx hb dX3_lawWord_83 rfl (lv_at hl 0 rfl) ?_
                obtain ⟨v23, hc22, hf⟩ := ob hf
                refine k_vi (Pic := RP D dT a g ξ β σ ρ Z μ) (Pic1 := fun H => RD D a g μ H) (A1 := fun _ => False) E hS (fun _ _ z => z.elim) (fun _ z => z.elim) (As := []) (tr_asked l D dT a g ξ β σ ρ Z μ _ hc22) RP_bl (RP_pre hB hP hS (fun _ z => z.elim)) (RD_recv hK hP) (lw_V q512 q514 qs8 q167 q515) dr_asked rfl ⟨rfl, rfl⟩ (rmd_ok (by decide) (by decide)) ⟨Nat.le_refl 0, Nat.le_refl 0⟩ hl rfl (Nat.le_of_ble_eq_true rfl) dX3_lawWord_84 (fun H locs hP _ _ hS => ?_)
                cases hf
                exact g_iret (Pic := fun H => RD D a g _ H) E hr hlk hP hS rfl dX3_lawWord_87
              · have hf := ite_f kc21 hf
                refine lv_bipush (v := nI 9) hx hb dX3_lawWord_78 rfl ?_
                refine lv_goto (tgt := 87) hx hb dX3_lawWord_80 (by decide) ?_
                cases hf
                exact g_iret (Pic := fun H => RD D a g _ H) E hr hlk hP hS rfl dX3_lawWord_87
            · have hf := ite_f kc18 hf
              refine lv_bipush (v := nI 8) hx hb dX3_lawWord_66 rfl ?_
              cases hf
              exact g_iret (Pic := fun H => RD D a g _ H) E hr hlk hP hS rfl dX3_lawWord_68
          · have hf := ite_f kc15 hf
            refine lv_bipush (v := nI 7) hx hb dX3_lawWord_54 rfl ?_
            cases hf
            exact g_iret (Pic := fun H => RD D a g _ H) E hr hlk hP hS rfl dX3_lawWord_56
        · have hf := ite_f kc12 hf
          refine lv_bipush (v := nI 6) hx hb dX3_lawWord_42 rfl ?_
          cases hf
          exact g_iret (Pic := fun H => RD D a g _ H) E hr hlk hP hS rfl dX3_lawWord_44
      · have hf := ite_f kc9 hf
        refine lv_iconst (v := nI 5) hx hb dX3_lawWord_31 rfl ?_
        cases hf
        exact g_iret (Pic := fun H => RD D a g _ H) E hr hlk hP hS rfl dX3_lawWord_32
    · have hf := ite_f kc6 hf
      refine lv_iconst (v := nI 4) hx hb dX3_lawWord_20 rfl ?_
      cases hf
      exact g_iret (Pic := fun H => RD D a g _ H) E hr hlk hP hS rfl dX3_lawWord_21
  · have hf := ite_f kc3 hf
    refine lv_iconst (v := nI 3) hx hb dX3_lawWord_9 rfl ?_
    cases hf
    exact g_iret (Pic := fun H => RD D a g _ H) E hr hlk hP hS rfl dX3_lawWord_10
set_option maxHeartbeats 4000000 in
noncomputable def fr_kindWord (ξ : nwM) (μ : nwM) : Option (Int32) := (fr_is bw_sun ξ μ).bind fun v2 => (if v2 = 0 then (fr_is bw_rain ξ μ).bind fun v5 => (if v5 = 0 then (fr_is bw_wind ξ μ).bind fun v8 => (if v8 = 0 then (fr_is bw_fog ξ μ).bind fun v11 => (if v11 = 0 then (fr_is bw_hail ξ μ).bind fun v14 => (if v14 = 0 then some (nI 1) else some (nI 34)) else some (nI 33)) else some (nI 32)) else some (nI 31)) else some (nI 30))
set_option maxHeartbeats 4000000 in
theorem dr_kindWord : yX3_kindWord.cls = RX3 ∧ yX3_kindWord.cls ≠ "java/lang/invoke/MethodHandle" ∧ yX3_kindWord.cls ≠ "java/lang/invoke/VarHandle" ∧ (parseMethodDescriptor yX3_kindWord.desc).map (fun d => d.parameters.length) = some 0 := ⟨rfl, by decide +kernel, by decide +kernel, by decide +kernel⟩
set_option maxHeartbeats 4000000 in
theorem tr_kindWord (l : Launch) (D : va_G) (dT : Nat → ClassId) (a g : Nat) (ξ : nwM) (β : Nat → Nat) (σ : nwM) (ρ : Nat → Nat) (Z : nwZ) (μ : nwM) (res : Int32) (hf : fr_kindWord ξ μ = some res) : Met l yX3_kindWord (ws_ yX3_kindWord cX3_kindWord 1 (some .int)) (rmd 5) (va_Pc [.ref a] (RP D dT a g ξ β σ ρ Z μ)) (va_Qi (fun r' (_ : Unit) => r' = res) (fun _ t => RD D a g μ t.heap) (fun _ => False)) 0 0 (fun _ => False) := by
  refine k_met (own := RX3) (by decide) rfl (Nat.le_of_ble_eq_true rfl) ?_
  intro p e s m below meth c ls E hP hr hlk hl _
  obtain ⟨hP, hB⟩ := hP
  have hE := hB.2.1
  have hK := hE.1
  have hS : va_S (fun _ => False) s.heap s.heap [] := va_S.rf
  obtain ⟨hx, hb, hml, hown, hts⟩ := id E
  have hl : lv_has ls 1 [(0, .ref a)] := hl
  unfold fr_kindWord at hf
  refine lv_aload_n hx hb dX3_kindWord_0 rfl (lv_at hl 0 rfl) ?_
  refine va_ldcS hx hb hown (RB_str hB sx_sun) dX3_kindWord_1 ?_
  obtain ⟨v2, hc1, hf⟩ := ob hf
  refine k_vi (Pic := fun U => RP D dT a g ξ β σ ρ Z μ U ∧ sC bw_sun (Z.2.1 88) (ge_ Z.1) U U.heap) (Pic1 := fun H => RD D a g μ H) (A1 := fun _ => False) E hS (fun _ _ z => z.elim) (fun _ z => z.elim) (As := [.ref (Z.2.1 88)]) (tr_is l D dT a g ξ β σ ρ Z bw_sun (Z.2.1 88) μ _ hc1) is_bl (is_pre hB hP (RB_sc hB sx_sun) hS (fun _ z => z.elim)) (RD_recv hK hP) (lw_V q454 q456 qs7 q167 q457) dr_is rfl ⟨rfl, rfl⟩ (rmd_ok (by decide) (by decide)) ⟨Nat.le_refl 0, Nat.le_refl 0⟩ hl rfl (Nat.le_of_ble_eq_true rfl) dX3_kindWord_3 (fun H locs hP _ _ hS => ?_)
  refine lv_if_eq (tgt := 12) hx hb dX3_kindWord_6 (by decide) (fun kc3 => ?_) (fun kc3 => ?_)
  · have hf := ite_t kc3 hf
    refine lv_aload_n hx hb dX3_kindWord_12 rfl (lv_at hl 0 rfl) ?_
    refine va_ldcS hx hb hown (RB_str hB sx_rain) dX3_kindWord_13 ?_
    obtain ⟨v5, hc4, hf⟩ := ob hf
    refine k_vi (Pic := fun U => RP D dT a g ξ β σ ρ Z μ U ∧ sC bw_rain (Z.2.1 90) (ge_ Z.1) U U.heap) (Pic1 := fun H => RD D a g μ H) (A1 := fun _ => False) E hS (fun _ _ z => z.elim) (fun _ z => z.elim) (As := [.ref (Z.2.1 90)]) (tr_is l D dT a g ξ β σ ρ Z bw_rain (Z.2.1 90) μ _ hc4) is_bl (is_pre hB hP (RB_sc hB sx_rain) hS (fun _ z => z.elim)) (RD_recv hK hP) (lw_V q454 q456 qs7 q167 q457) dr_is rfl ⟨rfl, rfl⟩ (rmd_ok (by decide) (by decide)) ⟨Nat.le_refl 0, Nat.le_refl 0⟩ hl rfl (Nat.le_of_ble_eq_true rfl) dX3_kindWord_15 (fun H locs hP _ _ hS => ?_)
    refine lv_if_eq (tgt := 24) hx hb dX3_kindWord_18 (by decide) (fun kc6 => ?_) (fun kc6 => ?_)
    · have hf := ite_t kc6 hf
      refine lv_aload_n hx hb dX3_kindWord_24 rfl (lv_at hl 0 rfl) ?_
      refine va_ldcS hx hb hown (RB_str hB sx_wind) dX3_kindWord_25 ?_
      obtain ⟨v8, hc7, hf⟩ := ob hf
      refine k_vi (Pic := fun U => RP D dT a g ξ β σ ρ Z μ U ∧ sC bw_wind (Z.2.1 92) (ge_ Z.1) U U.heap) (Pic1 := fun H => RD D a g μ H) (A1 := fun _ => False) E hS (fun _ _ z => z.elim) (fun _ z => z.elim) (As := [.ref (Z.2.1 92)]) (tr_is l D dT a g ξ β σ ρ Z bw_wind (Z.2.1 92) μ _ hc7) is_bl (is_pre hB hP (RB_sc hB sx_wind) hS (fun _ z => z.elim)) (RD_recv hK hP) (lw_V q454 q456 qs7 q167 q457) dr_is rfl ⟨rfl, rfl⟩ (rmd_ok (by decide) (by decide)) ⟨Nat.le_refl 0, Nat.le_refl 0⟩ hl rfl (Nat.le_of_ble_eq_true rfl) dX3_kindWord_27 (fun H locs hP _ _ hS => ?_)
      refine lv_if_eq (tgt := 36) hx hb dX3_kindWord_30 (by decide) (fun kc9 => ?_) (fun kc9 => ?_)
      · have hf := ite_t kc9 hf
        refine lv_aload_n hx hb dX3_kindWord_36 rfl (lv_at hl 0 rfl) ?_
        refine va_ldcS hx hb hown (RB_str hB sx_fog) dX3_kindWord_37 ?_
        obtain ⟨v11, hc10, hf⟩ := ob hf
        refine k_vi (Pic := fun U => RP D dT a g ξ β σ ρ Z μ U ∧ sC bw_fog (Z.2.1 94) (ge_ Z.1) U U.heap) (Pic1 := fun H => RD D a g μ H) (A1 := fun _ => False) E hS (fun _ _ z => z.elim) (fun _ z => z.elim) (As := [.ref (Z.2.1 94)]) (tr_is l D dT a g ξ β σ ρ Z bw_fog (Z.2.1 94) μ _ hc10) is_bl (is_pre hB hP (RB_sc hB sx_fog) hS (fun _ z => z.elim)) (RD_recv hK hP) (lw_V q454 q456 qs7 q167 q457) dr_is rfl ⟨rfl, rfl⟩ (rmd_ok (by decide) (by decide)) ⟨Nat.le_refl 0, Nat.le_refl 0⟩ hl rfl (Nat.le_of_ble_eq_true rfl) dX3_kindWord_39 (fun H locs hP _ _ hS => ?_)
        refine lv_if_eq (tgt := 48) hx hb dX3_kindWord_42 (by decide) (fun kc12 => ?_) (fun kc12 => ?_)
        · have hf := ite_t kc12 hf
          refine lv_aload_n hx hb dX3_kindWord_48 rfl (lv_at hl 0 rfl) ?_
          refine va_ldcS hx hb hown (RB_str hB sx_hail) dX3_kindWord_49 ?_
          obtain ⟨v14, hc13, hf⟩ := ob hf
          refine k_vi (Pic := fun U => RP D dT a g ξ β σ ρ Z μ U ∧ sC bw_hail (Z.2.1 96) (ge_ Z.1) U U.heap) (Pic1 := fun H => RD D a g μ H) (A1 := fun _ => False) E hS (fun _ _ z => z.elim) (fun _ z => z.elim) (As := [.ref (Z.2.1 96)]) (tr_is l D dT a g ξ β σ ρ Z bw_hail (Z.2.1 96) μ _ hc13) is_bl (is_pre hB hP (RB_sc hB sx_hail) hS (fun _ z => z.elim)) (RD_recv hK hP) (lw_V q454 q456 qs7 q167 q457) dr_is rfl ⟨rfl, rfl⟩ (rmd_ok (by decide) (by decide)) ⟨Nat.le_refl 0, Nat.le_refl 0⟩ hl rfl (Nat.le_of_ble_eq_true rfl) dX3_kindWord_51 (fun H locs hP _ _ hS => ?_)
          refine lv_if_eq (tgt := 62) hx hb dX3_kindWord_54 (by decide) (fun kc15 => ?_) (fun kc15 => ?_)
          · have hf := ite_t kc15 hf
            refine lv_iconst (v := nI 1) hx hb dX3_kindWord_62 rfl ?_
            cases hf
            exact g_iret (Pic := fun H => RD D a g _ H) E hr hlk hP hS rfl dX3_kindWord_63
          · have hf := ite_f kc15 hf
            refine lv_bipush (v := nI 34) hx hb dX3_kindWord_57 rfl ?_
            refine lv_goto (tgt := 63) hx hb dX3_kindWord_59 (by decide) ?_
            cases hf
            exact g_iret (Pic := fun H => RD D a g _ H) E hr hlk hP hS rfl dX3_kindWord_63
        · have hf := ite_f kc12 hf
          refine lv_bipush (v := nI 33) hx hb dX3_kindWord_45 rfl ?_
          cases hf
          exact g_iret (Pic := fun H => RD D a g _ H) E hr hlk hP hS rfl dX3_kindWord_47
      · have hf := ite_f kc9 hf
        refine lv_bipush (v := nI 32) hx hb dX3_kindWord_33 rfl ?_
        cases hf
        exact g_iret (Pic := fun H => RD D a g _ H) E hr hlk hP hS rfl dX3_kindWord_35
    · have hf := ite_f kc6 hf
      refine lv_bipush (v := nI 31) hx hb dX3_kindWord_21 rfl ?_
      cases hf
      exact g_iret (Pic := fun H => RD D a g _ H) E hr hlk hP hS rfl dX3_kindWord_23
  · have hf := ite_f kc3 hf
    refine lv_bipush (v := nI 30) hx hb dX3_kindWord_9 rfl ?_
    cases hf
    exact g_iret (Pic := fun H => RD D a g _ H) E hr hlk hP hS rfl dX3_kindWord_11
set_option maxHeartbeats 4000000 in
noncomputable def fr_quenchWord (ξ : nwM) (μ : nwM) : Option (Int32) := (fr_is bw_quenches ξ μ).bind fun v2 => (if v2 = 0 then (fr_is bw_by ξ μ).bind fun v5 => (if v5 = 0 then (fr_kindWord ξ μ).bind fun v8 => some v8 else some (nI 11)) else some (nI 10))
set_option maxHeartbeats 4000000 in
theorem dr_quenchWord : yX3_quenchWord.cls = RX3 ∧ yX3_quenchWord.cls ≠ "java/lang/invoke/MethodHandle" ∧ yX3_quenchWord.cls ≠ "java/lang/invoke/VarHandle" ∧ (parseMethodDescriptor yX3_quenchWord.desc).map (fun d => d.parameters.length) = some 0 := ⟨rfl, by decide +kernel, by decide +kernel, by decide +kernel⟩
set_option maxHeartbeats 4000000 in
theorem tr_quenchWord (l : Launch) (D : va_G) (dT : Nat → ClassId) (a g : Nat) (ξ : nwM) (β : Nat → Nat) (σ : nwM) (ρ : Nat → Nat) (Z : nwZ) (μ : nwM) (res : Int32) (hf : fr_quenchWord ξ μ = some res) : Met l yX3_quenchWord (ws_ yX3_quenchWord cX3_quenchWord 1 (some .int)) (rmd 6) (va_Pc [.ref a] (RP D dT a g ξ β σ ρ Z μ)) (va_Qi (fun r' (_ : Unit) => r' = res) (fun _ t => RD D a g μ t.heap) (fun _ => False)) 0 0 (fun _ => False) := by
  refine k_met (own := RX3) (by decide) rfl (Nat.le_of_ble_eq_true rfl) ?_
  intro p e s m below meth c ls E hP hr hlk hl _
  obtain ⟨hP, hB⟩ := hP
  have hE := hB.2.1
  have hK := hE.1
  have hS : va_S (fun _ => False) s.heap s.heap [] := va_S.rf
  obtain ⟨hx, hb, hml, hown, hts⟩ := id E
  have hl : lv_has ls 1 [(0, .ref a)] := hl
  unfold fr_quenchWord at hf
  refine lv_aload_n hx hb dX3_quenchWord_0 rfl (lv_at hl 0 rfl) ?_
  refine va_ldcS hx hb hown (RB_str hB sx_quenches) dX3_quenchWord_1 ?_
  obtain ⟨v2, hc1, hf⟩ := ob hf
  refine k_vi (Pic := fun U => RP D dT a g ξ β σ ρ Z μ U ∧ sC bw_quenches (Z.2.1 98) (ge_ Z.1) U U.heap) (Pic1 := fun H => RD D a g μ H) (A1 := fun _ => False) E hS (fun _ _ z => z.elim) (fun _ z => z.elim) (As := [.ref (Z.2.1 98)]) (tr_is l D dT a g ξ β σ ρ Z bw_quenches (Z.2.1 98) μ _ hc1) is_bl (is_pre hB hP (RB_sc hB sx_quenches) hS (fun _ z => z.elim)) (RD_recv hK hP) (lw_V q454 q456 qs7 q167 q457) dr_is rfl ⟨rfl, rfl⟩ (rmd_ok (by decide) (by decide)) ⟨Nat.le_refl 0, Nat.le_refl 0⟩ hl rfl (Nat.le_of_ble_eq_true rfl) dX3_quenchWord_3 (fun H locs hP _ _ hS => ?_)
  refine lv_if_eq (tgt := 12) hx hb dX3_quenchWord_6 (by decide) (fun kc3 => ?_) (fun kc3 => ?_)
  · have hf := ite_t kc3 hf
    refine lv_aload_n hx hb dX3_quenchWord_12 rfl (lv_at hl 0 rfl) ?_
    refine va_ldcS hx hb hown (RB_str hB sx_by) dX3_quenchWord_13 ?_
    obtain ⟨v5, hc4, hf⟩ := ob hf
    refine k_vi (Pic := fun U => RP D dT a g ξ β σ ρ Z μ U ∧ sC bw_by (Z.2.1 100) (ge_ Z.1) U U.heap) (Pic1 := fun H => RD D a g μ H) (A1 := fun _ => False) E hS (fun _ _ z => z.elim) (fun _ z => z.elim) (As := [.ref (Z.2.1 100)]) (tr_is l D dT a g ξ β σ ρ Z bw_by (Z.2.1 100) μ _ hc4) is_bl (is_pre hB hP (RB_sc hB sx_by) hS (fun _ z => z.elim)) (RD_recv hK hP) (lw_V q454 q456 qs7 q167 q457) dr_is rfl ⟨rfl, rfl⟩ (rmd_ok (by decide) (by decide)) ⟨Nat.le_refl 0, Nat.le_refl 0⟩ hl rfl (Nat.le_of_ble_eq_true rfl) dX3_quenchWord_15 (fun H locs hP _ _ hS => ?_)
    refine lv_if_eq (tgt := 26) hx hb dX3_quenchWord_18 (by decide) (fun kc6 => ?_) (fun kc6 => ?_)
    · have hf := ite_t kc6 hf
      refine lv_aload_n hx hb dX3_quenchWord_26 rfl (lv_at hl 0 rfl) ?_
      obtain ⟨v8, hc7, hf⟩ := ob hf
      refine k_vi (Pic := RP D dT a g ξ β σ ρ Z μ) (Pic1 := fun H => RD D a g μ H) (A1 := fun _ => False) E hS (fun _ _ z => z.elim) (fun _ z => z.elim) (As := []) (tr_kindWord l D dT a g ξ β σ ρ Z μ _ hc7) RP_bl (RP_pre hB hP hS (fun _ z => z.elim)) (RD_recv hK hP) (lw_V q531 q533 qs10 q167 q534) dr_kindWord rfl ⟨rfl, rfl⟩ (rmd_ok (by decide) (by decide)) ⟨Nat.le_refl 0, Nat.le_refl 0⟩ hl rfl (Nat.le_of_ble_eq_true rfl) dX3_quenchWord_27 (fun H locs hP _ _ hS => ?_)
      cases hf
      exact g_iret (Pic := fun H => RD D a g _ H) E hr hlk hP hS rfl dX3_quenchWord_30
    · have hf := ite_f kc6 hf
      refine lv_bipush (v := nI 11) hx hb dX3_quenchWord_21 rfl ?_
      refine lv_goto (tgt := 30) hx hb dX3_quenchWord_23 (by decide) ?_
      cases hf
      exact g_iret (Pic := fun H => RD D a g _ H) E hr hlk hP hS rfl dX3_quenchWord_30
  · have hf := ite_f kc3 hf
    refine lv_bipush (v := nI 10) hx hb dX3_quenchWord_9 rfl ?_
    cases hf
    exact g_iret (Pic := fun H => RD D a g _ H) E hr hlk hP hS rfl dX3_quenchWord_11
set_option maxHeartbeats 4000000 in
noncomputable def fr_wantWord (ξ : nwM) (μ : nwM) : Option (Int32) := (fr_is bw_want ξ μ).bind fun v2 => (if v2 = 0 then (fr_is bw_clear ξ μ).bind fun v5 => (if v5 = 0 then (fr_is bw_at ξ μ).bind fun v8 => (if v8 = 0 then (fr_is bw_on ξ μ).bind fun v11 => (if v11 = 0 then (fr_is bw_worth ξ μ).bind fun v14 => (if v14 = 0 then (fr_kindWord ξ μ).bind fun v17 => some v17 else some (nI 16)) else some (nI 15)) else some (nI 14)) else some (nI 13)) else some (nI 12))
set_option maxHeartbeats 4000000 in
theorem dr_wantWord : yX3_wantWord.cls = RX3 ∧ yX3_wantWord.cls ≠ "java/lang/invoke/MethodHandle" ∧ yX3_wantWord.cls ≠ "java/lang/invoke/VarHandle" ∧ (parseMethodDescriptor yX3_wantWord.desc).map (fun d => d.parameters.length) = some 0 := ⟨rfl, by decide +kernel, by decide +kernel, by decide +kernel⟩
set_option maxHeartbeats 4000000 in
theorem tr_wantWord (l : Launch) (D : va_G) (dT : Nat → ClassId) (a g : Nat) (ξ : nwM) (β : Nat → Nat) (σ : nwM) (ρ : Nat → Nat) (Z : nwZ) (μ : nwM) (res : Int32) (hf : fr_wantWord ξ μ = some res) : Met l yX3_wantWord (ws_ yX3_wantWord cX3_wantWord 1 (some .int)) (rmd 6) (va_Pc [.ref a] (RP D dT a g ξ β σ ρ Z μ)) (va_Qi (fun r' (_ : Unit) => r' = res) (fun _ t => RD D a g μ t.heap) (fun _ => False)) 0 0 (fun _ => False) := by
  refine k_met (own := RX3) (by decide) rfl (Nat.le_of_ble_eq_true rfl) ?_
  intro p e s m below meth c ls E hP hr hlk hl _
  obtain ⟨hP, hB⟩ := hP
  have hE := hB.2.1
  have hK := hE.1
  have hS : va_S (fun _ => False) s.heap s.heap [] := va_S.rf
  obtain ⟨hx, hb, hml, hown, hts⟩ := id E
  have hl : lv_has ls 1 [(0, .ref a)] := hl
  unfold fr_wantWord at hf
  refine lv_aload_n hx hb dX3_wantWord_0 rfl (lv_at hl 0 rfl) ?_
  refine va_ldcS hx hb hown (RB_str hB sx_want) dX3_wantWord_1 ?_
  obtain ⟨v2, hc1, hf⟩ := ob hf
  refine k_vi (Pic := fun U => RP D dT a g ξ β σ ρ Z μ U ∧ sC bw_want (Z.2.1 105) (ge_ Z.1) U U.heap) (Pic1 := fun H => RD D a g μ H) (A1 := fun _ => False) E hS (fun _ _ z => z.elim) (fun _ z => z.elim) (As := [.ref (Z.2.1 105)]) (tr_is l D dT a g ξ β σ ρ Z bw_want (Z.2.1 105) μ _ hc1) is_bl (is_pre hB hP (RB_sc hB sx_want) hS (fun _ z => z.elim)) (RD_recv hK hP) (lw_V q454 q456 qs7 q167 q457) dr_is rfl ⟨rfl, rfl⟩ (rmd_ok (by decide) (by decide)) ⟨Nat.le_refl 0, Nat.le_refl 0⟩ hl rfl (Nat.le_of_ble_eq_true rfl) dX3_wantWord_3 (fun H locs hP _ _ hS => ?_)
  refine lv_if_eq (tgt := 12) hx hb dX3_wantWord_6 (by decide) (fun kc3 => ?_) (fun kc3 => ?_)
  · have hf := ite_t kc3 hf
    refine lv_aload_n hx hb dX3_wantWord_12 rfl (lv_at hl 0 rfl) ?_
    refine va_ldcS hx hb hown (RB_str hB sx_clear) dX3_wantWord_13 ?_
    obtain ⟨v5, hc4, hf⟩ := ob hf
    refine k_vi (Pic := fun U => RP D dT a g ξ β σ ρ Z μ U ∧ sC bw_clear (Z.2.1 107) (ge_ Z.1) U U.heap) (Pic1 := fun H => RD D a g μ H) (A1 := fun _ => False) E hS (fun _ _ z => z.elim) (fun _ z => z.elim) (As := [.ref (Z.2.1 107)]) (tr_is l D dT a g ξ β σ ρ Z bw_clear (Z.2.1 107) μ _ hc4) is_bl (is_pre hB hP (RB_sc hB sx_clear) hS (fun _ z => z.elim)) (RD_recv hK hP) (lw_V q454 q456 qs7 q167 q457) dr_is rfl ⟨rfl, rfl⟩ (rmd_ok (by decide) (by decide)) ⟨Nat.le_refl 0, Nat.le_refl 0⟩ hl rfl (Nat.le_of_ble_eq_true rfl) dX3_wantWord_15 (fun H locs hP _ _ hS => ?_)
    refine lv_if_eq (tgt := 24) hx hb dX3_wantWord_18 (by decide) (fun kc6 => ?_) (fun kc6 => ?_)
    · have hf := ite_t kc6 hf
      refine lv_aload_n hx hb dX3_wantWord_24 rfl (lv_at hl 0 rfl) ?_
      refine va_ldcS hx hb hown (RB_str hB sx_at) dX3_wantWord_25 ?_
      obtain ⟨v8, hc7, hf⟩ := ob hf
      refine k_vi (Pic := fun U => RP D dT a g ξ β σ ρ Z μ U ∧ sC bw_at (Z.2.1 109) (ge_ Z.1) U U.heap) (Pic1 := fun H => RD D a g μ H) (A1 := fun _ => False) E hS (fun _ _ z => z.elim) (fun _ z => z.elim) (As := [.ref (Z.2.1 109)]) (tr_is l D dT a g ξ β σ ρ Z bw_at (Z.2.1 109) μ _ hc7) is_bl (is_pre hB hP (RB_sc hB sx_at) hS (fun _ z => z.elim)) (RD_recv hK hP) (lw_V q454 q456 qs7 q167 q457) dr_is rfl ⟨rfl, rfl⟩ (rmd_ok (by decide) (by decide)) ⟨Nat.le_refl 0, Nat.le_refl 0⟩ hl rfl (Nat.le_of_ble_eq_true rfl) dX3_wantWord_27 (fun H locs hP _ _ hS => ?_)
      refine lv_if_eq (tgt := 36) hx hb dX3_wantWord_30 (by decide) (fun kc9 => ?_) (fun kc9 => ?_)
      · have hf := ite_t kc9 hf
        refine lv_aload_n hx hb dX3_wantWord_36 rfl (lv_at hl 0 rfl) ?_
        refine va_ldcS hx hb hown (RB_str hB sx_on) dX3_wantWord_37 ?_
        obtain ⟨v11, hc10, hf⟩ := ob hf
        refine k_vi (Pic := fun U => RP D dT a g ξ β σ ρ Z μ U ∧ sC bw_on (Z.2.1 110) (ge_ Z.1) U U.heap) (Pic1 := fun H => RD D a g μ H) (A1 := fun _ => False) E hS (fun _ _ z => z.elim) (fun _ z => z.elim) (As := [.ref (Z.2.1 110)]) (tr_is l D dT a g ξ β σ ρ Z bw_on (Z.2.1 110) μ _ hc10) is_bl (is_pre hB hP (RB_sc hB sx_on) hS (fun _ z => z.elim)) (RD_recv hK hP) (lw_V q454 q456 qs7 q167 q457) dr_is rfl ⟨rfl, rfl⟩ (rmd_ok (by decide) (by decide)) ⟨Nat.le_refl 0, Nat.le_refl 0⟩ hl rfl (Nat.le_of_ble_eq_true rfl) dX3_wantWord_39 (fun H locs hP _ _ hS => ?_)
        refine lv_if_eq (tgt := 48) hx hb dX3_wantWord_42 (by decide) (fun kc12 => ?_) (fun kc12 => ?_)
        · have hf := ite_t kc12 hf
          refine lv_aload_n hx hb dX3_wantWord_48 rfl (lv_at hl 0 rfl) ?_
          refine va_ldcS hx hb hown (RB_str hB sx_worth) dX3_wantWord_49 ?_
          obtain ⟨v14, hc13, hf⟩ := ob hf
          refine k_vi (Pic := fun U => RP D dT a g ξ β σ ρ Z μ U ∧ sC bw_worth (Z.2.1 112) (ge_ Z.1) U U.heap) (Pic1 := fun H => RD D a g μ H) (A1 := fun _ => False) E hS (fun _ _ z => z.elim) (fun _ z => z.elim) (As := [.ref (Z.2.1 112)]) (tr_is l D dT a g ξ β σ ρ Z bw_worth (Z.2.1 112) μ _ hc13) is_bl (is_pre hB hP (RB_sc hB sx_worth) hS (fun _ z => z.elim)) (RD_recv hK hP) (lw_V q454 q456 qs7 q167 q457) dr_is rfl ⟨rfl, rfl⟩ (rmd_ok (by decide) (by decide)) ⟨Nat.le_refl 0, Nat.le_refl 0⟩ hl rfl (Nat.le_of_ble_eq_true rfl) dX3_wantWord_51 (fun H locs hP _ _ hS => ?_)
          refine lv_if_eq (tgt := 62) hx hb dX3_wantWord_54 (by decide) (fun kc15 => ?_) (fun kc15 => ?_)
          · have hf := ite_t kc15 hf
            refine lv_aload_n hx hb dX3_wantWord_62 rfl (lv_at hl 0 rfl) ?_
            obtain ⟨v17, hc16, hf⟩ := ob hf
            refine k_vi (Pic := RP D dT a g ξ β σ ρ Z μ) (Pic1 := fun H => RD D a g μ H) (A1 := fun _ => False) E hS (fun _ _ z => z.elim) (fun _ z => z.elim) (As := []) (tr_kindWord l D dT a g ξ β σ ρ Z μ _ hc16) RP_bl (RP_pre hB hP hS (fun _ z => z.elim)) (RD_recv hK hP) (lw_V q531 q533 qs10 q167 q534) dr_kindWord rfl ⟨rfl, rfl⟩ (rmd_ok (by decide) (by decide)) ⟨Nat.le_refl 0, Nat.le_refl 0⟩ hl rfl (Nat.le_of_ble_eq_true rfl) dX3_wantWord_63 (fun H locs hP _ _ hS => ?_)
            cases hf
            exact g_iret (Pic := fun H => RD D a g _ H) E hr hlk hP hS rfl dX3_wantWord_66
          · have hf := ite_f kc15 hf
            refine lv_bipush (v := nI 16) hx hb dX3_wantWord_57 rfl ?_
            refine lv_goto (tgt := 66) hx hb dX3_wantWord_59 (by decide) ?_
            cases hf
            exact g_iret (Pic := fun H => RD D a g _ H) E hr hlk hP hS rfl dX3_wantWord_66
        · have hf := ite_f kc12 hf
          refine lv_bipush (v := nI 15) hx hb dX3_wantWord_45 rfl ?_
          cases hf
          exact g_iret (Pic := fun H => RD D a g _ H) E hr hlk hP hS rfl dX3_wantWord_47
      · have hf := ite_f kc9 hf
        refine lv_bipush (v := nI 14) hx hb dX3_wantWord_33 rfl ?_
        cases hf
        exact g_iret (Pic := fun H => RD D a g _ H) E hr hlk hP hS rfl dX3_wantWord_35
    · have hf := ite_f kc6 hf
      refine lv_bipush (v := nI 13) hx hb dX3_wantWord_21 rfl ?_
      cases hf
      exact g_iret (Pic := fun H => RD D a g _ H) E hr hlk hP hS rfl dX3_wantWord_23
  · have hf := ite_f kc3 hf
    refine lv_bipush (v := nI 12) hx hb dX3_wantWord_9 rfl ?_
    cases hf
    exact g_iret (Pic := fun H => RD D a g _ H) E hr hlk hP hS rfl dX3_wantWord_11
set_option maxHeartbeats 4000000 in
noncomputable def fr_planWord (ξ : nwM) (μ : nwM) : Option (Int32) := (fr_is bw_on ξ μ).bind fun v2 => (if v2 = 0 then (fr_is bw_call ξ μ).bind fun v5 => (if v5 = 0 then (fr_is bw_at ξ μ).bind fun v8 => (if v8 = 0 then (fr_is bw_move ξ μ).bind fun v11 => (if v11 = 0 then (fr_is bw_to ξ μ).bind fun v14 => (if v14 = 0 then (fr_is bw_bury ξ μ).bind fun v17 => (if v17 = 0 then some (nI 1) else some (nI 19)) else some (nI 20)) else some (nI 18)) else some (nI 14)) else some (nI 17)) else some (nI 15))
set_option maxHeartbeats 4000000 in
theorem dr_planWord : yX3_planWord.cls = RX3 ∧ yX3_planWord.cls ≠ "java/lang/invoke/MethodHandle" ∧ yX3_planWord.cls ≠ "java/lang/invoke/VarHandle" ∧ (parseMethodDescriptor yX3_planWord.desc).map (fun d => d.parameters.length) = some 0 := ⟨rfl, by decide +kernel, by decide +kernel, by decide +kernel⟩
set_option maxHeartbeats 4000000 in
theorem tr_planWord (l : Launch) (D : va_G) (dT : Nat → ClassId) (a g : Nat) (ξ : nwM) (β : Nat → Nat) (σ : nwM) (ρ : Nat → Nat) (Z : nwZ) (μ : nwM) (res : Int32) (hf : fr_planWord ξ μ = some res) : Met l yX3_planWord (ws_ yX3_planWord cX3_planWord 1 (some .int)) (rmd 5) (va_Pc [.ref a] (RP D dT a g ξ β σ ρ Z μ)) (va_Qi (fun r' (_ : Unit) => r' = res) (fun _ t => RD D a g μ t.heap) (fun _ => False)) 0 0 (fun _ => False) := by
  refine k_met (own := RX3) (by decide) rfl (Nat.le_of_ble_eq_true rfl) ?_
  intro p e s m below meth c ls E hP hr hlk hl _
  obtain ⟨hP, hB⟩ := hP
  have hE := hB.2.1
  have hK := hE.1
  have hS : va_S (fun _ => False) s.heap s.heap [] := va_S.rf
  obtain ⟨hx, hb, hml, hown, hts⟩ := id E
  have hl : lv_has ls 1 [(0, .ref a)] := hl
  unfold fr_planWord at hf
  refine lv_aload_n hx hb dX3_planWord_0 rfl (lv_at hl 0 rfl) ?_
  refine va_ldcS hx hb hown (RB_str hB sx_on) dX3_planWord_1 ?_
  obtain ⟨v2, hc1, hf⟩ := ob hf
  refine k_vi (Pic := fun U => RP D dT a g ξ β σ ρ Z μ U ∧ sC bw_on (Z.2.1 110) (ge_ Z.1) U U.heap) (Pic1 := fun H => RD D a g μ H) (A1 := fun _ => False) E hS (fun _ _ z => z.elim) (fun _ z => z.elim) (As := [.ref (Z.2.1 110)]) (tr_is l D dT a g ξ β σ ρ Z bw_on (Z.2.1 110) μ _ hc1) is_bl (is_pre hB hP (RB_sc hB sx_on) hS (fun _ z => z.elim)) (RD_recv hK hP) (lw_V q454 q456 qs7 q167 q457) dr_is rfl ⟨rfl, rfl⟩ (rmd_ok (by decide) (by decide)) ⟨Nat.le_refl 0, Nat.le_refl 0⟩ hl rfl (Nat.le_of_ble_eq_true rfl) dX3_planWord_3 (fun H locs hP _ _ hS => ?_)
  refine lv_if_eq (tgt := 12) hx hb dX3_planWord_6 (by decide) (fun kc3 => ?_) (fun kc3 => ?_)
  · have hf := ite_t kc3 hf
    refine lv_aload_n hx hb dX3_planWord_12 rfl (lv_at hl 0 rfl) ?_
    refine va_ldcS hx hb hown (RB_str hB sx_call) dX3_planWord_13 ?_
    obtain ⟨v5, hc4, hf⟩ := ob hf
    refine k_vi (Pic := fun U => RP D dT a g ξ β σ ρ Z μ U ∧ sC bw_call (Z.2.1 114) (ge_ Z.1) U U.heap) (Pic1 := fun H => RD D a g μ H) (A1 := fun _ => False) E hS (fun _ _ z => z.elim) (fun _ z => z.elim) (As := [.ref (Z.2.1 114)]) (tr_is l D dT a g ξ β σ ρ Z bw_call (Z.2.1 114) μ _ hc4) is_bl (is_pre hB hP (RB_sc hB sx_call) hS (fun _ z => z.elim)) (RD_recv hK hP) (lw_V q454 q456 qs7 q167 q457) dr_is rfl ⟨rfl, rfl⟩ (rmd_ok (by decide) (by decide)) ⟨Nat.le_refl 0, Nat.le_refl 0⟩ hl rfl (Nat.le_of_ble_eq_true rfl) dX3_planWord_15 (fun H locs hP _ _ hS => ?_)
    refine lv_if_eq (tgt := 24) hx hb dX3_planWord_18 (by decide) (fun kc6 => ?_) (fun kc6 => ?_)
    · have hf := ite_t kc6 hf
      refine lv_aload_n hx hb dX3_planWord_24 rfl (lv_at hl 0 rfl) ?_
      refine va_ldcS hx hb hown (RB_str hB sx_at) dX3_planWord_25 ?_
      obtain ⟨v8, hc7, hf⟩ := ob hf
      refine k_vi (Pic := fun U => RP D dT a g ξ β σ ρ Z μ U ∧ sC bw_at (Z.2.1 109) (ge_ Z.1) U U.heap) (Pic1 := fun H => RD D a g μ H) (A1 := fun _ => False) E hS (fun _ _ z => z.elim) (fun _ z => z.elim) (As := [.ref (Z.2.1 109)]) (tr_is l D dT a g ξ β σ ρ Z bw_at (Z.2.1 109) μ _ hc7) is_bl (is_pre hB hP (RB_sc hB sx_at) hS (fun _ z => z.elim)) (RD_recv hK hP) (lw_V q454 q456 qs7 q167 q457) dr_is rfl ⟨rfl, rfl⟩ (rmd_ok (by decide) (by decide)) ⟨Nat.le_refl 0, Nat.le_refl 0⟩ hl rfl (Nat.le_of_ble_eq_true rfl) dX3_planWord_27 (fun H locs hP _ _ hS => ?_)
      refine lv_if_eq (tgt := 36) hx hb dX3_planWord_30 (by decide) (fun kc9 => ?_) (fun kc9 => ?_)
      · have hf := ite_t kc9 hf
        refine lv_aload_n hx hb dX3_planWord_36 rfl (lv_at hl 0 rfl) ?_
        refine va_ldcS hx hb hown (RB_str hB sx_move) dX3_planWord_37 ?_
        obtain ⟨v11, hc10, hf⟩ := ob hf
        refine k_vi (Pic := fun U => RP D dT a g ξ β σ ρ Z μ U ∧ sC bw_move (Z.2.1 116) (ge_ Z.1) U U.heap) (Pic1 := fun H => RD D a g μ H) (A1 := fun _ => False) E hS (fun _ _ z => z.elim) (fun _ z => z.elim) (As := [.ref (Z.2.1 116)]) (tr_is l D dT a g ξ β σ ρ Z bw_move (Z.2.1 116) μ _ hc10) is_bl (is_pre hB hP (RB_sc hB sx_move) hS (fun _ z => z.elim)) (RD_recv hK hP) (lw_V q454 q456 qs7 q167 q457) dr_is rfl ⟨rfl, rfl⟩ (rmd_ok (by decide) (by decide)) ⟨Nat.le_refl 0, Nat.le_refl 0⟩ hl rfl (Nat.le_of_ble_eq_true rfl) dX3_planWord_39 (fun H locs hP _ _ hS => ?_)
        refine lv_if_eq (tgt := 48) hx hb dX3_planWord_42 (by decide) (fun kc12 => ?_) (fun kc12 => ?_)
        · have hf := ite_t kc12 hf
          refine lv_aload_n hx hb dX3_planWord_48 rfl (lv_at hl 0 rfl) ?_
          refine va_ldcS hx hb hown (RB_str hB sx_to) dX3_planWord_49 ?_
          obtain ⟨v14, hc13, hf⟩ := ob hf
          refine k_vi (Pic := fun U => RP D dT a g ξ β σ ρ Z μ U ∧ sC bw_to (Z.2.1 118) (ge_ Z.1) U U.heap) (Pic1 := fun H => RD D a g μ H) (A1 := fun _ => False) E hS (fun _ _ z => z.elim) (fun _ z => z.elim) (As := [.ref (Z.2.1 118)]) (tr_is l D dT a g ξ β σ ρ Z bw_to (Z.2.1 118) μ _ hc13) is_bl (is_pre hB hP (RB_sc hB sx_to) hS (fun _ z => z.elim)) (RD_recv hK hP) (lw_V q454 q456 qs7 q167 q457) dr_is rfl ⟨rfl, rfl⟩ (rmd_ok (by decide) (by decide)) ⟨Nat.le_refl 0, Nat.le_refl 0⟩ hl rfl (Nat.le_of_ble_eq_true rfl) dX3_planWord_51 (fun H locs hP _ _ hS => ?_)
          refine lv_if_eq (tgt := 60) hx hb dX3_planWord_54 (by decide) (fun kc15 => ?_) (fun kc15 => ?_)
          · have hf := ite_t kc15 hf
            refine lv_aload_n hx hb dX3_planWord_60 rfl (lv_at hl 0 rfl) ?_
            refine va_ldcS hx hb hown (RB_str hB sx_bury) dX3_planWord_61 ?_
            obtain ⟨v17, hc16, hf⟩ := ob hf
            refine k_vi (Pic := fun U => RP D dT a g ξ β σ ρ Z μ U ∧ sC bw_bury (Z.2.1 120) (ge_ Z.1) U U.heap) (Pic1 := fun H => RD D a g μ H) (A1 := fun _ => False) E hS (fun _ _ z => z.elim) (fun _ z => z.elim) (As := [.ref (Z.2.1 120)]) (tr_is l D dT a g ξ β σ ρ Z bw_bury (Z.2.1 120) μ _ hc16) is_bl (is_pre hB hP (RB_sc hB sx_bury) hS (fun _ z => z.elim)) (RD_recv hK hP) (lw_V q454 q456 qs7 q167 q457) dr_is rfl ⟨rfl, rfl⟩ (rmd_ok (by decide) (by decide)) ⟨Nat.le_refl 0, Nat.le_refl 0⟩ hl rfl (Nat.le_of_ble_eq_true rfl) dX3_planWord_63 (fun H locs hP _ _ hS => ?_)
            refine lv_if_eq (tgt := 74) hx hb dX3_planWord_66 (by decide) (fun kc18 => ?_) (fun kc18 => ?_)
            · have hf := ite_t kc18 hf
              refine lv_iconst (v := nI 1) hx hb dX3_planWord_74 rfl ?_
              cases hf
              exact g_iret (Pic := fun H => RD D a g _ H) E hr hlk hP hS rfl dX3_planWord_75
            · have hf := ite_f kc18 hf
              refine lv_bipush (v := nI 19) hx hb dX3_planWord_69 rfl ?_
              refine lv_goto (tgt := 75) hx hb dX3_planWord_71 (by decide) ?_
              cases hf
              exact g_iret (Pic := fun H => RD D a g _ H) E hr hlk hP hS rfl dX3_planWord_75
          · have hf := ite_f kc15 hf
            refine lv_bipush (v := nI 20) hx hb dX3_planWord_57 rfl ?_
            cases hf
            exact g_iret (Pic := fun H => RD D a g _ H) E hr hlk hP hS rfl dX3_planWord_59
        · have hf := ite_f kc12 hf
          refine lv_bipush (v := nI 18) hx hb dX3_planWord_45 rfl ?_
          cases hf
          exact g_iret (Pic := fun H => RD D a g _ H) E hr hlk hP hS rfl dX3_planWord_47
      · have hf := ite_f kc9 hf
        refine lv_bipush (v := nI 14) hx hb dX3_planWord_33 rfl ?_
        cases hf
        exact g_iret (Pic := fun H => RD D a g _ H) E hr hlk hP hS rfl dX3_planWord_35
    · have hf := ite_f kc6 hf
      refine lv_bipush (v := nI 17) hx hb dX3_planWord_21 rfl ?_
      cases hf
      exact g_iret (Pic := fun H => RD D a g _ H) E hr hlk hP hS rfl dX3_planWord_23
  · have hf := ite_f kc3 hf
    refine lv_bipush (v := nI 15) hx hb dX3_planWord_9 rfl ?_
    cases hf
    exact g_iret (Pic := fun H => RD D a g _ H) E hr hlk hP hS rfl dX3_planWord_11
set_option maxHeartbeats 4000000 in
noncomputable def fr_keyword (ξ : nwM) (μ : nwM) : Option (Int32) := (if (μ 0 0) = nI 0 then (fr_lawWord ξ μ).bind fun v3 => some v3 else (if (μ 0 0) = nI 1 then (fr_quenchWord ξ μ).bind fun v6 => some v6 else (if (μ 0 0) = nI 2 then (fr_wantWord ξ μ).bind fun v9 => some v9 else (fr_planWord ξ μ).bind fun v11 => some v11)))
set_option maxHeartbeats 4000000 in
theorem dr_keyword : yX3_keyword.cls = RX3 ∧ yX3_keyword.cls ≠ "java/lang/invoke/MethodHandle" ∧ yX3_keyword.cls ≠ "java/lang/invoke/VarHandle" ∧ (parseMethodDescriptor yX3_keyword.desc).map (fun d => d.parameters.length) = some 0 := ⟨rfl, by decide +kernel, by decide +kernel, by decide +kernel⟩
set_option maxHeartbeats 4000000 in
theorem tr_keyword (l : Launch) (D : va_G) (dT : Nat → ClassId) (a g : Nat) (ξ : nwM) (β : Nat → Nat) (σ : nwM) (ρ : Nat → Nat) (Z : nwZ) (μ : nwM) (res : Int32) (hf : fr_keyword ξ μ = some res) : Met l yX3_keyword (ws_ yX3_keyword cX3_keyword 1 (some .int)) (rmd 7) (va_Pc [.ref a] (RP D dT a g ξ β σ ρ Z μ)) (va_Qi (fun r' (_ : Unit) => r' = res) (fun _ t => RD D a g μ t.heap) (fun _ => False)) 0 0 (fun _ => False) := by
  refine k_met (own := RX3) (by decide) rfl (Nat.le_of_ble_eq_true rfl) ?_
  intro p e s m below meth c ls E hP hr hlk hl _
  obtain ⟨hP, hB⟩ := hP
  have hE := hB.2.1
  have hK := hE.1
  have hS : va_S (fun _ => False) s.heap s.heap [] := va_S.rf
  obtain ⟨hx, hb, hml, hown, hts⟩ := id E
  have hl : lv_has ls 1 [(0, .ref a)] := hl
  unfold fr_keyword at hf
  refine lv_aload_n hx hb dX3_keyword_0 rfl (lv_at hl 0 rfl) ?_
  refine gp_get (C := RX3) (T := TX3) E hK (oneO (dT := dT) hP) (if_pos rfl) rfl in_X3 0 (by decide) (hts _ q404) (fun _ z => z) (v := .int (μ 0 0)) rfl dX3_keyword_1 ?_
  by_cases kc1 : (μ 0 0) = nI 0
  · have hf := ite_t kc1 hf
    refine lv_tableIn (tgt := 32) hx hb dX3_keyword_4 (sw_lo kc1 (by decide) (by decide)) (sw_hi kc1 (by decide) (by decide)) (sw_at kc1 (by decide) rfl) (by decide) ?_
    refine lv_aload_n hx hb dX3_keyword_32 rfl (lv_at hl 0 rfl) ?_
    obtain ⟨v3, hc2, hf⟩ := ob hf
    refine k_vi (Pic := RP D dT a g ξ β σ ρ Z μ) (Pic1 := fun H => RD D a g μ H) (A1 := fun _ => False) E hS (fun _ _ z => z.elim) (fun _ z => z.elim) (As := []) (tr_lawWord l D dT a g ξ β σ ρ Z μ _ hc2) RP_bl (RP_pre hB hP hS (fun _ z => z.elim)) (RD_recv hK hP) (lw_V q449 q451 qs6 q167 q452) dr_lawWord rfl ⟨rfl, rfl⟩ (rmd_ok (by decide) (by decide)) ⟨Nat.le_refl 0, Nat.le_refl 0⟩ hl rfl (Nat.le_of_ble_eq_true rfl) dX3_keyword_33 (fun H locs hP _ _ hS => ?_)
    cases hf
    exact g_iret (Pic := fun H => RD D a g _ H) E hr hlk hP hS rfl dX3_keyword_36
  · have hf := ite_f kc1 hf
    by_cases kc4 : (μ 0 0) = nI 1
    · have hf := ite_t kc4 hf
      refine lv_tableIn (tgt := 37) hx hb dX3_keyword_4 (sw_lo kc4 (by decide) (by decide)) (sw_hi kc4 (by decide) (by decide)) (sw_at kc4 (by decide) rfl) (by decide) ?_
      refine lv_aload_n hx hb dX3_keyword_37 rfl (lv_at hl 0 rfl) ?_
      obtain ⟨v6, hc5, hf⟩ := ob hf
      refine k_vi (Pic := RP D dT a g ξ β σ ρ Z μ) (Pic1 := fun H => RD D a g μ H) (A1 := fun _ => False) E hS (fun _ _ z => z.elim) (fun _ z => z.elim) (As := []) (tr_quenchWord l D dT a g ξ β σ ρ Z μ _ hc5) RP_bl (RP_pre hB hP hS (fun _ z => z.elim)) (RD_recv hK hP) (lw_V q525 q527 qs9 q167 q528) dr_quenchWord rfl ⟨rfl, rfl⟩ (rmd_ok (by decide) (by decide)) ⟨Nat.le_refl 0, Nat.le_refl 0⟩ hl rfl (Nat.le_of_ble_eq_true rfl) dX3_keyword_38 (fun H locs hP _ _ hS => ?_)
      cases hf
      exact g_iret (Pic := fun H => RD D a g _ H) E hr hlk hP hS rfl dX3_keyword_41
    · have hf := ite_f kc4 hf
      by_cases kc7 : (μ 0 0) = nI 2
      · have hf := ite_t kc7 hf
        refine lv_tableIn (tgt := 42) hx hb dX3_keyword_4 (sw_lo kc7 (by decide) (by decide)) (sw_hi kc7 (by decide) (by decide)) (sw_at kc7 (by decide) rfl) (by decide) ?_
        refine lv_aload_n hx hb dX3_keyword_42 rfl (lv_at hl 0 rfl) ?_
        obtain ⟨v9, hc8, hf⟩ := ob hf
        refine k_vi (Pic := RP D dT a g ξ β σ ρ Z μ) (Pic1 := fun H => RD D a g μ H) (A1 := fun _ => False) E hS (fun _ _ z => z.elim) (fun _ z => z.elim) (As := []) (tr_wantWord l D dT a g ξ β σ ρ Z μ _ hc8) RP_bl (RP_pre hB hP hS (fun _ z => z.elim)) (RD_recv hK hP) (lw_V q540 q542 qs11 q167 q543) dr_wantWord rfl ⟨rfl, rfl⟩ (rmd_ok (by decide) (by decide)) ⟨Nat.le_refl 0, Nat.le_refl 0⟩ hl rfl (Nat.le_of_ble_eq_true rfl) dX3_keyword_43 (fun H locs hP _ _ hS => ?_)
        cases hf
        exact g_iret (Pic := fun H => RD D a g _ H) E hr hlk hP hS rfl dX3_keyword_46
      · have hf := ite_f kc7 hf
        refine lv_tableOut (tgt := 47) hx hb dX3_keyword_4 (sw_no 0 2 rfl rfl (fun k a b => by rcases (show k = 0 ∨ k = 1 ∨ k = 2 by omega) with rfl | rfl | rfl <;> assumption)) (by decide) ?_
        refine lv_aload_n hx hb dX3_keyword_47 rfl (lv_at hl 0 rfl) ?_
        obtain ⟨v11, hc10, hf⟩ := ob hf
        refine k_vi (Pic := RP D dT a g ξ β σ ρ Z μ) (Pic1 := fun H => RD D a g μ H) (A1 := fun _ => False) E hS (fun _ _ z => z.elim) (fun _ z => z.elim) (As := []) (tr_planWord l D dT a g ξ β σ ρ Z μ _ hc10) RP_bl (RP_pre hB hP hS (fun _ z => z.elim)) (RD_recv hK hP) (lw_V q549 q551 qs12 q167 q552) dr_planWord rfl ⟨rfl, rfl⟩ (rmd_ok (by decide) (by decide)) ⟨Nat.le_refl 0, Nat.le_refl 0⟩ hl rfl (Nat.le_of_ble_eq_true rfl) dX3_keyword_48 (fun H locs hP _ _ hS => ?_)
        cases hf
        exact g_iret (Pic := fun H => RD D a g _ H) E hr hlk hP hS rfl dX3_keyword_51
set_option maxHeartbeats 4000000 in
def fr_isMark (ξ : nwM) (x1 : Int32) (μ : nwM) : Option (Int32) := (if x1 = (nI 59) then some (nI 1) else (if x1 = (nI 43) then some (nI 1) else (if x1 = (nI 45) then some (nI 1) else (if x1 = (nI 42) then some (nI 1) else (if x1 = (nI 47) then some (nI 1) else (if x1 = (nI 40) then some (nI 1) else (if x1 = (nI 41) then some (nI 1) else (if x1 = (nI 60) then some (nI 1) else (if x1 = (nI 61) then some (nI 1) else (if x1 = (nI 62) then some (nI 1) else some (nI 0)))))))))))
set_option maxHeartbeats 4000000 in
theorem dr_isMark : yX3_isMark.cls = RX3 ∧ yX3_isMark.cls ≠ "java/lang/invoke/MethodHandle" ∧ yX3_isMark.cls ≠ "java/lang/invoke/VarHandle" ∧ (parseMethodDescriptor yX3_isMark.desc).map (fun d => d.parameters.length) = some 1 := ⟨rfl, by decide +kernel, by decide +kernel, by decide +kernel⟩
set_option maxHeartbeats 4000000 in
theorem tr_isMark (l : Launch) (D : va_G) (dT : Nat → ClassId) (a g : Nat) (ξ : nwM) (β : Nat → Nat) (σ : nwM) (ρ : Nat → Nat) (Z : nwZ) (x1 : Int32) (μ : nwM) (res : Int32) (hf : fr_isMark ξ x1 μ = some res) : Met l yX3_isMark (ws_ yX3_isMark cX3_isMark 2 (some .boolean)) (rmd 0) (va_Pc [.ref a, .int x1] (RP D dT a g ξ β σ ρ Z μ)) (va_Qi (fun r' (_ : Unit) => r' = res) (fun _ t => RD D a g μ t.heap) (fun _ => False)) 0 0 (fun _ => False) := by
  refine k_met (own := RX3) (by decide) rfl (Nat.le_of_ble_eq_true rfl) ?_
  intro p e s m below meth c ls E hP hr hlk hl _
  obtain ⟨hP, hB⟩ := hP
  have hE := hB.2.1
  have hK := hE.1
  have hS : va_S (fun _ => False) s.heap s.heap [] := va_S.rf
  obtain ⟨hx, hb, hml, hown, hts⟩ := id E
  have hl : lv_has ls 2 [(0, .ref a), (1, .int x1)] := hl
  unfold fr_isMark at hf
  refine lv_iload_n hx hb dX3_isMark_0 rfl (lv_at hl 1 rfl) ?_
  refine lv_bipush (v := nI 59) hx hb dX3_isMark_1 rfl ?_
  refine lv_icmp_eq (tgt := 60) hx hb dX3_isMark_3 (by decide) (fun kc1 => ?_) (fun kc1 => ?_)
  · have hf := ite_t kc1 hf
    refine lv_iconst (v := nI 1) hx hb dX3_isMark_60 rfl ?_
    refine lv_goto (tgt := 65) hx hb dX3_isMark_61 (by decide) ?_
    cases hf
    exact g_zret (Pic := fun H => RD D a g _ H) E hr hlk hP hS rfl dX3_isMark_65
  · have hf := ite_f kc1 hf
    refine lv_iload_n hx hb dX3_isMark_6 rfl (lv_at hl 1 rfl) ?_
    refine lv_bipush (v := nI 43) hx hb dX3_isMark_7 rfl ?_
    refine lv_icmp_eq (tgt := 60) hx hb dX3_isMark_9 (by decide) (fun kc2 => ?_) (fun kc2 => ?_)
    · have hf := ite_t kc2 hf
      refine lv_iconst (v := nI 1) hx hb dX3_isMark_60 rfl ?_
      refine lv_goto (tgt := 65) hx hb dX3_isMark_61 (by decide) ?_
      cases hf
      exact g_zret (Pic := fun H => RD D a g _ H) E hr hlk hP hS rfl dX3_isMark_65
    · have hf := ite_f kc2 hf
      refine lv_iload_n hx hb dX3_isMark_12 rfl (lv_at hl 1 rfl) ?_
      refine lv_bipush (v := nI 45) hx hb dX3_isMark_13 rfl ?_
      refine lv_icmp_eq (tgt := 60) hx hb dX3_isMark_15 (by decide) (fun kc3 => ?_) (fun kc3 => ?_)
      · have hf := ite_t kc3 hf
        refine lv_iconst (v := nI 1) hx hb dX3_isMark_60 rfl ?_
        refine lv_goto (tgt := 65) hx hb dX3_isMark_61 (by decide) ?_
        cases hf
        exact g_zret (Pic := fun H => RD D a g _ H) E hr hlk hP hS rfl dX3_isMark_65
      · have hf := ite_f kc3 hf
        refine lv_iload_n hx hb dX3_isMark_18 rfl (lv_at hl 1 rfl) ?_
        refine lv_bipush (v := nI 42) hx hb dX3_isMark_19 rfl ?_
        refine lv_icmp_eq (tgt := 60) hx hb dX3_isMark_21 (by decide) (fun kc4 => ?_) (fun kc4 => ?_)
        · have hf := ite_t kc4 hf
          refine lv_iconst (v := nI 1) hx hb dX3_isMark_60 rfl ?_
          refine lv_goto (tgt := 65) hx hb dX3_isMark_61 (by decide) ?_
          cases hf
          exact g_zret (Pic := fun H => RD D a g _ H) E hr hlk hP hS rfl dX3_isMark_65
        · have hf := ite_f kc4 hf
          refine lv_iload_n hx hb dX3_isMark_24 rfl (lv_at hl 1 rfl) ?_
          refine lv_bipush (v := nI 47) hx hb dX3_isMark_25 rfl ?_
          refine lv_icmp_eq (tgt := 60) hx hb dX3_isMark_27 (by decide) (fun kc5 => ?_) (fun kc5 => ?_)
          · have hf := ite_t kc5 hf
            refine lv_iconst (v := nI 1) hx hb dX3_isMark_60 rfl ?_
            refine lv_goto (tgt := 65) hx hb dX3_isMark_61 (by decide) ?_
            cases hf
            exact g_zret (Pic := fun H => RD D a g _ H) E hr hlk hP hS rfl dX3_isMark_65
          · have hf := ite_f kc5 hf
            refine lv_iload_n hx hb dX3_isMark_30 rfl (lv_at hl 1 rfl) ?_
            refine lv_bipush (v := nI 40) hx hb dX3_isMark_31 rfl ?_
            refine lv_icmp_eq (tgt := 60) hx hb dX3_isMark_33 (by decide) (fun kc6 => ?_) (fun kc6 => ?_)
            · have hf := ite_t kc6 hf
              refine lv_iconst (v := nI 1) hx hb dX3_isMark_60 rfl ?_
              refine lv_goto (tgt := 65) hx hb dX3_isMark_61 (by decide) ?_
              cases hf
              exact g_zret (Pic := fun H => RD D a g _ H) E hr hlk hP hS rfl dX3_isMark_65
            · have hf := ite_f kc6 hf
              refine lv_iload_n hx hb dX3_isMark_36 rfl (lv_at hl 1 rfl) ?_
              refine lv_bipush (v := nI 41) hx hb dX3_isMark_37 rfl ?_
              refine lv_icmp_eq (tgt := 60) hx hb dX3_isMark_39 (by decide) (fun kc7 => ?_) (fun kc7 => ?_)
              · have hf := ite_t kc7 hf
                refine lv_iconst (v := nI 1) hx hb dX3_isMark_60 rfl ?_
                refine lv_goto (tgt := 65) hx hb dX3_isMark_61 (by decide) ?_
                cases hf
                exact g_zret (Pic := fun H => RD D a g _ H) E hr hlk hP hS rfl dX3_isMark_65
              · have hf := ite_f kc7 hf
                refine lv_iload_n hx hb dX3_isMark_42 rfl (lv_at hl 1 rfl) ?_
                refine lv_bipush (v := nI 60) hx hb dX3_isMark_43 rfl ?_
                refine lv_icmp_eq (tgt := 60) hx hb dX3_isMark_45 (by decide) (fun kc8 => ?_) (fun kc8 => ?_)
                · have hf := ite_t kc8 hf
                  refine lv_iconst (v := nI 1) hx hb dX3_isMark_60 rfl ?_
                  refine lv_goto (tgt := 65) hx hb dX3_isMark_61 (by decide) ?_
                  cases hf
                  exact g_zret (Pic := fun H => RD D a g _ H) E hr hlk hP hS rfl dX3_isMark_65
                · have hf := ite_f kc8 hf
                  refine lv_iload_n hx hb dX3_isMark_48 rfl (lv_at hl 1 rfl) ?_
                  refine lv_bipush (v := nI 61) hx hb dX3_isMark_49 rfl ?_
                  refine lv_icmp_eq (tgt := 60) hx hb dX3_isMark_51 (by decide) (fun kc9 => ?_) (fun kc9 => ?_)
                  · have hf := ite_t kc9 hf
                    refine lv_iconst (v := nI 1) hx hb dX3_isMark_60 rfl ?_
                    refine lv_goto (tgt := 65) hx hb dX3_isMark_61 (by decide) ?_
                    cases hf
                    exact g_zret (Pic := fun H => RD D a g _ H) E hr hlk hP hS rfl dX3_isMark_65
                  · have hf := ite_f kc9 hf
                    refine lv_iload_n hx hb dX3_isMark_54 rfl (lv_at hl 1 rfl) ?_
                    refine lv_bipush (v := nI 62) hx hb dX3_isMark_55 rfl ?_
                    refine lv_icmp_ne (tgt := 64) hx hb dX3_isMark_57 (by decide) (fun kc10 => ?_) (fun kc10 => ?_)
                    · have hf := ite_f kc10 hf
                      refine lv_iconst (v := nI 0) hx hb dX3_isMark_64 rfl ?_
                      cases hf
                      exact g_zret (Pic := fun H => RD D a g _ H) E hr hlk hP hS rfl dX3_isMark_65
                    · have hf := ite_t kc10 hf
                      refine lv_iconst (v := nI 1) hx hb dX3_isMark_60 rfl ?_
                      refine lv_goto (tgt := 65) hx hb dX3_isMark_61 (by decide) ?_
                      cases hf
                      exact g_zret (Pic := fun H => RD D a g _ H) E hr hlk hP hS rfl dX3_isMark_65
set_option maxHeartbeats 4000000 in
def fr_next_L0 (ξ : nwM) : nwM → Option ((nwM) ⊕ (nwM)) := fun st => (fr_see ξ st).bind fun v2 => (if v2 = (nI 32) then (wf_ st 1 ((st 1 0) + (nI 1))).bind fun μ4 => some (.inl μ4) else (fr_see ξ st).bind fun v6 => (if v6 = (nI 10) then (wf_ st 1 ((st 1 0) + (nI 1))).bind fun μ8 => some (.inl μ8) else some (.inr st)))
set_option maxHeartbeats 4000000 in
def fr_next_L105 (ξ : nwM) : nwM → Option ((nwM) ⊕ (nwM)) := fun st => (fr_isDigit ξ st).bind fun v33 => (if v33 = 0 then some (.inr st) else (if ((st 2 0) + (nI 4)) ≤ (st 1 0) then (wf_ st 1 ((st 1 0) + (nI 1))).bind fun μ36 => some (.inl μ36) else (fr_see ξ st).bind fun v38 => (wf_ st 4 ((((nI 10) * (st 4 0)) + v38) - (nI 48))).bind fun μ39 => (wf_ μ39 1 ((μ39 1 0) + (nI 1))).bind fun μ40 => some (.inl μ40)))
set_option maxHeartbeats 4000000 in
def fr_next_L62 (ξ : nwM) : nwM → Option ((nwM) ⊕ (nwM)) := fun st => (fr_isLetter ξ st).bind fun v46 => (if v46 = 0 then some (.inr st) else (wf_ st 1 ((st 1 0) + (nI 1))).bind fun μ48 => some (.inl μ48))
set_option maxHeartbeats 4000000 in
noncomputable def fr_next (ξ : nwM) (μ : nwM) : Option (nwM) := (wh_ (fr_next_L0 ξ) μ).bind fun x9 => (wf_ x9 2 (x9 1 0)).bind fun μ10 => (fr_see ξ μ10).bind fun v12 => (if v12 = (-1) then (wf_ μ10 3 (nI 0)).bind fun μ53 => some μ53 else (fr_isLetter ξ μ10).bind fun v15 => (if v15 = 0 then (fr_isDigit ξ μ10).bind fun v18 => (if v18 = 0 then (fr_see ξ μ10).bind fun v21 => (fr_isMark ξ v21 μ10).bind fun v23 => (if v23 = 0 then (wf_ μ10 3 (nI 1)).bind fun μ25 => (wf_ μ25 1 ((μ25 1 0) + (nI 1))).bind fun μ26 => some μ26 else (fr_see ξ μ10).bind fun v28 => (wf_ μ10 3 v28).bind fun μ29 => (wf_ μ29 1 ((μ29 1 0) + (nI 1))).bind fun μ30 => some μ30) else (wf_ μ10 4 (nI 0)).bind fun μ31 => (wh_ (fr_next_L105 ξ) μ31).bind fun x41 => (if (nI 5) ≤ ((x41 1 0) - (x41 2 0)) then (wf_ x41 3 (nI 1)).bind fun μ43 => some μ43 else (wf_ x41 3 (nI 2)).bind fun μ44 => some μ44)) else (wh_ (fr_next_L62 ξ) μ10).bind fun x49 => (fr_keyword ξ x49).bind fun v51 => (wf_ x49 3 v51).bind fun μ52 => some μ52))
set_option maxHeartbeats 4000000 in
theorem fr_next_L0_w {p : Program} {l : Launch} {e : Env} {s : State} {m : MethodId} {args : Array Value} {below : List Frame} {meth : Method} {c : Code} {D : va_G} {dT : Nat → ClassId} {Q : State → Prop} {a g : Nat} {ξ σ : nwM} {β ρ : Nat → Nat} {Z : nwZ} (E : CallFix p m c cX3_next 1 s args lw_all RX3) (hK : va_K D nwCl (nwT dT) s) (hE : EV D dT s) (hB : RB D dT a g ξ β σ ρ Z s) {st : nwM} {x : nwM} (hw : wh_ (fr_next_L0 ξ) st = some x) (hk : (fun x : nwM => ∀ (ls : Array Slot) (H : Heap) (locs : List Loc), lv_has ls 1 [(0, .ref a)] → RD D a g x H → va_S (rA a) s.heap H locs → W p l e (rmd 8) s m args below meth c H locs 0 0 Q (F0 m 31 ls [])) x) : (fun st : nwM => ∀ (ls : Array Slot) (H : Heap) (locs : List Loc), lv_has ls 1 [(0, .ref a)] → RD D a g st H → va_S (rA a) s.heap H locs → W p l e (rmd 8) s m args below meth c H locs 0 0 Q (F0 m 0 ls [])) st := by
  obtain ⟨hx, hb, hml, hown, hts⟩ := id E
  refine wh_run (P := (fun st : nwM => ∀ (ls : Array Slot) (H : Heap) (locs : List Loc), lv_has ls 1 [(0, .ref a)] → RD D a g st H → va_S (rA a) s.heap H locs → W p l e (rmd 8) s m args below meth c H locs 0 0 Q (F0 m 0 ls []))) (PE := (fun x : nwM => ∀ (ls : Array Slot) (H : Heap) (locs : List Loc), lv_has ls 1 [(0, .ref a)] → RD D a g x H → va_S (rA a) s.heap H locs → W p l e (rmd 8) s m args below meth c H locs 0 0 Q (F0 m 31 ls []))) ?_ hw hk
  clear hw hk
  intro st x hf hk ls H locs hl hP hS
  refine lv_aload_n hx hb dX3_next_0 rfl (lv_at hl 0 rfl) ?_
  obtain ⟨v2, hc1, hf⟩ := ob hf
  refine k_vi (Pic := RP D dT a g ξ β σ ρ Z st) (Pic1 := fun H => RD D a g st H) (A1 := fun _ => False) E hS (fun _ _ z => z.elim) (fun _ z => z.elim) (As := []) (tr_see l D dT a g ξ β σ ρ Z st _ hc1) RP_bl (RP_pre hB hP hS (fun _ z => Or.inl z)) (RD_recv hK hP) (lw_V q436 q438 qs3 q167 q439) dr_see rfl ⟨rfl, rfl⟩ (rmd_ok (by decide) (by decide)) ⟨Nat.le_refl 0, Nat.le_refl 0⟩ hl rfl (Nat.le_of_ble_eq_true rfl) dX3_next_1 (fun H locs hP _ _ hS => ?_)
  refine lv_bipush (v := nI 32) hx hb dX3_next_4 rfl ?_
  refine lv_icmp_eq (tgt := 18) hx hb dX3_next_6 (by decide) (fun kc3 => ?_) (fun kc3 => ?_)
  · have hf := ite_t kc3 hf
    refine lv_aload_n hx hb dX3_next_18 rfl (lv_at hl 0 rfl) ?_
    refine lv_dup hx hb dX3_next_19 rfl ?_
    refine gp_get (C := RX3) (T := TX3) E hK (oneO (dT := dT) hP) (if_pos rfl) rfl in_X3 1 (by decide) (hts _ q405) (fun _ z => z) (v := .int (st 1 0)) rfl dX3_next_20 ?_
    refine lv_iconst (v := nI 1) hx hb dX3_next_23 rfl ?_
    refine lv_iadd hx hb dX3_next_24 ?_
    obtain ⟨μ4, hμ4, hf⟩ := ob hf
    refine gp_put (C := RX3) (T := TX3) (ty := .int) E hK (oneO (dT := dT) hP) hS (rfl : rA a a) (if_pos rfl) rfl in_X3 tyX3 tyX3_ok nmX3 1 (by decide) (hts _ q405) (fun _ z => z) rfl rfl rfl rfl dX3_next_25 (fun H locs hP _ hS => ?_)
    have hP := RD_put (by decide) hμ4 hP
    refine lv_goto (tgt := 0) hx hb dX3_next_28 (by decide) ?_
    cases hf
    exact hk _ _ _ (lv_sub hl [0] rfl) hP hS
  · have hf := ite_f kc3 hf
    refine lv_aload_n hx hb dX3_next_9 rfl (lv_at hl 0 rfl) ?_
    obtain ⟨v6, hc5, hf⟩ := ob hf
    refine k_vi (Pic := RP D dT a g ξ β σ ρ Z st) (Pic1 := fun H => RD D a g st H) (A1 := fun _ => False) E hS (fun _ _ z => z.elim) (fun _ z => z.elim) (As := []) (tr_see l D dT a g ξ β σ ρ Z st _ hc5) RP_bl (RP_pre hB hP hS (fun _ z => Or.inl z)) (RD_recv hK hP) (lw_V q436 q438 qs3 q167 q439) dr_see rfl ⟨rfl, rfl⟩ (rmd_ok (by decide) (by decide)) ⟨Nat.le_refl 0, Nat.le_refl 0⟩ hl rfl (Nat.le_of_ble_eq_true rfl) dX3_next_10 (fun H locs hP _ _ hS => ?_)
    refine lv_bipush (v := nI 10) hx hb dX3_next_13 rfl ?_
    refine lv_icmp_ne (tgt := 31) hx hb dX3_next_15 (by decide) (fun kc7 => ?_) (fun kc7 => ?_)
    · have hf := ite_f kc7 hf
      cases hf
      exact hk _ _ _ (lv_sub hl [0] rfl) hP hS
    · have hf := ite_t kc7 hf
      refine lv_aload_n hx hb dX3_next_18 rfl (lv_at hl 0 rfl) ?_
      refine lv_dup hx hb dX3_next_19 rfl ?_
      refine gp_get (C := RX3) (T := TX3) E hK (oneO (dT := dT) hP) (if_pos rfl) rfl in_X3 1 (by decide) (hts _ q405) (fun _ z => z) (v := .int (st 1 0)) rfl dX3_next_20 ?_
      refine lv_iconst (v := nI 1) hx hb dX3_next_23 rfl ?_
      refine lv_iadd hx hb dX3_next_24 ?_
      obtain ⟨μ8, hμ8, hf⟩ := ob hf
      refine gp_put (C := RX3) (T := TX3) (ty := .int) E hK (oneO (dT := dT) hP) hS (rfl : rA a a) (if_pos rfl) rfl in_X3 tyX3 tyX3_ok nmX3 1 (by decide) (hts _ q405) (fun _ z => z) rfl rfl rfl rfl dX3_next_25 (fun H locs hP _ hS => ?_)
      have hP := RD_put (by decide) hμ8 hP
      refine lv_goto (tgt := 0) hx hb dX3_next_28 (by decide) ?_
      cases hf
      exact hk _ _ _ (lv_sub hl [0] rfl) hP hS
set_option maxHeartbeats 4000000 in
theorem fr_next_L105_w {p : Program} {l : Launch} {e : Env} {s : State} {m : MethodId} {args : Array Value} {below : List Frame} {meth : Method} {c : Code} {D : va_G} {dT : Nat → ClassId} {Q : State → Prop} {a g : Nat} {ξ σ : nwM} {β ρ : Nat → Nat} {Z : nwZ} (E : CallFix p m c cX3_next 1 s args lw_all RX3) (hK : va_K D nwCl (nwT dT) s) (hE : EV D dT s) (hB : RB D dT a g ξ β σ ρ Z s) {st : nwM} {x : nwM} (hw : wh_ (fr_next_L105 ξ) st = some x) (hk : (fun x : nwM => ∀ (ls : Array Slot) (H : Heap) (locs : List Loc), lv_has ls 1 [(0, .ref a)] → RD D a g x H → va_S (rA a) s.heap H locs → W p l e (rmd 8) s m args below meth c H locs 0 0 Q (F0 m 157 ls [])) x) : (fun st : nwM => ∀ (ls : Array Slot) (H : Heap) (locs : List Loc), lv_has ls 1 [(0, .ref a)] → RD D a g st H → va_S (rA a) s.heap H locs → W p l e (rmd 8) s m args below meth c H locs 0 0 Q (F0 m 105 ls [])) st := by
  obtain ⟨hx, hb, hml, hown, hts⟩ := id E
  refine wh_run (P := (fun st : nwM => ∀ (ls : Array Slot) (H : Heap) (locs : List Loc), lv_has ls 1 [(0, .ref a)] → RD D a g st H → va_S (rA a) s.heap H locs → W p l e (rmd 8) s m args below meth c H locs 0 0 Q (F0 m 105 ls []))) (PE := (fun x : nwM => ∀ (ls : Array Slot) (H : Heap) (locs : List Loc), lv_has ls 1 [(0, .ref a)] → RD D a g x H → va_S (rA a) s.heap H locs → W p l e (rmd 8) s m args below meth c H locs 0 0 Q (F0 m 157 ls []))) ?_ hw hk
  clear hw hk
  intro st x hf hk ls H locs hl hP hS
  refine lv_aload_n hx hb dX3_next_105 rfl (lv_at hl 0 rfl) ?_
  obtain ⟨v33, hc32, hf⟩ := ob hf
  refine k_vi (Pic := RP D dT a g ξ β σ ρ Z st) (Pic1 := fun H => RD D a g st H) (A1 := fun _ => False) E hS (fun _ _ z => z.elim) (fun _ z => z.elim) (As := []) (tr_isDigit l D dT a g ξ β σ ρ Z st _ hc32) RP_bl (RP_pre hB hP hS (fun _ z => Or.inl z)) (RD_recv hK hP) (lw_V q557 q559 qs13 q167 q560) dr_isDigit rfl ⟨rfl, rfl⟩ (rmd_ok (by decide) (by decide)) ⟨Nat.le_refl 0, Nat.le_refl 0⟩ hl rfl (Nat.le_of_ble_eq_true rfl) dX3_next_106 (fun H locs hP _ _ hS => ?_)
  refine lv_if_eq (tgt := 157) hx hb dX3_next_109 (by decide) (fun kc34 => ?_) (fun kc34 => ?_)
  · have hf := ite_t kc34 hf
    cases hf
    exact hk _ _ _ (lv_sub hl [0] rfl) hP hS
  · have hf := ite_f kc34 hf
    refine lv_aload_n hx hb dX3_next_112 rfl (lv_at hl 0 rfl) ?_
    refine gp_get (C := RX3) (T := TX3) E hK (oneO (dT := dT) hP) (if_pos rfl) rfl in_X3 1 (by decide) (hts _ q405) (fun _ z => z) (v := .int (st 1 0)) rfl dX3_next_113 ?_
    refine lv_aload_n hx hb dX3_next_116 rfl (lv_at hl 0 rfl) ?_
    refine gp_get (C := RX3) (T := TX3) E hK (oneO (dT := dT) hP) (if_pos rfl) rfl in_X3 2 (by decide) (hts _ q406) (fun _ z => z) (v := .int (st 2 0)) rfl dX3_next_117 ?_
    refine lv_iconst (v := nI 4) hx hb dX3_next_120 rfl ?_
    refine lv_iadd hx hb dX3_next_121 ?_
    refine lv_icmp_ge (tgt := 144) hx hb dX3_next_122 (by decide) (fun kc35 => ?_) (fun kc35 => ?_)
    · have hf := ite_t kc35 hf
      refine lv_aload_n hx hb dX3_next_144 rfl (lv_at hl 0 rfl) ?_
      refine lv_dup hx hb dX3_next_145 rfl ?_
      refine gp_get (C := RX3) (T := TX3) E hK (oneO (dT := dT) hP) (if_pos rfl) rfl in_X3 1 (by decide) (hts _ q405) (fun _ z => z) (v := .int (st 1 0)) rfl dX3_next_146 ?_
      refine lv_iconst (v := nI 1) hx hb dX3_next_149 rfl ?_
      refine lv_iadd hx hb dX3_next_150 ?_
      obtain ⟨μ36, hμ36, hf⟩ := ob hf
      refine gp_put (C := RX3) (T := TX3) (ty := .int) E hK (oneO (dT := dT) hP) hS (rfl : rA a a) (if_pos rfl) rfl in_X3 tyX3 tyX3_ok nmX3 1 (by decide) (hts _ q405) (fun _ z => z) rfl rfl rfl rfl dX3_next_151 (fun H locs hP _ hS => ?_)
      have hP := RD_put (by decide) hμ36 hP
      refine lv_goto (tgt := 105) hx hb dX3_next_154 (by decide) ?_
      cases hf
      exact hk _ _ _ (lv_sub hl [0] rfl) hP hS
    · have hf := ite_f kc35 hf
      refine lv_aload_n hx hb dX3_next_125 rfl (lv_at hl 0 rfl) ?_
      refine lv_bipush (v := nI 10) hx hb dX3_next_126 rfl ?_
      refine lv_aload_n hx hb dX3_next_128 rfl (lv_at hl 0 rfl) ?_
      refine gp_get (C := RX3) (T := TX3) E hK (oneO (dT := dT) hP) (if_pos rfl) rfl in_X3 4 (by decide) (hts _ q408) (fun _ z => z) (v := .int (st 4 0)) rfl dX3_next_129 ?_
      refine lv_imul hx hb dX3_next_132 ?_
      refine lv_aload_n hx hb dX3_next_133 rfl (lv_at hl 0 rfl) ?_
      obtain ⟨v38, hc37, hf⟩ := ob hf
      refine k_vi (Pic := RP D dT a g ξ β σ ρ Z st) (Pic1 := fun H => RD D a g st H) (A1 := fun _ => False) E hS (fun _ _ z => z.elim) (fun _ z => z.elim) (As := []) (tr_see l D dT a g ξ β σ ρ Z st _ hc37) RP_bl (RP_pre hB hP hS (fun _ z => Or.inl z)) (RD_recv hK hP) (lw_V q436 q438 qs3 q167 q439) dr_see rfl ⟨rfl, rfl⟩ (rmd_ok (by decide) (by decide)) ⟨Nat.le_refl 0, Nat.le_refl 0⟩ hl rfl (Nat.le_of_ble_eq_true rfl) dX3_next_134 (fun H locs hP _ _ hS => ?_)
      refine lv_iadd hx hb dX3_next_137 ?_
      refine lv_bipush (v := nI 48) hx hb dX3_next_138 rfl ?_
      refine lv_isub hx hb dX3_next_140 ?_
      obtain ⟨μ39, hμ39, hf⟩ := ob hf
      refine gp_put (C := RX3) (T := TX3) (ty := .int) E hK (oneO (dT := dT) hP) hS (rfl : rA a a) (if_pos rfl) rfl in_X3 tyX3 tyX3_ok nmX3 4 (by decide) (hts _ q408) (fun _ z => z) rfl rfl rfl rfl dX3_next_141 (fun H locs hP _ hS => ?_)
      have hP := RD_put (by decide) hμ39 hP
      refine lv_aload_n hx hb dX3_next_144 rfl (lv_at hl 0 rfl) ?_
      refine lv_dup hx hb dX3_next_145 rfl ?_
      refine gp_get (C := RX3) (T := TX3) E hK (oneO (dT := dT) hP) (if_pos rfl) rfl in_X3 1 (by decide) (hts _ q405) (fun _ z => z) (v := .int (μ39 1 0)) rfl dX3_next_146 ?_
      refine lv_iconst (v := nI 1) hx hb dX3_next_149 rfl ?_
      refine lv_iadd hx hb dX3_next_150 ?_
      obtain ⟨μ40, hμ40, hf⟩ := ob hf
      refine gp_put (C := RX3) (T := TX3) (ty := .int) E hK (oneO (dT := dT) hP) hS (rfl : rA a a) (if_pos rfl) rfl in_X3 tyX3 tyX3_ok nmX3 1 (by decide) (hts _ q405) (fun _ z => z) rfl rfl rfl rfl dX3_next_151 (fun H locs hP _ hS => ?_)
      have hP := RD_put (by decide) hμ40 hP
      refine lv_goto (tgt := 105) hx hb dX3_next_154 (by decide) ?_
      cases hf
      exact hk _ _ _ (lv_sub hl [0] rfl) hP hS
set_option maxHeartbeats 4000000 in
theorem fr_next_L62_w {p : Program} {l : Launch} {e : Env} {s : State} {m : MethodId} {args : Array Value} {below : List Frame} {meth : Method} {c : Code} {D : va_G} {dT : Nat → ClassId} {Q : State → Prop} {a g : Nat} {ξ σ : nwM} {β ρ : Nat → Nat} {Z : nwZ} (E : CallFix p m c cX3_next 1 s args lw_all RX3) (hK : va_K D nwCl (nwT dT) s) (hE : EV D dT s) (hB : RB D dT a g ξ β σ ρ Z s) {st : nwM} {x : nwM} (hw : wh_ (fr_next_L62 ξ) st = some x) (hk : (fun x : nwM => ∀ (ls : Array Slot) (H : Heap) (locs : List Loc), lv_has ls 1 [(0, .ref a)] → RD D a g x H → va_S (rA a) s.heap H locs → W p l e (rmd 8) s m args below meth c H locs 0 0 Q (F0 m 82 ls [])) x) : (fun st : nwM => ∀ (ls : Array Slot) (H : Heap) (locs : List Loc), lv_has ls 1 [(0, .ref a)] → RD D a g st H → va_S (rA a) s.heap H locs → W p l e (rmd 8) s m args below meth c H locs 0 0 Q (F0 m 62 ls [])) st := by
  obtain ⟨hx, hb, hml, hown, hts⟩ := id E
  refine wh_run (P := (fun st : nwM => ∀ (ls : Array Slot) (H : Heap) (locs : List Loc), lv_has ls 1 [(0, .ref a)] → RD D a g st H → va_S (rA a) s.heap H locs → W p l e (rmd 8) s m args below meth c H locs 0 0 Q (F0 m 62 ls []))) (PE := (fun x : nwM => ∀ (ls : Array Slot) (H : Heap) (locs : List Loc), lv_has ls 1 [(0, .ref a)] → RD D a g x H → va_S (rA a) s.heap H locs → W p l e (rmd 8) s m args below meth c H locs 0 0 Q (F0 m 82 ls []))) ?_ hw hk
  clear hw hk
  intro st x hf hk ls H locs hl hP hS
  refine lv_aload_n hx hb dX3_next_62 rfl (lv_at hl 0 rfl) ?_
  obtain ⟨v46, hc45, hf⟩ := ob hf
  refine k_vi (Pic := RP D dT a g ξ β σ ρ Z st) (Pic1 := fun H => RD D a g st H) (A1 := fun _ => False) E hS (fun _ _ z => z.elim) (fun _ z => z.elim) (As := []) (tr_isLetter l D dT a g ξ β σ ρ Z st _ hc45) RP_bl (RP_pre hB hP hS (fun _ z => Or.inl z)) (RD_recv hK hP) (lw_V q440 q442 qs4 q167 q443) dr_isLetter rfl ⟨rfl, rfl⟩ (rmd_ok (by decide) (by decide)) ⟨Nat.le_refl 0, Nat.le_refl 0⟩ hl rfl (Nat.le_of_ble_eq_true rfl) dX3_next_63 (fun H locs hP _ _ hS => ?_)
  refine lv_if_eq (tgt := 82) hx hb dX3_next_66 (by decide) (fun kc47 => ?_) (fun kc47 => ?_)
  · have hf := ite_t kc47 hf
    cases hf
    exact hk _ _ _ (lv_sub hl [0] rfl) hP hS
  · have hf := ite_f kc47 hf
    refine lv_aload_n hx hb dX3_next_69 rfl (lv_at hl 0 rfl) ?_
    refine lv_dup hx hb dX3_next_70 rfl ?_
    refine gp_get (C := RX3) (T := TX3) E hK (oneO (dT := dT) hP) (if_pos rfl) rfl in_X3 1 (by decide) (hts _ q405) (fun _ z => z) (v := .int (st 1 0)) rfl dX3_next_71 ?_
    refine lv_iconst (v := nI 1) hx hb dX3_next_74 rfl ?_
    refine lv_iadd hx hb dX3_next_75 ?_
    obtain ⟨μ48, hμ48, hf⟩ := ob hf
    refine gp_put (C := RX3) (T := TX3) (ty := .int) E hK (oneO (dT := dT) hP) hS (rfl : rA a a) (if_pos rfl) rfl in_X3 tyX3 tyX3_ok nmX3 1 (by decide) (hts _ q405) (fun _ z => z) rfl rfl rfl rfl dX3_next_76 (fun H locs hP _ hS => ?_)
    have hP := RD_put (by decide) hμ48 hP
    refine lv_goto (tgt := 62) hx hb dX3_next_79 (by decide) ?_
    cases hf
    exact hk _ _ _ (lv_sub hl [0] rfl) hP hS
set_option maxHeartbeats 4000000 in
theorem dr_next : yX3_next.cls = RX3 ∧ yX3_next.cls ≠ "java/lang/invoke/MethodHandle" ∧ yX3_next.cls ≠ "java/lang/invoke/VarHandle" ∧ (parseMethodDescriptor yX3_next.desc).map (fun d => d.parameters.length) = some 0 := ⟨rfl, by decide +kernel, by decide +kernel, by decide +kernel⟩
set_option maxHeartbeats 4000000 in
theorem tr_next (l : Launch) (D : va_G) (dT : Nat → ClassId) (a g : Nat) (ξ : nwM) (β : Nat → Nat) (σ : nwM) (ρ : Nat → Nat) (Z : nwZ) (μ : nwM) (res : nwM) (hf : fr_next ξ μ = some res) : Met l yX3_next (ws_ yX3_next cX3_next 1 none) (rmd 8) (va_Pc [.ref a] (RP D dT a g ξ β σ ρ Z μ)) (va_Qv (fun (_ : Unit) => True) (fun _ t => RD D a g res t.heap) (rA a)) 0 0 (rA a) := by
  refine k_met (own := RX3) (by decide) rfl (Nat.le_of_ble_eq_true rfl) ?_
  intro p e s m below meth c ls E hP hr hlk hl _
  obtain ⟨hP, hB⟩ := hP
  have hE := hB.2.1
  have hK := hE.1
  have hS : va_S (rA a) s.heap s.heap [] := va_S.rf
  obtain ⟨hx, hb, hml, hown, hts⟩ := id E
  have hl : lv_has ls 1 [(0, .ref a)] := hl
  unfold fr_next at hf
  obtain ⟨x9, hx9, hf⟩ := ob hf
  refine fr_next_L0_w E hK hE hB hx9 (fun ls H locs hl hP hS => ?_) _ _ _ (lv_sub hl [0] rfl) hP hS
  refine lv_aload_n hx hb dX3_next_31 rfl (lv_at hl 0 rfl) ?_
  refine lv_aload_n hx hb dX3_next_32 rfl (lv_at hl 0 rfl) ?_
  refine gp_get (C := RX3) (T := TX3) E hK (oneO (dT := dT) hP) (if_pos rfl) rfl in_X3 1 (by decide) (hts _ q405) (fun _ z => z) (v := .int (x9 1 0)) rfl dX3_next_33 ?_
  obtain ⟨μ10, hμ10, hf⟩ := ob hf
  refine gp_put (C := RX3) (T := TX3) (ty := .int) E hK (oneO (dT := dT) hP) hS (rfl : rA a a) (if_pos rfl) rfl in_X3 tyX3 tyX3_ok nmX3 2 (by decide) (hts _ q406) (fun _ z => z) rfl rfl rfl rfl dX3_next_36 (fun H locs hP _ hS => ?_)
  have hP := RD_put (by decide) hμ10 hP
  refine lv_aload_n hx hb dX3_next_39 rfl (lv_at hl 0 rfl) ?_
  obtain ⟨v12, hc11, hf⟩ := ob hf
  refine k_vi (Pic := RP D dT a g ξ β σ ρ Z μ10) (Pic1 := fun H => RD D a g μ10 H) (A1 := fun _ => False) E hS (fun _ _ z => z.elim) (fun _ z => z.elim) (As := []) (tr_see l D dT a g ξ β σ ρ Z μ10 _ hc11) RP_bl (RP_pre hB hP hS (fun _ z => Or.inl z)) (RD_recv hK hP) (lw_V q436 q438 qs3 q167 q439) dr_see rfl ⟨rfl, rfl⟩ (rmd_ok (by decide) (by decide)) ⟨Nat.le_refl 0, Nat.le_refl 0⟩ hl rfl (Nat.le_of_ble_eq_true rfl) dX3_next_40 (fun H locs hP _ _ hS => ?_)
  refine lv_iconst (v := (-1)) hx hb dX3_next_43 rfl ?_
  refine lv_icmp_ne (tgt := 55) hx hb dX3_next_44 (by decide) (fun kc13 => ?_) (fun kc13 => ?_)
  · have hf := ite_f kc13 hf
    refine lv_aload_n hx hb dX3_next_55 rfl (lv_at hl 0 rfl) ?_
    obtain ⟨v15, hc14, hf⟩ := ob hf
    refine k_vi (Pic := RP D dT a g ξ β σ ρ Z μ10) (Pic1 := fun H => RD D a g μ10 H) (A1 := fun _ => False) E hS (fun _ _ z => z.elim) (fun _ z => z.elim) (As := []) (tr_isLetter l D dT a g ξ β σ ρ Z μ10 _ hc14) RP_bl (RP_pre hB hP hS (fun _ z => Or.inl z)) (RD_recv hK hP) (lw_V q440 q442 qs4 q167 q443) dr_isLetter rfl ⟨rfl, rfl⟩ (rmd_ok (by decide) (by decide)) ⟨Nat.le_refl 0, Nat.le_refl 0⟩ hl rfl (Nat.le_of_ble_eq_true rfl) dX3_next_56 (fun H locs hP _ _ hS => ?_)
    refine lv_if_eq (tgt := 93) hx hb dX3_next_59 (by decide) (fun kc16 => ?_) (fun kc16 => ?_)
    · have hf := ite_t kc16 hf
      refine lv_aload_n hx hb dX3_next_93 rfl (lv_at hl 0 rfl) ?_
      obtain ⟨v18, hc17, hf⟩ := ob hf
      refine k_vi (Pic := RP D dT a g ξ β σ ρ Z μ10) (Pic1 := fun H => RD D a g μ10 H) (A1 := fun _ => False) E hS (fun _ _ z => z.elim) (fun _ z => z.elim) (As := []) (tr_isDigit l D dT a g ξ β σ ρ Z μ10 _ hc17) RP_bl (RP_pre hB hP hS (fun _ z => Or.inl z)) (RD_recv hK hP) (lw_V q557 q559 qs13 q167 q560) dr_isDigit rfl ⟨rfl, rfl⟩ (rmd_ok (by decide) (by decide)) ⟨Nat.le_refl 0, Nat.le_refl 0⟩ hl rfl (Nat.le_of_ble_eq_true rfl) dX3_next_94 (fun H locs hP _ _ hS => ?_)
      refine lv_if_eq (tgt := 182) hx hb dX3_next_97 (by decide) (fun kc19 => ?_) (fun kc19 => ?_)
      · have hf := ite_t kc19 hf
        refine lv_aload_n hx hb dX3_next_182 rfl (lv_at hl 0 rfl) ?_
        refine lv_aload_n hx hb dX3_next_183 rfl (lv_at hl 0 rfl) ?_
        refine lv_aload_n hx hb dX3_next_184 rfl (lv_at hl 0 rfl) ?_
        obtain ⟨v21, hc20, hf⟩ := ob hf
        refine k_vi (Pic := RP D dT a g ξ β σ ρ Z μ10) (Pic1 := fun H => RD D a g μ10 H) (A1 := fun _ => False) E hS (fun _ _ z => z.elim) (fun _ z => z.elim) (As := []) (tr_see l D dT a g ξ β σ ρ Z μ10 _ hc20) RP_bl (RP_pre hB hP hS (fun _ z => Or.inl z)) (RD_recv hK hP) (lw_V q436 q438 qs3 q167 q439) dr_see rfl ⟨rfl, rfl⟩ (rmd_ok (by decide) (by decide)) ⟨Nat.le_refl 0, Nat.le_refl 0⟩ hl rfl (Nat.le_of_ble_eq_true rfl) dX3_next_185 (fun H locs hP _ _ hS => ?_)
        obtain ⟨v23, hc22, hf⟩ := ob hf
        refine k_vi (Pic := RP D dT a g ξ β σ ρ Z μ10) (Pic1 := fun H => RD D a g μ10 H) (A1 := fun _ => False) E hS (fun _ _ z => z.elim) (fun _ z => z.elim) (As := [.int v21]) (tr_isMark l D dT a g ξ β σ ρ Z v21 μ10 _ hc22) RP_bl (RP_pre hB hP hS (fun _ z => Or.inl z)) (RD_recv hK hP) (lw_V q561 q563 qs14 q167 q564) dr_isMark rfl ⟨rfl, rfl⟩ (rmd_ok (by decide) (by decide)) ⟨Nat.le_refl 0, Nat.le_refl 0⟩ hl rfl (Nat.le_of_ble_eq_true rfl) dX3_next_188 (fun H locs hP _ _ hS => ?_)
        refine lv_if_eq (tgt := 201) hx hb dX3_next_191 (by decide) (fun kc24 => ?_) (fun kc24 => ?_)
        · have hf := ite_t kc24 hf
          refine lv_iconst (v := nI 1) hx hb dX3_next_201 rfl ?_
          obtain ⟨μ25, hμ25, hf⟩ := ob hf
          refine gp_put (C := RX3) (T := TX3) (ty := .int) E hK (oneO (dT := dT) hP) hS (rfl : rA a a) (if_pos rfl) rfl in_X3 tyX3 tyX3_ok nmX3 3 (by decide) (hts _ q407) (fun _ z => z) rfl rfl rfl rfl dX3_next_202 (fun H locs hP _ hS => ?_)
          have hP := RD_put (by decide) hμ25 hP
          refine lv_aload_n hx hb dX3_next_205 rfl (lv_at hl 0 rfl) ?_
          refine lv_dup hx hb dX3_next_206 rfl ?_
          refine gp_get (C := RX3) (T := TX3) E hK (oneO (dT := dT) hP) (if_pos rfl) rfl in_X3 1 (by decide) (hts _ q405) (fun _ z => z) (v := .int (μ25 1 0)) rfl dX3_next_207 ?_
          refine lv_iconst (v := nI 1) hx hb dX3_next_210 rfl ?_
          refine lv_iadd hx hb dX3_next_211 ?_
          obtain ⟨μ26, hμ26, hf⟩ := ob hf
          refine gp_put (C := RX3) (T := TX3) (ty := .int) E hK (oneO (dT := dT) hP) hS (rfl : rA a a) (if_pos rfl) rfl in_X3 tyX3 tyX3_ok nmX3 1 (by decide) (hts _ q405) (fun _ z => z) rfl rfl rfl rfl dX3_next_212 (fun H locs hP _ hS => ?_)
          have hP := RD_put (by decide) hμ26 hP
          cases hf
          exact g_vret (Pic := fun H => RD D a g _ H) E hr hlk hP hS dX3_next_215
        · have hf := ite_f kc24 hf
          refine lv_aload_n hx hb dX3_next_194 rfl (lv_at hl 0 rfl) ?_
          obtain ⟨v28, hc27, hf⟩ := ob hf
          refine k_vi (Pic := RP D dT a g ξ β σ ρ Z μ10) (Pic1 := fun H => RD D a g μ10 H) (A1 := fun _ => False) E hS (fun _ _ z => z.elim) (fun _ z => z.elim) (As := []) (tr_see l D dT a g ξ β σ ρ Z μ10 _ hc27) RP_bl (RP_pre hB hP hS (fun _ z => Or.inl z)) (RD_recv hK hP) (lw_V q436 q438 qs3 q167 q439) dr_see rfl ⟨rfl, rfl⟩ (rmd_ok (by decide) (by decide)) ⟨Nat.le_refl 0, Nat.le_refl 0⟩ hl rfl (Nat.le_of_ble_eq_true rfl) dX3_next_195 (fun H locs hP _ _ hS => ?_)
          refine lv_goto (tgt := 202) hx hb dX3_next_198 (by decide) ?_
          obtain ⟨μ29, hμ29, hf⟩ := ob hf
          refine gp_put (C := RX3) (T := TX3) (ty := .int) E hK (oneO (dT := dT) hP) hS (rfl : rA a a) (if_pos rfl) rfl in_X3 tyX3 tyX3_ok nmX3 3 (by decide) (hts _ q407) (fun _ z => z) rfl rfl rfl rfl dX3_next_202 (fun H locs hP _ hS => ?_)
          have hP := RD_put (by decide) hμ29 hP
          refine lv_aload_n hx hb dX3_next_205 rfl (lv_at hl 0 rfl) ?_
          refine lv_dup hx hb dX3_next_206 rfl ?_
          refine gp_get (C := RX3) (T := TX3) E hK (oneO (dT := dT) hP) (if_pos rfl) rfl in_X3 1 (by decide) (hts _ q405) (fun _ z => z) (v := .int (μ29 1 0)) rfl dX3_next_207 ?_
          refine lv_iconst (v := nI 1) hx hb dX3_next_210 rfl ?_
          refine lv_iadd hx hb dX3_next_211 ?_
          obtain ⟨μ30, hμ30, hf⟩ := ob hf
          refine gp_put (C := RX3) (T := TX3) (ty := .int) E hK (oneO (dT := dT) hP) hS (rfl : rA a a) (if_pos rfl) rfl in_X3 tyX3 tyX3_ok nmX3 1 (by decide) (hts _ q405) (fun _ z => z) rfl rfl rfl rfl dX3_next_212 (fun H locs hP _ hS => ?_)
          have hP := RD_put (by decide) hμ30 hP
          cases hf
          exact g_vret (Pic := fun H => RD D a g _ H) E hr hlk hP hS dX3_next_215
      · have hf := ite_f kc19 hf
        refine lv_aload_n hx hb dX3_next_100 rfl (lv_at hl 0 rfl) ?_
        refine lv_iconst (v := nI 0) hx hb dX3_next_101 rfl ?_
        obtain ⟨μ31, hμ31, hf⟩ := ob hf
        refine gp_put (C := RX3) (T := TX3) (ty := .int) E hK (oneO (dT := dT) hP) hS (rfl : rA a a) (if_pos rfl) rfl in_X3 tyX3 tyX3_ok nmX3 4 (by decide) (hts _ q408) (fun _ z => z) rfl rfl rfl rfl dX3_next_102 (fun H locs hP _ hS => ?_)
        have hP := RD_put (by decide) hμ31 hP
        obtain ⟨x41, hx41, hf⟩ := ob hf
        refine fr_next_L105_w E hK hE hB hx41 (fun ls H locs hl hP hS => ?_) _ _ _ (lv_sub hl [0] rfl) hP hS
        refine lv_aload_n hx hb dX3_next_157 rfl (lv_at hl 0 rfl) ?_
        refine lv_aload_n hx hb dX3_next_158 rfl (lv_at hl 0 rfl) ?_
        refine gp_get (C := RX3) (T := TX3) E hK (oneO (dT := dT) hP) (if_pos rfl) rfl in_X3 1 (by decide) (hts _ q405) (fun _ z => z) (v := .int (x41 1 0)) rfl dX3_next_159 ?_
        refine lv_aload_n hx hb dX3_next_162 rfl (lv_at hl 0 rfl) ?_
        refine gp_get (C := RX3) (T := TX3) E hK (oneO (dT := dT) hP) (if_pos rfl) rfl in_X3 2 (by decide) (hts _ q406) (fun _ z => z) (v := .int (x41 2 0)) rfl dX3_next_163 ?_
        refine lv_isub hx hb dX3_next_166 ?_
        refine lv_iconst (v := nI 5) hx hb dX3_next_167 rfl ?_
        refine lv_icmp_ge (tgt := 175) hx hb dX3_next_168 (by decide) (fun kc42 => ?_) (fun kc42 => ?_)
        · have hf := ite_t kc42 hf
          refine lv_iconst (v := nI 1) hx hb dX3_next_175 rfl ?_
          obtain ⟨μ43, hμ43, hf⟩ := ob hf
          refine gp_put (C := RX3) (T := TX3) (ty := .int) E hK (oneO (dT := dT) hP) hS (rfl : rA a a) (if_pos rfl) rfl in_X3 tyX3 tyX3_ok nmX3 3 (by decide) (hts _ q407) (fun _ z => z) rfl rfl rfl rfl dX3_next_176 (fun H locs hP _ hS => ?_)
          have hP := RD_put (by decide) hμ43 hP
          refine lv_goto (tgt := 215) hx hb dX3_next_179 (by decide) ?_
          cases hf
          exact g_vret (Pic := fun H => RD D a g _ H) E hr hlk hP hS dX3_next_215
        · have hf := ite_f kc42 hf
          refine lv_iconst (v := nI 2) hx hb dX3_next_171 rfl ?_
          refine lv_goto (tgt := 176) hx hb dX3_next_172 (by decide) ?_
          obtain ⟨μ44, hμ44, hf⟩ := ob hf
          refine gp_put (C := RX3) (T := TX3) (ty := .int) E hK (oneO (dT := dT) hP) hS (rfl : rA a a) (if_pos rfl) rfl in_X3 tyX3 tyX3_ok nmX3 3 (by decide) (hts _ q407) (fun _ z => z) rfl rfl rfl rfl dX3_next_176 (fun H locs hP _ hS => ?_)
          have hP := RD_put (by decide) hμ44 hP
          refine lv_goto (tgt := 215) hx hb dX3_next_179 (by decide) ?_
          cases hf
          exact g_vret (Pic := fun H => RD D a g _ H) E hr hlk hP hS dX3_next_215
    · have hf := ite_f kc16 hf
      obtain ⟨x49, hx49, hf⟩ := ob hf
      refine fr_next_L62_w E hK hE hB hx49 (fun ls H locs hl hP hS => ?_) _ _ _ (lv_sub hl [0] rfl) hP hS
      refine lv_aload_n hx hb dX3_next_82 rfl (lv_at hl 0 rfl) ?_
      refine lv_aload_n hx hb dX3_next_83 rfl (lv_at hl 0 rfl) ?_
      obtain ⟨v51, hc50, hf⟩ := ob hf
      refine k_vi (Pic := RP D dT a g ξ β σ ρ Z x49) (Pic1 := fun H => RD D a g x49 H) (A1 := fun _ => False) E hS (fun _ _ z => z.elim) (fun _ z => z.elim) (As := []) (tr_keyword l D dT a g ξ β σ ρ Z x49 _ hc50) RP_bl (RP_pre hB hP hS (fun _ z => Or.inl z)) (RD_recv hK hP) (lw_V q445 q447 qs5 q167 q448) dr_keyword rfl ⟨rfl, rfl⟩ (rmd_ok (by decide) (by decide)) ⟨Nat.le_refl 0, Nat.le_refl 0⟩ hl rfl (Nat.le_of_ble_eq_true rfl) dX3_next_84 (fun H locs hP _ _ hS => ?_)
      obtain ⟨μ52, hμ52, hf⟩ := ob hf
      refine gp_put (C := RX3) (T := TX3) (ty := .int) E hK (oneO (dT := dT) hP) hS (rfl : rA a a) (if_pos rfl) rfl in_X3 tyX3 tyX3_ok nmX3 3 (by decide) (hts _ q407) (fun _ z => z) rfl rfl rfl rfl dX3_next_87 (fun H locs hP _ hS => ?_)
      have hP := RD_put (by decide) hμ52 hP
      refine lv_goto (tgt := 215) hx hb dX3_next_90 (by decide) ?_
      cases hf
      exact g_vret (Pic := fun H => RD D a g _ H) E hr hlk hP hS dX3_next_215
  · have hf := ite_t kc13 hf
    refine lv_aload_n hx hb dX3_next_47 rfl (lv_at hl 0 rfl) ?_
    refine lv_iconst (v := nI 0) hx hb dX3_next_48 rfl ?_
    obtain ⟨μ53, hμ53, hf⟩ := ob hf
    refine gp_put (C := RX3) (T := TX3) (ty := .int) E hK (oneO (dT := dT) hP) hS (rfl : rA a a) (if_pos rfl) rfl in_X3 tyX3 tyX3_ok nmX3 3 (by decide) (hts _ q407) (fun _ z => z) rfl rfl rfl rfl dX3_next_49 (fun H locs hP _ hS => ?_)
    have hP := RD_put (by decide) hμ53 hP
    refine lv_goto (tgt := 215) hx hb dX3_next_52 (by decide) ?_
    cases hf
    exact g_vret (Pic := fun H => RD D a g _ H) E hr hlk hP hS dX3_next_215
