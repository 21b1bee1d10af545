/-! walks, written by my programs -/
set_option maxRecDepth 100000
set_option maxHeartbeats 4000000 in
def fo_Quench_isOf (x1 : Int32) (x2 : Int32) (μ : nwQ) : Option (Int32) := (if μ.1 = x1 then (if μ.2.1 = x2 then some (nI 1) else (if μ.1 = x2 then (if μ.2.1 = x1 then some (nI 1) else some (nI 0)) else some (nI 0))) else (if μ.1 = x2 then (if μ.2.1 = x1 then some (nI 1) else some (nI 0)) else some (nI 0)))
set_option maxHeartbeats 4000000 in
theorem do_Quench_isOf : yX11_isOf.cls ≠ "java/lang/invoke/MethodHandle" ∧ yX11_isOf.cls ≠ "java/lang/invoke/VarHandle" ∧ (parseMethodDescriptor yX11_isOf.desc).map (fun d => d.parameters.length) = some 2 := ⟨by decide +kernel, by decide +kernel, by decide +kernel⟩
set_option maxHeartbeats 4000000 in
theorem to_Quench_isOf (l : Launch) (D : va_G) (dT : Nat → ClassId) (a : Nat) (x1 : Int32) (x2 : Int32) (μ : nwQ) (res : Int32) (hf : fo_Quench_isOf x1 x2 μ = some res) : Met l yX11_isOf (ws_ yX11_isOf cX11_isOf 3 (some .boolean)) (rmd 0) (va_Pc [.ref a, .int x1, .int x2] (fun U => oO D 10 3 [.int μ.1, .int μ.2.1, .int μ.2.2] nN a U.heap ∧ EV D dT U)) (pQi res) 0 0 nN := by
  refine g_met (D := D) (dT := dT) (A := nN) (own := RX11) (Pic := fun H => oO D 10 3 [.int μ.1, .int μ.2.1, .int μ.2.2] nN a H) (by decide) rfl (Nat.le_of_ble_eq_true rfl) ?_
  intro p e s m below meth c ls E hE hr hlk hl hP
  have hK := hE.1
  have hS : va_S nN s.heap s.heap [] := va_S.rf
  obtain ⟨hx, hb, hml, hown, hts⟩ := id E
  have hl : lv_has ls 3 [(0, .ref a), (1, .int x1), (2, .int x2)] := hl
  unfold fo_Quench_isOf at hf
  refine lv_aload_n hx hb dX11_isOf_0 rfl (lv_at hl 0 rfl) ?_
  refine o_get (C := RX11) (T := TX11) E hK hP rfl in_X11 0 (by decide) (hts _ q824) (fun _ z => z) (v := .int μ.1) rfl dX11_isOf_1 ?_
  refine lv_iload_n hx hb dX11_isOf_4 rfl (lv_at hl 1 rfl) ?_
  refine lv_icmp_ne (tgt := 16) hx hb dX11_isOf_5 (by decide) (fun kc1 => ?_) (fun kc1 => ?_)
  · have hf := ite_f kc1 hf
    refine lv_aload_n hx hb dX11_isOf_16 rfl (lv_at hl 0 rfl) ?_
    refine o_get (C := RX11) (T := TX11) E hK hP rfl in_X11 0 (by decide) (hts _ q824) (fun _ z => z) (v := .int μ.1) rfl dX11_isOf_17 ?_
    refine lv_iload_n hx hb dX11_isOf_20 rfl (lv_at hl 2 rfl) ?_
    refine lv_icmp_ne (tgt := 36) hx hb dX11_isOf_21 (by decide) (fun kc2 => ?_) (fun kc2 => ?_)
    · have hf := ite_f kc2 hf
      refine lv_iconst (v := nI 0) hx hb dX11_isOf_36 rfl ?_
      cases hf
      exact g_zret (Pic := fun _ => True) E hr hlk trivial hS rfl dX11_isOf_37
    · have hf := ite_t kc2 hf
      refine lv_aload_n hx hb dX11_isOf_24 rfl (lv_at hl 0 rfl) ?_
      refine o_get (C := RX11) (T := TX11) E hK hP rfl in_X11 1 (by decide) (hts _ q826) (fun _ z => z) (v := .int μ.2.1) rfl dX11_isOf_25 ?_
      refine lv_iload_n hx hb dX11_isOf_28 rfl (lv_at hl 1 rfl) ?_
      refine lv_icmp_ne (tgt := 36) hx hb dX11_isOf_29 (by decide) (fun kc3 => ?_) (fun kc3 => ?_)
      · have hf := ite_f kc3 hf
        refine lv_iconst (v := nI 0) hx hb dX11_isOf_36 rfl ?_
        cases hf
        exact g_zret (Pic := fun _ => True) E hr hlk trivial hS rfl dX11_isOf_37
      · have hf := ite_t kc3 hf
        refine lv_iconst (v := nI 1) hx hb dX11_isOf_32 rfl ?_
        refine lv_goto (tgt := 37) hx hb dX11_isOf_33 (by decide) ?_
        cases hf
        exact g_zret (Pic := fun _ => True) E hr hlk trivial hS rfl dX11_isOf_37
  · have hf := ite_t kc1 hf
    refine lv_aload_n hx hb dX11_isOf_8 rfl (lv_at hl 0 rfl) ?_
    refine o_get (C := RX11) (T := TX11) E hK hP rfl in_X11 1 (by decide) (hts _ q826) (fun _ z => z) (v := .int μ.2.1) rfl dX11_isOf_9 ?_
    refine lv_iload_n hx hb dX11_isOf_12 rfl (lv_at hl 2 rfl) ?_
    refine lv_icmp_eq (tgt := 32) hx hb dX11_isOf_13 (by decide) (fun kc4 => ?_) (fun kc4 => ?_)
    · have hf := ite_t kc4 hf
      refine lv_iconst (v := nI 1) hx hb dX11_isOf_32 rfl ?_
      refine lv_goto (tgt := 37) hx hb dX11_isOf_33 (by decide) ?_
      cases hf
      exact g_zret (Pic := fun _ => True) E hr hlk trivial hS rfl dX11_isOf_37
    · have hf := ite_f kc4 hf
      refine lv_aload_n hx hb dX11_isOf_16 rfl (lv_at hl 0 rfl) ?_
      refine o_get (C := RX11) (T := TX11) E hK hP rfl in_X11 0 (by decide) (hts _ q824) (fun _ z => z) (v := .int μ.1) rfl dX11_isOf_17 ?_
      refine lv_iload_n hx hb dX11_isOf_20 rfl (lv_at hl 2 rfl) ?_
      refine lv_icmp_ne (tgt := 36) hx hb dX11_isOf_21 (by decide) (fun kc5 => ?_) (fun kc5 => ?_)
      · have hf := ite_f kc5 hf
        refine lv_iconst (v := nI 0) hx hb dX11_isOf_36 rfl ?_
        cases hf
        exact g_zret (Pic := fun _ => True) E hr hlk trivial hS rfl dX11_isOf_37
      · have hf := ite_t kc5 hf
        refine lv_aload_n hx hb dX11_isOf_24 rfl (lv_at hl 0 rfl) ?_
        refine o_get (C := RX11) (T := TX11) E hK hP rfl in_X11 1 (by decide) (hts _ q826) (fun _ z => z) (v := .int μ.2.1) rfl dX11_isOf_25 ?_
        refine lv_iload_n hx hb dX11_isOf_28 rfl (lv_at hl 1 rfl) ?_
        refine lv_icmp_ne (tgt := 36) hx hb dX11_isOf_29 (by decide) (fun kc6 => ?_) (fun kc6 => ?_)
        · have hf := ite_f kc6 hf
          refine lv_iconst (v := nI 0) hx hb dX11_isOf_36 rfl ?_
          cases hf
          exact g_zret (Pic := fun _ => True) E hr hlk trivial hS rfl dX11_isOf_37
        · have hf := ite_t kc6 hf
          refine lv_iconst (v := nI 1) hx hb dX11_isOf_32 rfl ?_
          refine lv_goto (tgt := 37) hx hb dX11_isOf_33 (by decide) ?_
          cases hf
          exact g_zret (Pic := fun _ => True) E hr hlk trivial hS rfl dX11_isOf_37
set_option maxHeartbeats 4000000 in
def fo_Deed_isOf (x1 : Int32) (μ : nwD) : Option (Int32) := (if μ.2.1 = x1 then some (nI 1) else some (nI 0))
set_option maxHeartbeats 4000000 in
theorem do_Deed_isOf : yX15_isOf.cls ≠ "java/lang/invoke/MethodHandle" ∧ yX15_isOf.cls ≠ "java/lang/invoke/VarHandle" ∧ (parseMethodDescriptor yX15_isOf.desc).map (fun d => d.parameters.length) = some 1 := ⟨by decide +kernel, by decide +kernel, by decide +kernel⟩
set_option maxHeartbeats 4000000 in
theorem to_Deed_isOf (l : Launch) (D : va_G) (dT : Nat → ClassId) (a : Nat) (x1 : Int32) (μ : nwD) (res : Int32) (hf : fo_Deed_isOf x1 μ = some res) : Met l yX15_isOf (ws_ yX15_isOf cX15_isOf 2 (some .boolean)) (rmd 0) (va_Pc [.ref a, .int x1] (fun U => oO D 14 3 [.int μ.2.1, .int μ.2.2.1, .int μ.2.2.2] nN a U.heap ∧ EV D dT U)) (pQi res) 0 0 nN := by
  refine g_met (D := D) (dT := dT) (A := nN) (own := RX15) (Pic := fun H => oO D 14 3 [.int μ.2.1, .int μ.2.2.1, .int μ.2.2.2] nN a H) (by decide) rfl (Nat.le_of_ble_eq_true rfl) ?_
  intro p e s m below meth c ls E hE hr hlk hl hP
  have hK := hE.1
  have hS : va_S nN s.heap s.heap [] := va_S.rf
  obtain ⟨hx, hb, hml, hown, hts⟩ := id E
  have hl : lv_has ls 2 [(0, .ref a), (1, .int x1)] := hl
  unfold fo_Deed_isOf at hf
  refine lv_aload_n hx hb dX15_isOf_0 rfl (lv_at hl 0 rfl) ?_
  refine o_get (C := RX17) (T := TX17) E hK hP rfl in_X17 0 (by decide) (hts _ q899) (fun _ z => z) (v := .int μ.2.1) rfl dX15_isOf_1 ?_
  refine lv_iload_n hx hb dX15_isOf_4 rfl (lv_at hl 1 rfl) ?_
  refine lv_icmp_ne (tgt := 12) hx hb dX15_isOf_5 (by decide) (fun kc1 => ?_) (fun kc1 => ?_)
  · have hf := ite_f kc1 hf
    refine lv_iconst (v := nI 0) hx hb dX15_isOf_12 rfl ?_
    cases hf
    exact g_zret (Pic := fun _ => True) E hr hlk trivial hS rfl dX15_isOf_13
  · have hf := ite_t kc1 hf
    refine lv_iconst (v := nI 1) hx hb dX15_isOf_8 rfl ?_
    refine lv_goto (tgt := 13) hx hb dX15_isOf_9 (by decide) ?_
    cases hf
    exact g_zret (Pic := fun _ => True) E hr hlk trivial hS rfl dX15_isOf_13
set_option maxHeartbeats 4000000 in
def fo_Deed_who (μ : nwD) : Option (Int32) := some μ.2.2.1
set_option maxHeartbeats 4000000 in
theorem do_Deed_who : yX15_who.cls ≠ "java/lang/invoke/MethodHandle" ∧ yX15_who.cls ≠ "java/lang/invoke/VarHandle" ∧ (parseMethodDescriptor yX15_who.desc).map (fun d => d.parameters.length) = some 0 := ⟨by decide +kernel, by decide +kernel, by decide +kernel⟩
set_option maxHeartbeats 4000000 in
theorem to_Deed_who (l : Launch) (D : va_G) (dT : Nat → ClassId) (a : Nat) (μ : nwD) (res : Int32) (hf : fo_Deed_who μ = some res) : Met l yX15_who (ws_ yX15_who cX15_who 1 (some .int)) (rmd 0) (va_Pc [.ref a] (fun U => oO D 14 3 [.int μ.2.1, .int μ.2.2.1, .int μ.2.2.2] nN a U.heap ∧ EV D dT U)) (pQi res) 0 0 nN := by
  refine g_met (D := D) (dT := dT) (A := nN) (own := RX15) (Pic := fun H => oO D 14 3 [.int μ.2.1, .int μ.2.2.1, .int μ.2.2.2] nN a H) (by decide) rfl (Nat.le_of_ble_eq_true rfl) ?_
  intro p e s m below meth c ls E hE hr hlk hl hP
  have hK := hE.1
  have hS : va_S nN s.heap s.heap [] := va_S.rf
  obtain ⟨hx, hb, hml, hown, hts⟩ := id E
  have hl : lv_has ls 1 [(0, .ref a)] := hl
  unfold fo_Deed_who at hf
  refine lv_aload_n hx hb dX15_who_0 rfl (lv_at hl 0 rfl) ?_
  refine o_get (C := RX17) (T := TX17) E hK hP rfl in_X17 1 (by decide) (hts _ q900) (fun _ z => z) (v := .int μ.2.2.1) rfl dX15_who_1 ?_
  cases hf
  exact g_iret (Pic := fun _ => True) E hr hlk trivial hS rfl dX15_who_4
set_option maxHeartbeats 4000000 in
theorem to_Deed_isOf_15 (l : Launch) (D : va_G) (dT : Nat → ClassId) (a : Nat) (x1 : Int32) (μ : nwD) (res : Int32) (hf : fo_Deed_isOf x1 μ = some res) : Met l yX15_isOf (ws_ yX15_isOf cX15_isOf 2 (some .boolean)) (rmd 0) (va_Pc [.ref a, .int x1] (fun U => oO D 15 3 [.int μ.2.1, .int μ.2.2.1, .int μ.2.2.2] nN a U.heap ∧ EV D dT U)) (pQi res) 0 0 nN := by
  refine g_met (D := D) (dT := dT) (A := nN) (own := RX15) (Pic := fun H => oO D 15 3 [.int μ.2.1, .int μ.2.2.1, .int μ.2.2.2] nN a H) (by decide) rfl (Nat.le_of_ble_eq_true rfl) ?_
  intro p e s m below meth c ls E hE hr hlk hl hP
  have hK := hE.1
  have hS : va_S nN s.heap s.heap [] := va_S.rf
  obtain ⟨hx, hb, hml, hown, hts⟩ := id E
  have hl : lv_has ls 2 [(0, .ref a), (1, .int x1)] := hl
  unfold fo_Deed_isOf at hf
  refine lv_aload_n hx hb dX15_isOf_0 rfl (lv_at hl 0 rfl) ?_
  refine o_get (C := RX18) (T := TX18) E hK hP rfl in_X18 0 (by decide) (hts _ q899) (fun _ z => z) (v := .int μ.2.1) rfl dX15_isOf_1 ?_
  refine lv_iload_n hx hb dX15_isOf_4 rfl (lv_at hl 1 rfl) ?_
  refine lv_icmp_ne (tgt := 12) hx hb dX15_isOf_5 (by decide) (fun kc1 => ?_) (fun kc1 => ?_)
  · have hf := ite_f kc1 hf
    refine lv_iconst (v := nI 0) hx hb dX15_isOf_12 rfl ?_
    cases hf
    exact g_zret (Pic := fun _ => True) E hr hlk trivial hS rfl dX15_isOf_13
  · have hf := ite_t kc1 hf
    refine lv_iconst (v := nI 1) hx hb dX15_isOf_8 rfl ?_
    refine lv_goto (tgt := 13) hx hb dX15_isOf_9 (by decide) ?_
    cases hf
    exact g_zret (Pic := fun _ => True) E hr hlk trivial hS rfl dX15_isOf_13
set_option maxHeartbeats 4000000 in
theorem to_Deed_who_15 (l : Launch) (D : va_G) (dT : Nat → ClassId) (a : Nat) (μ : nwD) (res : Int32) (hf : fo_Deed_who μ = some res) : Met l yX15_who (ws_ yX15_who cX15_who 1 (some .int)) (rmd 0) (va_Pc [.ref a] (fun U => oO D 15 3 [.int μ.2.1, .int μ.2.2.1, .int μ.2.2.2] nN a U.heap ∧ EV D dT U)) (pQi res) 0 0 nN := by
  refine g_met (D := D) (dT := dT) (A := nN) (own := RX15) (Pic := fun H => oO D 15 3 [.int μ.2.1, .int μ.2.2.1, .int μ.2.2.2] nN a H) (by decide) rfl (Nat.le_of_ble_eq_true rfl) ?_
  intro p e s m below meth c ls E hE hr hlk hl hP
  have hK := hE.1
  have hS : va_S nN s.heap s.heap [] := va_S.rf
  obtain ⟨hx, hb, hml, hown, hts⟩ := id E
  have hl : lv_has ls 1 [(0, .ref a)] := hl
  unfold fo_Deed_who at hf
  refine lv_aload_n hx hb dX15_who_0 rfl (lv_at hl 0 rfl) ?_
  refine o_get (C := RX18) (T := TX18) E hK hP rfl in_X18 1 (by decide) (hts _ q900) (fun _ z => z) (v := .int μ.2.2.1) rfl dX15_who_1 ?_
  cases hf
  exact g_iret (Pic := fun _ => True) E hr hlk trivial hS rfl dX15_who_4
set_option maxHeartbeats 4000000 in
theorem to_Deed_isOf_13 (l : Launch) (D : va_G) (dT : Nat → ClassId) (a : Nat) (x1 : Int32) (μ : nwD) (res : Int32) (hf : fo_Deed_isOf x1 μ = some res) : Met l yX15_isOf (ws_ yX15_isOf cX15_isOf 2 (some .boolean)) (rmd 0) (va_Pc [.ref a, .int x1] (fun U => oO D 13 2 [.int μ.2.1, .int μ.2.2.1] nN a U.heap ∧ EV D dT U)) (pQi res) 0 0 nN := by
  refine g_met (D := D) (dT := dT) (A := nN) (own := RX15) (Pic := fun H => oO D 13 2 [.int μ.2.1, .int μ.2.2.1] nN a H) (by decide) rfl (Nat.le_of_ble_eq_true rfl) ?_
  intro p e s m below meth c ls E hE hr hlk hl hP
  have hK := hE.1
  have hS : va_S nN s.heap s.heap [] := va_S.rf
  obtain ⟨hx, hb, hml, hown, hts⟩ := id E
  have hl : lv_has ls 2 [(0, .ref a), (1, .int x1)] := hl
  unfold fo_Deed_isOf at hf
  refine lv_aload_n hx hb dX15_isOf_0 rfl (lv_at hl 0 rfl) ?_
  refine o_get (C := RX16) (T := TX16) E hK hP rfl in_X16 0 (by decide) (hts _ q899) (fun _ z => z) (v := .int μ.2.1) rfl dX15_isOf_1 ?_
  refine lv_iload_n hx hb dX15_isOf_4 rfl (lv_at hl 1 rfl) ?_
  refine lv_icmp_ne (tgt := 12) hx hb dX15_isOf_5 (by decide) (fun kc1 => ?_) (fun kc1 => ?_)
  · have hf := ite_f kc1 hf
    refine lv_iconst (v := nI 0) hx hb dX15_isOf_12 rfl ?_
    cases hf
    exact g_zret (Pic := fun _ => True) E hr hlk trivial hS rfl dX15_isOf_13
  · have hf := ite_t kc1 hf
    refine lv_iconst (v := nI 1) hx hb dX15_isOf_8 rfl ?_
    refine lv_goto (tgt := 13) hx hb dX15_isOf_9 (by decide) ?_
    cases hf
    exact g_zret (Pic := fun _ => True) E hr hlk trivial hS rfl dX15_isOf_13
set_option maxHeartbeats 4000000 in
theorem to_Deed_who_13 (l : Launch) (D : va_G) (dT : Nat → ClassId) (a : Nat) (μ : nwD) (res : Int32) (hf : fo_Deed_who μ = some res) : Met l yX15_who (ws_ yX15_who cX15_who 1 (some .int)) (rmd 0) (va_Pc [.ref a] (fun U => oO D 13 2 [.int μ.2.1, .int μ.2.2.1] nN a U.heap ∧ EV D dT U)) (pQi res) 0 0 nN := by
  refine g_met (D := D) (dT := dT) (A := nN) (own := RX15) (Pic := fun H => oO D 13 2 [.int μ.2.1, .int μ.2.2.1] nN a H) (by decide) rfl (Nat.le_of_ble_eq_true rfl) ?_
  intro p e s m below meth c ls E hE hr hlk hl hP
  have hK := hE.1
  have hS : va_S nN s.heap s.heap [] := va_S.rf
  obtain ⟨hx, hb, hml, hown, hts⟩ := id E
  have hl : lv_has ls 1 [(0, .ref a)] := hl
  unfold fo_Deed_who at hf
  refine lv_aload_n hx hb dX15_who_0 rfl (lv_at hl 0 rfl) ?_
  refine o_get (C := RX16) (T := TX16) E hK hP rfl in_X16 1 (by decide) (hts _ q900) (fun _ z => z) (v := .int μ.2.2.1) rfl dX15_who_1 ?_
  cases hf
  exact g_iret (Pic := fun _ => True) E hr hlk trivial hS rfl dX15_who_4
set_option maxHeartbeats 4000000 in
def fo_Want_island (μ : nwW) : Option (Int32) := some μ.2.2.1
set_option maxHeartbeats 4000000 in
theorem do_Want_island : yX12_island.cls ≠ "java/lang/invoke/MethodHandle" ∧ yX12_island.cls ≠ "java/lang/invoke/VarHandle" ∧ (parseMethodDescriptor yX12_island.desc).map (fun d => d.parameters.length) = some 0 := ⟨by decide +kernel, by decide +kernel, by decide +kernel⟩
set_option maxHeartbeats 4000000 in
theorem to_Want_island (l : Launch) (D : va_G) (dT : Nat → ClassId) (a : Nat) (μ : nwW) (res : Int32) (hf : fo_Want_island μ = some res) : Met l yX12_island (ws_ yX12_island cX12_island 1 (some .int)) (rmd 0) (va_Pc [.ref a] (fun U => oO D 11 3 [.int μ.2.2.1, .int μ.2.2.2.1, .int μ.2.2.2.2] nN a U.heap ∧ EV D dT U)) (pQi res) 0 0 nN := by
  refine g_met (D := D) (dT := dT) (A := nN) (own := RX12) (Pic := fun H => oO D 11 3 [.int μ.2.2.1, .int μ.2.2.2.1, .int μ.2.2.2.2] nN a H) (by decide) rfl (Nat.le_of_ble_eq_true rfl) ?_
  intro p e s m below meth c ls E hE hr hlk hl hP
  have hK := hE.1
  have hS : va_S nN s.heap s.heap [] := va_S.rf
  obtain ⟨hx, hb, hml, hown, hts⟩ := id E
  have hl : lv_has ls 1 [(0, .ref a)] := hl
  unfold fo_Want_island at hf
  refine lv_aload_n hx hb dX12_island_0 rfl (lv_at hl 0 rfl) ?_
  refine o_get (C := RX13) (T := TX13) E hK hP rfl in_X13 0 (by decide) (hts _ q854) (fun _ z => z) (v := .int μ.2.2.1) rfl dX12_island_1 ?_
  cases hf
  exact g_iret (Pic := fun _ => True) E hr hlk trivial hS rfl dX12_island_4
set_option maxHeartbeats 4000000 in
def fo_Want_kind (μ : nwW) : Option (Int32) := some (-1)
set_option maxHeartbeats 4000000 in
theorem do_Want_kind : yX12_kind.cls ≠ "java/lang/invoke/MethodHandle" ∧ yX12_kind.cls ≠ "java/lang/invoke/VarHandle" ∧ (parseMethodDescriptor yX12_kind.desc).map (fun d => d.parameters.length) = some 0 := ⟨by decide +kernel, by decide +kernel, by decide +kernel⟩
set_option maxHeartbeats 4000000 in
theorem to_Want_kind (l : Launch) (D : va_G) (dT : Nat → ClassId) (a : Nat) (μ : nwW) (res : Int32) (hf : fo_Want_kind μ = some res) : Met l yX12_kind (ws_ yX12_kind cX12_kind 1 (some .int)) (rmd 0) (va_Pc [.ref a] (fun U => oO D 11 3 [.int μ.2.2.1, .int μ.2.2.2.1, .int μ.2.2.2.2] nN a U.heap ∧ EV D dT U)) (pQi res) 0 0 nN := by
  refine g_met (D := D) (dT := dT) (A := nN) (own := RX12) (Pic := fun H => oO D 11 3 [.int μ.2.2.1, .int μ.2.2.2.1, .int μ.2.2.2.2] nN a H) (by decide) rfl (Nat.le_of_ble_eq_true rfl) ?_
  intro p e s m below meth c ls E hE hr hlk hl hP
  have hK := hE.1
  have hS : va_S nN s.heap s.heap [] := va_S.rf
  obtain ⟨hx, hb, hml, hown, hts⟩ := id E
  have hl : lv_has ls 1 [(0, .ref a)] := hl
  unfold fo_Want_kind at hf
  refine lv_iconst (v := (-1)) hx hb dX12_kind_0 rfl ?_
  cases hf
  exact g_iret (Pic := fun _ => True) E hr hlk trivial hS rfl dX12_kind_1
set_option maxHeartbeats 4000000 in
def fo_Want_much (μ : nwW) : Option (Int32) := some (nI 0)
set_option maxHeartbeats 4000000 in
theorem do_Want_much : yX12_much.cls ≠ "java/lang/invoke/MethodHandle" ∧ yX12_much.cls ≠ "java/lang/invoke/VarHandle" ∧ (parseMethodDescriptor yX12_much.desc).map (fun d => d.parameters.length) = some 0 := ⟨by decide +kernel, by decide +kernel, by decide +kernel⟩
set_option maxHeartbeats 4000000 in
theorem to_Want_much (l : Launch) (D : va_G) (dT : Nat → ClassId) (a : Nat) (μ : nwW) (res : Int32) (hf : fo_Want_much μ = some res) : Met l yX12_much (ws_ yX12_much cX12_much 1 (some .int)) (rmd 0) (va_Pc [.ref a] (fun U => oO D 11 3 [.int μ.2.2.1, .int μ.2.2.2.1, .int μ.2.2.2.2] nN a U.heap ∧ EV D dT U)) (pQi res) 0 0 nN := by
  refine g_met (D := D) (dT := dT) (A := nN) (own := RX12) (Pic := fun H => oO D 11 3 [.int μ.2.2.1, .int μ.2.2.2.1, .int μ.2.2.2.2] nN a H) (by decide) rfl (Nat.le_of_ble_eq_true rfl) ?_
  intro p e s m below meth c ls E hE hr hlk hl hP
  have hK := hE.1
  have hS : va_S nN s.heap s.heap [] := va_S.rf
  obtain ⟨hx, hb, hml, hown, hts⟩ := id E
  have hl : lv_has ls 1 [(0, .ref a)] := hl
  unfold fo_Want_much at hf
  refine lv_iconst (v := nI 0) hx hb dX12_much_0 rfl ?_
  cases hf
  exact g_iret (Pic := fun _ => True) E hr hlk trivial hS rfl dX12_much_1
set_option maxHeartbeats 4000000 in
theorem to_Want_island_12 (l : Launch) (D : va_G) (dT : Nat → ClassId) (a : Nat) (μ : nwW) (res : Int32) (hf : fo_Want_island μ = some res) : Met l yX12_island (ws_ yX12_island cX12_island 1 (some .int)) (rmd 0) (va_Pc [.ref a] (fun U => oO D 12 5 [.int μ.2.2.1, .int μ.2.2.2.1, .int μ.2.2.2.2, .int μ.1, .int μ.2.1] nN a U.heap ∧ EV D dT U)) (pQi res) 0 0 nN := by
  refine g_met (D := D) (dT := dT) (A := nN) (own := RX12) (Pic := fun H => oO D 12 5 [.int μ.2.2.1, .int μ.2.2.2.1, .int μ.2.2.2.2, .int μ.1, .int μ.2.1] nN a H) (by decide) rfl (Nat.le_of_ble_eq_true rfl) ?_
  intro p e s m below meth c ls E hE hr hlk hl hP
  have hK := hE.1
  have hS : va_S nN s.heap s.heap [] := va_S.rf
  obtain ⟨hx, hb, hml, hown, hts⟩ := id E
  have hl : lv_has ls 1 [(0, .ref a)] := hl
  unfold fo_Want_island at hf
  refine lv_aload_n hx hb dX12_island_0 rfl (lv_at hl 0 rfl) ?_
  refine o_get (C := RX14) (T := TX14) E hK hP rfl in_X14 0 (by decide) (hts _ q854) (fun _ z => z) (v := .int μ.2.2.1) rfl dX12_island_1 ?_
  cases hf
  exact g_iret (Pic := fun _ => True) E hr hlk trivial hS rfl dX12_island_4
set_option maxHeartbeats 4000000 in
def fo_SkyWant_kind (μ : nwW) : Option (Int32) := some μ.1
set_option maxHeartbeats 4000000 in
theorem do_SkyWant_kind : yX14_kind.cls ≠ "java/lang/invoke/MethodHandle" ∧ yX14_kind.cls ≠ "java/lang/invoke/VarHandle" ∧ (parseMethodDescriptor yX14_kind.desc).map (fun d => d.parameters.length) = some 0 := ⟨by decide +kernel, by decide +kernel, by decide +kernel⟩
set_option maxHeartbeats 4000000 in
theorem to_SkyWant_kind (l : Launch) (D : va_G) (dT : Nat → ClassId) (a : Nat) (μ : nwW) (res : Int32) (hf : fo_SkyWant_kind μ = some res) : Met l yX14_kind (ws_ yX14_kind cX14_kind 1 (some .int)) (rmd 0) (va_Pc [.ref a] (fun U => oO D 12 5 [.int μ.2.2.1, .int μ.2.2.2.1, .int μ.2.2.2.2, .int μ.1, .int μ.2.1] nN a U.heap ∧ EV D dT U)) (pQi res) 0 0 nN := by
  refine g_met (D := D) (dT := dT) (A := nN) (own := RX14) (Pic := fun H => oO D 12 5 [.int μ.2.2.1, .int μ.2.2.2.1, .int μ.2.2.2.2, .int μ.1, .int μ.2.1] nN a H) (by decide) rfl (Nat.le_of_ble_eq_true rfl) ?_
  intro p e s m below meth c ls E hE hr hlk hl hP
  have hK := hE.1
  have hS : va_S nN s.heap s.heap [] := va_S.rf
  obtain ⟨hx, hb, hml, hown, hts⟩ := id E
  have hl : lv_has ls 1 [(0, .ref a)] := hl
  unfold fo_SkyWant_kind at hf
  refine lv_aload_n hx hb dX14_kind_0 rfl (lv_at hl 0 rfl) ?_
  refine o_get (C := RX14) (T := TX14) E hK hP rfl in_X14 3 (by decide) (hts _ q872) (fun _ z => z) (v := .int μ.1) rfl dX14_kind_1 ?_
  cases hf
  exact g_iret (Pic := fun _ => True) E hr hlk trivial hS rfl dX14_kind_4
set_option maxHeartbeats 4000000 in
def fo_SkyWant_much (μ : nwW) : Option (Int32) := some μ.2.1
set_option maxHeartbeats 4000000 in
theorem do_SkyWant_much : yX14_much.cls ≠ "java/lang/invoke/MethodHandle" ∧ yX14_much.cls ≠ "java/lang/invoke/VarHandle" ∧ (parseMethodDescriptor yX14_much.desc).map (fun d => d.parameters.length) = some 0 := ⟨by decide +kernel, by decide +kernel, by decide +kernel⟩
set_option maxHeartbeats 4000000 in
theorem to_SkyWant_much (l : Launch) (D : va_G) (dT : Nat → ClassId) (a : Nat) (μ : nwW) (res : Int32) (hf : fo_SkyWant_much μ = some res) : Met l yX14_much (ws_ yX14_much cX14_much 1 (some .int)) (rmd 0) (va_Pc [.ref a] (fun U => oO D 12 5 [.int μ.2.2.1, .int μ.2.2.2.1, .int μ.2.2.2.2, .int μ.1, .int μ.2.1] nN a U.heap ∧ EV D dT U)) (pQi res) 0 0 nN := by
  refine g_met (D := D) (dT := dT) (A := nN) (own := RX14) (Pic := fun H => oO D 12 5 [.int μ.2.2.1, .int μ.2.2.2.1, .int μ.2.2.2.2, .int μ.1, .int μ.2.1] nN a H) (by decide) rfl (Nat.le_of_ble_eq_true rfl) ?_
  intro p e s m below meth c ls E hE hr hlk hl hP
  have hK := hE.1
  have hS : va_S nN s.heap s.heap [] := va_S.rf
  obtain ⟨hx, hb, hml, hown, hts⟩ := id E
  have hl : lv_has ls 1 [(0, .ref a)] := hl
  unfold fo_SkyWant_much at hf
  refine lv_aload_n hx hb dX14_much_0 rfl (lv_at hl 0 rfl) ?_
  refine o_get (C := RX14) (T := TX14) E hK hP rfl in_X14 4 (by decide) (hts _ q873) (fun _ z => z) (v := .int μ.2.1) rfl dX14_much_1 ?_
  cases hf
  exact g_iret (Pic := fun _ => True) E hr hlk trivial hS rfl dX14_much_4
