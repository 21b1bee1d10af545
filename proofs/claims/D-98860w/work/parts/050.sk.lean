/-! walks, written by my programs -/
set_option maxRecDepth 100000
set_option maxHeartbeats 4000000 in
def fi_isIn (x0 : Int32) (x1 : Int32) (x2 : Int32) (μ : Unit) : Option (Int32) := (if x0 < x1 then some (nI 0) else (if x2 < x0 then some (nI 0) else some (nI 1)))
set_option maxHeartbeats 4000000 in
theorem di_isIn : yX0_isIn.cls ≠ "java/lang/invoke/MethodHandle" ∧ yX0_isIn.cls ≠ "java/lang/invoke/VarHandle" ∧ (parseMethodDescriptor yX0_isIn.desc).map (fun d => d.parameters.length) = some 3 := ⟨by decide +kernel, by decide +kernel, by decide +kernel⟩
set_option maxHeartbeats 4000000 in
theorem ti_isIn (l : Launch) (x0 : Int32) (x1 : Int32) (x2 : Int32) (res : Int32) (hf : fi_isIn x0 x1 x2 () = some res) : Met l yX0_isIn (ws_ yX0_isIn cX0_isIn 3 (some .boolean)) (rmd 0) (pPc [.int x0, .int x1, .int x2]) (pQi res) 0 0 (fun _ => False) := by
  refine p_met (by decide) rfl (Nat.le_of_ble_eq_true rfl) ?_
  intro p e s m below meth c ls E hr hlk hl
  have hP := trivial
  have hS : va_S (fun _ => False) s.heap s.heap [] := va_S.rf
  obtain ⟨hx, hb, hml, hown, hts⟩ := id E
  have hl : lv_has ls 3 [(0, .int x0), (1, .int x1), (2, .int x2)] := hl
  unfold fi_isIn at hf
  refine lv_iload_n hx hb dX0_isIn_0 rfl (lv_at hl 0 rfl) ?_
  refine lv_iload_n hx hb dX0_isIn_1 rfl (lv_at hl 1 rfl) ?_
  refine lv_icmp_lt (tgt := 14) hx hb dX0_isIn_2 (by decide) (fun kc1 => ?_) (fun kc1 => ?_)
  · have hf := ite_t kc1 hf
    refine lv_iconst (v := nI 0) hx hb dX0_isIn_14 rfl ?_
    cases hf
    exact g_zret (Pic := fun _ => True) E hr hlk hP hS rfl dX0_isIn_15
  · have hf := ite_f kc1 hf
    refine lv_iload_n hx hb dX0_isIn_5 rfl (lv_at hl 0 rfl) ?_
    refine lv_iload_n hx hb dX0_isIn_6 rfl (lv_at hl 2 rfl) ?_
    refine lv_icmp_gt (tgt := 14) hx hb dX0_isIn_7 (by decide) (fun kc2 => ?_) (fun kc2 => ?_)
    · have hf := ite_t kc2 hf
      refine lv_iconst (v := nI 0) hx hb dX0_isIn_14 rfl ?_
      cases hf
      exact g_zret (Pic := fun _ => True) E hr hlk hP hS rfl dX0_isIn_15
    · have hf := ite_f kc2 hf
      refine lv_iconst (v := nI 1) hx hb dX0_isIn_10 rfl ?_
      refine lv_goto (tgt := 15) hx hb dX0_isIn_11 (by decide) ?_
      cases hf
      exact g_zret (Pic := fun _ => True) E hr hlk hP hS rfl dX0_isIn_15
set_option maxHeartbeats 4000000 in
def fi_isIsland (x0 : Int32) (μ : Unit) : Option (Int32) := (fi_isIn x0 (nI 0) (nI 7) ()).bind fun v1 => (zr_ v1).bind fun v2 => some v2
set_option maxHeartbeats 4000000 in
theorem di_isIsland : yX0_isIsland.cls ≠ "java/lang/invoke/MethodHandle" ∧ yX0_isIsland.cls ≠ "java/lang/invoke/VarHandle" ∧ (parseMethodDescriptor yX0_isIsland.desc).map (fun d => d.parameters.length) = some 1 := ⟨by decide +kernel, by decide +kernel, by decide +kernel⟩
set_option maxHeartbeats 4000000 in
theorem ti_isIsland (l : Launch) (x0 : Int32) (res : Int32) (hf : fi_isIsland x0 () = some res) : Met l yX0_isIsland (ws_ yX0_isIsland cX0_isIsland 1 (some .boolean)) (rmd 1) (pPc [.int x0]) (pQi res) 0 0 (fun _ => False) := by
  refine p_met (by decide) rfl (Nat.le_of_ble_eq_true rfl) ?_
  intro p e s m below meth c ls E hr hlk hl
  have hP := trivial
  have hS : va_S (fun _ => False) s.heap s.heap [] := va_S.rf
  obtain ⟨hx, hb, hml, hown, hts⟩ := id E
  have hl : lv_has ls 1 [(0, .int x0)] := hl
  unfold fi_isIsland at hf
  refine lv_iload_n hx hb dX0_isIsland_0 rfl (lv_at hl 0 rfl) ?_
  refine lv_iconst (v := nI 0) hx hb dX0_isIsland_1 rfl ?_
  refine lv_bipush (v := nI 7) hx hb dX0_isIsland_2 rfl ?_
  obtain ⟨v1, hv1, hf⟩ := ob hf
  refine p_calli E hS (As := [.int x0, .int (nI 0), .int (nI 7)]) (ti_isIn l x0 (nI 0) (nI 7) _ hv1) (lw_S q386 q387 q161 q388) di_isIn rfl (by decide) (by decide) hl rfl (Nat.le_of_ble_eq_true rfl) dX0_isIsland_4 (fun H1 locs1 hq1 hS => ?_)
  have hP := trivial
  obtain ⟨v2, hv2, hf⟩ := ob hf
  cases hf
  exact g_zret (Pic := fun _ => True) E hr hlk hP hS hv2 dX0_isIsland_7
set_option maxHeartbeats 4000000 in
def fi_isKind (x0 : Int32) (μ : Unit) : Option (Int32) := (fi_isIn x0 (nI 0) (nI 4) ()).bind fun v1 => (zr_ v1).bind fun v2 => some v2
set_option maxHeartbeats 4000000 in
theorem di_isKind : yX0_isKind.cls ≠ "java/lang/invoke/MethodHandle" ∧ yX0_isKind.cls ≠ "java/lang/invoke/VarHandle" ∧ (parseMethodDescriptor yX0_isKind.desc).map (fun d => d.parameters.length) = some 1 := ⟨by decide +kernel, by decide +kernel, by decide +kernel⟩
set_option maxHeartbeats 4000000 in
theorem ti_isKind (l : Launch) (x0 : Int32) (res : Int32) (hf : fi_isKind x0 () = some res) : Met l yX0_isKind (ws_ yX0_isKind cX0_isKind 1 (some .boolean)) (rmd 1) (pPc [.int x0]) (pQi res) 0 0 (fun _ => False) := by
  refine p_met (by decide) rfl (Nat.le_of_ble_eq_true rfl) ?_
  intro p e s m below meth c ls E hr hlk hl
  have hP := trivial
  have hS : va_S (fun _ => False) s.heap s.heap [] := va_S.rf
  obtain ⟨hx, hb, hml, hown, hts⟩ := id E
  have hl : lv_has ls 1 [(0, .int x0)] := hl
  unfold fi_isKind at hf
  refine lv_iload_n hx hb dX0_isKind_0 rfl (lv_at hl 0 rfl) ?_
  refine lv_iconst (v := nI 0) hx hb dX0_isKind_1 rfl ?_
  refine lv_iconst (v := nI 4) hx hb dX0_isKind_2 rfl ?_
  obtain ⟨v1, hv1, hf⟩ := ob hf
  refine p_calli E hS (As := [.int x0, .int (nI 0), .int (nI 4)]) (ti_isIn l x0 (nI 0) (nI 4) _ hv1) (lw_S q386 q387 q161 q388) di_isIn rfl (by decide) (by decide) hl rfl (Nat.le_of_ble_eq_true rfl) dX0_isKind_3 (fun H1 locs1 hq1 hS => ?_)
  have hP := trivial
  obtain ⟨v2, hv2, hf⟩ := ob hf
  cases hf
  exact g_zret (Pic := fun _ => True) E hr hlk hP hS hv2 dX0_isKind_6
set_option maxHeartbeats 4000000 in
def fi_canRise (x0 : Int32) (x1 : Int32) (x2 : Int32) (μ : Unit) : Option (Int32) := (fi_isIsland x0 ()).bind fun v1 => (if v1 = 0 then some (nI 0) else (fi_isKind x1 ()).bind fun v3 => (if v3 = 0 then some (nI 0) else (fi_isIn x2 (nI 1) (nI 999) ()).bind fun v5 => (if v5 = 0 then some (nI 0) else some (nI 1))))
set_option maxHeartbeats 4000000 in
theorem di_canRise : yX0_canRise.cls ≠ "java/lang/invoke/MethodHandle" ∧ yX0_canRise.cls ≠ "java/lang/invoke/VarHandle" ∧ (parseMethodDescriptor yX0_canRise.desc).map (fun d => d.parameters.length) = some 3 := ⟨by decide +kernel, by decide +kernel, by decide +kernel⟩
set_option maxHeartbeats 4000000 in
theorem ti_canRise (l : Launch) (x0 : Int32) (x1 : Int32) (x2 : Int32) (res : Int32) (hf : fi_canRise x0 x1 x2 () = some res) : Met l yX0_canRise (ws_ yX0_canRise cX0_canRise 3 (some .boolean)) (rmd 2) (pPc [.int x0, .int x1, .int x2]) (pQi res) 0 0 (fun _ => False) := by
  refine p_met (by decide) rfl (Nat.le_of_ble_eq_true rfl) ?_
  intro p e s m below meth c ls E hr hlk hl
  have hP := trivial
  have hS : va_S (fun _ => False) s.heap s.heap [] := va_S.rf
  obtain ⟨hx, hb, hml, hown, hts⟩ := id E
  have hl : lv_has ls 3 [(0, .int x0), (1, .int x1), (2, .int x2)] := hl
  unfold fi_canRise at hf
  refine lv_iload_n hx hb dX0_canRise_0 rfl (lv_at hl 0 rfl) ?_
  obtain ⟨v1, hv1, hf⟩ := ob hf
  refine p_calli E hS (As := [.int x0]) (ti_isIsland l x0 _ hv1) (lw_S q957 q958 q161 q959) di_isIsland rfl (by decide) (by decide) hl rfl (Nat.le_of_ble_eq_true rfl) dX0_canRise_1 (fun H1 locs1 hq1 hS => ?_)
  have hP := trivial
  refine lv_if_eq (tgt := 29) hx hb dX0_canRise_4 (by decide) (fun kc2 => ?_) (fun kc2 => ?_)
  · have hf := ite_t kc2 hf
    refine lv_iconst (v := nI 0) hx hb dX0_canRise_29 rfl ?_
    cases hf
    exact g_zret (Pic := fun _ => True) E hr hlk hP hS rfl dX0_canRise_30
  · have hf := ite_f kc2 hf
    refine lv_iload_n hx hb dX0_canRise_7 rfl (lv_at hl 1 rfl) ?_
    obtain ⟨v3, hv3, hf⟩ := ob hf
    refine p_calli E hS (As := [.int x1]) (ti_isKind l x1 _ hv3) (lw_S q954 q955 q161 q956) di_isKind rfl (by decide) (by decide) hl rfl (Nat.le_of_ble_eq_true rfl) dX0_canRise_8 (fun H1 locs1 hq1 hS => ?_)
    have hP := trivial
    refine lv_if_eq (tgt := 29) hx hb dX0_canRise_11 (by decide) (fun kc4 => ?_) (fun kc4 => ?_)
    · have hf := ite_t kc4 hf
      refine lv_iconst (v := nI 0) hx hb dX0_canRise_29 rfl ?_
      cases hf
      exact g_zret (Pic := fun _ => True) E hr hlk hP hS rfl dX0_canRise_30
    · have hf := ite_f kc4 hf
      refine lv_iload_n hx hb dX0_canRise_14 rfl (lv_at hl 2 rfl) ?_
      refine lv_iconst (v := nI 1) hx hb dX0_canRise_15 rfl ?_
      refine lv_sipush (v := nI 999) hx hb dX0_canRise_16 rfl ?_
      obtain ⟨v5, hv5, hf⟩ := ob hf
      refine p_calli E hS (As := [.int x2, .int (nI 1), .int (nI 999)]) (ti_isIn l x2 (nI 1) (nI 999) _ hv5) (lw_S q386 q387 q161 q388) di_isIn rfl (by decide) (by decide) hl rfl (Nat.le_of_ble_eq_true rfl) dX0_canRise_19 (fun H1 locs1 hq1 hS => ?_)
      have hP := trivial
      refine lv_if_eq (tgt := 29) hx hb dX0_canRise_22 (by decide) (fun kc6 => ?_) (fun kc6 => ?_)
      · have hf := ite_t kc6 hf
        refine lv_iconst (v := nI 0) hx hb dX0_canRise_29 rfl ?_
        cases hf
        exact g_zret (Pic := fun _ => True) E hr hlk hP hS rfl dX0_canRise_30
      · have hf := ite_f kc6 hf
        refine lv_iconst (v := nI 1) hx hb dX0_canRise_25 rfl ?_
        refine lv_goto (tgt := 30) hx hb dX0_canRise_26 (by decide) ?_
        cases hf
        exact g_zret (Pic := fun _ => True) E hr hlk hP hS rfl dX0_canRise_30
set_option maxHeartbeats 4000000 in
def fi_bitCount (x0 : Int32) (μ : Unit) : Option (Int32) := some ((((((((x0 - (((x0.toUInt32 >>> ((nI 1).toUInt32 &&& Int32.toUInt32 31)).toInt32) &&& (1431655765))) &&& (858993459)) + ((((x0 - (((x0.toUInt32 >>> ((nI 1).toUInt32 &&& Int32.toUInt32 31)).toInt32) &&& (1431655765))).toUInt32 >>> ((nI 2).toUInt32 &&& Int32.toUInt32 31)).toInt32) &&& (858993459))) + (((((x0 - (((x0.toUInt32 >>> ((nI 1).toUInt32 &&& Int32.toUInt32 31)).toInt32) &&& (1431655765))) &&& (858993459)) + ((((x0 - (((x0.toUInt32 >>> ((nI 1).toUInt32 &&& Int32.toUInt32 31)).toInt32) &&& (1431655765))).toUInt32 >>> ((nI 2).toUInt32 &&& Int32.toUInt32 31)).toInt32) &&& (858993459))).toUInt32 >>> ((nI 4).toUInt32 &&& Int32.toUInt32 31)).toInt32)) &&& (252645135)) + (((((((x0 - (((x0.toUInt32 >>> ((nI 1).toUInt32 &&& Int32.toUInt32 31)).toInt32) &&& (1431655765))) &&& (858993459)) + ((((x0 - (((x0.toUInt32 >>> ((nI 1).toUInt32 &&& Int32.toUInt32 31)).toInt32) &&& (1431655765))).toUInt32 >>> ((nI 2).toUInt32 &&& Int32.toUInt32 31)).toInt32) &&& (858993459))) + (((((x0 - (((x0.toUInt32 >>> ((nI 1).toUInt32 &&& Int32.toUInt32 31)).toInt32) &&& (1431655765))) &&& (858993459)) + ((((x0 - (((x0.toUInt32 >>> ((nI 1).toUInt32 &&& Int32.toUInt32 31)).toInt32) &&& (1431655765))).toUInt32 >>> ((nI 2).toUInt32 &&& Int32.toUInt32 31)).toInt32) &&& (858993459))).toUInt32 >>> ((nI 4).toUInt32 &&& Int32.toUInt32 31)).toInt32)) &&& (252645135)).toUInt32 >>> ((nI 8).toUInt32 &&& Int32.toUInt32 31)).toInt32)) + ((((((((x0 - (((x0.toUInt32 >>> ((nI 1).toUInt32 &&& Int32.toUInt32 31)).toInt32) &&& (1431655765))) &&& (858993459)) + ((((x0 - (((x0.toUInt32 >>> ((nI 1).toUInt32 &&& Int32.toUInt32 31)).toInt32) &&& (1431655765))).toUInt32 >>> ((nI 2).toUInt32 &&& Int32.toUInt32 31)).toInt32) &&& (858993459))) + (((((x0 - (((x0.toUInt32 >>> ((nI 1).toUInt32 &&& Int32.toUInt32 31)).toInt32) &&& (1431655765))) &&& (858993459)) + ((((x0 - (((x0.toUInt32 >>> ((nI 1).toUInt32 &&& Int32.toUInt32 31)).toInt32) &&& (1431655765))).toUInt32 >>> ((nI 2).toUInt32 &&& Int32.toUInt32 31)).toInt32) &&& (858993459))).toUInt32 >>> ((nI 4).toUInt32 &&& Int32.toUInt32 31)).toInt32)) &&& (252645135)) + (((((((x0 - (((x0.toUInt32 >>> ((nI 1).toUInt32 &&& Int32.toUInt32 31)).toInt32) &&& (1431655765))) &&& (858993459)) + ((((x0 - (((x0.toUInt32 >>> ((nI 1).toUInt32 &&& Int32.toUInt32 31)).toInt32) &&& (1431655765))).toUInt32 >>> ((nI 2).toUInt32 &&& Int32.toUInt32 31)).toInt32) &&& (858993459))) + (((((x0 - (((x0.toUInt32 >>> ((nI 1).toUInt32 &&& Int32.toUInt32 31)).toInt32) &&& (1431655765))) &&& (858993459)) + ((((x0 - (((x0.toUInt32 >>> ((nI 1).toUInt32 &&& Int32.toUInt32 31)).toInt32) &&& (1431655765))).toUInt32 >>> ((nI 2).toUInt32 &&& Int32.toUInt32 31)).toInt32) &&& (858993459))).toUInt32 >>> ((nI 4).toUInt32 &&& Int32.toUInt32 31)).toInt32)) &&& (252645135)).toUInt32 >>> ((nI 8).toUInt32 &&& Int32.toUInt32 31)).toInt32)).toUInt32 >>> ((nI 16).toUInt32 &&& Int32.toUInt32 31)).toInt32)) &&& (nI 63))
set_option maxHeartbeats 4000000 in
theorem di_bitCount : yJ13_bitCount.cls ≠ "java/lang/invoke/MethodHandle" ∧ yJ13_bitCount.cls ≠ "java/lang/invoke/VarHandle" ∧ (parseMethodDescriptor yJ13_bitCount.desc).map (fun d => d.parameters.length) = some 1 := ⟨by decide +kernel, by decide +kernel, by decide +kernel⟩
set_option maxHeartbeats 4000000 in
theorem ti_bitCount (l : Launch) (x0 : Int32) (res : Int32) (hf : fi_bitCount x0 () = some res) : Met l yJ13_bitCount (ws_ yJ13_bitCount cJ13_bitCount 1 (some .int)) (rmd 0) (pPc [.int x0]) (pQi res) 0 0 (fun _ => False) := by
  refine p_met (by decide) rfl (Nat.le_of_ble_eq_true rfl) ?_
  intro p e s m below meth c ls E hr hlk hl
  have hP := trivial
  have hS : va_S (fun _ => False) s.heap s.heap [] := va_S.rf
  obtain ⟨hx, hb, hml, hown, hts⟩ := id E
  have hl : lv_has ls 1 [(0, .int x0)] := hl
  unfold fi_bitCount at hf
  refine lv_iload_n hx hb dJ13_bitCount_0 rfl (lv_at hl 0 rfl) ?_
  refine lv_iload_n hx hb dJ13_bitCount_1 rfl (lv_at hl 0 rfl) ?_
  refine lv_iconst (v := nI 1) hx hb dJ13_bitCount_2 rfl ?_
  refine lv_iushr (v := (x0.toUInt32 >>> ((nI 1).toUInt32 &&& Int32.toUInt32 31)).toInt32) hx hb dJ13_bitCount_3 rfl ?_
  refine lv_ldcw (v := 1431655765) hx hb hown (hts _ q1306) dJ13_bitCount_4 ?_
  refine lv_iand hx hb dJ13_bitCount_7 ?_
  refine lv_isub hx hb dJ13_bitCount_8 ?_
  refine lv_istore_n (lv' := [(0, .int (x0 - (((x0.toUInt32 >>> ((nI 1).toUInt32 &&& Int32.toUInt32 31)).toInt32) &&& (1431655765))))]) hx hb dJ13_bitCount_9 rfl hl (by decide) rfl (fun ls hl => ?_)
  refine lv_iload_n hx hb dJ13_bitCount_10 rfl (lv_at hl 0 rfl) ?_
  refine lv_ldcw (v := 858993459) hx hb hown (hts _ q1307) dJ13_bitCount_11 ?_
  refine lv_iand hx hb dJ13_bitCount_14 ?_
  refine lv_iload_n hx hb dJ13_bitCount_15 rfl (lv_at hl 0 rfl) ?_
  refine lv_iconst (v := nI 2) hx hb dJ13_bitCount_16 rfl ?_
  refine lv_iushr (v := ((x0 - (((x0.toUInt32 >>> ((nI 1).toUInt32 &&& Int32.toUInt32 31)).toInt32) &&& (1431655765))).toUInt32 >>> ((nI 2).toUInt32 &&& Int32.toUInt32 31)).toInt32) hx hb dJ13_bitCount_17 rfl ?_
  refine lv_ldcw (v := 858993459) hx hb hown (hts _ q1307) dJ13_bitCount_18 ?_
  refine lv_iand hx hb dJ13_bitCount_21 ?_
  refine lv_iadd hx hb dJ13_bitCount_22 ?_
  refine lv_istore_n (lv' := [(0, .int (((x0 - (((x0.toUInt32 >>> ((nI 1).toUInt32 &&& Int32.toUInt32 31)).toInt32) &&& (1431655765))) &&& (858993459)) + ((((x0 - (((x0.toUInt32 >>> ((nI 1).toUInt32 &&& Int32.toUInt32 31)).toInt32) &&& (1431655765))).toUInt32 >>> ((nI 2).toUInt32 &&& Int32.toUInt32 31)).toInt32) &&& (858993459))))]) hx hb dJ13_bitCount_23 rfl hl (by decide) rfl (fun ls hl => ?_)
  refine lv_iload_n hx hb dJ13_bitCount_24 rfl (lv_at hl 0 rfl) ?_
  refine lv_iload_n hx hb dJ13_bitCount_25 rfl (lv_at hl 0 rfl) ?_
  refine lv_iconst (v := nI 4) hx hb dJ13_bitCount_26 rfl ?_
  refine lv_iushr (v := ((((x0 - (((x0.toUInt32 >>> ((nI 1).toUInt32 &&& Int32.toUInt32 31)).toInt32) &&& (1431655765))) &&& (858993459)) + ((((x0 - (((x0.toUInt32 >>> ((nI 1).toUInt32 &&& Int32.toUInt32 31)).toInt32) &&& (1431655765))).toUInt32 >>> ((nI 2).toUInt32 &&& Int32.toUInt32 31)).toInt32) &&& (858993459))).toUInt32 >>> ((nI 4).toUInt32 &&& Int32.toUInt32 31)).toInt32) hx hb dJ13_bitCount_27 rfl ?_
  refine lv_iadd hx hb dJ13_bitCount_28 ?_
  refine lv_ldcw (v := 252645135) hx hb hown (hts _ q1308) dJ13_bitCount_29 ?_
  refine lv_iand hx hb dJ13_bitCount_32 ?_
  refine lv_istore_n (lv' := [(0, .int (((((x0 - (((x0.toUInt32 >>> ((nI 1).toUInt32 &&& Int32.toUInt32 31)).toInt32) &&& (1431655765))) &&& (858993459)) + ((((x0 - (((x0.toUInt32 >>> ((nI 1).toUInt32 &&& Int32.toUInt32 31)).toInt32) &&& (1431655765))).toUInt32 >>> ((nI 2).toUInt32 &&& Int32.toUInt32 31)).toInt32) &&& (858993459))) + (((((x0 - (((x0.toUInt32 >>> ((nI 1).toUInt32 &&& Int32.toUInt32 31)).toInt32) &&& (1431655765))) &&& (858993459)) + ((((x0 - (((x0.toUInt32 >>> ((nI 1).toUInt32 &&& Int32.toUInt32 31)).toInt32) &&& (1431655765))).toUInt32 >>> ((nI 2).toUInt32 &&& Int32.toUInt32 31)).toInt32) &&& (858993459))).toUInt32 >>> ((nI 4).toUInt32 &&& Int32.toUInt32 31)).toInt32)) &&& (252645135)))]) hx hb dJ13_bitCount_33 rfl hl (by decide) rfl (fun ls hl => ?_)
  refine lv_iload_n hx hb dJ13_bitCount_34 rfl (lv_at hl 0 rfl) ?_
  refine lv_iload_n hx hb dJ13_bitCount_35 rfl (lv_at hl 0 rfl) ?_
  refine lv_bipush (v := nI 8) hx hb dJ13_bitCount_36 rfl ?_
  refine lv_iushr (v := ((((((x0 - (((x0.toUInt32 >>> ((nI 1).toUInt32 &&& Int32.toUInt32 31)).toInt32) &&& (1431655765))) &&& (858993459)) + ((((x0 - (((x0.toUInt32 >>> ((nI 1).toUInt32 &&& Int32.toUInt32 31)).toInt32) &&& (1431655765))).toUInt32 >>> ((nI 2).toUInt32 &&& Int32.toUInt32 31)).toInt32) &&& (858993459))) + (((((x0 - (((x0.toUInt32 >>> ((nI 1).toUInt32 &&& Int32.toUInt32 31)).toInt32) &&& (1431655765))) &&& (858993459)) + ((((x0 - (((x0.toUInt32 >>> ((nI 1).toUInt32 &&& Int32.toUInt32 31)).toInt32) &&& (1431655765))).toUInt32 >>> ((nI 2).toUInt32 &&& Int32.toUInt32 31)).toInt32) &&& (858993459))).toUInt32 >>> ((nI 4).toUInt32 &&& Int32.toUInt32 31)).toInt32)) &&& (252645135)).toUInt32 >>> ((nI 8).toUInt32 &&& Int32.toUInt32 31)).toInt32) hx hb dJ13_bitCount_38 rfl ?_
  refine lv_iadd hx hb dJ13_bitCount_39 ?_
  refine lv_istore_n (lv' := [(0, .int ((((((x0 - (((x0.toUInt32 >>> ((nI 1).toUInt32 &&& Int32.toUInt32 31)).toInt32) &&& (1431655765))) &&& (858993459)) + ((((x0 - (((x0.toUInt32 >>> ((nI 1).toUInt32 &&& Int32.toUInt32 31)).toInt32) &&& (1431655765))).toUInt32 >>> ((nI 2).toUInt32 &&& Int32.toUInt32 31)).toInt32) &&& (858993459))) + (((((x0 - (((x0.toUInt32 >>> ((nI 1).toUInt32 &&& Int32.toUInt32 31)).toInt32) &&& (1431655765))) &&& (858993459)) + ((((x0 - (((x0.toUInt32 >>> ((nI 1).toUInt32 &&& Int32.toUInt32 31)).toInt32) &&& (1431655765))).toUInt32 >>> ((nI 2).toUInt32 &&& Int32.toUInt32 31)).toInt32) &&& (858993459))).toUInt32 >>> ((nI 4).toUInt32 &&& Int32.toUInt32 31)).toInt32)) &&& (252645135)) + (((((((x0 - (((x0.toUInt32 >>> ((nI 1).toUInt32 &&& Int32.toUInt32 31)).toInt32) &&& (1431655765))) &&& (858993459)) + ((((x0 - (((x0.toUInt32 >>> ((nI 1).toUInt32 &&& Int32.toUInt32 31)).toInt32) &&& (1431655765))).toUInt32 >>> ((nI 2).toUInt32 &&& Int32.toUInt32 31)).toInt32) &&& (858993459))) + (((((x0 - (((x0.toUInt32 >>> ((nI 1).toUInt32 &&& Int32.toUInt32 31)).toInt32) &&& (1431655765))) &&& (858993459)) + ((((x0 - (((x0.toUInt32 >>> ((nI 1).toUInt32 &&& Int32.toUInt32 31)).toInt32) &&& (1431655765))).toUInt32 >>> ((nI 2).toUInt32 &&& Int32.toUInt32 31)).toInt32) &&& (858993459))).toUInt32 >>> ((nI 4).toUInt32 &&& Int32.toUInt32 31)).toInt32)) &&& (252645135)).toUInt32 >>> ((nI 8).toUInt32 &&& Int32.toUInt32 31)).toInt32)))]) hx hb dJ13_bitCount_40 rfl hl (by decide) rfl (fun ls hl => ?_)
  refine lv_iload_n hx hb dJ13_bitCount_41 rfl (lv_at hl 0 rfl) ?_
  refine lv_iload_n hx hb dJ13_bitCount_42 rfl (lv_at hl 0 rfl) ?_
  refine lv_bipush (v := nI 16) hx hb dJ13_bitCount_43 rfl ?_
  refine lv_iushr (v := (((((((x0 - (((x0.toUInt32 >>> ((nI 1).toUInt32 &&& Int32.toUInt32 31)).toInt32) &&& (1431655765))) &&& (858993459)) + ((((x0 - (((x0.toUInt32 >>> ((nI 1).toUInt32 &&& Int32.toUInt32 31)).toInt32) &&& (1431655765))).toUInt32 >>> ((nI 2).toUInt32 &&& Int32.toUInt32 31)).toInt32) &&& (858993459))) + (((((x0 - (((x0.toUInt32 >>> ((nI 1).toUInt32 &&& Int32.toUInt32 31)).toInt32) &&& (1431655765))) &&& (858993459)) + ((((x0 - (((x0.toUInt32 >>> ((nI 1).toUInt32 &&& Int32.toUInt32 31)).toInt32) &&& (1431655765))).toUInt32 >>> ((nI 2).toUInt32 &&& Int32.toUInt32 31)).toInt32) &&& (858993459))).toUInt32 >>> ((nI 4).toUInt32 &&& Int32.toUInt32 31)).toInt32)) &&& (252645135)) + (((((((x0 - (((x0.toUInt32 >>> ((nI 1).toUInt32 &&& Int32.toUInt32 31)).toInt32) &&& (1431655765))) &&& (858993459)) + ((((x0 - (((x0.toUInt32 >>> ((nI 1).toUInt32 &&& Int32.toUInt32 31)).toInt32) &&& (1431655765))).toUInt32 >>> ((nI 2).toUInt32 &&& Int32.toUInt32 31)).toInt32) &&& (858993459))) + (((((x0 - (((x0.toUInt32 >>> ((nI 1).toUInt32 &&& Int32.toUInt32 31)).toInt32) &&& (1431655765))) &&& (858993459)) + ((((x0 - (((x0.toUInt32 >>> ((nI 1).toUInt32 &&& Int32.toUInt32 31)).toInt32) &&& (1431655765))).toUInt32 >>> ((nI 2).toUInt32 &&& Int32.toUInt32 31)).toInt32) &&& (858993459))).toUInt32 >>> ((nI 4).toUInt32 &&& Int32.toUInt32 31)).toInt32)) &&& (252645135)).toUInt32 >>> ((nI 8).toUInt32 &&& Int32.toUInt32 31)).toInt32)).toUInt32 >>> ((nI 16).toUInt32 &&& Int32.toUInt32 31)).toInt32) hx hb dJ13_bitCount_45 rfl ?_
  refine lv_iadd hx hb dJ13_bitCount_46 ?_
  refine lv_istore_n (lv' := [(0, .int (((((((x0 - (((x0.toUInt32 >>> ((nI 1).toUInt32 &&& Int32.toUInt32 31)).toInt32) &&& (1431655765))) &&& (858993459)) + ((((x0 - (((x0.toUInt32 >>> ((nI 1).toUInt32 &&& Int32.toUInt32 31)).toInt32) &&& (1431655765))).toUInt32 >>> ((nI 2).toUInt32 &&& Int32.toUInt32 31)).toInt32) &&& (858993459))) + (((((x0 - (((x0.toUInt32 >>> ((nI 1).toUInt32 &&& Int32.toUInt32 31)).toInt32) &&& (1431655765))) &&& (858993459)) + ((((x0 - (((x0.toUInt32 >>> ((nI 1).toUInt32 &&& Int32.toUInt32 31)).toInt32) &&& (1431655765))).toUInt32 >>> ((nI 2).toUInt32 &&& Int32.toUInt32 31)).toInt32) &&& (858993459))).toUInt32 >>> ((nI 4).toUInt32 &&& Int32.toUInt32 31)).toInt32)) &&& (252645135)) + (((((((x0 - (((x0.toUInt32 >>> ((nI 1).toUInt32 &&& Int32.toUInt32 31)).toInt32) &&& (1431655765))) &&& (858993459)) + ((((x0 - (((x0.toUInt32 >>> ((nI 1).toUInt32 &&& Int32.toUInt32 31)).toInt32) &&& (1431655765))).toUInt32 >>> ((nI 2).toUInt32 &&& Int32.toUInt32 31)).toInt32) &&& (858993459))) + (((((x0 - (((x0.toUInt32 >>> ((nI 1).toUInt32 &&& Int32.toUInt32 31)).toInt32) &&& (1431655765))) &&& (858993459)) + ((((x0 - (((x0.toUInt32 >>> ((nI 1).toUInt32 &&& Int32.toUInt32 31)).toInt32) &&& (1431655765))).toUInt32 >>> ((nI 2).toUInt32 &&& Int32.toUInt32 31)).toInt32) &&& (858993459))).toUInt32 >>> ((nI 4).toUInt32 &&& Int32.toUInt32 31)).toInt32)) &&& (252645135)).toUInt32 >>> ((nI 8).toUInt32 &&& Int32.toUInt32 31)).toInt32)) + ((((((((x0 - (((x0.toUInt32 >>> ((nI 1).toUInt32 &&& Int32.toUInt32 31)).toInt32) &&& (1431655765))) &&& (858993459)) + ((((x0 - (((x0.toUInt32 >>> ((nI 1).toUInt32 &&& Int32.toUInt32 31)).toInt32) &&& (1431655765))).toUInt32 >>> ((nI 2).toUInt32 &&& Int32.toUInt32 31)).toInt32) &&& (858993459))) + (((((x0 - (((x0.toUInt32 >>> ((nI 1).toUInt32 &&& Int32.toUInt32 31)).toInt32) &&& (1431655765))) &&& (858993459)) + ((((x0 - (((x0.toUInt32 >>> ((nI 1).toUInt32 &&& Int32.toUInt32 31)).toInt32) &&& (1431655765))).toUInt32 >>> ((nI 2).toUInt32 &&& Int32.toUInt32 31)).toInt32) &&& (858993459))).toUInt32 >>> ((nI 4).toUInt32 &&& Int32.toUInt32 31)).toInt32)) &&& (252645135)) + (((((((x0 - (((x0.toUInt32 >>> ((nI 1).toUInt32 &&& Int32.toUInt32 31)).toInt32) &&& (1431655765))) &&& (858993459)) + ((((x0 - (((x0.toUInt32 >>> ((nI 1).toUInt32 &&& Int32.toUInt32 31)).toInt32) &&& (1431655765))).toUInt32 >>> ((nI 2).toUInt32 &&& Int32.toUInt32 31)).toInt32) &&& (858993459))) + (((((x0 - (((x0.toUInt32 >>> ((nI 1).toUInt32 &&& Int32.toUInt32 31)).toInt32) &&& (1431655765))) &&& (858993459)) + ((((x0 - (((x0.toUInt32 >>> ((nI 1).toUInt32 &&& Int32.toUInt32 31)).toInt32) &&& (1431655765))).toUInt32 >>> ((nI 2).toUInt32 &&& Int32.toUInt32 31)).toInt32) &&& (858993459))).toUInt32 >>> ((nI 4).toUInt32 &&& Int32.toUInt32 31)).toInt32)) &&& (252645135)).toUInt32 >>> ((nI 8).toUInt32 &&& Int32.toUInt32 31)).toInt32)).toUInt32 >>> ((nI 16).toUInt32 &&& Int32.toUInt32 31)).toInt32)))]) hx hb dJ13_bitCount_47 rfl hl (by decide) rfl (fun ls hl => ?_)
  refine lv_iload_n hx hb dJ13_bitCount_48 rfl (lv_at hl 0 rfl) ?_
  refine lv_bipush (v := nI 63) hx hb dJ13_bitCount_49 rfl ?_
  refine lv_iand hx hb dJ13_bitCount_51 ?_
  cases hf
  exact g_iret (Pic := fun _ => True) E hr hlk hP hS rfl dJ13_bitCount_52
set_option maxHeartbeats 4000000 in
def fs_moves_L42 (σ : nwM) : (Int32 × nwM) → Option ((Int32 × nwM) ⊕ (nwM)) := fun st => (if (st.2 13 0) ≤ st.1 then some (.inr st.2) else (rd_ σ 3 12 st.1).bind fun v7 => (wr_ st.2 3 12 st.1 v7).bind fun μ8 => (rd_ σ 4 12 st.1).bind fun v9 => (wr_ μ8 4 12 st.1 v9).bind fun μ10 => (rd_ σ 5 12 st.1).bind fun v11 => (wr_ μ10 5 12 st.1 v11).bind fun μ12 => (rd_ σ 6 12 st.1).bind fun v13 => (wr_ μ12 6 12 st.1 v13).bind fun μ14 => (rd_ σ 7 12 st.1).bind fun v15 => (wr_ μ14 7 12 st.1 v15).bind fun μ16 => some (.inl (st.1 + nI 1, μ16)))
set_option maxHeartbeats 4000000 in
def fs_moves_L126 (σ : nwM) (x2 : Int32) : (Int32 × nwM) → Option ((Int32 × nwM) ⊕ (nwM)) := fun st => (if (nI 5) ≤ st.1 then some (.inr st.2) else (rw_ 8 x2).bind fun r20 => (rw_ 8 x2).bind fun r21 => (rr_ σ 0 r21 st.1).bind fun v22 => (ww_ st.2 0 r20 st.1 v22).bind fun μ23 => some (.inl (st.1 + nI 1, μ23)))
set_option maxHeartbeats 4000000 in
noncomputable def fs_moves_L118 (σ : nwM) : (Int32 × nwM) → Option ((Int32 × nwM) ⊕ (nwM)) := fun st => (if (nI 8) ≤ st.1 then some (.inr st.2) else (wh_ (fs_moves_L126 σ st.1) (nI 0, st.2)).bind fun x24 => some (.inl (st.1 + nI 1, x24)))
set_option maxHeartbeats 4000000 in
noncomputable def fs_moves (σ : nwM) (μ : nwM) : Option (nwM) := (wf_ μ 13 (σ 13 0)).bind fun μ1 => (wf_ μ1 15 (σ 15 0)).bind fun μ2 => (wf_ μ2 16 (σ 16 0)).bind fun μ3 => (wf_ μ3 17 (σ 17 0)).bind fun μ4 => (wf_ μ4 18 (σ 18 0)).bind fun μ5 => (wh_ (fs_moves_L42 σ) (nI 0, μ5)).bind fun x17 => (wh_ (fs_moves_L118 σ) (nI 0, x17)).bind fun x25 => some x25
set_option maxHeartbeats 4000000 in
theorem fs_moves_L42_w {p : Program} {l : Launch} {e : Env} {s : State} {m : MethodId} {args : Array Value} {below : List Frame} {meth : Method} {c : Code} {D : va_G} {dT : Nat → ClassId} {Q : State → Prop} {h : Nat} {ρ : Nat → Nat} {g : Nat} {σ : nwM} {ρo : Nat → Nat} (E : CallFix p m c cX1_moves 4 s args lw_all RX1) (hK : va_K D nwCl (nwT dT) s) (hE : EV D dT s) (hO : PS D dT g σ ρo s.heap) (hg : ∀ q, shS g q ≠ none → ¬ sA h q) {st : Int32 × nwM} {x : nwM} (hw : wh_ (fs_moves_L42 σ) st = some x) (hk : (fun x : nwM => ∀ (ls : Array Slot) (H : Heap) (locs : List Loc), lv_has ls 4 [(0, .ref h), (1, .ref g)] → PS D dT h x ρ H → va_S (sA h) s.heap H locs → W p l e (rmd 0) s m args below meth c H locs 0 0 Q (F0 m 116 ls [])) x) : (fun st : Int32 × nwM => ∀ (ls : Array Slot) (H : Heap) (locs : List Loc), lv_has ls 4 [(0, .ref h), (1, .ref g), (2, .int st.1)] → PS D dT h st.2 ρ H → va_S (sA h) s.heap H locs → W p l e (rmd 0) s m args below meth c H locs 0 0 Q (F0 m 42 ls [])) st := by
  obtain ⟨hx, hb, hml, hown, hts⟩ := id E
  refine wh_run (P := (fun st : Int32 × nwM => ∀ (ls : Array Slot) (H : Heap) (locs : List Loc), lv_has ls 4 [(0, .ref h), (1, .ref g), (2, .int st.1)] → PS D dT h st.2 ρ H → va_S (sA h) s.heap H locs → W p l e (rmd 0) s m args below meth c H locs 0 0 Q (F0 m 42 ls []))) (PE := (fun x : nwM => ∀ (ls : Array Slot) (H : Heap) (locs : List Loc), lv_has ls 4 [(0, .ref h), (1, .ref g)] → PS D dT h x ρ H → va_S (sA h) s.heap H locs → W p l e (rmd 0) s m args below meth c H locs 0 0 Q (F0 m 116 ls []))) ?_ hw hk
  clear hw hk
  intro st x hf hk ls H locs hl hP hS
  refine lv_iload_n hx hb dX1_moves_42 rfl (lv_at hl 2 rfl) ?_
  refine lv_aload_n hx hb dX1_moves_43 rfl (lv_at hl 0 rfl) ?_
  refine gp_get (C := RX1) (T := TX1) E hK hP (shS_h h) rfl in_X1 13 (by decide) (hts _ q265) (fun _ z => z) (vS_i (by decide)) dX1_moves_44 ?_
  refine lv_icmp_ge (tgt := 116) hx hb dX1_moves_47 (by decide) (fun kc6 => ?_) (fun kc6 => ?_)
  · have hf := ite_t kc6 hf
    cases hf
    exact hk _ _ _ (lv_sub hl [0, 1] rfl) hP hS
  · have hf := ite_f kc6 hf
    refine lv_aload_n hx hb dX1_moves_50 rfl (lv_at hl 0 rfl) ?_
    refine gp_get (C := RX1) (T := TX1) E hK hP (shS_h h) rfl in_X1 3 (by decide) (hts _ q245) (fun _ z => z) (vS_a (by decide) (by decide)) dX1_moves_51 ?_
    refine lv_iload_n hx hb dX1_moves_54 rfl (lv_at hl 2 rfl) ?_
    refine lv_aload_n hx hb dX1_moves_55 rfl (lv_at hl 1 rfl) ?_
    refine gp_get (C := RX1) (T := TX1) E hK (PS_keep hO hg hS) (shS_h g) rfl in_X1 3 (by decide) (hts _ q245) (fun _ z => z) (vS_a (by decide) (by decide)) dX1_moves_56 ?_
    refine lv_iload_n hx hb dX1_moves_59 rfl (lv_at hl 2 rfl) ?_
    obtain ⟨v7, hv7, hf⟩ := ob hf
    refine gp_iald E hK (PS_keep hO hg hS) (shS_a (by decide) (by decide)) (rd_in hv7).1 (by rw [vS_e (by decide) (by decide), ← (rd_in hv7).2]) dX1_moves_60 ?_
    obtain ⟨μ8, hμ8, hf⟩ := ob hf
    refine gp_iast E hK hP hS (sA_a (by decide) (by decide)) (shS_a (by decide) (by decide)) (wr_in hμ8).1 dX1_moves_61 (fun H locs hP _ hS => ?_)
    have hP := PS_ast (by decide) (by decide) hμ8 hP
    refine lv_aload_n hx hb dX1_moves_62 rfl (lv_at hl 0 rfl) ?_
    refine gp_get (C := RX1) (T := TX1) E hK hP (shS_h h) rfl in_X1 4 (by decide) (hts _ q247) (fun _ z => z) (vS_a (by decide) (by decide)) dX1_moves_63 ?_
    refine lv_iload_n hx hb dX1_moves_66 rfl (lv_at hl 2 rfl) ?_
    refine lv_aload_n hx hb dX1_moves_67 rfl (lv_at hl 1 rfl) ?_
    refine gp_get (C := RX1) (T := TX1) E hK (PS_keep hO hg hS) (shS_h g) rfl in_X1 4 (by decide) (hts _ q247) (fun _ z => z) (vS_a (by decide) (by decide)) dX1_moves_68 ?_
    refine lv_iload_n hx hb dX1_moves_71 rfl (lv_at hl 2 rfl) ?_
    obtain ⟨v9, hv9, hf⟩ := ob hf
    refine gp_iald E hK (PS_keep hO hg hS) (shS_a (by decide) (by decide)) (rd_in hv9).1 (by rw [vS_e (by decide) (by decide), ← (rd_in hv9).2]) dX1_moves_72 ?_
    obtain ⟨μ10, hμ10, hf⟩ := ob hf
    refine gp_iast E hK hP hS (sA_a (by decide) (by decide)) (shS_a (by decide) (by decide)) (wr_in hμ10).1 dX1_moves_73 (fun H locs hP _ hS => ?_)
    have hP := PS_ast (by decide) (by decide) hμ10 hP
    refine lv_aload_n hx hb dX1_moves_74 rfl (lv_at hl 0 rfl) ?_
    refine gp_get (C := RX1) (T := TX1) E hK hP (shS_h h) rfl in_X1 5 (by decide) (hts _ q249) (fun _ z => z) (vS_a (by decide) (by decide)) dX1_moves_75 ?_
    refine lv_iload_n hx hb dX1_moves_78 rfl (lv_at hl 2 rfl) ?_
    refine lv_aload_n hx hb dX1_moves_79 rfl (lv_at hl 1 rfl) ?_
    refine gp_get (C := RX1) (T := TX1) E hK (PS_keep hO hg hS) (shS_h g) rfl in_X1 5 (by decide) (hts _ q249) (fun _ z => z) (vS_a (by decide) (by decide)) dX1_moves_80 ?_
    refine lv_iload_n hx hb dX1_moves_83 rfl (lv_at hl 2 rfl) ?_
    obtain ⟨v11, hv11, hf⟩ := ob hf
    refine gp_iald E hK (PS_keep hO hg hS) (shS_a (by decide) (by decide)) (rd_in hv11).1 (by rw [vS_e (by decide) (by decide), ← (rd_in hv11).2]) dX1_moves_84 ?_
    obtain ⟨μ12, hμ12, hf⟩ := ob hf
    refine gp_iast E hK hP hS (sA_a (by decide) (by decide)) (shS_a (by decide) (by decide)) (wr_in hμ12).1 dX1_moves_85 (fun H locs hP _ hS => ?_)
    have hP := PS_ast (by decide) (by decide) hμ12 hP
    refine lv_aload_n hx hb dX1_moves_86 rfl (lv_at hl 0 rfl) ?_
    refine gp_get (C := RX1) (T := TX1) E hK hP (shS_h h) rfl in_X1 6 (by decide) (hts _ q251) (fun _ z => z) (vS_a (by decide) (by decide)) dX1_moves_87 ?_
    refine lv_iload_n hx hb dX1_moves_90 rfl (lv_at hl 2 rfl) ?_
    refine lv_aload_n hx hb dX1_moves_91 rfl (lv_at hl 1 rfl) ?_
    refine gp_get (C := RX1) (T := TX1) E hK (PS_keep hO hg hS) (shS_h g) rfl in_X1 6 (by decide) (hts _ q251) (fun _ z => z) (vS_a (by decide) (by decide)) dX1_moves_92 ?_
    refine lv_iload_n hx hb dX1_moves_95 rfl (lv_at hl 2 rfl) ?_
    obtain ⟨v13, hv13, hf⟩ := ob hf
    refine gp_iald E hK (PS_keep hO hg hS) (shS_a (by decide) (by decide)) (rd_in hv13).1 (by rw [vS_e (by decide) (by decide), ← (rd_in hv13).2]) dX1_moves_96 ?_
    obtain ⟨μ14, hμ14, hf⟩ := ob hf
    refine gp_iast E hK hP hS (sA_a (by decide) (by decide)) (shS_a (by decide) (by decide)) (wr_in hμ14).1 dX1_moves_97 (fun H locs hP _ hS => ?_)
    have hP := PS_ast (by decide) (by decide) hμ14 hP
    refine lv_aload_n hx hb dX1_moves_98 rfl (lv_at hl 0 rfl) ?_
    refine gp_get (C := RX1) (T := TX1) E hK hP (shS_h h) rfl in_X1 7 (by decide) (hts _ q253) (fun _ z => z) (vS_a (by decide) (by decide)) dX1_moves_99 ?_
    refine lv_iload_n hx hb dX1_moves_102 rfl (lv_at hl 2 rfl) ?_
    refine lv_aload_n hx hb dX1_moves_103 rfl (lv_at hl 1 rfl) ?_
    refine gp_get (C := RX1) (T := TX1) E hK (PS_keep hO hg hS) (shS_h g) rfl in_X1 7 (by decide) (hts _ q253) (fun _ z => z) (vS_a (by decide) (by decide)) dX1_moves_104 ?_
    refine lv_iload_n hx hb dX1_moves_107 rfl (lv_at hl 2 rfl) ?_
    obtain ⟨v15, hv15, hf⟩ := ob hf
    refine gp_iald E hK (PS_keep hO hg hS) (shS_a (by decide) (by decide)) (rd_in hv15).1 (by rw [vS_e (by decide) (by decide), ← (rd_in hv15).2]) dX1_moves_108 ?_
    obtain ⟨μ16, hμ16, hf⟩ := ob hf
    refine gp_iast E hK hP hS (sA_a (by decide) (by decide)) (shS_a (by decide) (by decide)) (wr_in hμ16).1 dX1_moves_109 (fun H locs hP _ hS => ?_)
    have hP := PS_ast (by decide) (by decide) hμ16 hP
    refine lv_iinc (v := st.1 + nI 1) (lv' := [(2, .int (st.1 + nI 1)), (0, .ref h), (1, .ref g)]) hx hb dX1_moves_110 hl (k := 2) rfl rfl (by decide) rfl (fun ls hl => ?_)
    refine lv_goto (tgt := 42) hx hb dX1_moves_113 (by decide) ?_
    cases hf
    exact hk _ _ _ (lv_sub hl [1, 2, 0] rfl) hP hS
set_option maxHeartbeats 4000000 in
theorem fs_moves_L126_w {p : Program} {l : Launch} {e : Env} {s : State} {m : MethodId} {args : Array Value} {below : List Frame} {meth : Method} {c : Code} {D : va_G} {dT : Nat → ClassId} {Q : State → Prop} {h : Nat} {ρ : Nat → Nat} {g : Nat} {σ : nwM} {ρo : Nat → Nat} (E : CallFix p m c cX1_moves 4 s args lw_all RX1) (hK : va_K D nwCl (nwT dT) s) (hE : EV D dT s) (hO : PS D dT g σ ρo s.heap) (hg : ∀ q, shS g q ≠ none → ¬ sA h q) (x2 : Int32) {st : Int32 × nwM} {x : nwM} (hw : wh_ (fs_moves_L126 σ x2) st = some x) (hk : (fun x : nwM => ∀ (ls : Array Slot) (H : Heap) (locs : List Loc), lv_has ls 4 [(0, .ref h), (1, .ref g), (2, .int x2)] → PS D dT h x ρ H → va_S (sA h) s.heap H locs → W p l e (rmd 0) s m args below meth c H locs 0 0 Q (F0 m 153 ls [])) x) : (fun st : Int32 × nwM => ∀ (ls : Array Slot) (H : Heap) (locs : List Loc), lv_has ls 4 [(0, .ref h), (1, .ref g), (2, .int x2), (3, .int st.1)] → PS D dT h st.2 ρ H → va_S (sA h) s.heap H locs → W p l e (rmd 0) s m args below meth c H locs 0 0 Q (F0 m 126 ls [])) st := by
  obtain ⟨hx, hb, hml, hown, hts⟩ := id E
  refine wh_run (P := (fun st : Int32 × nwM => ∀ (ls : Array Slot) (H : Heap) (locs : List Loc), lv_has ls 4 [(0, .ref h), (1, .ref g), (2, .int x2), (3, .int st.1)] → PS D dT h st.2 ρ H → va_S (sA h) s.heap H locs → W p l e (rmd 0) s m args below meth c H locs 0 0 Q (F0 m 126 ls []))) (PE := (fun x : nwM => ∀ (ls : Array Slot) (H : Heap) (locs : List Loc), lv_has ls 4 [(0, .ref h), (1, .ref g), (2, .int x2)] → PS D dT h x ρ H → va_S (sA h) s.heap H locs → W p l e (rmd 0) s m args below meth c H locs 0 0 Q (F0 m 153 ls []))) ?_ hw hk
  clear hw hk
  intro st x hf hk ls H locs hl hP hS
  refine lv_iload_n hx hb dX1_moves_126 rfl (lv_at hl 3 rfl) ?_
  refine lv_iconst (v := nI 5) hx hb dX1_moves_127 rfl ?_
  refine lv_icmp_ge (tgt := 153) hx hb dX1_moves_128 (by decide) (fun kc19 => ?_) (fun kc19 => ?_)
  · have hf := ite_t kc19 hf
    cases hf
    exact hk _ _ _ (lv_sub hl [0, 1, 2] rfl) hP hS
  · have hf := ite_f kc19 hf
    refine lv_aload_n hx hb dX1_moves_131 rfl (lv_at hl 0 rfl) ?_
    refine gp_get (C := RX1) (T := TX1) E hK hP (shS_h h) rfl in_X1 0 (by decide) (hts _ q239) (fun _ z => z) (vS_2 (by decide)) dX1_moves_132 ?_
    refine lv_iload_n hx hb dX1_moves_135 rfl (lv_at hl 2 rfl) ?_
    obtain ⟨r20, hr20, hf⟩ := ob hf
    refine gp_aald (t := 2) (ty := .array .int) E hK hP rfl rfl (shS_2 (by decide)) (rw_in hr20).1 (by rw [vS_o (by decide), (rw_in hr20).2.1]) dX1_moves_136 ?_
    refine lv_iload_n hx hb dX1_moves_137 rfl (lv_at hl 3 rfl) ?_
    refine lv_aload_n hx hb dX1_moves_138 rfl (lv_at hl 1 rfl) ?_
    refine gp_get (C := RX1) (T := TX1) E hK (PS_keep hO hg hS) (shS_h g) rfl in_X1 0 (by decide) (hts _ q239) (fun _ z => z) (vS_2 (by decide)) dX1_moves_139 ?_
    refine lv_iload_n hx hb dX1_moves_142 rfl (lv_at hl 2 rfl) ?_
    obtain ⟨r21, hr21, hf⟩ := ob hf
    refine gp_aald (t := 2) (ty := .array .int) E hK (PS_keep hO hg hS) rfl rfl (shS_2 (by decide)) (rw_in hr21).1 (by rw [vS_o (by decide), (rw_in hr21).2.1]) dX1_moves_143 ?_
    refine lv_iload_n hx hb dX1_moves_144 rfl (lv_at hl 3 rfl) ?_
    obtain ⟨v22, hv22, hf⟩ := ob hf
    refine gp_iald E hK (PS_keep hO hg hS) (shS_r (by decide) (rw_in hr21).2.2) (rr_in hv22).1 (by rw [vS_r (by decide) (rw_in hr21).2.2, ← (rr_in hv22).2]) dX1_moves_145 ?_
    obtain ⟨μ23, hμ23, hf⟩ := ob hf
    refine gp_iast E hK hP hS (sA_r (by decide) (rw_in hr20).2.2) (shS_r (by decide) (rw_in hr20).2.2) (ww_in hμ23).1 dX1_moves_146 (fun H locs hP _ hS => ?_)
    have hP := PS_rast (by decide) (rw_in hr20).2.2 hμ23 hP
    refine lv_iinc (v := st.1 + nI 1) (lv' := [(3, .int (st.1 + nI 1)), (0, .ref h), (1, .ref g), (2, .int x2)]) hx hb dX1_moves_147 hl (k := 3) rfl rfl (by decide) rfl (fun ls hl => ?_)
    refine lv_goto (tgt := 126) hx hb dX1_moves_150 (by decide) ?_
    cases hf
    exact hk _ _ _ (lv_sub hl [1, 2, 3, 0] rfl) hP hS
set_option maxHeartbeats 4000000 in
theorem fs_moves_L118_w {p : Program} {l : Launch} {e : Env} {s : State} {m : MethodId} {args : Array Value} {below : List Frame} {meth : Method} {c : Code} {D : va_G} {dT : Nat → ClassId} {Q : State → Prop} {h : Nat} {ρ : Nat → Nat} {g : Nat} {σ : nwM} {ρo : Nat → Nat} (E : CallFix p m c cX1_moves 4 s args lw_all RX1) (hK : va_K D nwCl (nwT dT) s) (hE : EV D dT s) (hO : PS D dT g σ ρo s.heap) (hg : ∀ q, shS g q ≠ none → ¬ sA h q) {st : Int32 × nwM} {x : nwM} (hw : wh_ (fs_moves_L118 σ) st = some x) (hk : (fun x : nwM => ∀ (ls : Array Slot) (H : Heap) (locs : List Loc), lv_has ls 4 [] → PS D dT h x ρ H → va_S (sA h) s.heap H locs → W p l e (rmd 0) s m args below meth c H locs 0 0 Q (F0 m 159 ls [])) x) : (fun st : Int32 × nwM => ∀ (ls : Array Slot) (H : Heap) (locs : List Loc), lv_has ls 4 [(0, .ref h), (1, .ref g), (2, .int st.1)] → PS D dT h st.2 ρ H → va_S (sA h) s.heap H locs → W p l e (rmd 0) s m args below meth c H locs 0 0 Q (F0 m 118 ls [])) st := by
  obtain ⟨hx, hb, hml, hown, hts⟩ := id E
  refine wh_run (P := (fun st : Int32 × nwM => ∀ (ls : Array Slot) (H : Heap) (locs : List Loc), lv_has ls 4 [(0, .ref h), (1, .ref g), (2, .int st.1)] → PS D dT h st.2 ρ H → va_S (sA h) s.heap H locs → W p l e (rmd 0) s m args below meth c H locs 0 0 Q (F0 m 118 ls []))) (PE := (fun x : nwM => ∀ (ls : Array Slot) (H : Heap) (locs : List Loc), lv_has ls 4 [] → PS D dT h x ρ H → va_S (sA h) s.heap H locs → W p l e (rmd 0) s m args below meth c H locs 0 0 Q (F0 m 159 ls []))) ?_ hw hk
  clear hw hk
  intro st x hf hk ls H locs hl hP hS
  refine lv_iload_n hx hb dX1_moves_118 rfl (lv_at hl 2 rfl) ?_
  refine lv_bipush (v := nI 8) hx hb dX1_moves_119 rfl ?_
  refine lv_icmp_ge (tgt := 159) hx hb dX1_moves_121 (by decide) (fun kc18 => ?_) (fun kc18 => ?_)
  · have hf := ite_t kc18 hf
    cases hf
    exact hk _ _ _ (lv_sub hl [] rfl) hP hS
  · have hf := ite_f kc18 hf
    refine lv_iconst (v := nI 0) hx hb dX1_moves_124 rfl ?_
    refine lv_istore_n (lv' := [(3, .int (nI 0)), (0, .ref h), (1, .ref g), (2, .int st.1)]) hx hb dX1_moves_125 rfl hl (by decide) rfl (fun ls hl => ?_)
    obtain ⟨x24, hx24, hf⟩ := ob hf
    refine fs_moves_L126_w E hK hE hO hg st.1 hx24 (fun ls H locs hl hP hS => ?_) _ _ _ (lv_sub hl [1, 2, 3, 0] rfl) hP hS
    refine lv_iinc (v := st.1 + nI 1) (lv' := [(2, .int (st.1 + nI 1)), (0, .ref h), (1, .ref g)]) hx hb dX1_moves_153 hl (k := 2) rfl rfl (by decide) rfl (fun ls hl => ?_)
    refine lv_goto (tgt := 118) hx hb dX1_moves_156 (by decide) ?_
    cases hf
    exact hk _ _ _ (lv_sub hl [1, 2, 0] rfl) hP hS
set_option maxHeartbeats 4000000 in
theorem ds_moves : yX1_moves.cls = RX1 ∧ yX1_moves.cls ≠ "java/lang/invoke/MethodHandle" ∧ yX1_moves.cls ≠ "java/lang/invoke/VarHandle" ∧ (parseMethodDescriptor yX1_moves.desc).map (fun d => d.parameters.length) = some 1 := ⟨rfl, by decide +kernel, by decide +kernel, by decide +kernel⟩
set_option maxHeartbeats 4000000 in
theorem ts_moves (l : Launch) (D : va_G) (dT : Nat → ClassId) (h : Nat) (ρ : Nat → Nat) (g : Nat) (σ : nwM) (ρo : Nat → Nat) (μ : nwM) (res : nwM) (hf : fs_moves σ μ = some res) : Met l yX1_moves (ws_ yX1_moves cX1_moves 4 none) (rmd 0) (sPo D dT h μ ρ g σ ρo [.ref h, .ref g]) (va_Qv (fun (_ : Unit) => True) (fun _ t => PS D dT h res ρ t.heap) (sA h)) 0 0 (sA h) := by
  refine g_met (D := D) (dT := dT) (A := sA h) (own := RX1) (Pic := fun H => PS D dT h μ ρ H ∧ (PS D dT g σ ρo H ∧ ∀ q, shS g q ≠ none → ¬ sA h q)) (by decide) rfl (Nat.le_of_ble_eq_true rfl) ?_
  intro p e s m below meth c ls E hE hr hlk hl hP
  obtain ⟨hP, hO, hg⟩ := hP
  have hK := hE.1
  have hS : va_S (sA h) s.heap s.heap [] := va_S.rf
  obtain ⟨hx, hb, hml, hown, hts⟩ := id E
  have hl : lv_has ls 4 [(0, .ref h), (1, .ref g)] := hl
  unfold fs_moves at hf
  refine lv_aload_n hx hb dX1_moves_0 rfl (lv_at hl 0 rfl) ?_
  refine lv_aload_n hx hb dX1_moves_1 rfl (lv_at hl 1 rfl) ?_
  refine gp_get (C := RX1) (T := TX1) E hK (PS_keep hO hg hS) (shS_h g) rfl in_X1 13 (by decide) (hts _ q265) (fun _ z => z) (vS_i (by decide)) dX1_moves_2 ?_
  obtain ⟨μ1, hμ1, hf⟩ := ob hf
  refine gp_put (C := RX1) (T := TX1) (ty := .int) E hK hP hS (sA_h h) (shS_h h) rfl in_X1 tyX1 tyX1_ok nmX1 13 (by decide) (hts _ q265) (fun _ z => z) rfl rfl rfl rfl dX1_moves_5 (fun H locs hP _ hS => ?_)
  have hP := PS_put (by decide) hμ1 hP
  refine lv_aload_n hx hb dX1_moves_8 rfl (lv_at hl 0 rfl) ?_
  refine lv_aload_n hx hb dX1_moves_9 rfl (lv_at hl 1 rfl) ?_
  refine gp_get (C := RX1) (T := TX1) E hK (PS_keep hO hg hS) (shS_h g) rfl in_X1 15 (by decide) (hts _ q270) (fun _ z => z) (vS_i (by decide)) dX1_moves_10 ?_
  obtain ⟨μ2, hμ2, hf⟩ := ob hf
  refine gp_put (C := RX1) (T := TX1) (ty := .int) E hK hP hS (sA_h h) (shS_h h) rfl in_X1 tyX1 tyX1_ok nmX1 15 (by decide) (hts _ q270) (fun _ z => z) rfl rfl rfl rfl dX1_moves_13 (fun H locs hP _ hS => ?_)
  have hP := PS_put (by decide) hμ2 hP
  refine lv_aload_n hx hb dX1_moves_16 rfl (lv_at hl 0 rfl) ?_
  refine lv_aload_n hx hb dX1_moves_17 rfl (lv_at hl 1 rfl) ?_
  refine gp_get (C := RX1) (T := TX1) E hK (PS_keep hO hg hS) (shS_h g) rfl in_X1 16 (by decide) (hts _ q272) (fun _ z => z) (vS_i (by decide)) dX1_moves_18 ?_
  obtain ⟨μ3, hμ3, hf⟩ := ob hf
  refine gp_put (C := RX1) (T := TX1) (ty := .int) E hK hP hS (sA_h h) (shS_h h) rfl in_X1 tyX1 tyX1_ok nmX1 16 (by decide) (hts _ q272) (fun _ z => z) rfl rfl rfl rfl dX1_moves_21 (fun H locs hP _ hS => ?_)
  have hP := PS_put (by decide) hμ3 hP
  refine lv_aload_n hx hb dX1_moves_24 rfl (lv_at hl 0 rfl) ?_
  refine lv_aload_n hx hb dX1_moves_25 rfl (lv_at hl 1 rfl) ?_
  refine gp_get (C := RX1) (T := TX1) E hK (PS_keep hO hg hS) (shS_h g) rfl in_X1 17 (by decide) (hts _ q274) (fun _ z => z) (vS_i (by decide)) dX1_moves_26 ?_
  obtain ⟨μ4, hμ4, hf⟩ := ob hf
  refine gp_put (C := RX1) (T := TX1) (ty := .int) E hK hP hS (sA_h h) (shS_h h) rfl in_X1 tyX1 tyX1_ok nmX1 17 (by decide) (hts _ q274) (fun _ z => z) rfl rfl rfl rfl dX1_moves_29 (fun H locs hP _ hS => ?_)
  have hP := PS_put (by decide) hμ4 hP
  refine lv_aload_n hx hb dX1_moves_32 rfl (lv_at hl 0 rfl) ?_
  refine lv_aload_n hx hb dX1_moves_33 rfl (lv_at hl 1 rfl) ?_
  refine gp_get (C := RX1) (T := TX1) E hK (PS_keep hO hg hS) (shS_h g) rfl in_X1 18 (by decide) (hts _ q276) (fun _ z => z) (vS_i (by decide)) dX1_moves_34 ?_
  obtain ⟨μ5, hμ5, hf⟩ := ob hf
  refine gp_put (C := RX1) (T := TX1) (ty := .int) E hK hP hS (sA_h h) (shS_h h) rfl in_X1 tyX1 tyX1_ok nmX1 18 (by decide) (hts _ q276) (fun _ z => z) rfl rfl rfl rfl dX1_moves_37 (fun H locs hP _ hS => ?_)
  have hP := PS_put (by decide) hμ5 hP
  refine lv_iconst (v := nI 0) hx hb dX1_moves_40 rfl ?_
  refine lv_istore_n (lv' := [(2, .int (nI 0)), (0, .ref h), (1, .ref g)]) hx hb dX1_moves_41 rfl hl (by decide) rfl (fun ls hl => ?_)
  obtain ⟨x17, hx17, hf⟩ := ob hf
  refine fs_moves_L42_w E hK hE hO hg hx17 (fun ls H locs hl hP hS => ?_) _ _ _ (lv_sub hl [1, 2, 0] rfl) hP hS
  refine lv_iconst (v := nI 0) hx hb dX1_moves_116 rfl ?_
  refine lv_istore_n (lv' := [(2, .int (nI 0)), (0, .ref h), (1, .ref g)]) hx hb dX1_moves_117 rfl hl (by decide) rfl (fun ls hl => ?_)
  obtain ⟨x25, hx25, hf⟩ := ob hf
  refine fs_moves_L118_w E hK hE hO hg hx25 (fun ls H locs hl hP hS => ?_) _ _ _ (lv_sub hl [1, 2, 0] rfl) hP hS
  cases hf
  exact g_vret (Pic := fun H => PS D dT h _ ρ H) E hr hlk hP hS dX1_moves_159
set_option maxHeartbeats 4000000 in
def fs_thinks_L42 (σ : nwM) : (Int32 × nwM) → Option ((Int32 × nwM) ⊕ (nwM)) := fun st => (if (nI 8) ≤ st.1 then some (.inr st.2) else (rd_ σ 8 8 st.1).bind fun v3 => (wr_ st.2 8 8 st.1 v3).bind fun μ4 => some (.inl (st.1 + nI 1, μ4)))
set_option maxHeartbeats 4000000 in
noncomputable def fs_thinks (σ : nwM) (μ : nwM) : Option (nwM) := (wf_ μ 14 (σ 14 0)).bind fun μ1 => (wh_ (fs_thinks_L42 σ) (nI 0, μ1)).bind fun x5 => (fs_moves σ x5).bind fun μ7 => (wf_ μ7 18 (nI 150)).bind fun μ8 => some μ8
set_option maxHeartbeats 4000000 in
theorem fs_thinks_L42_w {p : Program} {l : Launch} {e : Env} {s : State} {m : MethodId} {args : Array Value} {below : List Frame} {meth : Method} {c : Code} {D : va_G} {dT : Nat → ClassId} {Q : State → Prop} {h : Nat} {ρ : Nat → Nat} {g : Nat} {σ : nwM} {ρo : Nat → Nat} (E : CallFix p m c cX1_thinks 3 s args lw_all RX1) (hK : va_K D nwCl (nwT dT) s) (hE : EV D dT s) (hO : PS D dT g σ ρo s.heap) (hg : ∀ q, shS g q ≠ none → ¬ sA h q) {st : Int32 × nwM} {x : nwM} (hw : wh_ (fs_thinks_L42 σ) st = some x) (hk : (fun x : nwM => ∀ (ls : Array Slot) (H : Heap) (locs : List Loc), lv_has ls 3 [(0, .ref h), (1, .ref g)] → PS D dT h x ρ H → va_S (sA h) s.heap H locs → W p l e (rmd 1) s m args below meth c H locs 0 0 Q (F0 m 66 ls [])) x) : (fun st : Int32 × nwM => ∀ (ls : Array Slot) (H : Heap) (locs : List Loc), lv_has ls 3 [(0, .ref h), (1, .ref g), (2, .int st.1)] → PS D dT h st.2 ρ H → va_S (sA h) s.heap H locs → W p l e (rmd 1) s m args below meth c H locs 0 0 Q (F0 m 42 ls [])) st := by
  obtain ⟨hx, hb, hml, hown, hts⟩ := id E
  refine wh_run (P := (fun st : Int32 × nwM => ∀ (ls : Array Slot) (H : Heap) (locs : List Loc), lv_has ls 3 [(0, .ref h), (1, .ref g), (2, .int st.1)] → PS D dT h st.2 ρ H → va_S (sA h) s.heap H locs → W p l e (rmd 1) s m args below meth c H locs 0 0 Q (F0 m 42 ls []))) (PE := (fun x : nwM => ∀ (ls : Array Slot) (H : Heap) (locs : List Loc), lv_has ls 3 [(0, .ref h), (1, .ref g)] → PS D dT h x ρ H → va_S (sA h) s.heap H locs → W p l e (rmd 1) s m args below meth c H locs 0 0 Q (F0 m 66 ls []))) ?_ hw hk
  clear hw hk
  intro st x hf hk ls H locs hl hP hS
  refine lv_iload_n hx hb dX1_thinks_42 rfl (lv_at hl 2 rfl) ?_
  refine lv_bipush (v := nI 8) hx hb dX1_thinks_43 rfl ?_
  refine lv_icmp_ge (tgt := 66) hx hb dX1_thinks_45 (by decide) (fun kc2 => ?_) (fun kc2 => ?_)
  · have hf := ite_t kc2 hf
    cases hf
    exact hk _ _ _ (lv_sub hl [0, 1] rfl) hP hS
  · have hf := ite_f kc2 hf
    refine lv_aload_n hx hb dX1_thinks_48 rfl (lv_at hl 0 rfl) ?_
    refine gp_get (C := RX1) (T := TX1) E hK hP (shS_h h) rfl in_X1 8 (by decide) (hts _ q255) (fun _ z => z) (vS_a (by decide) (by decide)) dX1_thinks_49 ?_
    refine lv_iload_n hx hb dX1_thinks_52 rfl (lv_at hl 2 rfl) ?_
    refine lv_aload_n hx hb dX1_thinks_53 rfl (lv_at hl 1 rfl) ?_
    refine gp_get (C := RX1) (T := TX1) E hK (PS_keep hO hg hS) (shS_h g) rfl in_X1 8 (by decide) (hts _ q255) (fun _ z => z) (vS_a (by decide) (by decide)) dX1_thinks_54 ?_
    refine lv_iload_n hx hb dX1_thinks_57 rfl (lv_at hl 2 rfl) ?_
    obtain ⟨v3, hv3, hf⟩ := ob hf
    refine gp_iald E hK (PS_keep hO hg hS) (shS_a (by decide) (by decide)) (rd_in hv3).1 (by rw [vS_e (by decide) (by decide), ← (rd_in hv3).2]) dX1_thinks_58 ?_
    obtain ⟨μ4, hμ4, hf⟩ := ob hf
    refine gp_iast E hK hP hS (sA_a (by decide) (by decide)) (shS_a (by decide) (by decide)) (wr_in hμ4).1 dX1_thinks_59 (fun H locs hP _ hS => ?_)
    have hP := PS_ast (by decide) (by decide) hμ4 hP
    refine lv_iinc (v := st.1 + nI 1) (lv' := [(2, .int (st.1 + nI 1)), (0, .ref h), (1, .ref g)]) hx hb dX1_thinks_60 hl (k := 2) rfl rfl (by decide) rfl (fun ls hl => ?_)
    refine lv_goto (tgt := 42) hx hb dX1_thinks_63 (by decide) ?_
    cases hf
    exact hk _ _ _ (lv_sub hl [1, 2, 0] rfl) hP hS
set_option maxHeartbeats 4000000 in
theorem ds_thinks : yX1_thinks.cls = RX1 ∧ yX1_thinks.cls ≠ "java/lang/invoke/MethodHandle" ∧ yX1_thinks.cls ≠ "java/lang/invoke/VarHandle" ∧ (parseMethodDescriptor yX1_thinks.desc).map (fun d => d.parameters.length) = some 1 := ⟨rfl, by decide +kernel, by decide +kernel, by decide +kernel⟩
set_option maxHeartbeats 4000000 in
theorem ts_thinks (l : Launch) (D : va_G) (dT : Nat → ClassId) (h : Nat) (ρ : Nat → Nat) (g : Nat) (σ : nwM) (ρo : Nat → Nat) (μ : nwM) (res : nwM) (hf : fs_thinks σ μ = some res) : Met l yX1_thinks (ws_ yX1_thinks cX1_thinks 3 none) (rmd 1) (sPo D dT h μ ρ g σ ρo [.ref h, .ref g]) (va_Qv (fun (_ : Unit) => True) (fun _ t => PS D dT h res ρo t.heap) (sA h)) 0 0 (sA h) := by
  refine g_met (D := D) (dT := dT) (A := sA h) (own := RX1) (Pic := fun H => PS D dT h μ ρ H ∧ (PS D dT g σ ρo H ∧ ∀ q, shS g q ≠ none → ¬ sA h q)) (by decide) rfl (Nat.le_of_ble_eq_true rfl) ?_
  intro p e s m below meth c ls E hE hr hlk hl hP
  obtain ⟨hP, hO, hg⟩ := hP
  have hK := hE.1
  have hS : va_S (sA h) s.heap s.heap [] := va_S.rf
  obtain ⟨hx, hb, hml, hown, hts⟩ := id E
  have hl : lv_has ls 3 [(0, .ref h), (1, .ref g)] := hl
  unfold fs_thinks at hf
  refine lv_aload_n hx hb dX1_thinks_0 rfl (lv_at hl 0 rfl) ?_
  refine lv_aload_n hx hb dX1_thinks_1 rfl (lv_at hl 1 rfl) ?_
  refine gp_get (C := RX1) (T := TX1) E hK (PS_keep hO hg hS) (shS_h g) rfl in_X1 9 (by decide) (hts _ q257) (fun _ z => z) (vS_l (by decide) (by decide)) dX1_thinks_2 ?_
  refine gp_put (C := RX1) (T := TX1) (ty := .object "java/util/ArrayList") E hK hP hS (sA_h h) (shS_h h) rfl in_X1 tyX1 tyX1_ok nmX1 9 (by decide) (hts _ q257) (fun _ z => z) rfl rfl rfl rfl dX1_thinks_5 (fun H locs hP _ hS => ?_)
  have hP := PS_putl (by decide) (by decide) hP
  refine lv_aload_n hx hb dX1_thinks_8 rfl (lv_at hl 0 rfl) ?_
  refine lv_aload_n hx hb dX1_thinks_9 rfl (lv_at hl 1 rfl) ?_
  refine gp_get (C := RX1) (T := TX1) E hK (PS_keep hO hg hS) (shS_h g) rfl in_X1 10 (by decide) (hts _ q259) (fun _ z => z) (vS_l (by decide) (by decide)) dX1_thinks_10 ?_
  refine gp_put (C := RX1) (T := TX1) (ty := .object "java/util/ArrayList") E hK hP hS (sA_h h) (shS_h h) rfl in_X1 tyX1 tyX1_ok nmX1 10 (by decide) (hts _ q259) (fun _ z => z) rfl rfl rfl rfl dX1_thinks_13 (fun H locs hP _ hS => ?_)
  have hP := PS_putl (by decide) (by decide) hP
  refine lv_aload_n hx hb dX1_thinks_16 rfl (lv_at hl 0 rfl) ?_
  refine lv_aload_n hx hb dX1_thinks_17 rfl (lv_at hl 1 rfl) ?_
  refine gp_get (C := RX1) (T := TX1) E hK (PS_keep hO hg hS) (shS_h g) rfl in_X1 11 (by decide) (hts _ q261) (fun _ z => z) (vS_l (by decide) (by decide)) dX1_thinks_18 ?_
  refine gp_put (C := RX1) (T := TX1) (ty := .object "java/util/ArrayList") E hK hP hS (sA_h h) (shS_h h) rfl in_X1 tyX1 tyX1_ok nmX1 11 (by decide) (hts _ q261) (fun _ z => z) rfl rfl rfl rfl dX1_thinks_21 (fun H locs hP _ hS => ?_)
  have hP := PS_putl (by decide) (by decide) hP
  refine lv_aload_n hx hb dX1_thinks_24 rfl (lv_at hl 0 rfl) ?_
  refine lv_aload_n hx hb dX1_thinks_25 rfl (lv_at hl 1 rfl) ?_
  refine gp_get (C := RX1) (T := TX1) E hK (PS_keep hO hg hS) (shS_h g) rfl in_X1 12 (by decide) (hts _ q263) (fun _ z => z) (vS_l (by decide) (by decide)) dX1_thinks_26 ?_
  refine gp_put (C := RX1) (T := TX1) (ty := .object "java/util/ArrayList") E hK hP hS (sA_h h) (shS_h h) rfl in_X1 tyX1 tyX1_ok nmX1 12 (by decide) (hts _ q263) (fun _ z => z) rfl rfl rfl rfl dX1_thinks_29 (fun H locs hP _ hS => ?_)
  have hP := PS_putl (by decide) (by decide) hP
  have hP := PS_rho4 hP
  refine lv_aload_n hx hb dX1_thinks_32 rfl (lv_at hl 0 rfl) ?_
  refine lv_aload_n hx hb dX1_thinks_33 rfl (lv_at hl 1 rfl) ?_
  refine gp_get (C := RX1) (T := TX1) E hK (PS_keep hO hg hS) (shS_h g) rfl in_X1 14 (by decide) (hts _ q268) (fun _ z => z) (vS_i (by decide)) dX1_thinks_34 ?_
  obtain ⟨μ1, hμ1, hf⟩ := ob hf
  refine gp_put (C := RX1) (T := TX1) (ty := .int) E hK hP hS (sA_h h) (shS_h h) rfl in_X1 tyX1 tyX1_ok nmX1 14 (by decide) (hts _ q268) (fun _ z => z) rfl rfl rfl rfl dX1_thinks_37 (fun H locs hP _ hS => ?_)
  have hP := PS_put (by decide) hμ1 hP
  refine lv_iconst (v := nI 0) hx hb dX1_thinks_40 rfl ?_
  refine lv_istore_n (lv' := [(2, .int (nI 0)), (0, .ref h), (1, .ref g)]) hx hb dX1_thinks_41 rfl hl (by decide) rfl (fun ls hl => ?_)
  obtain ⟨x5, hx5, hf⟩ := ob hf
  refine fs_thinks_L42_w E hK hE hO hg hx5 (fun ls H locs hl hP hS => ?_) _ _ _ (lv_sub hl [1, 2, 0] rfl) hP hS
  refine lv_aload_n hx hb dX1_thinks_66 rfl (lv_at hl 0 rfl) ?_
  refine lv_aload_n hx hb dX1_thinks_67 rfl (lv_at hl 1 rfl) ?_
  obtain ⟨μ7, hc6, hf⟩ := ob hf
  refine g_callv E hE (Pic := fun H => PS D dT h x5 _ H ∧ (PS D dT g σ ρo H ∧ ∀ q, shS g q ≠ none → ¬ sA h q)) (Pic1 := fun H => PS D dT h μ7 _ H) ⟨hP, PS_keep hO hg hS, hg⟩ hS (fun _ z => z) (As := [.ref g]) (ts_moves l D dT h _ g σ ρo x5 _ hc6) (g_recv hK hP (shS_h h) rfl) (lw_V q1216 q943 q944 q162 q945) ds_moves rfl (by decide) (by decide) hl rfl (Nat.le_of_ble_eq_true rfl) dX1_thinks_68 (fun H locs hP _ hS => ?_)
  refine lv_aload_n hx hb dX1_thinks_71 rfl (lv_at hl 0 rfl) ?_
  refine lv_sipush (v := nI 150) hx hb dX1_thinks_72 rfl ?_
  obtain ⟨μ8, hμ8, hf⟩ := ob hf
  refine gp_put (C := RX1) (T := TX1) (ty := .int) E hK hP hS (sA_h h) (shS_h h) rfl in_X1 tyX1 tyX1_ok nmX1 18 (by decide) (hts _ q276) (fun _ z => z) rfl rfl rfl rfl dX1_thinks_75 (fun H locs hP _ hS => ?_)
  have hP := PS_put (by decide) hμ8 hP
  cases hf
  exact g_vret (Pic := fun H => PS D dT h _ ρo H) E hr hlk hP hS dX1_thinks_78
set_option maxHeartbeats 4000000 in
def fs_takes_L25 (σ : nwM) (x2 : Int32) : (Int32 × nwM) → Option ((Int32 × nwM) ⊕ (nwM)) := fun st => (if (nI 5) ≤ st.1 then some (.inr st.2) else (rw_ 150 x2).bind fun r6 => (rw_ 150 x2).bind fun r7 => (rr_ σ 2 r7 st.1).bind fun v8 => (ww_ st.2 2 r6 st.1 v8).bind fun μ9 => some (.inl (st.1 + nI 1, μ9)))
set_option maxHeartbeats 4000000 in
noncomputable def fs_takes_L15 (σ : nwM) : (Int32 × nwM) → Option ((Int32 × nwM) ⊕ (nwM)) := fun st => (if (st.2 18 0) ≤ st.1 then some (.inr st.2) else (wh_ (fs_takes_L25 σ st.1) (nI 0, st.2)).bind fun x10 => some (.inl (st.1 + nI 1, x10)))
set_option maxHeartbeats 4000000 in
noncomputable def fs_takes (σ : nwM) (μ : nwM) : Option (nwM) := (fs_thinks σ μ).bind fun μ2 => (wf_ μ2 18 (σ 18 0)).bind fun μ3 => (wh_ (fs_takes_L15 σ) (nI 0, μ3)).bind fun x11 => some x11
set_option maxHeartbeats 4000000 in
theorem fs_takes_L25_w {p : Program} {l : Launch} {e : Env} {s : State} {m : MethodId} {args : Array Value} {below : List Frame} {meth : Method} {c : Code} {D : va_G} {dT : Nat → ClassId} {Q : State → Prop} {h : Nat} {ρ : Nat → Nat} {g : Nat} {σ : nwM} {ρo : Nat → Nat} (E : CallFix p m c cX1_takes 4 s args lw_all RX1) (hK : va_K D nwCl (nwT dT) s) (hE : EV D dT s) (hO : PS D dT g σ ρo s.heap) (hg : ∀ q, shS g q ≠ none → ¬ sA h q) (x2 : Int32) {st : Int32 × nwM} {x : nwM} (hw : wh_ (fs_takes_L25 σ x2) st = some x) (hk : (fun x : nwM => ∀ (ls : Array Slot) (H : Heap) (locs : List Loc), lv_has ls 4 [(0, .ref h), (1, .ref g), (2, .int x2)] → PS D dT h x ρ H → va_S (sA h) s.heap H locs → W p l e (rmd 2) s m args below meth c H locs 0 0 Q (F0 m 52 ls [])) x) : (fun st : Int32 × nwM => ∀ (ls : Array Slot) (H : Heap) (locs : List Loc), lv_has ls 4 [(0, .ref h), (1, .ref g), (2, .int x2), (3, .int st.1)] → PS D dT h st.2 ρ H → va_S (sA h) s.heap H locs → W p l e (rmd 2) s m args below meth c H locs 0 0 Q (F0 m 25 ls [])) st := by
  obtain ⟨hx, hb, hml, hown, hts⟩ := id E
  refine wh_run (P := (fun st : Int32 × nwM => ∀ (ls : Array Slot) (H : Heap) (locs : List Loc), lv_has ls 4 [(0, .ref h), (1, .ref g), (2, .int x2), (3, .int st.1)] → PS D dT h st.2 ρ H → va_S (sA h) s.heap H locs → W p l e (rmd 2) s m args below meth c H locs 0 0 Q (F0 m 25 ls []))) (PE := (fun x : nwM => ∀ (ls : Array Slot) (H : Heap) (locs : List Loc), lv_has ls 4 [(0, .ref h), (1, .ref g), (2, .int x2)] → PS D dT h x ρ H → va_S (sA h) s.heap H locs → W p l e (rmd 2) s m args below meth c H locs 0 0 Q (F0 m 52 ls []))) ?_ hw hk
  clear hw hk
  intro st x hf hk ls H locs hl hP hS
  refine lv_iload_n hx hb dX1_takes_25 rfl (lv_at hl 3 rfl) ?_
  refine lv_iconst (v := nI 5) hx hb dX1_takes_26 rfl ?_
  refine lv_icmp_ge (tgt := 52) hx hb dX1_takes_27 (by decide) (fun kc5 => ?_) (fun kc5 => ?_)
  · have hf := ite_t kc5 hf
    cases hf
    exact hk _ _ _ (lv_sub hl [0, 1, 2] rfl) hP hS
  · have hf := ite_f kc5 hf
    refine lv_aload_n hx hb dX1_takes_30 rfl (lv_at hl 0 rfl) ?_
    refine gp_get (C := RX1) (T := TX1) E hK hP (shS_h h) rfl in_X1 2 (by decide) (hts _ q243) (fun _ z => z) (vS_2 (by decide)) dX1_takes_31 ?_
    refine lv_iload_n hx hb dX1_takes_34 rfl (lv_at hl 2 rfl) ?_
    obtain ⟨r6, hr6, hf⟩ := ob hf
    refine gp_aald (t := 2) (ty := .array .int) E hK hP rfl rfl (shS_2 (by decide)) (rw_in hr6).1 (by rw [vS_o (by decide), (rw_in hr6).2.1]) dX1_takes_35 ?_
    refine lv_iload_n hx hb dX1_takes_36 rfl (lv_at hl 3 rfl) ?_
    refine lv_aload_n hx hb dX1_takes_37 rfl (lv_at hl 1 rfl) ?_
    refine gp_get (C := RX1) (T := TX1) E hK (PS_keep hO hg hS) (shS_h g) rfl in_X1 2 (by decide) (hts _ q243) (fun _ z => z) (vS_2 (by decide)) dX1_takes_38 ?_
    refine lv_iload_n hx hb dX1_takes_41 rfl (lv_at hl 2 rfl) ?_
    obtain ⟨r7, hr7, hf⟩ := ob hf
    refine gp_aald (t := 2) (ty := .array .int) E hK (PS_keep hO hg hS) rfl rfl (shS_2 (by decide)) (rw_in hr7).1 (by rw [vS_o (by decide), (rw_in hr7).2.1]) dX1_takes_42 ?_
    refine lv_iload_n hx hb dX1_takes_43 rfl (lv_at hl 3 rfl) ?_
    obtain ⟨v8, hv8, hf⟩ := ob hf
    refine gp_iald E hK (PS_keep hO hg hS) (shS_r (by decide) (rw_in hr7).2.2) (rr_in hv8).1 (by rw [vS_r (by decide) (rw_in hr7).2.2, ← (rr_in hv8).2]) dX1_takes_44 ?_
    obtain ⟨μ9, hμ9, hf⟩ := ob hf
    refine gp_iast E hK hP hS (sA_r (by decide) (rw_in hr6).2.2) (shS_r (by decide) (rw_in hr6).2.2) (ww_in hμ9).1 dX1_takes_45 (fun H locs hP _ hS => ?_)
    have hP := PS_rast (by decide) (rw_in hr6).2.2 hμ9 hP
    refine lv_iinc (v := st.1 + nI 1) (lv' := [(3, .int (st.1 + nI 1)), (0, .ref h), (1, .ref g), (2, .int x2)]) hx hb dX1_takes_46 hl (k := 3) rfl rfl (by decide) rfl (fun ls hl => ?_)
    refine lv_goto (tgt := 25) hx hb dX1_takes_49 (by decide) ?_
    cases hf
    exact hk _ _ _ (lv_sub hl [1, 2, 3, 0] rfl) hP hS
set_option maxHeartbeats 4000000 in
theorem fs_takes_L15_w {p : Program} {l : Launch} {e : Env} {s : State} {m : MethodId} {args : Array Value} {below : List Frame} {meth : Method} {c : Code} {D : va_G} {dT : Nat → ClassId} {Q : State → Prop} {h : Nat} {ρ : Nat → Nat} {g : Nat} {σ : nwM} {ρo : Nat → Nat} (E : CallFix p m c cX1_takes 4 s args lw_all RX1) (hK : va_K D nwCl (nwT dT) s) (hE : EV D dT s) (hO : PS D dT g σ ρo s.heap) (hg : ∀ q, shS g q ≠ none → ¬ sA h q) {st : Int32 × nwM} {x : nwM} (hw : wh_ (fs_takes_L15 σ) st = some x) (hk : (fun x : nwM => ∀ (ls : Array Slot) (H : Heap) (locs : List Loc), lv_has ls 4 [] → PS D dT h x ρ H → va_S (sA h) s.heap H locs → W p l e (rmd 2) s m args below meth c H locs 0 0 Q (F0 m 58 ls [])) x) : (fun st : Int32 × nwM => ∀ (ls : Array Slot) (H : Heap) (locs : List Loc), lv_has ls 4 [(0, .ref h), (1, .ref g), (2, .int st.1)] → PS D dT h st.2 ρ H → va_S (sA h) s.heap H locs → W p l e (rmd 2) s m args below meth c H locs 0 0 Q (F0 m 15 ls [])) st := by
  obtain ⟨hx, hb, hml, hown, hts⟩ := id E
  refine wh_run (P := (fun st : Int32 × nwM => ∀ (ls : Array Slot) (H : Heap) (locs : List Loc), lv_has ls 4 [(0, .ref h), (1, .ref g), (2, .int st.1)] → PS D dT h st.2 ρ H → va_S (sA h) s.heap H locs → W p l e (rmd 2) s m args below meth c H locs 0 0 Q (F0 m 15 ls []))) (PE := (fun x : nwM => ∀ (ls : Array Slot) (H : Heap) (locs : List Loc), lv_has ls 4 [] → PS D dT h x ρ H → va_S (sA h) s.heap H locs → W p l e (rmd 2) s m args below meth c H locs 0 0 Q (F0 m 58 ls []))) ?_ hw hk
  clear hw hk
  intro st x hf hk ls H locs hl hP hS
  refine lv_iload_n hx hb dX1_takes_15 rfl (lv_at hl 2 rfl) ?_
  refine lv_aload_n hx hb dX1_takes_16 rfl (lv_at hl 0 rfl) ?_
  refine gp_get (C := RX1) (T := TX1) E hK hP (shS_h h) rfl in_X1 18 (by decide) (hts _ q276) (fun _ z => z) (vS_i (by decide)) dX1_takes_17 ?_
  refine lv_icmp_ge (tgt := 58) hx hb dX1_takes_20 (by decide) (fun kc4 => ?_) (fun kc4 => ?_)
  · have hf := ite_t kc4 hf
    cases hf
    exact hk _ _ _ (lv_sub hl [] rfl) hP hS
  · have hf := ite_f kc4 hf
    refine lv_iconst (v := nI 0) hx hb dX1_takes_23 rfl ?_
    refine lv_istore_n (lv' := [(3, .int (nI 0)), (0, .ref h), (1, .ref g), (2, .int st.1)]) hx hb dX1_takes_24 rfl hl (by decide) rfl (fun ls hl => ?_)
    obtain ⟨x10, hx10, hf⟩ := ob hf
    refine fs_takes_L25_w E hK hE hO hg st.1 hx10 (fun ls H locs hl hP hS => ?_) _ _ _ (lv_sub hl [1, 2, 3, 0] rfl) hP hS
    refine lv_iinc (v := st.1 + nI 1) (lv' := [(2, .int (st.1 + nI 1)), (0, .ref h), (1, .ref g)]) hx hb dX1_takes_52 hl (k := 2) rfl rfl (by decide) rfl (fun ls hl => ?_)
    refine lv_goto (tgt := 15) hx hb dX1_takes_55 (by decide) ?_
    cases hf
    exact hk _ _ _ (lv_sub hl [1, 2, 0] rfl) hP hS
set_option maxHeartbeats 4000000 in
theorem ds_takes : yX1_takes.cls = RX1 ∧ yX1_takes.cls ≠ "java/lang/invoke/MethodHandle" ∧ yX1_takes.cls ≠ "java/lang/invoke/VarHandle" ∧ (parseMethodDescriptor yX1_takes.desc).map (fun d => d.parameters.length) = some 1 := ⟨rfl, by decide +kernel, by decide +kernel, by decide +kernel⟩
set_option maxHeartbeats 4000000 in
theorem ts_takes (l : Launch) (D : va_G) (dT : Nat → ClassId) (h : Nat) (ρ : Nat → Nat) (g : Nat) (σ : nwM) (ρo : Nat → Nat) (μ : nwM) (res : nwM) (hf : fs_takes σ μ = some res) : Met l yX1_takes (ws_ yX1_takes cX1_takes 4 none) (rmd 2) (sPo D dT h μ ρ g σ ρo [.ref h, .ref g]) (va_Qv (fun (_ : Unit) => True) (fun _ t => PS D dT h res ρo t.heap) (sA h)) 0 0 (sA h) := by
  refine g_met (D := D) (dT := dT) (A := sA h) (own := RX1) (Pic := fun H => PS D dT h μ ρ H ∧ (PS D dT g σ ρo H ∧ ∀ q, shS g q ≠ none → ¬ sA h q)) (by decide) rfl (Nat.le_of_ble_eq_true rfl) ?_
  intro p e s m below meth c ls E hE hr hlk hl hP
  obtain ⟨hP, hO, hg⟩ := hP
  have hK := hE.1
  have hS : va_S (sA h) s.heap s.heap [] := va_S.rf
  obtain ⟨hx, hb, hml, hown, hts⟩ := id E
  have hl : lv_has ls 4 [(0, .ref h), (1, .ref g)] := hl
  unfold fs_takes at hf
  refine lv_aload_n hx hb dX1_takes_0 rfl (lv_at hl 0 rfl) ?_
  refine lv_aload_n hx hb dX1_takes_1 rfl (lv_at hl 1 rfl) ?_
  obtain ⟨μ2, hc1, hf⟩ := ob hf
  refine g_callv E hE (Pic := fun H => PS D dT h μ _ H ∧ (PS D dT g σ ρo H ∧ ∀ q, shS g q ≠ none → ¬ sA h q)) (Pic1 := fun H => PS D dT h μ2 _ H) ⟨hP, PS_keep hO hg hS, hg⟩ hS (fun _ z => z) (As := [.ref g]) (ts_thinks l D dT h _ g σ ρo μ _ hc1) (g_recv hK hP (shS_h h) rfl) (lw_V q1398 q1213 q1214 q162 q1215) ds_thinks rfl (by decide) (by decide) hl rfl (Nat.le_of_ble_eq_true rfl) dX1_takes_2 (fun H locs hP _ hS => ?_)
  refine lv_aload_n hx hb dX1_takes_5 rfl (lv_at hl 0 rfl) ?_
  refine lv_aload_n hx hb dX1_takes_6 rfl (lv_at hl 1 rfl) ?_
  refine gp_get (C := RX1) (T := TX1) E hK (PS_keep hO hg hS) (shS_h g) rfl in_X1 18 (by decide) (hts _ q276) (fun _ z => z) (vS_i (by decide)) dX1_takes_7 ?_
  obtain ⟨μ3, hμ3, hf⟩ := ob hf
  refine gp_put (C := RX1) (T := TX1) (ty := .int) E hK hP hS (sA_h h) (shS_h h) rfl in_X1 tyX1 tyX1_ok nmX1 18 (by decide) (hts _ q276) (fun _ z => z) rfl rfl rfl rfl dX1_takes_10 (fun H locs hP _ hS => ?_)
  have hP := PS_put (by decide) hμ3 hP
  refine lv_iconst (v := nI 0) hx hb dX1_takes_13 rfl ?_
  refine lv_istore_n (lv' := [(2, .int (nI 0)), (0, .ref h), (1, .ref g)]) hx hb dX1_takes_14 rfl hl (by decide) rfl (fun ls hl => ?_)
  obtain ⟨x11, hx11, hf⟩ := ob hf
  refine fs_takes_L15_w E hK hE hO hg hx11 (fun ls H locs hl hP hS => ?_) _ _ _ (lv_sub hl [1, 2, 0] rfl) hP hS
  cases hf
  exact g_vret (Pic := fun H => PS D dT h _ ρo H) E hr hlk hP hS dX1_takes_58
set_option maxHeartbeats 4000000 in
def fs_draw (x1 : Int32) (μ : nwM) : Option (Int32 × nwM) := (wf_ μ 17 (((1664525) * (μ 17 0)) + (1013904223))).bind fun μ1 => (rm_ (((μ1 17 0).toUInt32 >>> ((nI 8).toUInt32 &&& Int32.toUInt32 31)).toInt32) x1).bind fun v2 => some (v2, μ1)
set_option maxHeartbeats 4000000 in
theorem ds_draw : yX1_draw.cls = RX1 ∧ yX1_draw.cls ≠ "java/lang/invoke/MethodHandle" ∧ yX1_draw.cls ≠ "java/lang/invoke/VarHandle" ∧ (parseMethodDescriptor yX1_draw.desc).map (fun d => d.parameters.length) = some 1 := ⟨rfl, by decide +kernel, by decide +kernel, by decide +kernel⟩
set_option maxHeartbeats 4000000 in
theorem ts_draw (l : Launch) (D : va_G) (dT : Nat → ClassId) (h : Nat) (ρ : Nat → Nat) (x1 : Int32) (μ : nwM) (res : Int32 × nwM) (hf : fs_draw x1 μ = some res) : Met l yX1_draw (ws_ yX1_draw cX1_draw 2 (some .int)) (rmd 0) (sPc D dT h μ ρ [.ref h, .int x1]) (va_Qi (fun r' (_ : Unit) => r' = res.1) (fun _ t => PS D dT h res.2 ρ t.heap) (sA h)) 0 0 (sA h) := by
  refine g_met (D := D) (dT := dT) (A := sA h) (own := RX1) (Pic := fun H => PS D dT h μ ρ H) (by decide) rfl (Nat.le_of_ble_eq_true rfl) ?_
  intro p e s m below meth c ls E hE hr hlk hl hP
  have hK := hE.1
  have hS : va_S (sA h) s.heap s.heap [] := va_S.rf
  obtain ⟨hx, hb, hml, hown, hts⟩ := id E
  have hl : lv_has ls 2 [(0, .ref h), (1, .int x1)] := hl
  unfold fs_draw at hf
  refine lv_aload_n hx hb dX1_draw_0 rfl (lv_at hl 0 rfl) ?_
  refine lv_ldc (v := 1664525) hx hb hown (hts _ q1190) dX1_draw_1 ?_
  refine lv_aload_n hx hb dX1_draw_3 rfl (lv_at hl 0 rfl) ?_
  refine gp_get (C := RX1) (T := TX1) E hK hP (shS_h h) rfl in_X1 17 (by decide) (hts _ q274) (fun _ z => z) (vS_i (by decide)) dX1_draw_4 ?_
  refine lv_imul hx hb dX1_draw_7 ?_
  refine lv_ldc (v := 1013904223) hx hb hown (hts _ q1191) dX1_draw_8 ?_
  refine lv_iadd hx hb dX1_draw_10 ?_
  obtain ⟨μ1, hμ1, hf⟩ := ob hf
  refine gp_put (C := RX1) (T := TX1) (ty := .int) E hK hP hS (sA_h h) (shS_h h) rfl in_X1 tyX1 tyX1_ok nmX1 17 (by decide) (hts _ q274) (fun _ z => z) rfl rfl rfl rfl dX1_draw_11 (fun H locs hP _ hS => ?_)
  have hP := PS_put (by decide) hμ1 hP
  refine lv_aload_n hx hb dX1_draw_14 rfl (lv_at hl 0 rfl) ?_
  refine gp_get (C := RX1) (T := TX1) E hK hP (shS_h h) rfl in_X1 17 (by decide) (hts _ q274) (fun _ z => z) (vS_i (by decide)) dX1_draw_15 ?_
  refine lv_bipush (v := nI 8) hx hb dX1_draw_18 rfl ?_
  refine lv_iushr (v := ((μ1 17 0).toUInt32 >>> ((nI 8).toUInt32 &&& Int32.toUInt32 31)).toInt32) hx hb dX1_draw_20 rfl ?_
  refine lv_iload_n hx hb dX1_draw_21 rfl (lv_at hl 1 rfl) ?_
  obtain ⟨v2, hv2, hf⟩ := ob hf
  refine lv_irem hx hb dX1_draw_22 (rm_in hv2).1 ?_
  refine lv_nm (rm_in hv2).2 ?_
  cases hf
  exact g_iret (Pic := fun H => PS D dT h _ ρ H) E hr hlk hP hS rfl dX1_draw_23
set_option maxHeartbeats 4000000 in
def fs_notes (x1 : Int32) (x2 : Int32) (x3 : Int32) (x4 : Int32) (μ : nwM) : Option (nwM) := (if (μ 18 0) = (nI 150) then some μ else (rw_ 150 (μ 18 0)).bind fun r2 => (ww_ μ 2 r2 (nI 0) (μ 15 0)).bind fun μ3 => (ww_ μ3 2 r2 (nI 1) x1).bind fun μ4 => (ww_ μ4 2 r2 (nI 2) x2).bind fun μ5 => (ww_ μ5 2 r2 (nI 3) x3).bind fun μ6 => (ww_ μ6 2 r2 (nI 4) x4).bind fun μ7 => (wf_ μ7 18 ((μ7 18 0) + (nI 1))).bind fun μ8 => some μ8)
set_option maxHeartbeats 4000000 in
theorem ds_notes : yX1_notes.cls = RX1 ∧ yX1_notes.cls ≠ "java/lang/invoke/MethodHandle" ∧ yX1_notes.cls ≠ "java/lang/invoke/VarHandle" ∧ (parseMethodDescriptor yX1_notes.desc).map (fun d => d.parameters.length) = some 4 := ⟨rfl, by decide +kernel, by decide +kernel, by decide +kernel⟩
set_option maxHeartbeats 4000000 in
theorem ts_notes (l : Launch) (D : va_G) (dT : Nat → ClassId) (h : Nat) (ρ : Nat → Nat) (x1 : Int32) (x2 : Int32) (x3 : Int32) (x4 : Int32) (μ : nwM) (res : nwM) (hf : fs_notes x1 x2 x3 x4 μ = some res) : Met l yX1_notes (ws_ yX1_notes cX1_notes 6 none) (rmd 0) (sPc D dT h μ ρ [.ref h, .int x1, .int x2, .int x3, .int x4]) (va_Qv (fun (_ : Unit) => True) (fun _ t => PS D dT h res ρ t.heap) (sA h)) 0 0 (sA h) := by
  refine g_met (D := D) (dT := dT) (A := sA h) (own := RX1) (Pic := fun H => PS D dT h μ ρ H) (by decide) rfl (Nat.le_of_ble_eq_true rfl) ?_
  intro p e s m below meth c ls E hE hr hlk hl hP
  have hK := hE.1
  have hS : va_S (sA h) s.heap s.heap [] := va_S.rf
  obtain ⟨hx, hb, hml, hown, hts⟩ := id E
  have hl : lv_has ls 6 [(0, .ref h), (1, .int x1), (2, .int x2), (3, .int x3), (4, .int x4)] := hl
  unfold fs_notes at hf
  refine lv_aload_n hx hb dX1_notes_0 rfl (lv_at hl 0 rfl) ?_
  refine gp_get (C := RX1) (T := TX1) E hK hP (shS_h h) rfl in_X1 18 (by decide) (hts _ q276) (fun _ z => z) (vS_i (by decide)) dX1_notes_1 ?_
  refine lv_sipush (v := nI 150) hx hb dX1_notes_4 rfl ?_
  refine lv_icmp_ne (tgt := 11) hx hb dX1_notes_7 (by decide) (fun kc1 => ?_) (fun kc1 => ?_)
  · have hf := ite_f kc1 hf
    refine lv_aload_n hx hb dX1_notes_11 rfl (lv_at hl 0 rfl) ?_
    refine gp_get (C := RX1) (T := TX1) E hK hP (shS_h h) rfl in_X1 2 (by decide) (hts _ q243) (fun _ z => z) (vS_2 (by decide)) dX1_notes_12 ?_
    refine lv_aload_n hx hb dX1_notes_15 rfl (lv_at hl 0 rfl) ?_
    refine gp_get (C := RX1) (T := TX1) E hK hP (shS_h h) rfl in_X1 18 (by decide) (hts _ q276) (fun _ z => z) (vS_i (by decide)) dX1_notes_16 ?_
    obtain ⟨r2, hr2, hf⟩ := ob hf
    refine gp_aald (t := 2) (ty := .array .int) E hK hP rfl rfl (shS_2 (by decide)) (rw_in hr2).1 (by rw [vS_o (by decide), (rw_in hr2).2.1]) dX1_notes_19 ?_
    refine lv_astore (lv' := [(5, .ref (h + b2 2 + 1 + r2)), (0, .ref h), (1, .int x1), (2, .int x2), (3, .int x3), (4, .int x4)]) hx hb dX1_notes_20 hl (by decide) rfl (fun ls hl => ?_)
    refine lv_aload hx hb dX1_notes_22 (lv_at hl 0 rfl) ?_
    refine lv_iconst (v := nI 0) hx hb dX1_notes_24 rfl ?_
    refine lv_aload_n hx hb dX1_notes_25 rfl (lv_at hl 1 rfl) ?_
    refine gp_get (C := RX1) (T := TX1) E hK hP (shS_h h) rfl in_X1 15 (by decide) (hts _ q270) (fun _ z => z) (vS_i (by decide)) dX1_notes_26 ?_
    obtain ⟨μ3, hμ3, hf⟩ := ob hf
    refine gp_iast E hK hP hS (sA_r (by decide) (rw_in hr2).2.2) (shS_r (by decide) (rw_in hr2).2.2) (ww_in hμ3).1 dX1_notes_29 (fun H locs hP _ hS => ?_)
    have hP := PS_rast (by decide) (rw_in hr2).2.2 hμ3 hP
    refine lv_aload hx hb dX1_notes_30 (lv_at hl 0 rfl) ?_
    refine lv_iconst (v := nI 1) hx hb dX1_notes_32 rfl ?_
    refine lv_iload_n hx hb dX1_notes_33 rfl (lv_at hl 2 rfl) ?_
    obtain ⟨μ4, hμ4, hf⟩ := ob hf
    refine gp_iast E hK hP hS (sA_r (by decide) (rw_in hr2).2.2) (shS_r (by decide) (rw_in hr2).2.2) (ww_in hμ4).1 dX1_notes_34 (fun H locs hP _ hS => ?_)
    have hP := PS_rast (by decide) (rw_in hr2).2.2 hμ4 hP
    refine lv_aload hx hb dX1_notes_35 (lv_at hl 0 rfl) ?_
    refine lv_iconst (v := nI 2) hx hb dX1_notes_37 rfl ?_
    refine lv_iload_n hx hb dX1_notes_38 rfl (lv_at hl 3 rfl) ?_
    obtain ⟨μ5, hμ5, hf⟩ := ob hf
    refine gp_iast E hK hP hS (sA_r (by decide) (rw_in hr2).2.2) (shS_r (by decide) (rw_in hr2).2.2) (ww_in hμ5).1 dX1_notes_39 (fun H locs hP _ hS => ?_)
    have hP := PS_rast (by decide) (rw_in hr2).2.2 hμ5 hP
    refine lv_aload hx hb dX1_notes_40 (lv_at hl 0 rfl) ?_
    refine lv_iconst (v := nI 3) hx hb dX1_notes_42 rfl ?_
    refine lv_iload_n hx hb dX1_notes_43 rfl (lv_at hl 4 rfl) ?_
    obtain ⟨μ6, hμ6, hf⟩ := ob hf
    refine gp_iast E hK hP hS (sA_r (by decide) (rw_in hr2).2.2) (shS_r (by decide) (rw_in hr2).2.2) (ww_in hμ6).1 dX1_notes_44 (fun H locs hP _ hS => ?_)
    have hP := PS_rast (by decide) (rw_in hr2).2.2 hμ6 hP
    refine lv_aload hx hb dX1_notes_45 (lv_at hl 0 rfl) ?_
    refine lv_iconst (v := nI 4) hx hb dX1_notes_47 rfl ?_
    refine lv_iload hx hb dX1_notes_48 (lv_at hl 5 rfl) ?_
    obtain ⟨μ7, hμ7, hf⟩ := ob hf
    refine gp_iast E hK hP hS (sA_r (by decide) (rw_in hr2).2.2) (shS_r (by decide) (rw_in hr2).2.2) (ww_in hμ7).1 dX1_notes_50 (fun H locs hP _ hS => ?_)
    have hP := PS_rast (by decide) (rw_in hr2).2.2 hμ7 hP
    refine lv_aload_n hx hb dX1_notes_51 rfl (lv_at hl 1 rfl) ?_
    refine lv_dup hx hb dX1_notes_52 rfl ?_
    refine gp_get (C := RX1) (T := TX1) E hK hP (shS_h h) rfl in_X1 18 (by decide) (hts _ q276) (fun _ z => z) (vS_i (by decide)) dX1_notes_53 ?_
    refine lv_iconst (v := nI 1) hx hb dX1_notes_56 rfl ?_
    refine lv_iadd hx hb dX1_notes_57 ?_
    obtain ⟨μ8, hμ8, hf⟩ := ob hf
    refine gp_put (C := RX1) (T := TX1) (ty := .int) E hK hP hS (sA_h h) (shS_h h) rfl in_X1 tyX1 tyX1_ok nmX1 18 (by decide) (hts _ q276) (fun _ z => z) rfl rfl rfl rfl dX1_notes_58 (fun H locs hP _ hS => ?_)
    have hP := PS_put (by decide) hμ8 hP
    cases hf
    exact g_vret (Pic := fun H => PS D dT h _ ρ H) E hr hlk hP hS dX1_notes_61
  · have hf := ite_t kc1 hf
    cases hf
    exact g_vret (Pic := fun H => PS D dT h _ ρ H) E hr hlk hP hS dX1_notes_10
set_option maxHeartbeats 4000000 in
def fs_is (x1 : Int32) (μ : nwM) : Option (Int32) := (fi_isIn x1 (nI 0) ((μ 13 0) - (nI 1)) ()).bind fun v1 => (zr_ v1).bind fun v2 => some v2
set_option maxHeartbeats 4000000 in
theorem ds_is : yX1_is.cls = RX1 ∧ yX1_is.cls ≠ "java/lang/invoke/MethodHandle" ∧ yX1_is.cls ≠ "java/lang/invoke/VarHandle" ∧ (parseMethodDescriptor yX1_is.desc).map (fun d => d.parameters.length) = some 1 := ⟨rfl, by decide +kernel, by decide +kernel, by decide +kernel⟩
set_option maxHeartbeats 4000000 in
theorem ts_is (l : Launch) (D : va_G) (dT : Nat → ClassId) (h : Nat) (ρ : Nat → Nat) (x1 : Int32) (μ : nwM) (res : Int32) (hf : fs_is x1 μ = some res) : Met l yX1_is (ws_ yX1_is cX1_is 2 (some .boolean)) (rmd 1) (sPc D dT h μ ρ [.ref h, .int x1]) (va_Qi (fun r' (_ : Unit) => r' = res) (fun _ t => PS D dT h μ ρ t.heap) (fun _ => False)) 0 0 (fun _ => False) := by
  refine g_met (D := D) (dT := dT) (A := fun _ => False) (own := RX1) (Pic := fun H => PS D dT h μ ρ H) (by decide) rfl (Nat.le_of_ble_eq_true rfl) ?_
  intro p e s m below meth c ls E hE hr hlk hl hP
  have hK := hE.1
  have hS : va_S (fun _ => False) s.heap s.heap [] := va_S.rf
  obtain ⟨hx, hb, hml, hown, hts⟩ := id E
  have hl : lv_has ls 2 [(0, .ref h), (1, .int x1)] := hl
  unfold fs_is at hf
  refine lv_iload_n hx hb dX1_is_0 rfl (lv_at hl 1 rfl) ?_
  refine lv_iconst (v := nI 0) hx hb dX1_is_1 rfl ?_
  refine lv_aload_n hx hb dX1_is_2 rfl (lv_at hl 0 rfl) ?_
  refine gp_get (C := RX1) (T := TX1) E hK hP (shS_h h) rfl in_X1 13 (by decide) (hts _ q265) (fun _ z => z) (vS_i (by decide)) dX1_is_3 ?_
  refine lv_iconst (v := nI 1) hx hb dX1_is_6 rfl ?_
  refine lv_isub hx hb dX1_is_7 ?_
  obtain ⟨v1, hv1, hf⟩ := ob hf
  refine p_calliN E hS (As := [.int x1, .int (nI 0), .int ((μ 13 0) - (nI 1))]) (ti_isIn l x1 (nI 0) ((μ 13 0) - (nI 1)) _ hv1) (nmw_0 hE.2) q161 q387 q388 di_isIn rfl (by decide) (by decide) hl rfl (Nat.le_of_ble_eq_true rfl) dX1_is_8 (fun H1 locs1 hq1 hS => ?_)
  have hP := GP.same hP hq1
  obtain ⟨v2, hv2, hf⟩ := ob hf
  cases hf
  exact g_zret (Pic := fun H => PS D dT h _ ρ H) E hr hlk hP hS hv2 dX1_is_11
set_option maxHeartbeats 4000000 in
def fs_lives (x1 : Int32) (μ : nwM) : Option (Int32) := (fs_is x1 μ).bind fun v2 => (if v2 = 0 then some (nI 0) else (rd_ μ 6 12 x1).bind fun v4 => (if v4 = 0 then some (nI 1) else some (nI 0)))
set_option maxHeartbeats 4000000 in
theorem ds_lives : yX1_lives.cls = RX1 ∧ yX1_lives.cls ≠ "java/lang/invoke/MethodHandle" ∧ yX1_lives.cls ≠ "java/lang/invoke/VarHandle" ∧ (parseMethodDescriptor yX1_lives.desc).map (fun d => d.parameters.length) = some 1 := ⟨rfl, by decide +kernel, by decide +kernel, by decide +kernel⟩
set_option maxHeartbeats 4000000 in
theorem ts_lives (l : Launch) (D : va_G) (dT : Nat → ClassId) (h : Nat) (ρ : Nat → Nat) (x1 : Int32) (μ : nwM) (res : Int32) (hf : fs_lives x1 μ = some res) : Met l yX1_lives (ws_ yX1_lives cX1_lives 2 (some .boolean)) (rmd 2) (sPc D dT h μ ρ [.ref h, .int x1]) (va_Qi (fun r' (_ : Unit) => r' = res) (fun _ t => PS D dT h μ ρ t.heap) (fun _ => False)) 0 0 (fun _ => False) := by
  refine g_met (D := D) (dT := dT) (A := fun _ => False) (own := RX1) (Pic := fun H => PS D dT h μ ρ H) (by decide) rfl (Nat.le_of_ble_eq_true rfl) ?_
  intro p e s m below meth c ls E hE hr hlk hl hP
  have hK := hE.1
  have hS : va_S (fun _ => False) s.heap s.heap [] := va_S.rf
  obtain ⟨hx, hb, hml, hown, hts⟩ := id E
  have hl : lv_has ls 2 [(0, .ref h), (1, .int x1)] := hl
  unfold fs_lives at hf
  refine lv_aload_n hx hb dX1_lives_0 rfl (lv_at hl 0 rfl) ?_
  refine lv_iload_n hx hb dX1_lives_1 rfl (lv_at hl 1 rfl) ?_
  obtain ⟨v2, hc1, hf⟩ := ob hf
  refine g_calli E hE (Pic1 := fun H => PS D dT h μ _ H) hP hS (fun _ z => z.elim) (As := [.int x1]) (ts_is l D dT h _ x1 μ _ hc1) (g_recv hK hP (shS_h h) rfl) (lw_V q984 q985 q986 q162 q987) ds_is rfl (by decide) (by decide) hl rfl (Nat.le_of_ble_eq_true rfl) dX1_lives_2 (fun H locs hP _ hS => ?_)
  refine lv_if_eq (tgt := 21) hx hb dX1_lives_5 (by decide) (fun kc3 => ?_) (fun kc3 => ?_)
  · have hf := ite_t kc3 hf
    refine lv_iconst (v := nI 0) hx hb dX1_lives_21 rfl ?_
    cases hf
    exact g_zret (Pic := fun H => PS D dT h _ ρ H) E hr hlk hP hS rfl dX1_lives_22
  · have hf := ite_f kc3 hf
    refine lv_aload_n hx hb dX1_lives_8 rfl (lv_at hl 0 rfl) ?_
    refine gp_get (C := RX1) (T := TX1) E hK hP (shS_h h) rfl in_X1 6 (by decide) (hts _ q251) (fun _ z => z) (vS_a (by decide) (by decide)) dX1_lives_9 ?_
    refine lv_iload_n hx hb dX1_lives_12 rfl (lv_at hl 1 rfl) ?_
    obtain ⟨v4, hv4, hf⟩ := ob hf
    refine gp_iald E hK hP (shS_a (by decide) (by decide)) (rd_in hv4).1 (by rw [vS_e (by decide) (by decide), ← (rd_in hv4).2]) dX1_lives_13 ?_
    refine lv_if_ne (tgt := 21) hx hb dX1_lives_14 (by decide) (fun kc5 => ?_) (fun kc5 => ?_)
    · have hf := ite_f kc5 hf
      refine lv_iconst (v := nI 0) hx hb dX1_lives_21 rfl ?_
      cases hf
      exact g_zret (Pic := fun H => PS D dT h _ ρ H) E hr hlk hP hS rfl dX1_lives_22
    · have hf := ite_t kc5 hf
      refine lv_iconst (v := nI 1) hx hb dX1_lives_17 rfl ?_
      refine lv_goto (tgt := 22) hx hb dX1_lives_18 (by decide) ?_
      cases hf
      exact g_zret (Pic := fun H => PS D dT h _ ρ H) E hr hlk hP hS rfl dX1_lives_22
set_option maxHeartbeats 4000000 in
def fs_folk_L4 (x1 : Int32) (μ : nwM) : (Int32 × Int32) → Option ((Int32 × Int32) ⊕ (Int32)) := fun st => (if (μ 13 0) ≤ st.2 then some (.inr st.1) else (rd_ μ 5 12 st.2).bind fun v2 => (if v2 = x1 then (rd_ μ 6 12 st.2).bind fun v4 => some (.inl (st.1 + ((nI 1) - v4), st.2 + nI 1)) else some (.inl (st.1 + (nI 0), st.2 + nI 1))))
set_option maxHeartbeats 4000000 in
noncomputable def fs_folk (x1 : Int32) (μ : nwM) : Option (Int32) := (wh_ (fs_folk_L4 x1 μ) (nI 0, nI 0)).bind fun x5 => some x5
set_option maxHeartbeats 4000000 in
theorem fs_folk_L4_w {p : Program} {l : Launch} {e : Env} {s : State} {m : MethodId} {args : Array Value} {below : List Frame} {meth : Method} {c : Code} {D : va_G} {dT : Nat → ClassId} {Q : State → Prop} {h : Nat} {ρ : Nat → Nat} (E : CallFix p m c cX1_folk 4 s args lw_all RX1) (hK : va_K D nwCl (nwT dT) s) (hE : EV D dT s) (x1 : Int32) (μ : nwM) {st : Int32 × Int32} {x : Int32} (hw : wh_ (fs_folk_L4 x1 μ) st = some x) (hk : (fun x : Int32 => ∀ (ls : Array Slot) (H : Heap) (locs : List Loc), lv_has ls 4 [(2, .int x)] → PS D dT h μ ρ H → va_S (fun _ => False) s.heap H locs → W p l e (rmd 0) s m args below meth c H locs 0 0 Q (F0 m 43 ls [])) x) : (fun st : Int32 × Int32 => ∀ (ls : Array Slot) (H : Heap) (locs : List Loc), lv_has ls 4 [(0, .ref h), (1, .int x1), (2, .int st.1), (3, .int st.2)] → PS D dT h μ ρ H → va_S (fun _ => False) s.heap H locs → W p l e (rmd 0) s m args below meth c H locs 0 0 Q (F0 m 4 ls [])) st := by
  obtain ⟨hx, hb, hml, hown, hts⟩ := id E
  refine wh_run (P := (fun st : Int32 × Int32 => ∀ (ls : Array Slot) (H : Heap) (locs : List Loc), lv_has ls 4 [(0, .ref h), (1, .int x1), (2, .int st.1), (3, .int st.2)] → PS D dT h μ ρ H → va_S (fun _ => False) s.heap H locs → W p l e (rmd 0) s m args below meth c H locs 0 0 Q (F0 m 4 ls []))) (PE := (fun x : Int32 => ∀ (ls : Array Slot) (H : Heap) (locs : List Loc), lv_has ls 4 [(2, .int x)] → PS D dT h μ ρ H → va_S (fun _ => False) s.heap H locs → W p l e (rmd 0) s m args below meth c H locs 0 0 Q (F0 m 43 ls []))) ?_ hw hk
  clear hw hk
  intro st x hf hk ls H locs hl hP hS
  refine lv_iload_n hx hb dX1_folk_4 rfl (lv_at hl 3 rfl) ?_
  refine lv_aload_n hx hb dX1_folk_5 rfl (lv_at hl 0 rfl) ?_
  refine gp_get (C := RX1) (T := TX1) E hK hP (shS_h h) rfl in_X1 13 (by decide) (hts _ q265) (fun _ z => z) (vS_i (by decide)) dX1_folk_6 ?_
  refine lv_icmp_ge (tgt := 43) hx hb dX1_folk_9 (by decide) (fun kc1 => ?_) (fun kc1 => ?_)
  · have hf := ite_t kc1 hf
    cases hf
    exact hk _ _ _ (lv_sub hl [2] rfl) hP hS
  · have hf := ite_f kc1 hf
    refine lv_iload_n hx hb dX1_folk_12 rfl (lv_at hl 2 rfl) ?_
    refine lv_aload_n hx hb dX1_folk_13 rfl (lv_at hl 0 rfl) ?_
    refine gp_get (C := RX1) (T := TX1) E hK hP (shS_h h) rfl in_X1 5 (by decide) (hts _ q249) (fun _ z => z) (vS_a (by decide) (by decide)) dX1_folk_14 ?_
    refine lv_iload_n hx hb dX1_folk_17 rfl (lv_at hl 3 rfl) ?_
    obtain ⟨v2, hv2, hf⟩ := ob hf
    refine gp_iald E hK hP (shS_a (by decide) (by decide)) (rd_in hv2).1 (by rw [vS_e (by decide) (by decide), ← (rd_in hv2).2]) dX1_folk_18 ?_
    refine lv_iload_n hx hb dX1_folk_19 rfl (lv_at hl 1 rfl) ?_
    refine lv_icmp_ne (tgt := 34) hx hb dX1_folk_20 (by decide) (fun kc3 => ?_) (fun kc3 => ?_)
    · have hf := ite_f kc3 hf
      refine lv_iconst (v := nI 0) hx hb dX1_folk_34 rfl ?_
      refine lv_iadd hx hb dX1_folk_35 ?_
      refine lv_istore_n (lv' := [(2, .int (st.1 + (nI 0))), (0, .ref h), (1, .int x1), (3, .int st.2)]) hx hb dX1_folk_36 rfl hl (by decide) rfl (fun ls hl => ?_)
      refine lv_iinc (v := st.2 + nI 1) (lv' := [(3, .int (st.2 + nI 1)), (2, .int (st.1 + (nI 0))), (0, .ref h), (1, .int x1)]) hx hb dX1_folk_37 hl (k := 3) rfl rfl (by decide) rfl (fun ls hl => ?_)
      refine lv_goto (tgt := 4) hx hb dX1_folk_40 (by decide) ?_
      cases hf
      exact hk _ _ _ (lv_sub hl [2, 3, 1, 0] rfl) hP hS
    · have hf := ite_t kc3 hf
      refine lv_iconst (v := nI 1) hx hb dX1_folk_23 rfl ?_
      refine lv_aload_n hx hb dX1_folk_24 rfl (lv_at hl 0 rfl) ?_
      refine gp_get (C := RX1) (T := TX1) E hK hP (shS_h h) rfl in_X1 6 (by decide) (hts _ q251) (fun _ z => z) (vS_a (by decide) (by decide)) dX1_folk_25 ?_
      refine lv_iload_n hx hb dX1_folk_28 rfl (lv_at hl 3 rfl) ?_
      obtain ⟨v4, hv4, hf⟩ := ob hf
      refine gp_iald E hK hP (shS_a (by decide) (by decide)) (rd_in hv4).1 (by rw [vS_e (by decide) (by decide), ← (rd_in hv4).2]) dX1_folk_29 ?_
      refine lv_isub hx hb dX1_folk_30 ?_
      refine lv_goto (tgt := 35) hx hb dX1_folk_31 (by decide) ?_
      refine lv_iadd hx hb dX1_folk_35 ?_
      refine lv_istore_n (lv' := [(2, .int (st.1 + ((nI 1) - v4))), (0, .ref h), (1, .int x1), (3, .int st.2)]) hx hb dX1_folk_36 rfl hl (by decide) rfl (fun ls hl => ?_)
      refine lv_iinc (v := st.2 + nI 1) (lv' := [(3, .int (st.2 + nI 1)), (2, .int (st.1 + ((nI 1) - v4))), (0, .ref h), (1, .int x1)]) hx hb dX1_folk_37 hl (k := 3) rfl rfl (by decide) rfl (fun ls hl => ?_)
      refine lv_goto (tgt := 4) hx hb dX1_folk_40 (by decide) ?_
      cases hf
      exact hk _ _ _ (lv_sub hl [2, 3, 1, 0] rfl) hP hS
set_option maxHeartbeats 4000000 in
theorem ds_folk : yX1_folk.cls = RX1 ∧ yX1_folk.cls ≠ "java/lang/invoke/MethodHandle" ∧ yX1_folk.cls ≠ "java/lang/invoke/VarHandle" ∧ (parseMethodDescriptor yX1_folk.desc).map (fun d => d.parameters.length) = some 1 := ⟨rfl, by decide +kernel, by decide +kernel, by decide +kernel⟩
set_option maxHeartbeats 4000000 in
theorem ts_folk (l : Launch) (D : va_G) (dT : Nat → ClassId) (h : Nat) (ρ : Nat → Nat) (x1 : Int32) (μ : nwM) (res : Int32) (hf : fs_folk x1 μ = some res) : Met l yX1_folk (ws_ yX1_folk cX1_folk 4 (some .int)) (rmd 0) (sPc D dT h μ ρ [.ref h, .int x1]) (va_Qi (fun r' (_ : Unit) => r' = res) (fun _ t => PS D dT h μ ρ t.heap) (fun _ => False)) 0 0 (fun _ => False) := by
  refine g_met (D := D) (dT := dT) (A := fun _ => False) (own := RX1) (Pic := fun H => PS D dT h μ ρ H) (by decide) rfl (Nat.le_of_ble_eq_true rfl) ?_
  intro p e s m below meth c ls E hE hr hlk hl hP
  have hK := hE.1
  have hS : va_S (fun _ => False) s.heap s.heap [] := va_S.rf
  obtain ⟨hx, hb, hml, hown, hts⟩ := id E
  have hl : lv_has ls 4 [(0, .ref h), (1, .int x1)] := hl
  unfold fs_folk at hf
  refine lv_iconst (v := nI 0) hx hb dX1_folk_0 rfl ?_
  refine lv_istore_n (lv' := [(2, .int (nI 0)), (0, .ref h), (1, .int x1)]) hx hb dX1_folk_1 rfl hl (by decide) rfl (fun ls hl => ?_)
  refine lv_iconst (v := nI 0) hx hb dX1_folk_2 rfl ?_
  refine lv_istore_n (lv' := [(3, .int (nI 0)), (2, .int (nI 0)), (0, .ref h), (1, .int x1)]) hx hb dX1_folk_3 rfl hl (by decide) rfl (fun ls hl => ?_)
  obtain ⟨x5, hx5, hf⟩ := ob hf
  refine fs_folk_L4_w E hK hE x1 μ hx5 (fun ls H locs hl hP hS => ?_) _ _ _ (lv_sub hl [2, 3, 1, 0] rfl) hP hS
  refine lv_iload_n hx hb dX1_folk_43 rfl (lv_at hl 0 rfl) ?_
  cases hf
  exact g_iret (Pic := fun H => PS D dT h _ ρ H) E hr hlk hP hS rfl dX1_folk_44
set_option maxHeartbeats 4000000 in
def fs_all_L4 (x1 : Int32) (μ : nwM) : (Int32 × Int32) → Option ((Int32 × Int32) ⊕ (Int32)) := fun st => (if (nI 5) ≤ st.2 then some (.inr st.1) else (rw_ 8 x1).bind fun r2 => (rr_ μ 0 r2 st.2).bind fun v3 => some (.inl (st.1 + v3, st.2 + nI 1)))
set_option maxHeartbeats 4000000 in
noncomputable def fs_all (x1 : Int32) (μ : nwM) : Option (Int32) := (wh_ (fs_all_L4 x1 μ) (nI 0, nI 0)).bind fun x4 => some x4
set_option maxHeartbeats 4000000 in
theorem fs_all_L4_w {p : Program} {l : Launch} {e : Env} {s : State} {m : MethodId} {args : Array Value} {below : List Frame} {meth : Method} {c : Code} {D : va_G} {dT : Nat → ClassId} {Q : State → Prop} {h : Nat} {ρ : Nat → Nat} (E : CallFix p m c cX1_all 4 s args lw_all RX1) (hK : va_K D nwCl (nwT dT) s) (hE : EV D dT s) (x1 : Int32) (μ : nwM) {st : Int32 × Int32} {x : Int32} (hw : wh_ (fs_all_L4 x1 μ) st = some x) (hk : (fun x : Int32 => ∀ (ls : Array Slot) (H : Heap) (locs : List Loc), lv_has ls 4 [(2, .int x)] → PS D dT h μ ρ H → va_S (fun _ => False) s.heap H locs → W p l e (rmd 0) s m args below meth c H locs 0 0 Q (F0 m 26 ls [])) x) : (fun st : Int32 × Int32 => ∀ (ls : Array Slot) (H : Heap) (locs : List Loc), lv_has ls 4 [(0, .ref h), (1, .int x1), (2, .int st.1), (3, .int st.2)] → PS D dT h μ ρ H → va_S (fun _ => False) s.heap H locs → W p l e (rmd 0) s m args below meth c H locs 0 0 Q (F0 m 4 ls [])) st := by
  obtain ⟨hx, hb, hml, hown, hts⟩ := id E
  refine wh_run (P := (fun st : Int32 × Int32 => ∀ (ls : Array Slot) (H : Heap) (locs : List Loc), lv_has ls 4 [(0, .ref h), (1, .int x1), (2, .int st.1), (3, .int st.2)] → PS D dT h μ ρ H → va_S (fun _ => False) s.heap H locs → W p l e (rmd 0) s m args below meth c H locs 0 0 Q (F0 m 4 ls []))) (PE := (fun x : Int32 => ∀ (ls : Array Slot) (H : Heap) (locs : List Loc), lv_has ls 4 [(2, .int x)] → PS D dT h μ ρ H → va_S (fun _ => False) s.heap H locs → W p l e (rmd 0) s m args below meth c H locs 0 0 Q (F0 m 26 ls []))) ?_ hw hk
  clear hw hk
  intro st x hf hk ls H locs hl hP hS
  refine lv_iload_n hx hb dX1_all_4 rfl (lv_at hl 3 rfl) ?_
  refine lv_iconst (v := nI 5) hx hb dX1_all_5 rfl ?_
  refine lv_icmp_ge (tgt := 26) hx hb dX1_all_6 (by decide) (fun kc1 => ?_) (fun kc1 => ?_)
  · have hf := ite_t kc1 hf
    cases hf
    exact hk _ _ _ (lv_sub hl [2] rfl) hP hS
  · have hf := ite_f kc1 hf
    refine lv_iload_n hx hb dX1_all_9 rfl (lv_at hl 2 rfl) ?_
    refine lv_aload_n hx hb dX1_all_10 rfl (lv_at hl 0 rfl) ?_
    refine gp_get (C := RX1) (T := TX1) E hK hP (shS_h h) rfl in_X1 0 (by decide) (hts _ q239) (fun _ z => z) (vS_2 (by decide)) dX1_all_11 ?_
    refine lv_iload_n hx hb dX1_all_14 rfl (lv_at hl 1 rfl) ?_
    obtain ⟨r2, hr2, hf⟩ := ob hf
    refine gp_aald (t := 2) (ty := .array .int) E hK hP rfl rfl (shS_2 (by decide)) (rw_in hr2).1 (by rw [vS_o (by decide), (rw_in hr2).2.1]) dX1_all_15 ?_
    refine lv_iload_n hx hb dX1_all_16 rfl (lv_at hl 3 rfl) ?_
    obtain ⟨v3, hv3, hf⟩ := ob hf
    refine gp_iald E hK hP (shS_r (by decide) (rw_in hr2).2.2) (rr_in hv3).1 (by rw [vS_r (by decide) (rw_in hr2).2.2, ← (rr_in hv3).2]) dX1_all_17 ?_
    refine lv_iadd hx hb dX1_all_18 ?_
    refine lv_istore_n (lv' := [(2, .int (st.1 + v3)), (0, .ref h), (1, .int x1), (3, .int st.2)]) hx hb dX1_all_19 rfl hl (by decide) rfl (fun ls hl => ?_)
    refine lv_iinc (v := st.2 + nI 1) (lv' := [(3, .int (st.2 + nI 1)), (2, .int (st.1 + v3)), (0, .ref h), (1, .int x1)]) hx hb dX1_all_20 hl (k := 3) rfl rfl (by decide) rfl (fun ls hl => ?_)
    refine lv_goto (tgt := 4) hx hb dX1_all_23 (by decide) ?_
    cases hf
    exact hk _ _ _ (lv_sub hl [2, 3, 1, 0] rfl) hP hS
set_option maxHeartbeats 4000000 in
theorem ds_all : yX1_all.cls = RX1 ∧ yX1_all.cls ≠ "java/lang/invoke/MethodHandle" ∧ yX1_all.cls ≠ "java/lang/invoke/VarHandle" ∧ (parseMethodDescriptor yX1_all.desc).map (fun d => d.parameters.length) = some 1 := ⟨rfl, by decide +kernel, by decide +kernel, by decide +kernel⟩
set_option maxHeartbeats 4000000 in
theorem ts_all (l : Launch) (D : va_G) (dT : Nat → ClassId) (h : Nat) (ρ : Nat → Nat) (x1 : Int32) (μ : nwM) (res : Int32) (hf : fs_all x1 μ = some res) : Met l yX1_all (ws_ yX1_all cX1_all 4 (some .int)) (rmd 0) (sPc D dT h μ ρ [.ref h, .int x1]) (va_Qi (fun r' (_ : Unit) => r' = res) (fun _ t => PS D dT h μ ρ t.heap) (fun _ => False)) 0 0 (fun _ => False) := by
  refine g_met (D := D) (dT := dT) (A := fun _ => False) (own := RX1) (Pic := fun H => PS D dT h μ ρ H) (by decide) rfl (Nat.le_of_ble_eq_true rfl) ?_
  intro p e s m below meth c ls E hE hr hlk hl hP
  have hK := hE.1
  have hS : va_S (fun _ => False) s.heap s.heap [] := va_S.rf
  obtain ⟨hx, hb, hml, hown, hts⟩ := id E
  have hl : lv_has ls 4 [(0, .ref h), (1, .int x1)] := hl
  unfold fs_all at hf
  refine lv_iconst (v := nI 0) hx hb dX1_all_0 rfl ?_
  refine lv_istore_n (lv' := [(2, .int (nI 0)), (0, .ref h), (1, .int x1)]) hx hb dX1_all_1 rfl hl (by decide) rfl (fun ls hl => ?_)
  refine lv_iconst (v := nI 0) hx hb dX1_all_2 rfl ?_
  refine lv_istore_n (lv' := [(3, .int (nI 0)), (2, .int (nI 0)), (0, .ref h), (1, .int x1)]) hx hb dX1_all_3 rfl hl (by decide) rfl (fun ls hl => ?_)
  obtain ⟨x4, hx4, hf⟩ := ob hf
  refine fs_all_L4_w E hK hE x1 μ hx4 (fun ls H locs hl hP hS => ?_) _ _ _ (lv_sub hl [2, 3, 1, 0] rfl) hP hS
  refine lv_iload_n hx hb dX1_all_26 rfl (lv_at hl 0 rfl) ?_
  cases hf
  exact g_iret (Pic := fun H => PS D dT h _ ρ H) E hr hlk hP hS rfl dX1_all_27
