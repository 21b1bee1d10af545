/-! walks, written by my programs -/
set_option maxRecDepth 100000
set_option maxHeartbeats 4000000 in
noncomputable def fx_at (x1 : Int32) (x2 : Int32) (μ : nwX) : Option (Int32 × nwX) := (fi_isIsland x1 ()).bind fun v1 => (if v1 = 0 then some ((-2), μ) else (if x2 = nI 0 then (rd_ (μ.2.1 0) 8 8 x1).bind fun v4 => some (v4, μ) else (if x2 = nI 1 then (fs_all x1 (μ.2.1 0)).bind fun v7 => some (v7, μ) else (if x2 = nI 2 then (fx_thereOf x1 (nI 0) μ).bind fun v10 => some (v10, μ) else (if x2 = nI 3 then (fx_thereOf x1 (nI 1) μ).bind fun v13 => some (v13, μ) else (fi_isKind (x2 - (nI 10)) ()).bind fun v14 => (if v14 = 0 then some ((-2), μ) else bd2 (xc_ μ 0 (fs_fade x1 (x2 - (nI 10)) (μ.2.2.2.2 0) (μ.2.1 0))) fun v17 χ18 => some (v17, χ18)))))))
set_option maxHeartbeats 4000000 in
theorem dx_at : yX0_at.cls = RX0 ∧ yX0_at.cls ≠ "java/lang/invoke/MethodHandle" ∧ yX0_at.cls ≠ "java/lang/invoke/VarHandle" ∧ (parseMethodDescriptor yX0_at.desc).map (fun d => d.parameters.length) = some 2 := ⟨rfl, by decide +kernel, by decide +kernel, by decide +kernel⟩
set_option maxHeartbeats 4000000 in
theorem tx_at (l : Launch) (D : va_G) (dT : Nat → ClassId) (g : Nat) (x1 : Int32) (x2 : Int32) (μ : nwX) (res : Int32 × nwX) (hf : fx_at x1 x2 μ = some res) : Met l yX0_at (ws_ yX0_at cX0_at 3 (some .int)) (rmd 406) (va_Pc [.ref g, .int x1, .int x2] (fun U => PX D dT g μ U.heap ∧ EV D dT U)) (va_Qi (fun r' (_ : Unit) => r' = res.1) (fun _ t => PX D dT g res.2 t.heap) (xA g)) 0 0 (xA g) := by
  refine g_met (D := D) (dT := dT) (A := xA g) (own := RX0) (Pic := fun H => PX D dT g μ H) (by decide) rfl (Nat.le_of_ble_eq_true rfl) ?_
  intro p e s m below meth c ls E hE hr hlk hl hP
  have hK := hE.1
  have hS : va_S (xA g) s.heap s.heap [] := va_S.rf
  obtain ⟨hx, hb, hml, hown, hts⟩ := id E
  have hl : lv_has ls 3 [(0, .ref g), (1, .int x1), (2, .int x2)] := hl
  unfold fx_at at hf
  refine lv_iload_n hx hb dX0_at_0 rfl (lv_at hl 1 rfl) ?_
  obtain ⟨v1, hv1, hf⟩ := ob hf
  refine p_calli E hS (As := [.int x1]) (ti_isIsland l x1 _ hv1) (lw_S q957 q958 q161 q959) di_isIsland rfl (by decide) (by decide) hl rfl (Nat.le_of_ble_eq_true rfl) dX0_at_1 (fun H1 locs1 hq1 hS => ?_)
  have hP := PX_same hP (hz_all hq1) hq1
  refine lv_if_ne (tgt := 10) hx hb dX0_at_4 (by decide) (fun kc2 => ?_) (fun kc2 => ?_)
  · have hf := ite_f kc2 hf
    refine lv_iload_n hx hb dX0_at_10 rfl (lv_at hl 2 rfl) ?_
    by_cases kc3 : x2 = nI 0
    · have hf := ite_t kc3 hf
      refine lv_tableIn (tgt := 40) hx hb dX0_at_11 (sw_lo kc3 (by decide) (by decide)) (sw_hi kc3 (by decide) (by decide)) (sw_at kc3 (by decide) rfl) (by decide) ?_
      refine lv_aload_n hx hb dX0_at_40 rfl (lv_at hl 0 rfl) ?_
      refine gp_get (C := RX0) (T := TX0) E hK hP.1 (shO_g g) rfl in_X0 4 (by decide) (hts _ q337) (fun _ z => z) vO_4 dX0_at_41 ?_
      refine gp_getN (C := RX1) (T := TX1) E hK (hP.2.1 0 (by decide)).1 (shS_h _) rfl in_X1 8 (by decide) (nfw_7 hE.2) (fun _ z => z) (vS_a (by decide) (by decide)) dX0_at_44 ?_
      refine lv_iload_n hx hb dX0_at_47 rfl (lv_at hl 1 rfl) ?_
      obtain ⟨v4, hv4, hf⟩ := ob hf
      refine gp_iald E hK (hP.2.1 0 (by decide)).1 (shS_a (by decide) (by decide)) (rd_in hv4).1 (by rw [vS_e (by decide) (by decide), ← (rd_in hv4).2]) dX0_at_48 ?_
      cases hf
      exact g_iret (Pic := fun H => PX D dT g _ H) E hr hlk hP hS rfl dX0_at_49
    · have hf := ite_f kc3 hf
      by_cases kc5 : x2 = nI 1
      · have hf := ite_t kc5 hf
        refine lv_tableIn (tgt := 50) hx hb dX0_at_11 (sw_lo kc5 (by decide) (by decide)) (sw_hi kc5 (by decide) (by decide)) (sw_at kc5 (by decide) rfl) (by decide) ?_
        refine lv_aload_n hx hb dX0_at_50 rfl (lv_at hl 0 rfl) ?_
        refine gp_get (C := RX0) (T := TX0) E hK hP.1 (shO_g g) rfl in_X0 4 (by decide) (hts _ q337) (fun _ z => z) vO_4 dX0_at_51 ?_
        refine lv_iload_n hx hb dX0_at_54 rfl (lv_at hl 1 rfl) ?_
        obtain ⟨v7, hc6, hf⟩ := ob hf
        refine gx_calli E hE (Pic := fun H => PS D dT (skA g 0) (μ.2.1 0) (μ.2.2.2.1 0) H) (Pic1 := fun H => PS D dT (skA g 0) (μ.2.1 0) (μ.2.2.2.1 0) H) (hP.2.1 0 (by decide)).1 hS (fun _ z => z.elim) (As := [.int x1]) (ts_all l D dT (skA g 0) (μ.2.2.2.1 0) x1 (μ.2.1 0) _ hc6) (g_recv hK (hP.2.1 0 (by decide)).1 (shS_h _) rfl) (lw_V q1221 q1046 q1047 q162 q1048) ds_all rfl (by decide) (by decide) hl rfl (Nat.le_of_ble_eq_true rfl) dX0_at_55 (fun H1 locs1 hG hz1 hq1 hS => ?_)
        have hP := PX_same hP hz1 (fun q z => hq1 q z (fun y => y))
        cases hf
        exact g_iret (Pic := fun H => PX D dT g _ H) E hr hlk hP hS rfl dX0_at_58
      · have hf := ite_f kc5 hf
        by_cases kc8 : x2 = nI 2
        · have hf := ite_t kc8 hf
          refine lv_tableIn (tgt := 59) hx hb dX0_at_11 (sw_lo kc8 (by decide) (by decide)) (sw_hi kc8 (by decide) (by decide)) (sw_at kc8 (by decide) rfl) (by decide) ?_
          refine lv_aload_n hx hb dX0_at_59 rfl (lv_at hl 0 rfl) ?_
          refine lv_iload_n hx hb dX0_at_60 rfl (lv_at hl 1 rfl) ?_
          refine lv_iconst (v := nI 0) hx hb dX0_at_61 rfl ?_
          obtain ⟨v10, hc9, hf⟩ := ob hf
          refine gx_calli E hE (Pic := fun H => PX D dT g μ H) (Pic1 := fun H => PX D dT g μ H) hP hS (fun _ z => z.elim) (As := [.int x1, .int (nI 0)]) (tx_thereOf l D dT g x1 (nI 0) μ _ hc9) (g_recv hK hP.1 (shO_g g) rfl) (lw_V q1222 q1224 qs45 q161 q1225) dx_thereOf rfl (by decide) (by decide) hl rfl (Nat.le_of_ble_eq_true rfl) dX0_at_62 (fun H locs hP _ _ hS => ?_)
          cases hf
          exact g_iret (Pic := fun H => PX D dT g _ H) E hr hlk hP hS rfl dX0_at_65
        · have hf := ite_f kc8 hf
          by_cases kc11 : x2 = nI 3
          · have hf := ite_t kc11 hf
            refine lv_tableIn (tgt := 66) hx hb dX0_at_11 (sw_lo kc11 (by decide) (by decide)) (sw_hi kc11 (by decide) (by decide)) (sw_at kc11 (by decide) rfl) (by decide) ?_
            refine lv_aload_n hx hb dX0_at_66 rfl (lv_at hl 0 rfl) ?_
            refine lv_iload_n hx hb dX0_at_67 rfl (lv_at hl 1 rfl) ?_
            refine lv_iconst (v := nI 1) hx hb dX0_at_68 rfl ?_
            obtain ⟨v13, hc12, hf⟩ := ob hf
            refine gx_calli E hE (Pic := fun H => PX D dT g μ H) (Pic1 := fun H => PX D dT g μ H) hP hS (fun _ z => z.elim) (As := [.int x1, .int (nI 1)]) (tx_thereOf l D dT g x1 (nI 1) μ _ hc12) (g_recv hK hP.1 (shO_g g) rfl) (lw_V q1222 q1224 qs45 q161 q1225) dx_thereOf rfl (by decide) (by decide) hl rfl (Nat.le_of_ble_eq_true rfl) dX0_at_69 (fun H locs hP _ _ hS => ?_)
            cases hf
            exact g_iret (Pic := fun H => PX D dT g _ H) E hr hlk hP hS rfl dX0_at_72
          · have hf := ite_f kc11 hf
            refine lv_tableOut (tgt := 73) hx hb dX0_at_11 (sw_no 0 3 rfl rfl (fun k a b => by rcases (show k = 0 ∨ k = 1 ∨ k = 2 ∨ k = 3 by omega) with rfl | rfl | rfl | rfl <;> assumption)) (by decide) ?_
            refine lv_iload_n hx hb dX0_at_73 rfl (lv_at hl 2 rfl) ?_
            refine lv_bipush (v := nI 10) hx hb dX0_at_74 rfl ?_
            refine lv_isub hx hb dX0_at_76 ?_
            obtain ⟨v14, hv14, hf⟩ := ob hf
            refine p_calli E hS (As := [.int (x2 - (nI 10))]) (ti_isKind l (x2 - (nI 10)) _ hv14) (lw_S q954 q955 q161 q956) di_isKind rfl (by decide) (by decide) hl rfl (Nat.le_of_ble_eq_true rfl) dX0_at_77 (fun H1 locs1 hq1 hS => ?_)
            have hP := PX_same hP (hz_all hq1) hq1
            refine lv_if_eq (tgt := 98) hx hb dX0_at_80 (by decide) (fun kc15 => ?_) (fun kc15 => ?_)
            · have hf := ite_t kc15 hf
              refine lv_bipush (v := (-2)) hx hb dX0_at_98 rfl ?_
              cases hf
              exact g_iret (Pic := fun H => PX D dT g _ H) E hr hlk hP hS rfl dX0_at_100
            · have hf := ite_f kc15 hf
              refine lv_aload_n hx hb dX0_at_83 rfl (lv_at hl 0 rfl) ?_
              refine gp_get (C := RX0) (T := TX0) E hK hP.1 (shO_g g) rfl in_X0 4 (by decide) (hts _ q337) (fun _ z => z) vO_4 dX0_at_84 ?_
              refine lv_iload_n hx hb dX0_at_87 rfl (lv_at hl 1 rfl) ?_
              refine lv_iload_n hx hb dX0_at_88 rfl (lv_at hl 2 rfl) ?_
              refine lv_bipush (v := nI 10) hx hb dX0_at_89 rfl ?_
              refine lv_isub hx hb dX0_at_91 ?_
              obtain ⟨v17, χ18, hc16, hf⟩ := ob2 hf
              obtain ⟨sχ18, hc16, eχ18⟩ := xc_in hc16
              refine gx_calli E hE (Pic := fun H => PS D dT (skA g 0) (μ.2.1 0) (μ.2.2.2.1 0) H ∧ LR D dT (sA (skA g 0)) (μ.2.2.2.1 0) (μ.2.2.2.2 0) H) (Pic1 := fun H => PS D dT (skA g 0) sχ18 (μ.2.2.2.1 0) H) ⟨(hP.2.1 0 (by decide)).1, (hP.2.1 0 (by decide)).2.weak (fun _ z => xA_s (by decide) z)⟩ hS (fun _ z => xA_s (by decide) z) (As := [.int x1, .int (x2 - (nI 10))]) (ts_fade l D dT (skA g 0) (μ.2.2.2.1 0) x1 (x2 - (nI 10)) (μ.2.2.2.2 0) (μ.2.1 0) _ hc16) (g_recv hK (hP.2.1 0 (by decide)).1 (shS_h _) rfl) (lw_V q1226 q1175 q1176 q162 q1177) ds_fade rfl (by decide) (by decide) hl rfl (Nat.le_of_ble_eq_true rfl) dX0_at_92 (fun H1 locs1 hG hz1 hq1 hS => ?_)
              have hP := PX_set hP (by decide) hG hz1 hq1
              rw [← eχ18] at hP
              refine lv_goto (tgt := 100) hx hb dX0_at_95 (by decide) ?_
              cases hf
              exact g_iret (Pic := fun H => PX D dT g _ H) E hr hlk hP hS rfl dX0_at_100
  · have hf := ite_t kc2 hf
    refine lv_bipush (v := (-2)) hx hb dX0_at_7 rfl ?_
    cases hf
    exact g_iret (Pic := fun H => PX D dT g _ H) E hr hlk hP hS rfl dX0_at_9
set_option maxHeartbeats 4000000 in
noncomputable def fx_clash (x1 : Int32) (x2 : Int32) (μ : nwX) : Option (Int32) := (fi_isKind x1 ()).bind fun v1 => (if v1 = 0 then some (-1) else (fi_isKind x2 ()).bind fun v3 => (if v3 = 0 then some (-1) else (fs_areClashing x1 x2 (μ.2.2.2.2 0) (μ.2.1 0)).bind fun v6 => (if v6 = 0 then some (nI 0) else some (nI 1))))
set_option maxHeartbeats 4000000 in
theorem dx_clash : yX0_clash.cls = RX0 ∧ yX0_clash.cls ≠ "java/lang/invoke/MethodHandle" ∧ yX0_clash.cls ≠ "java/lang/invoke/VarHandle" ∧ (parseMethodDescriptor yX0_clash.desc).map (fun d => d.parameters.length) = some 2 := ⟨rfl, by decide +kernel, by decide +kernel, by decide +kernel⟩
set_option maxHeartbeats 4000000 in
theorem tx_clash (l : Launch) (D : va_G) (dT : Nat → ClassId) (g : Nat) (x1 : Int32) (x2 : Int32) (μ : nwX) (res : Int32) (hf : fx_clash x1 x2 μ = some res) : Met l yX0_clash (ws_ yX0_clash cX0_clash 3 (some .int)) (rmd 4) (va_Pc [.ref g, .int x1, .int x2] (fun U => PX D dT g μ U.heap ∧ EV D dT U)) (va_Qi (fun r' (_ : Unit) => r' = res) (fun _ t => PX D dT g μ t.heap) (fun _ => False)) 0 0 (fun _ => False) := by
  refine g_met (D := D) (dT := dT) (A := fun _ => False) (own := RX0) (Pic := fun H => PX D dT g μ H) (by decide) rfl (Nat.le_of_ble_eq_true rfl) ?_
  intro p e s m below meth c ls E hE hr hlk hl hP
  have hK := hE.1
  have hS : va_S (fun _ => False) s.heap s.heap [] := va_S.rf
  obtain ⟨hx, hb, hml, hown, hts⟩ := id E
  have hl : lv_has ls 3 [(0, .ref g), (1, .int x1), (2, .int x2)] := hl
  unfold fx_clash at hf
  refine lv_iload_n hx hb dX0_clash_0 rfl (lv_at hl 1 rfl) ?_
  obtain ⟨v1, hv1, hf⟩ := ob hf
  refine p_calli E hS (As := [.int x1]) (ti_isKind l x1 _ hv1) (lw_S q954 q955 q161 q956) di_isKind rfl (by decide) (by decide) hl rfl (Nat.le_of_ble_eq_true rfl) dX0_clash_1 (fun H1 locs1 hq1 hS => ?_)
  have hP := PX_same hP (hz_all hq1) hq1
  refine lv_if_eq (tgt := 14) hx hb dX0_clash_4 (by decide) (fun kc2 => ?_) (fun kc2 => ?_)
  · have hf := ite_t kc2 hf
    refine lv_iconst (v := (-1)) hx hb dX0_clash_14 rfl ?_
    refine lv_goto (tgt := 35) hx hb dX0_clash_15 (by decide) ?_
    cases hf
    exact g_iret (Pic := fun H => PX D dT g _ H) E hr hlk hP hS rfl dX0_clash_35
  · have hf := ite_f kc2 hf
    refine lv_iload_n hx hb dX0_clash_7 rfl (lv_at hl 2 rfl) ?_
    obtain ⟨v3, hv3, hf⟩ := ob hf
    refine p_calli E hS (As := [.int x2]) (ti_isKind l x2 _ hv3) (lw_S q954 q955 q161 q956) di_isKind rfl (by decide) (by decide) hl rfl (Nat.le_of_ble_eq_true rfl) dX0_clash_8 (fun H1 locs1 hq1 hS => ?_)
    have hP := PX_same hP (hz_all hq1) hq1
    refine lv_if_ne (tgt := 18) hx hb dX0_clash_11 (by decide) (fun kc4 => ?_) (fun kc4 => ?_)
    · have hf := ite_f kc4 hf
      refine lv_aload_n hx hb dX0_clash_18 rfl (lv_at hl 0 rfl) ?_
      refine gp_get (C := RX0) (T := TX0) E hK hP.1 (shO_g g) rfl in_X0 4 (by decide) (hts _ q337) (fun _ z => z) vO_4 dX0_clash_19 ?_
      refine lv_iload_n hx hb dX0_clash_22 rfl (lv_at hl 1 rfl) ?_
      refine lv_iload_n hx hb dX0_clash_23 rfl (lv_at hl 2 rfl) ?_
      obtain ⟨v6, hc5, hf⟩ := ob hf
      refine gx_calli E hE (Pic := fun H => PS D dT (skA g 0) (μ.2.1 0) (μ.2.2.2.1 0) H ∧ LR D dT (sA (skA g 0)) (μ.2.2.2.1 0) (μ.2.2.2.2 0) H) (Pic1 := fun H => PS D dT (skA g 0) (μ.2.1 0) (μ.2.2.2.1 0) H) ⟨(hP.2.1 0 (by decide)).1, (hP.2.1 0 (by decide)).2.weak (fun _ z => xA_s (by decide) z)⟩ hS (fun _ z => z.elim) (As := [.int x1, .int x2]) (ts_areClashing l D dT (skA g 0) (μ.2.2.2.1 0) x1 x2 (μ.2.2.2.2 0) (μ.2.1 0) _ hc5) (g_recv hK (hP.2.1 0 (by decide)).1 (shS_h _) rfl) (lw_V q1231 q1232 q1233 q162 q1234) ds_areClashing rfl (by decide) (by decide) hl rfl (Nat.le_of_ble_eq_true rfl) dX0_clash_24 (fun H1 locs1 hG hz1 hq1 hS => ?_)
      have hP := PX_same hP hz1 (fun q z => hq1 q z (fun y => y))
      refine lv_if_eq (tgt := 34) hx hb dX0_clash_27 (by decide) (fun kc7 => ?_) (fun kc7 => ?_)
      · have hf := ite_t kc7 hf
        refine lv_iconst (v := nI 0) hx hb dX0_clash_34 rfl ?_
        cases hf
        exact g_iret (Pic := fun H => PX D dT g _ H) E hr hlk hP hS rfl dX0_clash_35
      · have hf := ite_f kc7 hf
        refine lv_iconst (v := nI 1) hx hb dX0_clash_30 rfl ?_
        refine lv_goto (tgt := 35) hx hb dX0_clash_31 (by decide) ?_
        cases hf
        exact g_iret (Pic := fun H => PX D dT g _ H) E hr hlk hP hS rfl dX0_clash_35
    · have hf := ite_t kc4 hf
      refine lv_iconst (v := (-1)) hx hb dX0_clash_14 rfl ?_
      refine lv_goto (tgt := 35) hx hb dX0_clash_15 (by decide) ?_
      cases hf
      exact g_iret (Pic := fun H => PX D dT g _ H) E hr hlk hP hS rfl dX0_clash_35
set_option maxHeartbeats 4000000 in
def fx_book (x1 : Int32) (x2 : Int32) (μ : nwX) : Option (Int32) := (fi_isIn x1 (nI 0) (((μ.2.1 0) 18 0) - (nI 1)) ()).bind fun v1 => (if v1 = 0 then some (-1) else (fi_isIn x2 (nI 0) (nI 4) ()).bind fun v3 => (if v3 = 0 then some (-1) else (rw_ 150 x1).bind fun r5 => (rr_ (μ.2.1 0) 2 r5 x2).bind fun v6 => some v6))
set_option maxHeartbeats 4000000 in
theorem dx_book : yX0_book.cls = RX0 ∧ yX0_book.cls ≠ "java/lang/invoke/MethodHandle" ∧ yX0_book.cls ≠ "java/lang/invoke/VarHandle" ∧ (parseMethodDescriptor yX0_book.desc).map (fun d => d.parameters.length) = some 2 := ⟨rfl, by decide +kernel, by decide +kernel, by decide +kernel⟩
set_option maxHeartbeats 4000000 in
theorem tx_book (l : Launch) (D : va_G) (dT : Nat → ClassId) (g : Nat) (x1 : Int32) (x2 : Int32) (μ : nwX) (res : Int32) (hf : fx_book x1 x2 μ = some res) : Met l yX0_book (ws_ yX0_book cX0_book 3 (some .int)) (rmd 3) (va_Pc [.ref g, .int x1, .int x2] (fun U => PX D dT g μ U.heap ∧ EV D dT U)) (va_Qi (fun r' (_ : Unit) => r' = res) (fun _ t => PX D dT g μ t.heap) (fun _ => False)) 0 0 (fun _ => False) := by
  refine g_met (D := D) (dT := dT) (A := fun _ => False) (own := RX0) (Pic := fun H => PX D dT g μ H) (by decide) rfl (Nat.le_of_ble_eq_true rfl) ?_
  intro p e s m below meth c ls E hE hr hlk hl hP
  have hK := hE.1
  have hS : va_S (fun _ => False) s.heap s.heap [] := va_S.rf
  obtain ⟨hx, hb, hml, hown, hts⟩ := id E
  have hl : lv_has ls 3 [(0, .ref g), (1, .int x1), (2, .int x2)] := hl
  unfold fx_book at hf
  refine lv_iload_n hx hb dX0_book_0 rfl (lv_at hl 1 rfl) ?_
  refine lv_iconst (v := nI 0) hx hb dX0_book_1 rfl ?_
  refine lv_aload_n hx hb dX0_book_2 rfl (lv_at hl 0 rfl) ?_
  refine gp_get (C := RX0) (T := TX0) E hK hP.1 (shO_g g) rfl in_X0 4 (by decide) (hts _ q337) (fun _ z => z) vO_4 dX0_book_3 ?_
  refine gp_getN (C := RX1) (T := TX1) E hK (hP.2.1 0 (by decide)).1 (shS_h _) rfl in_X1 18 (by decide) (nfw_17 hE.2) (fun _ z => z) (vS_i (by decide)) dX0_book_6 ?_
  refine lv_iconst (v := nI 1) hx hb dX0_book_9 rfl ?_
  refine lv_isub hx hb dX0_book_10 ?_
  obtain ⟨v1, hv1, hf⟩ := ob hf
  refine p_calli E hS (As := [.int x1, .int (nI 0), .int (((μ.2.1 0) 18 0) - (nI 1))]) (ti_isIn l x1 (nI 0) (((μ.2.1 0) 18 0) - (nI 1)) _ hv1) (lw_S q386 q387 q161 q388) di_isIn rfl (by decide) (by decide) hl rfl (Nat.le_of_ble_eq_true rfl) dX0_book_11 (fun H1 locs1 hq1 hS => ?_)
  have hP := PX_same hP (hz_all hq1) hq1
  refine lv_if_eq (tgt := 40) hx hb dX0_book_14 (by decide) (fun kc2 => ?_) (fun kc2 => ?_)
  · have hf := ite_t kc2 hf
    refine lv_iconst (v := (-1)) hx hb dX0_book_40 rfl ?_
    cases hf
    exact g_iret (Pic := fun H => PX D dT g _ H) E hr hlk hP hS rfl dX0_book_41
  · have hf := ite_f kc2 hf
    refine lv_iload_n hx hb dX0_book_17 rfl (lv_at hl 2 rfl) ?_
    refine lv_iconst (v := nI 0) hx hb dX0_book_18 rfl ?_
    refine lv_iconst (v := nI 4) hx hb dX0_book_19 rfl ?_
    obtain ⟨v3, hv3, hf⟩ := ob hf
    refine p_calli E hS (As := [.int x2, .int (nI 0), .int (nI 4)]) (ti_isIn l x2 (nI 0) (nI 4) _ hv3) (lw_S q386 q387 q161 q388) di_isIn rfl (by decide) (by decide) hl rfl (Nat.le_of_ble_eq_true rfl) dX0_book_20 (fun H1 locs1 hq1 hS => ?_)
    have hP := PX_same hP (hz_all hq1) hq1
    refine lv_if_eq (tgt := 40) hx hb dX0_book_23 (by decide) (fun kc4 => ?_) (fun kc4 => ?_)
    · have hf := ite_t kc4 hf
      refine lv_iconst (v := (-1)) hx hb dX0_book_40 rfl ?_
      cases hf
      exact g_iret (Pic := fun H => PX D dT g _ H) E hr hlk hP hS rfl dX0_book_41
    · have hf := ite_f kc4 hf
      refine lv_aload_n hx hb dX0_book_26 rfl (lv_at hl 0 rfl) ?_
      refine gp_get (C := RX0) (T := TX0) E hK hP.1 (shO_g g) rfl in_X0 4 (by decide) (hts _ q337) (fun _ z => z) vO_4 dX0_book_27 ?_
      refine gp_getN (C := RX1) (T := TX1) E hK (hP.2.1 0 (by decide)).1 (shS_h _) rfl in_X1 2 (by decide) (nfw_1 hE.2) (fun _ z => z) (vS_2 (by decide)) dX0_book_30 ?_
      refine lv_iload_n hx hb dX0_book_33 rfl (lv_at hl 1 rfl) ?_
      obtain ⟨r5, hr5, hf⟩ := ob hf
      refine gp_aald (t := 2) (ty := .array .int) E hK (hP.2.1 0 (by decide)).1 rfl rfl (shS_2 (by decide)) (rw_in hr5).1 (by rw [vS_o (by decide), (rw_in hr5).2.1]) dX0_book_34 ?_
      refine lv_iload_n hx hb dX0_book_35 rfl (lv_at hl 2 rfl) ?_
      obtain ⟨v6, hv6, hf⟩ := ob hf
      refine gp_iald E hK (hP.2.1 0 (by decide)).1 (shS_r (by decide) (rw_in hr5).2.2) (rr_in hv6).1 (by rw [vS_r (by decide) (rw_in hr5).2.2, ← (rr_in hv6).2]) dX0_book_36 ?_
      refine lv_goto (tgt := 41) hx hb dX0_book_37 (by decide) ?_
      cases hf
      exact g_iret (Pic := fun H => PX D dT g _ H) E hr hlk hP hS rfl dX0_book_41
set_option maxHeartbeats 4000000 in
noncomputable def fx_laysAdds_L5 (x1 : Int32) (x2 : Int32) : (Int32 × Int32 × nwX) → Option ((Int32 × Int32 × nwX) ⊕ (Int32 × nwX)) := fun st => (if ((st.2.2.2.1 0) 13 0) ≤ st.2.1 then some (.inr (st.1, st.2.2)) else (rd_ (st.2.2.2.1 0) 3 12 st.2.1).bind fun v2 => (if v2 = x2 then (fs_canCall st.2.1 x1 (st.2.2.2.1 0)).bind fun v8 => (if v8 = 0 then (xo_ st.2.2 (wr_ st.2.2.1 10 12 st.2.1 (nI 0))).bind fun χ11 => some (.inl (st.1 ||| (nI 0), st.2.1 + nI 1, χ11)) else bd2 (xc_ st.2.2 0 (fs_add st.2.1 x1 (st.2.2.2.2.2.2 0) (st.2.2.2.1 0))) fun v15 χ16 => (xo_ χ16 (wr_ χ16.1 10 12 st.2.1 v15)).bind fun χ17 => some (.inl (st.1 ||| ((nI 1) <<< (st.2.1 &&& 31)), st.2.1 + nI 1, χ17))) else (xo_ st.2.2 (wr_ st.2.2.1 10 12 st.2.1 (nI 0))).bind fun χ5 => some (.inl (st.1 ||| (nI 0), st.2.1 + nI 1, χ5))))
set_option maxHeartbeats 4000000 in
noncomputable def fx_laysAdds (x1 : Int32) (x2 : Int32) (μ : nwX) : Option (Int32 × nwX) := (wh_ (fx_laysAdds_L5 x1 x2) (nI 0, nI 0, μ)).bind fun x19 => some (x19.1, x19.2)
set_option maxHeartbeats 4000000 in
theorem fx_laysAdds_L5_w {p : Program} {l : Launch} {e : Env} {s : State} {m : MethodId} {args : Array Value} {below : List Frame} {meth : Method} {c : Code} {D : va_G} {dT : Nat → ClassId} {Q : State → Prop} {g : Nat} (E : CallFix p m c cX0_laysAdds 6 s args lw_all RX0) (hK : va_K D nwCl (nwT dT) s) (hE : EV D dT s) (x1 : Int32) (x2 : Int32) {st : Int32 × Int32 × nwX} {x : Int32 × nwX} (hw : wh_ (fx_laysAdds_L5 x1 x2) st = some x) (hk : (fun x : Int32 × nwX => ∀ (ls : Array Slot) (H : Heap) (locs : List Loc), lv_has ls 6 [(3, .int x.1)] → PX D dT g x.2 H → va_S (xA g) s.heap H locs → W p l e (rmd 406) s m args below meth c H locs 0 0 Q (F0 m 99 ls [])) x) : (fun st : Int32 × Int32 × nwX => ∀ (ls : Array Slot) (H : Heap) (locs : List Loc), lv_has ls 6 [(0, .ref g), (1, .int x1), (2, .int x2), (3, .int st.1), (4, .int st.2.1)] → PX D dT g st.2.2 H → va_S (xA g) s.heap H locs → W p l e (rmd 406) s m args below meth c H locs 0 0 Q (F0 m 5 ls [])) st := by
  obtain ⟨hx, hb, hml, hown, hts⟩ := id E
  refine wh_run (P := (fun st : Int32 × Int32 × nwX => ∀ (ls : Array Slot) (H : Heap) (locs : List Loc), lv_has ls 6 [(0, .ref g), (1, .int x1), (2, .int x2), (3, .int st.1), (4, .int st.2.1)] → PX D dT g st.2.2 H → va_S (xA g) s.heap H locs → W p l e (rmd 406) s m args below meth c H locs 0 0 Q (F0 m 5 ls []))) (PE := (fun x : Int32 × nwX => ∀ (ls : Array Slot) (H : Heap) (locs : List Loc), lv_has ls 6 [(3, .int x.1)] → PX D dT g x.2 H → va_S (xA g) s.heap H locs → W p l e (rmd 406) s m args below meth c H locs 0 0 Q (F0 m 99 ls []))) ?_ hw hk
  clear hw hk
  intro st x hf hk ls H locs hl hP hS
  refine lv_iload hx hb dX0_laysAdds_5 (lv_at hl 4 rfl) ?_
  refine lv_aload_n hx hb dX0_laysAdds_7 rfl (lv_at hl 0 rfl) ?_
  refine gp_get (C := RX0) (T := TX0) E hK hP.1 (shO_g g) rfl in_X0 4 (by decide) (hts _ q337) (fun _ z => z) vO_4 dX0_laysAdds_8 ?_
  refine gp_getN (C := RX1) (T := TX1) E hK (hP.2.1 0 (by decide)).1 (shS_h _) rfl in_X1 13 (by decide) (nfw_12 hE.2) (fun _ z => z) (vS_i (by decide)) dX0_laysAdds_11 ?_
  refine lv_icmp_ge (tgt := 99) hx hb dX0_laysAdds_14 (by decide) (fun kc1 => ?_) (fun kc1 => ?_)
  · have hf := ite_t kc1 hf
    cases hf
    exact hk _ _ _ (lv_sub hl [3] rfl) hP hS
  · have hf := ite_f kc1 hf
    refine lv_aload_n hx hb dX0_laysAdds_17 rfl (lv_at hl 0 rfl) ?_
    refine gp_get (C := RX0) (T := TX0) E hK hP.1 (shO_g g) rfl in_X0 4 (by decide) (hts _ q337) (fun _ z => z) vO_4 dX0_laysAdds_18 ?_
    refine gp_getN (C := RX1) (T := TX1) E hK (hP.2.1 0 (by decide)).1 (shS_h _) rfl in_X1 3 (by decide) (nfw_2 hE.2) (fun _ z => z) (vS_a (by decide) (by decide)) dX0_laysAdds_21 ?_
    refine lv_iload hx hb dX0_laysAdds_24 (lv_at hl 4 rfl) ?_
    obtain ⟨v2, hv2, hf⟩ := ob hf
    refine gp_iald E hK (hP.2.1 0 (by decide)).1 (shS_a (by decide) (by decide)) (rd_in hv2).1 (by rw [vS_e (by decide) (by decide), ← (rd_in hv2).2]) dX0_laysAdds_26 ?_
    refine lv_iload_n hx hb dX0_laysAdds_27 rfl (lv_at hl 2 rfl) ?_
    refine lv_icmp_ne (tgt := 48) hx hb dX0_laysAdds_28 (by decide) (fun kc3 => ?_) (fun kc3 => ?_)
    · have hf := ite_f kc3 hf
      refine lv_iconst (v := nI 0) hx hb dX0_laysAdds_48 rfl ?_
      refine lv_istore (lv' := [(5, .int (nI 0)), (0, .ref g), (1, .int x1), (2, .int x2), (3, .int st.1), (4, .int st.2.1)]) hx hb dX0_laysAdds_49 hl (by decide) rfl (fun ls hl => ?_)
      refine lv_aload_n hx hb dX0_laysAdds_51 rfl (lv_at hl 1 rfl) ?_
      refine gp_get (C := RX0) (T := TX0) E hK hP.1 (shO_g g) rfl in_X0 10 (by decide) (hts _ q344) (fun _ z => z) (vO_a (by decide)) dX0_laysAdds_52 ?_
      refine lv_iload hx hb dX0_laysAdds_55 (lv_at hl 5 rfl) ?_
      refine lv_iload hx hb dX0_laysAdds_57 (lv_at hl 0 rfl) ?_
      refine lv_if_eq (tgt := 75) hx hb dX0_laysAdds_59 (by decide) (fun kc4 => ?_) (fun kc4 => ?_)
      · skip
        refine lv_iconst (v := nI 0) hx hb dX0_laysAdds_75 rfl ?_
        obtain ⟨χ5, hχ5, hf⟩ := ob hf
        obtain ⟨sχ5, hχ5, eχ5⟩ := xo_in hχ5
        refine gp_iast E hK hP.1 hS (xA_o (shO_in (by rw [shO_a (by decide) (by decide)]; exact fun z => by cases z))) (shO_a (by decide) (by decide)) (wr_in hχ5).1 dX0_laysAdds_76 (fun H locs hG oq hS => ?_)
        have hP := PX_ast hP (by decide) (by decide) hχ5 hG oq (hz_put hG (by rw [shO_a (by decide) (by decide)]; exact fun z => by cases z) oq)
        rw [← eχ5] at hP
        refine lv_iload_n hx hb dX0_laysAdds_77 rfl (lv_at hl 4 rfl) ?_
        refine lv_iload hx hb dX0_laysAdds_78 (lv_at hl 0 rfl) ?_
        refine lv_if_eq (tgt := 90) hx hb dX0_laysAdds_80 (by decide) (fun kc6 => ?_) (fun kc6 => ?_)
        · skip
          refine lv_iconst (v := nI 0) hx hb dX0_laysAdds_90 rfl ?_
          refine lv_ior hx hb dX0_laysAdds_91 ?_
          refine lv_istore_n (lv' := [(3, .int (st.1 ||| (nI 0))), (5, .int (nI 0)), (0, .ref g), (1, .int x1), (2, .int x2), (4, .int st.2.1)]) hx hb dX0_laysAdds_92 rfl hl (by decide) rfl (fun ls hl => ?_)
          refine lv_iinc (v := st.2.1 + nI 1) (lv' := [(4, .int (st.2.1 + nI 1)), (3, .int (st.1 ||| (nI 0))), (5, .int (nI 0)), (0, .ref g), (1, .int x1), (2, .int x2)]) hx hb dX0_laysAdds_93 hl (k := 5) rfl rfl (by decide) rfl (fun ls hl => ?_)
          refine lv_goto (tgt := 5) hx hb dX0_laysAdds_96 (by decide) ?_
          cases hf
          exact hk _ _ _ (lv_sub hl [3, 4, 5, 1, 0] rfl) hP hS
        · exact absurd (by decide) kc6
      · exact absurd (by decide) kc4
    · have hf := ite_t kc3 hf
      refine lv_aload_n hx hb dX0_laysAdds_31 rfl (lv_at hl 0 rfl) ?_
      refine gp_get (C := RX0) (T := TX0) E hK hP.1 (shO_g g) rfl in_X0 4 (by decide) (hts _ q337) (fun _ z => z) vO_4 dX0_laysAdds_32 ?_
      refine lv_iload hx hb dX0_laysAdds_35 (lv_at hl 4 rfl) ?_
      refine lv_iload_n hx hb dX0_laysAdds_37 rfl (lv_at hl 1 rfl) ?_
      obtain ⟨v8, hc7, hf⟩ := ob hf
      refine gx_calli E hE (Pic := fun H => PS D dT (skA g 0) (st.2.2.2.1 0) (st.2.2.2.2.2.1 0) H) (Pic1 := fun H => PS D dT (skA g 0) (st.2.2.2.1 0) (st.2.2.2.2.2.1 0) H) (hP.2.1 0 (by decide)).1 hS (fun _ z => z.elim) (As := [.int st.2.1, .int x1]) (ts_canCall l D dT (skA g 0) (st.2.2.2.2.2.1 0) st.2.1 x1 (st.2.2.2.1 0) _ hc7) (g_recv hK (hP.2.1 0 (by decide)).1 (shS_h _) rfl) (lw_V q980 q981 q982 q162 q983) ds_canCall rfl (by decide) (by decide) hl rfl (Nat.le_of_ble_eq_true rfl) dX0_laysAdds_38 (fun H1 locs1 hG hz1 hq1 hS => ?_)
      have hP := PX_same hP hz1 (fun q z => hq1 q z (fun y => y))
      refine lv_if_eq (tgt := 48) hx hb dX0_laysAdds_41 (by decide) (fun kc9 => ?_) (fun kc9 => ?_)
      · have hf := ite_t kc9 hf
        refine lv_iconst (v := nI 0) hx hb dX0_laysAdds_48 rfl ?_
        refine lv_istore (lv' := [(5, .int (nI 0)), (0, .ref g), (1, .int x1), (2, .int x2), (3, .int st.1), (4, .int st.2.1)]) hx hb dX0_laysAdds_49 hl (by decide) rfl (fun ls hl => ?_)
        refine lv_aload_n hx hb dX0_laysAdds_51 rfl (lv_at hl 1 rfl) ?_
        refine gp_get (C := RX0) (T := TX0) E hK hP.1 (shO_g g) rfl in_X0 10 (by decide) (hts _ q344) (fun _ z => z) (vO_a (by decide)) dX0_laysAdds_52 ?_
        refine lv_iload hx hb dX0_laysAdds_55 (lv_at hl 5 rfl) ?_
        refine lv_iload hx hb dX0_laysAdds_57 (lv_at hl 0 rfl) ?_
        refine lv_if_eq (tgt := 75) hx hb dX0_laysAdds_59 (by decide) (fun kc10 => ?_) (fun kc10 => ?_)
        · skip
          refine lv_iconst (v := nI 0) hx hb dX0_laysAdds_75 rfl ?_
          obtain ⟨χ11, hχ11, hf⟩ := ob hf
          obtain ⟨sχ11, hχ11, eχ11⟩ := xo_in hχ11
          refine gp_iast E hK hP.1 hS (xA_o (shO_in (by rw [shO_a (by decide) (by decide)]; exact fun z => by cases z))) (shO_a (by decide) (by decide)) (wr_in hχ11).1 dX0_laysAdds_76 (fun H locs hG oq hS => ?_)
          have hP := PX_ast hP (by decide) (by decide) hχ11 hG oq (hz_put hG (by rw [shO_a (by decide) (by decide)]; exact fun z => by cases z) oq)
          rw [← eχ11] at hP
          refine lv_iload_n hx hb dX0_laysAdds_77 rfl (lv_at hl 4 rfl) ?_
          refine lv_iload hx hb dX0_laysAdds_78 (lv_at hl 0 rfl) ?_
          refine lv_if_eq (tgt := 90) hx hb dX0_laysAdds_80 (by decide) (fun kc12 => ?_) (fun kc12 => ?_)
          · skip
            refine lv_iconst (v := nI 0) hx hb dX0_laysAdds_90 rfl ?_
            refine lv_ior hx hb dX0_laysAdds_91 ?_
            refine lv_istore_n (lv' := [(3, .int (st.1 ||| (nI 0))), (5, .int (nI 0)), (0, .ref g), (1, .int x1), (2, .int x2), (4, .int st.2.1)]) hx hb dX0_laysAdds_92 rfl hl (by decide) rfl (fun ls hl => ?_)
            refine lv_iinc (v := st.2.1 + nI 1) (lv' := [(4, .int (st.2.1 + nI 1)), (3, .int (st.1 ||| (nI 0))), (5, .int (nI 0)), (0, .ref g), (1, .int x1), (2, .int x2)]) hx hb dX0_laysAdds_93 hl (k := 5) rfl rfl (by decide) rfl (fun ls hl => ?_)
            refine lv_goto (tgt := 5) hx hb dX0_laysAdds_96 (by decide) ?_
            cases hf
            exact hk _ _ _ (lv_sub hl [3, 4, 5, 1, 0] rfl) hP hS
          · exact absurd (by decide) kc12
        · exact absurd (by decide) kc10
      · have hf := ite_f kc9 hf
        refine lv_iconst (v := nI 1) hx hb dX0_laysAdds_44 rfl ?_
        refine lv_goto (tgt := 49) hx hb dX0_laysAdds_45 (by decide) ?_
        refine lv_istore (lv' := [(5, .int (nI 1)), (0, .ref g), (1, .int x1), (2, .int x2), (3, .int st.1), (4, .int st.2.1)]) hx hb dX0_laysAdds_49 hl (by decide) rfl (fun ls hl => ?_)
        refine lv_aload_n hx hb dX0_laysAdds_51 rfl (lv_at hl 1 rfl) ?_
        refine gp_get (C := RX0) (T := TX0) E hK hP.1 (shO_g g) rfl in_X0 10 (by decide) (hts _ q344) (fun _ z => z) (vO_a (by decide)) dX0_laysAdds_52 ?_
        refine lv_iload hx hb dX0_laysAdds_55 (lv_at hl 5 rfl) ?_
        refine lv_iload hx hb dX0_laysAdds_57 (lv_at hl 0 rfl) ?_
        refine lv_if_eq (tgt := 75) hx hb dX0_laysAdds_59 (by decide) (fun kc13 => ?_) (fun kc13 => ?_)
        · exact absurd kc13 (by decide)
        · skip
          refine lv_aload_n hx hb dX0_laysAdds_62 rfl (lv_at hl 1 rfl) ?_
          refine gp_get (C := RX0) (T := TX0) E hK hP.1 (shO_g g) rfl in_X0 4 (by decide) (hts _ q337) (fun _ z => z) vO_4 dX0_laysAdds_63 ?_
          refine lv_iload hx hb dX0_laysAdds_66 (lv_at hl 5 rfl) ?_
          refine lv_iload_n hx hb dX0_laysAdds_68 rfl (lv_at hl 2 rfl) ?_
          obtain ⟨v15, χ16, hc14, hf⟩ := ob2 hf
          obtain ⟨sχ16, hc14, eχ16⟩ := xc_in hc14
          refine gx_calli E hE (Pic := fun H => PS D dT (skA g 0) (st.2.2.2.1 0) (st.2.2.2.2.2.1 0) H ∧ LR D dT (sA (skA g 0)) (st.2.2.2.2.2.1 0) (st.2.2.2.2.2.2 0) H) (Pic1 := fun H => PS D dT (skA g 0) sχ16 (st.2.2.2.2.2.1 0) H) ⟨(hP.2.1 0 (by decide)).1, (hP.2.1 0 (by decide)).2.weak (fun _ z => xA_s (by decide) z)⟩ hS (fun _ z => xA_s (by decide) z) (As := [.int st.2.1, .int x1]) (ts_add l D dT (skA g 0) (st.2.2.2.2.2.1 0) st.2.1 x1 (st.2.2.2.2.2.2 0) (st.2.2.2.1 0) _ hc14) (g_recv hK (hP.2.1 0 (by decide)).1 (shS_h _) rfl) (lw_V q1203 q998 q999 q162 q1000) ds_add rfl (by decide) (by decide) hl rfl (Nat.le_of_ble_eq_true rfl) dX0_laysAdds_69 (fun H1 locs1 hG hz1 hq1 hS => ?_)
          have hP := PX_set hP (by decide) hG hz1 hq1
          rw [← eχ16] at hP
          refine lv_goto (tgt := 76) hx hb dX0_laysAdds_72 (by decide) ?_
          obtain ⟨χ17, hχ17, hf⟩ := ob hf
          obtain ⟨sχ17, hχ17, eχ17⟩ := xo_in hχ17
          refine gp_iast E hK hP.1 hS (xA_o (shO_in (by rw [shO_a (by decide) (by decide)]; exact fun z => by cases z))) (shO_a (by decide) (by decide)) (wr_in hχ17).1 dX0_laysAdds_76 (fun H locs hG oq hS => ?_)
          have hP := PX_ast hP (by decide) (by decide) hχ17 hG oq (hz_put hG (by rw [shO_a (by decide) (by decide)]; exact fun z => by cases z) oq)
          rw [← eχ17] at hP
          refine lv_iload_n hx hb dX0_laysAdds_77 rfl (lv_at hl 4 rfl) ?_
          refine lv_iload hx hb dX0_laysAdds_78 (lv_at hl 0 rfl) ?_
          refine lv_if_eq (tgt := 90) hx hb dX0_laysAdds_80 (by decide) (fun kc18 => ?_) (fun kc18 => ?_)
          · exact absurd kc18 (by decide)
          · skip
            refine lv_iconst (v := nI 1) hx hb dX0_laysAdds_83 rfl ?_
            refine lv_iload hx hb dX0_laysAdds_84 (lv_at hl 5 rfl) ?_
            refine lv_ishl hx hb dX0_laysAdds_86 ?_
            refine lv_goto (tgt := 91) hx hb dX0_laysAdds_87 (by decide) ?_
            refine lv_ior hx hb dX0_laysAdds_91 ?_
            refine lv_istore_n (lv' := [(3, .int (st.1 ||| ((nI 1) <<< (st.2.1 &&& 31)))), (5, .int (nI 1)), (0, .ref g), (1, .int x1), (2, .int x2), (4, .int st.2.1)]) hx hb dX0_laysAdds_92 rfl hl (by decide) rfl (fun ls hl => ?_)
            refine lv_iinc (v := st.2.1 + nI 1) (lv' := [(4, .int (st.2.1 + nI 1)), (3, .int (st.1 ||| ((nI 1) <<< (st.2.1 &&& 31)))), (5, .int (nI 1)), (0, .ref g), (1, .int x1), (2, .int x2)]) hx hb dX0_laysAdds_93 hl (k := 5) rfl rfl (by decide) rfl (fun ls hl => ?_)
            refine lv_goto (tgt := 5) hx hb dX0_laysAdds_96 (by decide) ?_
            cases hf
            exact hk _ _ _ (lv_sub hl [3, 4, 5, 1, 0] rfl) hP hS
set_option maxHeartbeats 4000000 in
theorem dx_laysAdds : yX0_laysAdds.cls = RX0 ∧ yX0_laysAdds.cls ≠ "java/lang/invoke/MethodHandle" ∧ yX0_laysAdds.cls ≠ "java/lang/invoke/VarHandle" ∧ (parseMethodDescriptor yX0_laysAdds.desc).map (fun d => d.parameters.length) = some 2 := ⟨rfl, by decide +kernel, by decide +kernel, by decide +kernel⟩
set_option maxHeartbeats 4000000 in
theorem tx_laysAdds (l : Launch) (D : va_G) (dT : Nat → ClassId) (g : Nat) (x1 : Int32) (x2 : Int32) (μ : nwX) (res : Int32 × nwX) (hf : fx_laysAdds x1 x2 μ = some res) : Met l yX0_laysAdds (ws_ yX0_laysAdds cX0_laysAdds 6 (some .int)) (rmd 406) (va_Pc [.ref g, .int x1, .int x2] (fun U => PX D dT g μ U.heap ∧ EV D dT U)) (va_Qi (fun r' (_ : Unit) => r' = res.1) (fun _ t => PX D dT g res.2 t.heap) (xA g)) 0 0 (xA g) := by
  refine g_met (D := D) (dT := dT) (A := xA g) (own := RX0) (Pic := fun H => PX D dT g μ H) (by decide) rfl (Nat.le_of_ble_eq_true rfl) ?_
  intro p e s m below meth c ls E hE hr hlk hl hP
  have hK := hE.1
  have hS : va_S (xA g) s.heap s.heap [] := va_S.rf
  obtain ⟨hx, hb, hml, hown, hts⟩ := id E
  have hl : lv_has ls 6 [(0, .ref g), (1, .int x1), (2, .int x2)] := hl
  unfold fx_laysAdds at hf
  refine lv_iconst (v := nI 0) hx hb dX0_laysAdds_0 rfl ?_
  refine lv_istore_n (lv' := [(3, .int (nI 0)), (0, .ref g), (1, .int x1), (2, .int x2)]) hx hb dX0_laysAdds_1 rfl hl (by decide) rfl (fun ls hl => ?_)
  refine lv_iconst (v := nI 0) hx hb dX0_laysAdds_2 rfl ?_
  refine lv_istore (lv' := [(4, .int (nI 0)), (3, .int (nI 0)), (0, .ref g), (1, .int x1), (2, .int x2)]) hx hb dX0_laysAdds_3 hl (by decide) rfl (fun ls hl => ?_)
  obtain ⟨x19, hx19, hf⟩ := ob hf
  refine fx_laysAdds_L5_w E hK hE x1 x2 hx19 (fun ls H locs hl hP hS => ?_) _ _ _ (lv_sub hl [2, 3, 4, 1, 0] rfl) hP hS
  refine lv_iload_n hx hb dX0_laysAdds_99 rfl (lv_at hl 0 rfl) ?_
  cases hf
  exact g_iret (Pic := fun H => PX D dT g _ H) E hr hlk hP hS rfl dX0_laysAdds_100
set_option maxHeartbeats 4000000 in
def fx_addOf_L4 (x1 : Int32) (μ : nwX) : (Int32 × Int32) → Option ((Int32 × Int32) ⊕ (Int32)) := fun st => (if ((μ.2.1 0) 13 0) ≤ st.2 then some (.inr st.1) else (if ((x1 >>> (st.2 &&& 31)) &&& (nI 1)) = (nI 1) then (rd_ μ.1 10 12 st.2).bind fun v3 => some (.inl (st.1 + v3, st.2 + nI 1)) else some (.inl (st.1 + (nI 0), st.2 + nI 1))))
set_option maxHeartbeats 4000000 in
noncomputable def fx_addOf (x1 : Int32) (μ : nwX) : Option (Int32) := (wh_ (fx_addOf_L4 x1 μ) (nI 0, nI 0)).bind fun x4 => some x4
set_option maxHeartbeats 4000000 in
theorem fx_addOf_L4_w {p : Program} {l : Launch} {e : Env} {s : State} {m : MethodId} {args : Array Value} {below : List Frame} {meth : Method} {c : Code} {D : va_G} {dT : Nat → ClassId} {Q : State → Prop} {g : Nat} (E : CallFix p m c cX0_addOf 4 s args lw_all RX0) (hK : va_K D nwCl (nwT dT) s) (hE : EV D dT s) (x1 : Int32) (μ : nwX) {st : Int32 × Int32} {x : Int32} (hw : wh_ (fx_addOf_L4 x1 μ) st = some x) (hk : (fun x : Int32 => ∀ (ls : Array Slot) (H : Heap) (locs : List Loc), lv_has ls 4 [(2, .int x)] → PX D dT g μ H → va_S (fun _ => False) s.heap H locs → W p l e (rmd 0) s m args below meth c H locs 0 0 Q (F0 m 43 ls [])) x) : (fun st : Int32 × Int32 => ∀ (ls : Array Slot) (H : Heap) (locs : List Loc), lv_has ls 4 [(0, .ref g), (1, .int x1), (2, .int st.1), (3, .int st.2)] → PX D dT g μ H → va_S (fun _ => False) s.heap H locs → W p l e (rmd 0) s m args below meth c H locs 0 0 Q (F0 m 4 ls [])) st := by
  obtain ⟨hx, hb, hml, hown, hts⟩ := id E
  refine wh_run (P := (fun st : Int32 × Int32 => ∀ (ls : Array Slot) (H : Heap) (locs : List Loc), lv_has ls 4 [(0, .ref g), (1, .int x1), (2, .int st.1), (3, .int st.2)] → PX D dT g μ H → va_S (fun _ => False) s.heap H locs → W p l e (rmd 0) s m args below meth c H locs 0 0 Q (F0 m 4 ls []))) (PE := (fun x : Int32 => ∀ (ls : Array Slot) (H : Heap) (locs : List Loc), lv_has ls 4 [(2, .int x)] → PX D dT g μ H → va_S (fun _ => False) s.heap H locs → W p l e (rmd 0) s m args below meth c H locs 0 0 Q (F0 m 43 ls []))) ?_ hw hk
  clear hw hk
  intro st x hf hk ls H locs hl hP hS
  refine lv_iload_n hx hb dX0_addOf_4 rfl (lv_at hl 3 rfl) ?_
  refine lv_aload_n hx hb dX0_addOf_5 rfl (lv_at hl 0 rfl) ?_
  refine gp_get (C := RX0) (T := TX0) E hK hP.1 (shO_g g) rfl in_X0 4 (by decide) (hts _ q337) (fun _ z => z) vO_4 dX0_addOf_6 ?_
  refine gp_getN (C := RX1) (T := TX1) E hK (hP.2.1 0 (by decide)).1 (shS_h _) rfl in_X1 13 (by decide) (nfw_12 hE.2) (fun _ z => z) (vS_i (by decide)) dX0_addOf_9 ?_
  refine lv_icmp_ge (tgt := 43) hx hb dX0_addOf_12 (by decide) (fun kc1 => ?_) (fun kc1 => ?_)
  · have hf := ite_t kc1 hf
    cases hf
    exact hk _ _ _ (lv_sub hl [2] rfl) hP hS
  · have hf := ite_f kc1 hf
    refine lv_iload_n hx hb dX0_addOf_15 rfl (lv_at hl 2 rfl) ?_
    refine lv_iload_n hx hb dX0_addOf_16 rfl (lv_at hl 1 rfl) ?_
    refine lv_iload_n hx hb dX0_addOf_17 rfl (lv_at hl 3 rfl) ?_
    refine lv_ishr hx hb dX0_addOf_18 ?_
    refine lv_iconst (v := nI 1) hx hb dX0_addOf_19 rfl ?_
    refine lv_iand hx hb dX0_addOf_20 ?_
    refine lv_iconst (v := nI 1) hx hb dX0_addOf_21 rfl ?_
    refine lv_icmp_ne (tgt := 34) hx hb dX0_addOf_22 (by decide) (fun kc2 => ?_) (fun kc2 => ?_)
    · have hf := ite_f kc2 hf
      refine lv_iconst (v := nI 0) hx hb dX0_addOf_34 rfl ?_
      refine lv_iadd hx hb dX0_addOf_35 ?_
      refine lv_istore_n (lv' := [(2, .int (st.1 + (nI 0))), (0, .ref g), (1, .int x1), (3, .int st.2)]) hx hb dX0_addOf_36 rfl hl (by decide) rfl (fun ls hl => ?_)
      refine lv_iinc (v := st.2 + nI 1) (lv' := [(3, .int (st.2 + nI 1)), (2, .int (st.1 + (nI 0))), (0, .ref g), (1, .int x1)]) hx hb dX0_addOf_37 hl (k := 3) rfl rfl (by decide) rfl (fun ls hl => ?_)
      refine lv_goto (tgt := 4) hx hb dX0_addOf_40 (by decide) ?_
      cases hf
      exact hk _ _ _ (lv_sub hl [2, 3, 1, 0] rfl) hP hS
    · have hf := ite_t kc2 hf
      refine lv_aload_n hx hb dX0_addOf_25 rfl (lv_at hl 0 rfl) ?_
      refine gp_get (C := RX0) (T := TX0) E hK hP.1 (shO_g g) rfl in_X0 10 (by decide) (hts _ q344) (fun _ z => z) (vO_a (by decide)) dX0_addOf_26 ?_
      refine lv_iload_n hx hb dX0_addOf_29 rfl (lv_at hl 3 rfl) ?_
      obtain ⟨v3, hv3, hf⟩ := ob hf
      refine gp_iald E hK hP.1 (shO_a (by decide) (by decide)) (rd_in hv3).1 (by rw [vO_ae (by decide) (by decide), ← (rd_in hv3).2]) dX0_addOf_30 ?_
      refine lv_goto (tgt := 35) hx hb dX0_addOf_31 (by decide) ?_
      refine lv_iadd hx hb dX0_addOf_35 ?_
      refine lv_istore_n (lv' := [(2, .int (st.1 + v3)), (0, .ref g), (1, .int x1), (3, .int st.2)]) hx hb dX0_addOf_36 rfl hl (by decide) rfl (fun ls hl => ?_)
      refine lv_iinc (v := st.2 + nI 1) (lv' := [(3, .int (st.2 + nI 1)), (2, .int (st.1 + v3)), (0, .ref g), (1, .int x1)]) hx hb dX0_addOf_37 hl (k := 3) rfl rfl (by decide) rfl (fun ls hl => ?_)
      refine lv_goto (tgt := 4) hx hb dX0_addOf_40 (by decide) ?_
      cases hf
      exact hk _ _ _ (lv_sub hl [2, 3, 1, 0] rfl) hP hS
set_option maxHeartbeats 4000000 in
theorem dx_addOf : yX0_addOf.cls = RX0 ∧ yX0_addOf.cls ≠ "java/lang/invoke/MethodHandle" ∧ yX0_addOf.cls ≠ "java/lang/invoke/VarHandle" ∧ (parseMethodDescriptor yX0_addOf.desc).map (fun d => d.parameters.length) = some 1 := ⟨rfl, by decide +kernel, by decide +kernel, by decide +kernel⟩
set_option maxHeartbeats 4000000 in
theorem tx_addOf (l : Launch) (D : va_G) (dT : Nat → ClassId) (g : Nat) (x1 : Int32) (μ : nwX) (res : Int32) (hf : fx_addOf x1 μ = some res) : Met l yX0_addOf (ws_ yX0_addOf cX0_addOf 4 (some .int)) (rmd 0) (va_Pc [.ref g, .int x1] (fun U => PX D dT g μ U.heap ∧ EV D dT U)) (va_Qi (fun r' (_ : Unit) => r' = res) (fun _ t => PX D dT g μ t.heap) (fun _ => False)) 0 0 (fun _ => False) := by
  refine g_met (D := D) (dT := dT) (A := fun _ => False) (own := RX0) (Pic := fun H => PX D dT g μ H) (by decide) rfl (Nat.le_of_ble_eq_true rfl) ?_
  intro p e s m below meth c ls E hE hr hlk hl hP
  have hK := hE.1
  have hS : va_S (fun _ => False) s.heap s.heap [] := va_S.rf
  obtain ⟨hx, hb, hml, hown, hts⟩ := id E
  have hl : lv_has ls 4 [(0, .ref g), (1, .int x1)] := hl
  unfold fx_addOf at hf
  refine lv_iconst (v := nI 0) hx hb dX0_addOf_0 rfl ?_
  refine lv_istore_n (lv' := [(2, .int (nI 0)), (0, .ref g), (1, .int x1)]) hx hb dX0_addOf_1 rfl hl (by decide) rfl (fun ls hl => ?_)
  refine lv_iconst (v := nI 0) hx hb dX0_addOf_2 rfl ?_
  refine lv_istore_n (lv' := [(3, .int (nI 0)), (2, .int (nI 0)), (0, .ref g), (1, .int x1)]) hx hb dX0_addOf_3 rfl hl (by decide) rfl (fun ls hl => ?_)
  obtain ⟨x4, hx4, hf⟩ := ob hf
  refine fx_addOf_L4_w E hK hE x1 μ hx4 (fun ls H locs hl hP hS => ?_) _ _ _ (lv_sub hl [2, 3, 1, 0] rfl) hP hS
  refine lv_iload_n hx hb dX0_addOf_43 rfl (lv_at hl 0 rfl) ?_
  cases hf
  exact g_iret (Pic := fun H => PX D dT g _ H) E hr hlk hP hS rfl dX0_addOf_44
set_option maxHeartbeats 4000000 in
noncomputable def fx_setsWith_L6 (x1 : Int32) (x2 : Int32) (x3 : Int32) (μ : nwX) : (Int32 × Int32) → Option ((Int32 × Int32) ⊕ (Int32)) := fun st => (if x1 < st.2 then some (.inr st.1) else (if (st.2 &&& (x1 ^^^ (-1))) = 0 then (if (st.2 &&& x3) = x3 then (fx_addOf st.2 μ).bind fun v5 => (if v5 = x2 then some (.inl (st.1 + (nI 1), st.2 + nI 1)) else some (.inl (st.1 + (nI 0), st.2 + nI 1))) else some (.inl (st.1 + (nI 0), st.2 + nI 1))) else some (.inl (st.1 + (nI 0), st.2 + nI 1))))
set_option maxHeartbeats 4000000 in
noncomputable def fx_setsWith (x1 : Int32) (x2 : Int32) (x3 : Int32) (μ : nwX) : Option (Int32) := (wh_ (fx_setsWith_L6 x1 x2 x3 μ) (nI 0, nI 0)).bind fun x7 => some x7
set_option maxHeartbeats 4000000 in
theorem fx_setsWith_L6_w {p : Program} {l : Launch} {e : Env} {s : State} {m : MethodId} {args : Array Value} {below : List Frame} {meth : Method} {c : Code} {D : va_G} {dT : Nat → ClassId} {Q : State → Prop} {g : Nat} (E : CallFix p m c cX0_setsWith 6 s args lw_all RX0) (hK : va_K D nwCl (nwT dT) s) (hE : EV D dT s) (x1 : Int32) (x2 : Int32) (x3 : Int32) (μ : nwX) {st : Int32 × Int32} {x : Int32} (hw : wh_ (fx_setsWith_L6 x1 x2 x3 μ) st = some x) (hk : (fun x : Int32 => ∀ (ls : Array Slot) (H : Heap) (locs : List Loc), lv_has ls 6 [(4, .int x)] → PX D dT g μ H → va_S (fun _ => False) s.heap H locs → W p l e (rmd 1) s m args below meth c H locs 0 0 Q (F0 m 55 ls [])) x) : (fun st : Int32 × Int32 => ∀ (ls : Array Slot) (H : Heap) (locs : List Loc), lv_has ls 6 [(0, .ref g), (1, .int x1), (2, .int x2), (3, .int x3), (4, .int st.1), (5, .int st.2)] → PX D dT g μ H → va_S (fun _ => False) s.heap H locs → W p l e (rmd 1) s m args below meth c H locs 0 0 Q (F0 m 6 ls [])) st := by
  obtain ⟨hx, hb, hml, hown, hts⟩ := id E
  refine wh_run (P := (fun st : Int32 × Int32 => ∀ (ls : Array Slot) (H : Heap) (locs : List Loc), lv_has ls 6 [(0, .ref g), (1, .int x1), (2, .int x2), (3, .int x3), (4, .int st.1), (5, .int st.2)] → PX D dT g μ H → va_S (fun _ => False) s.heap H locs → W p l e (rmd 1) s m args below meth c H locs 0 0 Q (F0 m 6 ls []))) (PE := (fun x : Int32 => ∀ (ls : Array Slot) (H : Heap) (locs : List Loc), lv_has ls 6 [(4, .int x)] → PX D dT g μ H → va_S (fun _ => False) s.heap H locs → W p l e (rmd 1) s m args below meth c H locs 0 0 Q (F0 m 55 ls []))) ?_ hw hk
  clear hw hk
  intro st x hf hk ls H locs hl hP hS
  refine lv_iload hx hb dX0_setsWith_6 (lv_at hl 5 rfl) ?_
  refine lv_iload_n hx hb dX0_setsWith_8 rfl (lv_at hl 1 rfl) ?_
  refine lv_icmp_gt (tgt := 55) hx hb dX0_setsWith_9 (by decide) (fun kc1 => ?_) (fun kc1 => ?_)
  · have hf := ite_t kc1 hf
    cases hf
    exact hk _ _ _ (lv_sub hl [4] rfl) hP hS
  · have hf := ite_f kc1 hf
    refine lv_iload hx hb dX0_setsWith_12 (lv_at hl 4 rfl) ?_
    refine lv_iload hx hb dX0_setsWith_14 (lv_at hl 5 rfl) ?_
    refine lv_iload_n hx hb dX0_setsWith_16 rfl (lv_at hl 1 rfl) ?_
    refine lv_iconst (v := (-1)) hx hb dX0_setsWith_17 rfl ?_
    refine lv_ixor hx hb dX0_setsWith_18 ?_
    refine lv_iand hx hb dX0_setsWith_19 ?_
    refine lv_if_ne (tgt := 45) hx hb dX0_setsWith_20 (by decide) (fun kc2 => ?_) (fun kc2 => ?_)
    · have hf := ite_f kc2 hf
      refine lv_iconst (v := nI 0) hx hb dX0_setsWith_45 rfl ?_
      refine lv_iadd hx hb dX0_setsWith_46 ?_
      refine lv_istore (lv' := [(4, .int (st.1 + (nI 0))), (0, .ref g), (1, .int x1), (2, .int x2), (3, .int x3), (5, .int st.2)]) hx hb dX0_setsWith_47 hl (by decide) rfl (fun ls hl => ?_)
      refine lv_iinc (v := st.2 + nI 1) (lv' := [(5, .int (st.2 + nI 1)), (4, .int (st.1 + (nI 0))), (0, .ref g), (1, .int x1), (2, .int x2), (3, .int x3)]) hx hb dX0_setsWith_49 hl (k := 5) rfl rfl (by decide) rfl (fun ls hl => ?_)
      refine lv_goto (tgt := 6) hx hb dX0_setsWith_52 (by decide) ?_
      cases hf
      exact hk _ _ _ (lv_sub hl [2, 3, 4, 5, 1, 0] rfl) hP hS
    · have hf := ite_t kc2 hf
      refine lv_iload hx hb dX0_setsWith_23 (lv_at hl 5 rfl) ?_
      refine lv_iload_n hx hb dX0_setsWith_25 rfl (lv_at hl 3 rfl) ?_
      refine lv_iand hx hb dX0_setsWith_26 ?_
      refine lv_iload_n hx hb dX0_setsWith_27 rfl (lv_at hl 3 rfl) ?_
      refine lv_icmp_ne (tgt := 45) hx hb dX0_setsWith_28 (by decide) (fun kc3 => ?_) (fun kc3 => ?_)
      · have hf := ite_f kc3 hf
        refine lv_iconst (v := nI 0) hx hb dX0_setsWith_45 rfl ?_
        refine lv_iadd hx hb dX0_setsWith_46 ?_
        refine lv_istore (lv' := [(4, .int (st.1 + (nI 0))), (0, .ref g), (1, .int x1), (2, .int x2), (3, .int x3), (5, .int st.2)]) hx hb dX0_setsWith_47 hl (by decide) rfl (fun ls hl => ?_)
        refine lv_iinc (v := st.2 + nI 1) (lv' := [(5, .int (st.2 + nI 1)), (4, .int (st.1 + (nI 0))), (0, .ref g), (1, .int x1), (2, .int x2), (3, .int x3)]) hx hb dX0_setsWith_49 hl (k := 5) rfl rfl (by decide) rfl (fun ls hl => ?_)
        refine lv_goto (tgt := 6) hx hb dX0_setsWith_52 (by decide) ?_
        cases hf
        exact hk _ _ _ (lv_sub hl [2, 3, 4, 5, 1, 0] rfl) hP hS
      · have hf := ite_t kc3 hf
        refine lv_aload_n hx hb dX0_setsWith_31 rfl (lv_at hl 0 rfl) ?_
        refine lv_iload hx hb dX0_setsWith_32 (lv_at hl 5 rfl) ?_
        obtain ⟨v5, hc4, hf⟩ := ob hf
        refine gx_calli E hE (Pic := fun H => PX D dT g μ H) (Pic1 := fun H => PX D dT g μ H) hP hS (fun _ z => z.elim) (As := [.int st.2]) (tx_addOf l D dT g st.2 μ _ hc4) (g_recv hK hP.1 (shO_g g) rfl) (lw_V q1299 q1301 qs48 q161 q1302) dx_addOf rfl (by decide) (by decide) hl rfl (Nat.le_of_ble_eq_true rfl) dX0_setsWith_34 (fun H locs hP _ _ hS => ?_)
        refine lv_iload_n hx hb dX0_setsWith_37 rfl (lv_at hl 2 rfl) ?_
        refine lv_icmp_ne (tgt := 45) hx hb dX0_setsWith_38 (by decide) (fun kc6 => ?_) (fun kc6 => ?_)
        · have hf := ite_f kc6 hf
          refine lv_iconst (v := nI 0) hx hb dX0_setsWith_45 rfl ?_
          refine lv_iadd hx hb dX0_setsWith_46 ?_
          refine lv_istore (lv' := [(4, .int (st.1 + (nI 0))), (0, .ref g), (1, .int x1), (2, .int x2), (3, .int x3), (5, .int st.2)]) hx hb dX0_setsWith_47 hl (by decide) rfl (fun ls hl => ?_)
          refine lv_iinc (v := st.2 + nI 1) (lv' := [(5, .int (st.2 + nI 1)), (4, .int (st.1 + (nI 0))), (0, .ref g), (1, .int x1), (2, .int x2), (3, .int x3)]) hx hb dX0_setsWith_49 hl (k := 5) rfl rfl (by decide) rfl (fun ls hl => ?_)
          refine lv_goto (tgt := 6) hx hb dX0_setsWith_52 (by decide) ?_
          cases hf
          exact hk _ _ _ (lv_sub hl [2, 3, 4, 5, 1, 0] rfl) hP hS
        · have hf := ite_t kc6 hf
          refine lv_iconst (v := nI 1) hx hb dX0_setsWith_41 rfl ?_
          refine lv_goto (tgt := 46) hx hb dX0_setsWith_42 (by decide) ?_
          refine lv_iadd hx hb dX0_setsWith_46 ?_
          refine lv_istore (lv' := [(4, .int (st.1 + (nI 1))), (0, .ref g), (1, .int x1), (2, .int x2), (3, .int x3), (5, .int st.2)]) hx hb dX0_setsWith_47 hl (by decide) rfl (fun ls hl => ?_)
          refine lv_iinc (v := st.2 + nI 1) (lv' := [(5, .int (st.2 + nI 1)), (4, .int (st.1 + (nI 1))), (0, .ref g), (1, .int x1), (2, .int x2), (3, .int x3)]) hx hb dX0_setsWith_49 hl (k := 5) rfl rfl (by decide) rfl (fun ls hl => ?_)
          refine lv_goto (tgt := 6) hx hb dX0_setsWith_52 (by decide) ?_
          cases hf
          exact hk _ _ _ (lv_sub hl [2, 3, 4, 5, 1, 0] rfl) hP hS
set_option maxHeartbeats 4000000 in
theorem dx_setsWith : yX0_setsWith.cls = RX0 ∧ yX0_setsWith.cls ≠ "java/lang/invoke/MethodHandle" ∧ yX0_setsWith.cls ≠ "java/lang/invoke/VarHandle" ∧ (parseMethodDescriptor yX0_setsWith.desc).map (fun d => d.parameters.length) = some 3 := ⟨rfl, by decide +kernel, by decide +kernel, by decide +kernel⟩
set_option maxHeartbeats 4000000 in
theorem tx_setsWith (l : Launch) (D : va_G) (dT : Nat → ClassId) (g : Nat) (x1 : Int32) (x2 : Int32) (x3 : Int32) (μ : nwX) (res : Int32) (hf : fx_setsWith x1 x2 x3 μ = some res) : Met l yX0_setsWith (ws_ yX0_setsWith cX0_setsWith 6 (some .int)) (rmd 1) (va_Pc [.ref g, .int x1, .int x2, .int x3] (fun U => PX D dT g μ U.heap ∧ EV D dT U)) (va_Qi (fun r' (_ : Unit) => r' = res) (fun _ t => PX D dT g μ t.heap) (fun _ => False)) 0 0 (fun _ => False) := by
  refine g_met (D := D) (dT := dT) (A := fun _ => False) (own := RX0) (Pic := fun H => PX D dT g μ H) (by decide) rfl (Nat.le_of_ble_eq_true rfl) ?_
  intro p e s m below meth c ls E hE hr hlk hl hP
  have hK := hE.1
  have hS : va_S (fun _ => False) s.heap s.heap [] := va_S.rf
  obtain ⟨hx, hb, hml, hown, hts⟩ := id E
  have hl : lv_has ls 6 [(0, .ref g), (1, .int x1), (2, .int x2), (3, .int x3)] := hl
  unfold fx_setsWith at hf
  refine lv_iconst (v := nI 0) hx hb dX0_setsWith_0 rfl ?_
  refine lv_istore (lv' := [(4, .int (nI 0)), (0, .ref g), (1, .int x1), (2, .int x2), (3, .int x3)]) hx hb dX0_setsWith_1 hl (by decide) rfl (fun ls hl => ?_)
  refine lv_iconst (v := nI 0) hx hb dX0_setsWith_3 rfl ?_
  refine lv_istore (lv' := [(5, .int (nI 0)), (4, .int (nI 0)), (0, .ref g), (1, .int x1), (2, .int x2), (3, .int x3)]) hx hb dX0_setsWith_4 hl (by decide) rfl (fun ls hl => ?_)
  obtain ⟨x7, hx7, hf⟩ := ob hf
  refine fx_setsWith_L6_w E hK hE x1 x2 x3 μ hx7 (fun ls H locs hl hP hS => ?_) _ _ _ (lv_sub hl [2, 3, 4, 5, 1, 0] rfl) hP hS
  refine lv_iload hx hb dX0_setsWith_55 (lv_at hl 0 rfl) ?_
  cases hf
  exact g_iret (Pic := fun H => PX D dT g _ H) E hr hlk hP hS rfl dX0_setsWith_57
set_option maxHeartbeats 4000000 in
noncomputable def fx_leastSet_L2 (x1 : Int32) (x2 : Int32) (μ : nwX) : Int32 → Option ((Int32) ⊕ (Int32)) := fun st => (if x1 < st then some (.inr (-1)) else (if (st &&& (x1 ^^^ (-1))) = 0 then (fx_addOf st μ).bind fun v4 => (if v4 = x2 then some (.inr st) else some (.inl (st + nI 1))) else some (.inl (st + nI 1))))
set_option maxHeartbeats 4000000 in
noncomputable def fx_leastSet (x1 : Int32) (x2 : Int32) (μ : nwX) : Option (Int32) := wh_ (fx_leastSet_L2 x1 x2 μ) (nI 0)
set_option maxHeartbeats 4000000 in
theorem fx_leastSet_L2_w {p : Program} {l : Launch} {e : Env} {s : State} {m : MethodId} {args : Array Value} {below : List Frame} {meth : Method} {c : Code} {D : va_G} {dT : Nat → ClassId} {g : Nat} (E : CallFix p m c cX0_leastSet 4 s args lw_all RX0) (hK : va_K D nwCl (nwT dT) s) (hr : meth.sig.returnType = (some .int)) (hlk : meth.locks = false) (hE : EV D dT s) (x1 : Int32) (x2 : Int32) (μ : nwX) {res : Int32} {st : Int32} {x : Int32} (hw : wh_ (fx_leastSet_L2 x1 x2 μ) st = some x) (hk : (fun r : Int32 => r = res) x) : (fun st : Int32 => ∀ (ls : Array Slot) (H : Heap) (locs : List Loc), lv_has ls 4 [(0, .ref g), (1, .int x1), (2, .int x2), (3, .int st)] → PX D dT g μ H → va_S (fun _ => False) s.heap H locs → W p l e (rmd 1) s m args below meth c H locs 0 0 (MQ below (va_Qi (fun r' (_ : Unit) => r' = res) (fun _ t => PX D dT g μ t.heap) (fun _ => False)) args s 0 0 (fun _ => False)) (F0 m 2 ls [])) st := by
  obtain ⟨hx, hb, hml, hown, hts⟩ := id E
  refine wh_run (P := (fun st : Int32 => ∀ (ls : Array Slot) (H : Heap) (locs : List Loc), lv_has ls 4 [(0, .ref g), (1, .int x1), (2, .int x2), (3, .int st)] → PX D dT g μ H → va_S (fun _ => False) s.heap H locs → W p l e (rmd 1) s m args below meth c H locs 0 0 (MQ below (va_Qi (fun r' (_ : Unit) => r' = res) (fun _ t => PX D dT g μ t.heap) (fun _ => False)) args s 0 0 (fun _ => False)) (F0 m 2 ls []))) (PE := (fun r : Int32 => r = res)) ?_ hw hk
  clear hw hk
  intro st x hf hk ls H locs hl hP hS
  refine lv_iload_n hx hb dX0_leastSet_2 rfl (lv_at hl 3 rfl) ?_
  refine lv_iload_n hx hb dX0_leastSet_3 rfl (lv_at hl 1 rfl) ?_
  refine lv_icmp_gt (tgt := 32) hx hb dX0_leastSet_4 (by decide) (fun kc1 => ?_) (fun kc1 => ?_)
  · have hf := ite_t kc1 hf
    refine lv_iconst (v := (-1)) hx hb dX0_leastSet_32 rfl ?_
    cases hf
    have hk : (-1) = res := hk
    subst hk
    exact g_iret (Pic := fun H => PX D dT g _ H) E hr hlk hP hS rfl dX0_leastSet_33
  · have hf := ite_f kc1 hf
    refine lv_iload_n hx hb dX0_leastSet_7 rfl (lv_at hl 3 rfl) ?_
    refine lv_iload_n hx hb dX0_leastSet_8 rfl (lv_at hl 1 rfl) ?_
    refine lv_iconst (v := (-1)) hx hb dX0_leastSet_9 rfl ?_
    refine lv_ixor hx hb dX0_leastSet_10 ?_
    refine lv_iand hx hb dX0_leastSet_11 ?_
    refine lv_if_ne (tgt := 26) hx hb dX0_leastSet_12 (by decide) (fun kc2 => ?_) (fun kc2 => ?_)
    · have hf := ite_f kc2 hf
      refine lv_iinc (v := st + nI 1) (lv' := [(3, .int (st + nI 1)), (0, .ref g), (1, .int x1), (2, .int x2)]) hx hb dX0_leastSet_26 hl (k := 3) rfl rfl (by decide) rfl (fun ls hl => ?_)
      refine lv_goto (tgt := 2) hx hb dX0_leastSet_29 (by decide) ?_
      cases hf
      exact hk _ _ _ (lv_sub hl [1, 2, 3, 0] rfl) hP hS
    · have hf := ite_t kc2 hf
      refine lv_aload_n hx hb dX0_leastSet_15 rfl (lv_at hl 0 rfl) ?_
      refine lv_iload_n hx hb dX0_leastSet_16 rfl (lv_at hl 3 rfl) ?_
      obtain ⟨v4, hc3, hf⟩ := ob hf
      refine gx_calli E hE (Pic := fun H => PX D dT g μ H) (Pic1 := fun H => PX D dT g μ H) hP hS (fun _ z => z.elim) (As := [.int st]) (tx_addOf l D dT g st μ _ hc3) (g_recv hK hP.1 (shO_g g) rfl) (lw_V q1299 q1301 qs48 q161 q1302) dx_addOf rfl (by decide) (by decide) hl rfl (Nat.le_of_ble_eq_true rfl) dX0_leastSet_17 (fun H locs hP _ _ hS => ?_)
      refine lv_iload_n hx hb dX0_leastSet_20 rfl (lv_at hl 2 rfl) ?_
      refine lv_icmp_ne (tgt := 26) hx hb dX0_leastSet_21 (by decide) (fun kc5 => ?_) (fun kc5 => ?_)
      · have hf := ite_f kc5 hf
        refine lv_iinc (v := st + nI 1) (lv' := [(3, .int (st + nI 1)), (0, .ref g), (1, .int x1), (2, .int x2)]) hx hb dX0_leastSet_26 hl (k := 3) rfl rfl (by decide) rfl (fun ls hl => ?_)
        refine lv_goto (tgt := 2) hx hb dX0_leastSet_29 (by decide) ?_
        cases hf
        exact hk _ _ _ (lv_sub hl [1, 2, 3, 0] rfl) hP hS
      · have hf := ite_t kc5 hf
        refine lv_iload_n hx hb dX0_leastSet_24 rfl (lv_at hl 3 rfl) ?_
        cases hf
        have hk : st = res := hk
        subst hk
        exact g_iret (Pic := fun H => PX D dT g _ H) E hr hlk hP hS rfl dX0_leastSet_25
set_option maxHeartbeats 4000000 in
theorem dx_leastSet : yX0_leastSet.cls = RX0 ∧ yX0_leastSet.cls ≠ "java/lang/invoke/MethodHandle" ∧ yX0_leastSet.cls ≠ "java/lang/invoke/VarHandle" ∧ (parseMethodDescriptor yX0_leastSet.desc).map (fun d => d.parameters.length) = some 2 := ⟨rfl, by decide +kernel, by decide +kernel, by decide +kernel⟩
set_option maxHeartbeats 4000000 in
theorem tx_leastSet (l : Launch) (D : va_G) (dT : Nat → ClassId) (g : Nat) (x1 : Int32) (x2 : Int32) (μ : nwX) (res : Int32) (hf : fx_leastSet x1 x2 μ = some res) : Met l yX0_leastSet (ws_ yX0_leastSet cX0_leastSet 4 (some .int)) (rmd 1) (va_Pc [.ref g, .int x1, .int x2] (fun U => PX D dT g μ U.heap ∧ EV D dT U)) (va_Qi (fun r' (_ : Unit) => r' = res) (fun _ t => PX D dT g μ t.heap) (fun _ => False)) 0 0 (fun _ => False) := by
  refine g_met (D := D) (dT := dT) (A := fun _ => False) (own := RX0) (Pic := fun H => PX D dT g μ H) (by decide) rfl (Nat.le_of_ble_eq_true rfl) ?_
  intro p e s m below meth c ls E hE hr hlk hl hP
  have hK := hE.1
  have hS : va_S (fun _ => False) s.heap s.heap [] := va_S.rf
  obtain ⟨hx, hb, hml, hown, hts⟩ := id E
  have hl : lv_has ls 4 [(0, .ref g), (1, .int x1), (2, .int x2)] := hl
  unfold fx_leastSet at hf
  refine lv_iconst (v := nI 0) hx hb dX0_leastSet_0 rfl ?_
  refine lv_istore_n (lv' := [(3, .int (nI 0)), (0, .ref g), (1, .int x1), (2, .int x2)]) hx hb dX0_leastSet_1 rfl hl (by decide) rfl (fun ls hl => ?_)
  exact fx_leastSet_L2_w E hK hr hlk hE x1 x2 μ hf rfl _ _ _ (lv_sub hl [1, 2, 3, 0] rfl) hP hS
set_option maxHeartbeats 4000000 in
noncomputable def fx_called (x1 : Int32) (x2 : Int32) (x3 : Int32) (x4 : Int32) (μ : nwX) : Option (Int32 × nwX) := (fi_canRise x1 x2 x3 ()).bind fun v1 => (if v1 = 0 then some ((-1), μ) else (fi_isIn x4 (nI 0) (nI 1) ()).bind fun v3 => (if v3 = 0 then some ((-1), μ) else bd2 (fx_laysAdds x1 x2 μ) fun v6 χ7 => (if x4 = 0 then (fx_setsWith v6 x3 (nI 0) χ7).bind fun v12 => some (v12, χ7) else (fx_leastSet v6 x3 χ7).bind fun v10 => some (v10, χ7))))
set_option maxHeartbeats 4000000 in
theorem dx_called : yX0_called.cls = RX0 ∧ yX0_called.cls ≠ "java/lang/invoke/MethodHandle" ∧ yX0_called.cls ≠ "java/lang/invoke/VarHandle" ∧ (parseMethodDescriptor yX0_called.desc).map (fun d => d.parameters.length) = some 4 := ⟨rfl, by decide +kernel, by decide +kernel, by decide +kernel⟩
set_option maxHeartbeats 4000000 in
theorem tx_called (l : Launch) (D : va_G) (dT : Nat → ClassId) (g : Nat) (x1 : Int32) (x2 : Int32) (x3 : Int32) (x4 : Int32) (μ : nwX) (res : Int32 × nwX) (hf : fx_called x1 x2 x3 x4 μ = some res) : Met l yX0_called (ws_ yX0_called cX0_called 6 (some .int)) (rmd 407) (va_Pc [.ref g, .int x1, .int x2, .int x3, .int x4] (fun U => PX D dT g μ U.heap ∧ EV D dT U)) (va_Qi (fun r' (_ : Unit) => r' = res.1) (fun _ t => PX D dT g res.2 t.heap) (xA g)) 0 0 (xA g) := by
  refine g_met (D := D) (dT := dT) (A := xA g) (own := RX0) (Pic := fun H => PX D dT g μ H) (by decide) rfl (Nat.le_of_ble_eq_true rfl) ?_
  intro p e s m below meth c ls E hE hr hlk hl hP
  have hK := hE.1
  have hS : va_S (xA g) s.heap s.heap [] := va_S.rf
  obtain ⟨hx, hb, hml, hown, hts⟩ := id E
  have hl : lv_has ls 6 [(0, .ref g), (1, .int x1), (2, .int x2), (3, .int x3), (4, .int x4)] := hl
  unfold fx_called at hf
  refine lv_iload_n hx hb dX0_called_0 rfl (lv_at hl 1 rfl) ?_
  refine lv_iload_n hx hb dX0_called_1 rfl (lv_at hl 2 rfl) ?_
  refine lv_iload_n hx hb dX0_called_2 rfl (lv_at hl 3 rfl) ?_
  obtain ⟨v1, hv1, hf⟩ := ob hf
  refine p_calli E hS (As := [.int x1, .int x2, .int x3]) (ti_canRise l x1 x2 x3 _ hv1) (lw_S q1313 q1314 q161 q1315) di_canRise rfl (by decide) (by decide) hl rfl (Nat.le_of_ble_eq_true rfl) dX0_called_3 (fun H1 locs1 hq1 hS => ?_)
  have hP := PX_same hP (hz_all hq1) hq1
  refine lv_if_eq (tgt := 19) hx hb dX0_called_6 (by decide) (fun kc2 => ?_) (fun kc2 => ?_)
  · have hf := ite_t kc2 hf
    refine lv_iconst (v := (-1)) hx hb dX0_called_19 rfl ?_
    cases hf
    exact g_iret (Pic := fun H => PX D dT g _ H) E hr hlk hP hS rfl dX0_called_20
  · have hf := ite_f kc2 hf
    refine lv_iload hx hb dX0_called_9 (lv_at hl 4 rfl) ?_
    refine lv_iconst (v := nI 0) hx hb dX0_called_11 rfl ?_
    refine lv_iconst (v := nI 1) hx hb dX0_called_12 rfl ?_
    obtain ⟨v3, hv3, hf⟩ := ob hf
    refine p_calli E hS (As := [.int x4, .int (nI 0), .int (nI 1)]) (ti_isIn l x4 (nI 0) (nI 1) _ hv3) (lw_S q386 q387 q161 q388) di_isIn rfl (by decide) (by decide) hl rfl (Nat.le_of_ble_eq_true rfl) dX0_called_13 (fun H1 locs1 hq1 hS => ?_)
    have hP := PX_same hP (hz_all hq1) hq1
    refine lv_if_ne (tgt := 21) hx hb dX0_called_16 (by decide) (fun kc4 => ?_) (fun kc4 => ?_)
    · have hf := ite_f kc4 hf
      refine lv_aload_n hx hb dX0_called_21 rfl (lv_at hl 0 rfl) ?_
      refine lv_iload_n hx hb dX0_called_22 rfl (lv_at hl 1 rfl) ?_
      refine lv_iload_n hx hb dX0_called_23 rfl (lv_at hl 2 rfl) ?_
      obtain ⟨v6, χ7, hc5, hf⟩ := ob2 hf
      refine gx_calli E hE (Pic := fun H => PX D dT g μ H) (Pic1 := fun H => PX D dT g χ7 H) hP hS (fun _ z => z) (As := [.int x1, .int x2]) (tx_laysAdds l D dT g x1 x2 μ _ hc5) (g_recv hK hP.1 (shO_g g) rfl) (lw_V q1287 q1289 qs47 q161 q1290) dx_laysAdds rfl (by decide) (by decide) hl rfl (Nat.le_of_ble_eq_true rfl) dX0_called_24 (fun H locs hP _ _ hS => ?_)
      refine lv_istore (lv' := [(5, .int v6), (0, .ref g), (1, .int x1), (2, .int x2), (3, .int x3), (4, .int x4)]) hx hb dX0_called_27 hl (by decide) rfl (fun ls hl => ?_)
      refine lv_iload hx hb dX0_called_29 (lv_at hl 5 rfl) ?_
      refine lv_if_ne (tgt := 45) hx hb dX0_called_31 (by decide) (fun kc8 => ?_) (fun kc8 => ?_)
      · have hf := ite_f kc8 hf
        refine lv_aload_n hx hb dX0_called_45 rfl (lv_at hl 1 rfl) ?_
        refine lv_iload hx hb dX0_called_46 (lv_at hl 0 rfl) ?_
        refine lv_iload_n hx hb dX0_called_48 rfl (lv_at hl 4 rfl) ?_
        obtain ⟨v10, hc9, hf⟩ := ob hf
        refine gx_calli E hE (Pic := fun H => PX D dT g χ7 H) (Pic1 := fun H => PX D dT g χ7 H) hP hS (fun _ z => z.elim) (As := [.int v6, .int x3]) (tx_leastSet l D dT g v6 x3 χ7 _ hc9) (g_recv hK hP.1 (shO_g g) rfl) (lw_V q1320 q1322 qs50 q161 q1323) dx_leastSet rfl (by decide) (by decide) hl rfl (Nat.le_of_ble_eq_true rfl) dX0_called_49 (fun H locs hP _ _ hS => ?_)
        cases hf
        exact g_iret (Pic := fun H => PX D dT g _ H) E hr hlk hP hS rfl dX0_called_52
      · have hf := ite_t kc8 hf
        refine lv_aload_n hx hb dX0_called_34 rfl (lv_at hl 1 rfl) ?_
        refine lv_iload hx hb dX0_called_35 (lv_at hl 0 rfl) ?_
        refine lv_iload_n hx hb dX0_called_37 rfl (lv_at hl 4 rfl) ?_
        refine lv_iconst (v := nI 0) hx hb dX0_called_38 rfl ?_
        obtain ⟨v12, hc11, hf⟩ := ob hf
        refine gx_calli E hE (Pic := fun H => PX D dT g χ7 H) (Pic1 := fun H => PX D dT g χ7 H) hP hS (fun _ z => z.elim) (As := [.int v6, .int x3, .int (nI 0)]) (tx_setsWith l D dT g v6 x3 (nI 0) χ7 _ hc11) (g_recv hK hP.1 (shO_g g) rfl) (lw_V q1316 q1318 qs49 q161 q1319) dx_setsWith rfl (by decide) (by decide) hl rfl (Nat.le_of_ble_eq_true rfl) dX0_called_39 (fun H locs hP _ _ hS => ?_)
        refine lv_goto (tgt := 52) hx hb dX0_called_42 (by decide) ?_
        cases hf
        exact g_iret (Pic := fun H => PX D dT g _ H) E hr hlk hP hS rfl dX0_called_52
    · have hf := ite_t kc4 hf
      refine lv_iconst (v := (-1)) hx hb dX0_called_19 rfl ?_
      cases hf
      exact g_iret (Pic := fun H => PX D dT g _ H) E hr hlk hP hS rfl dX0_called_20
