/-! walks, written by my programs -/
set_option maxRecDepth 100000
set_option maxHeartbeats 4000000 in
noncomputable def fs_fact (x1 : Int32) (μ : nwM) : Option (Int32) := (if (μ 20 0) = (-1) then (if x1 = nI 0 then some (μ 21 0) else (if x1 = nI 1 then some (nI 0) else (if x1 = nI 2 then (rw_ 8 (μ 22 0)).bind fun r6 => (rr_ μ 0 r6 (μ 21 0)).bind fun v7 => some v7 else (if x1 = nI 3 then (fs_all (μ 22 0) μ).bind fun v10 => some v10 else (if x1 = nI 4 then some (μ 15 0) else (if x1 = nI 5 then some (nI 0) else (if x1 = nI 6 then some (nI 0) else (if x1 = nI 7 then some (μ 16 0) else (fs_folk (μ 22 0) μ).bind fun v18 => some v18)))))))) else (if x1 = nI 0 then some (μ 21 0) else (if x1 = nI 1 then (rd_ μ 4 12 (μ 20 0)).bind fun v22 => some v22 else (if x1 = nI 2 then (rw_ 8 (μ 22 0)).bind fun r24 => (rr_ μ 0 r24 (μ 21 0)).bind fun v25 => some v25 else (if x1 = nI 3 then (fs_all (μ 22 0) μ).bind fun v28 => some v28 else (if x1 = nI 4 then some (μ 15 0) else (if x1 = nI 5 then (rd_ μ 6 12 (μ 20 0)).bind fun v32 => some v32 else (if x1 = nI 6 then (rd_ μ 7 12 (μ 20 0)).bind fun v35 => some v35 else (if x1 = nI 7 then some (μ 16 0) else (fs_folk (μ 22 0) μ).bind fun v38 => some v38)))))))))
set_option maxHeartbeats 4000000 in
theorem ds_fact : yX1_fact.cls = RX1 ∧ yX1_fact.cls ≠ "java/lang/invoke/MethodHandle" ∧ yX1_fact.cls ≠ "java/lang/invoke/VarHandle" ∧ (parseMethodDescriptor yX1_fact.desc).map (fun d => d.parameters.length) = some 1 := ⟨rfl, by decide +kernel, by decide +kernel, by decide +kernel⟩
set_option maxHeartbeats 4000000 in
theorem ts_fact (l : Launch) (D : va_G) (dT : Nat → ClassId) (h : Nat) (ρ : Nat → Nat) (x1 : Int32) (μ : nwM) (res : Int32) (hf : fs_fact x1 μ = some res) : Met l yX1_fact (ws_ yX1_fact cX1_fact 3 (some .int)) (rmd 1) (sPc D dT h μ ρ [.ref h, .int x1]) (va_Qi (fun r' (_ : Unit) => r' = res) (fun _ t => PS D dT h μ ρ t.heap) (fun _ => False)) 0 0 (fun _ => False) := by
  refine g_met (D := D) (dT := dT) (A := fun _ => False) (own := RX1) (Pic := fun H => PS D dT h μ ρ H) (by decide) rfl (Nat.le_of_ble_eq_true rfl) ?_
  intro p e s m below meth c ls E hE hr hlk hl hP
  have hK := hE.1
  have hS : va_S (fun _ => False) s.heap s.heap [] := va_S.rf
  obtain ⟨hx, hb, hml, hown, hts⟩ := id E
  have hl : lv_has ls 3 [(0, .ref h), (1, .int x1)] := hl
  unfold fs_fact at hf
  refine lv_aload_n hx hb dX1_fact_0 rfl (lv_at hl 0 rfl) ?_
  refine gp_get (C := RX1) (T := TX1) E hK hP (shS_h h) rfl in_X1 20 (by decide) (hts _ q280) (fun _ z => z) (vS_i (by decide)) dX1_fact_1 ?_
  refine lv_iconst (v := (-1)) hx hb dX1_fact_4 rfl ?_
  refine lv_icmp_eq (tgt := 12) hx hb dX1_fact_5 (by decide) (fun kc1 => ?_) (fun kc1 => ?_)
  · have hf := ite_t kc1 hf
    refine lv_iconst (v := nI 0) hx hb dX1_fact_12 rfl ?_
    refine lv_istore_n (lv' := [(2, .int (nI 0)), (0, .ref h), (1, .int x1)]) hx hb dX1_fact_13 rfl hl (by decide) rfl (fun ls hl => ?_)
    refine lv_iload_n hx hb dX1_fact_14 rfl (lv_at hl 2 rfl) ?_
    by_cases kc2 : x1 = nI 0
    · have hf := ite_t kc2 hf
      refine lv_tableIn (tgt := 60) hx hb dX1_fact_15 (sw_lo kc2 (by decide) (by decide)) (sw_hi kc2 (by decide) (by decide)) (sw_at kc2 (by decide) rfl) (by decide) ?_
      refine lv_aload_n hx hb dX1_fact_60 rfl (lv_at hl 1 rfl) ?_
      refine gp_get (C := RX1) (T := TX1) E hK hP (shS_h h) rfl in_X1 21 (by decide) (hts _ q281) (fun _ z => z) (vS_i (by decide)) dX1_fact_61 ?_
      cases hf
      exact g_iret (Pic := fun H => PS D dT h _ ρ H) E hr hlk hP hS rfl dX1_fact_64
    · have hf := ite_f kc2 hf
      by_cases kc3 : x1 = nI 1
      · have hf := ite_t kc3 hf
        refine lv_tableIn (tgt := 65) hx hb dX1_fact_15 (sw_lo kc3 (by decide) (by decide)) (sw_hi kc3 (by decide) (by decide)) (sw_at kc3 (by decide) rfl) (by decide) ?_
        refine lv_iload_n hx hb dX1_fact_65 rfl (lv_at hl 0 rfl) ?_
        refine lv_if_eq (tgt := 81) hx hb dX1_fact_66 (by decide) (fun kc4 => ?_) (fun kc4 => ?_)
        · skip
          refine lv_iconst (v := nI 0) hx hb dX1_fact_81 rfl ?_
          cases hf
          exact g_iret (Pic := fun H => PS D dT h _ ρ H) E hr hlk hP hS rfl dX1_fact_82
        · exact absurd (by decide) kc4
      · have hf := ite_f kc3 hf
        by_cases kc5 : x1 = nI 2
        · have hf := ite_t kc5 hf
          refine lv_tableIn (tgt := 83) hx hb dX1_fact_15 (sw_lo kc5 (by decide) (by decide)) (sw_hi kc5 (by decide) (by decide)) (sw_at kc5 (by decide) rfl) (by decide) ?_
          refine lv_aload_n hx hb dX1_fact_83 rfl (lv_at hl 1 rfl) ?_
          refine gp_get (C := RX1) (T := TX1) E hK hP (shS_h h) rfl in_X1 0 (by decide) (hts _ q239) (fun _ z => z) (vS_2 (by decide)) dX1_fact_84 ?_
          refine lv_aload_n hx hb dX1_fact_87 rfl (lv_at hl 1 rfl) ?_
          refine gp_get (C := RX1) (T := TX1) E hK hP (shS_h h) rfl in_X1 22 (by decide) (hts _ q282) (fun _ z => z) (vS_i (by decide)) dX1_fact_88 ?_
          obtain ⟨r6, hr6, hf⟩ := ob hf
          refine gp_aald (t := 2) (ty := .array .int) E hK hP rfl rfl (shS_2 (by decide)) (rw_in hr6).1 (by rw [vS_o (by decide), (rw_in hr6).2.1]) dX1_fact_91 ?_
          refine lv_aload_n hx hb dX1_fact_92 rfl (lv_at hl 1 rfl) ?_
          refine gp_get (C := RX1) (T := TX1) E hK hP (shS_h h) rfl in_X1 21 (by decide) (hts _ q281) (fun _ z => z) (vS_i (by decide)) dX1_fact_93 ?_
          obtain ⟨v7, hv7, hf⟩ := ob hf
          refine gp_iald E hK hP (shS_r (by decide) (rw_in hr6).2.2) (rr_in hv7).1 (by rw [vS_r (by decide) (rw_in hr6).2.2, ← (rr_in hv7).2]) dX1_fact_96 ?_
          cases hf
          exact g_iret (Pic := fun H => PS D dT h _ ρ H) E hr hlk hP hS rfl dX1_fact_97
        · have hf := ite_f kc5 hf
          by_cases kc8 : x1 = nI 3
          · have hf := ite_t kc8 hf
            refine lv_tableIn (tgt := 98) hx hb dX1_fact_15 (sw_lo kc8 (by decide) (by decide)) (sw_hi kc8 (by decide) (by decide)) (sw_at kc8 (by decide) rfl) (by decide) ?_
            refine lv_aload_n hx hb dX1_fact_98 rfl (lv_at hl 1 rfl) ?_
            refine lv_aload_n hx hb dX1_fact_99 rfl (lv_at hl 1 rfl) ?_
            refine gp_get (C := RX1) (T := TX1) E hK hP (shS_h h) rfl in_X1 22 (by decide) (hts _ q282) (fun _ z => z) (vS_i (by decide)) dX1_fact_100 ?_
            obtain ⟨v10, hc9, hf⟩ := ob hf
            refine g_calli E hE (Pic1 := fun H => PS D dT h μ _ H) hP hS (fun _ z => z.elim) (As := [.int (μ 22 0)]) (ts_all l D dT h _ (μ 22 0) μ _ hc9) (g_recv hK hP (shS_h h) rfl) (lw_V q1045 q1046 q1047 q162 q1048) ds_all rfl (by decide) (by decide) hl rfl (Nat.le_of_ble_eq_true rfl) dX1_fact_103 (fun H locs hP _ hS => ?_)
            cases hf
            exact g_iret (Pic := fun H => PS D dT h _ ρ H) E hr hlk hP hS rfl dX1_fact_106
          · have hf := ite_f kc8 hf
            by_cases kc11 : x1 = nI 4
            · have hf := ite_t kc11 hf
              refine lv_tableIn (tgt := 107) hx hb dX1_fact_15 (sw_lo kc11 (by decide) (by decide)) (sw_hi kc11 (by decide) (by decide)) (sw_at kc11 (by decide) rfl) (by decide) ?_
              refine lv_aload_n hx hb dX1_fact_107 rfl (lv_at hl 1 rfl) ?_
              refine gp_get (C := RX1) (T := TX1) E hK hP (shS_h h) rfl in_X1 15 (by decide) (hts _ q270) (fun _ z => z) (vS_i (by decide)) dX1_fact_108 ?_
              cases hf
              exact g_iret (Pic := fun H => PS D dT h _ ρ H) E hr hlk hP hS rfl dX1_fact_111
            · have hf := ite_f kc11 hf
              by_cases kc12 : x1 = nI 5
              · have hf := ite_t kc12 hf
                refine lv_tableIn (tgt := 112) hx hb dX1_fact_15 (sw_lo kc12 (by decide) (by decide)) (sw_hi kc12 (by decide) (by decide)) (sw_at kc12 (by decide) rfl) (by decide) ?_
                refine lv_iload_n hx hb dX1_fact_112 rfl (lv_at hl 0 rfl) ?_
                refine lv_if_eq (tgt := 128) hx hb dX1_fact_113 (by decide) (fun kc13 => ?_) (fun kc13 => ?_)
                · skip
                  refine lv_iconst (v := nI 0) hx hb dX1_fact_128 rfl ?_
                  cases hf
                  exact g_iret (Pic := fun H => PS D dT h _ ρ H) E hr hlk hP hS rfl dX1_fact_129
                · exact absurd (by decide) kc13
              · have hf := ite_f kc12 hf
                by_cases kc14 : x1 = nI 6
                · have hf := ite_t kc14 hf
                  refine lv_tableIn (tgt := 130) hx hb dX1_fact_15 (sw_lo kc14 (by decide) (by decide)) (sw_hi kc14 (by decide) (by decide)) (sw_at kc14 (by decide) rfl) (by decide) ?_
                  refine lv_iload_n hx hb dX1_fact_130 rfl (lv_at hl 0 rfl) ?_
                  refine lv_if_eq (tgt := 146) hx hb dX1_fact_131 (by decide) (fun kc15 => ?_) (fun kc15 => ?_)
                  · skip
                    refine lv_iconst (v := nI 0) hx hb dX1_fact_146 rfl ?_
                    cases hf
                    exact g_iret (Pic := fun H => PS D dT h _ ρ H) E hr hlk hP hS rfl dX1_fact_147
                  · exact absurd (by decide) kc15
                · have hf := ite_f kc14 hf
                  by_cases kc16 : x1 = nI 7
                  · have hf := ite_t kc16 hf
                    refine lv_tableIn (tgt := 148) hx hb dX1_fact_15 (sw_lo kc16 (by decide) (by decide)) (sw_hi kc16 (by decide) (by decide)) (sw_at kc16 (by decide) rfl) (by decide) ?_
                    refine lv_aload_n hx hb dX1_fact_148 rfl (lv_at hl 1 rfl) ?_
                    refine gp_get (C := RX1) (T := TX1) E hK hP (shS_h h) rfl in_X1 16 (by decide) (hts _ q272) (fun _ z => z) (vS_i (by decide)) dX1_fact_149 ?_
                    cases hf
                    exact g_iret (Pic := fun H => PS D dT h _ ρ H) E hr hlk hP hS rfl dX1_fact_152
                  · have hf := ite_f kc16 hf
                    refine lv_tableOut (tgt := 153) hx hb dX1_fact_15 (sw_no 0 7 rfl rfl (fun k a b => by rcases (show k = 0 ∨ k = 1 ∨ k = 2 ∨ k = 3 ∨ k = 4 ∨ k = 5 ∨ k = 6 ∨ k = 7 by omega) with rfl | rfl | rfl | rfl | rfl | rfl | rfl | rfl <;> assumption)) (by decide) ?_
                    refine lv_aload_n hx hb dX1_fact_153 rfl (lv_at hl 1 rfl) ?_
                    refine lv_aload_n hx hb dX1_fact_154 rfl (lv_at hl 1 rfl) ?_
                    refine gp_get (C := RX1) (T := TX1) E hK hP (shS_h h) rfl in_X1 22 (by decide) (hts _ q282) (fun _ z => z) (vS_i (by decide)) dX1_fact_155 ?_
                    obtain ⟨v18, hc17, hf⟩ := ob hf
                    refine g_calli E hE (Pic1 := fun H => PS D dT h μ _ H) hP hS (fun _ z => z.elim) (As := [.int (μ 22 0)]) (ts_folk l D dT h _ (μ 22 0) μ _ hc17) (g_recv hK hP (shS_h h) rfl) (lw_V q1049 q1050 q1051 q162 q1052) ds_folk rfl (by decide) (by decide) hl rfl (Nat.le_of_ble_eq_true rfl) dX1_fact_158 (fun H locs hP _ hS => ?_)
                    cases hf
                    exact g_iret (Pic := fun H => PS D dT h _ ρ H) E hr hlk hP hS rfl dX1_fact_161
  · have hf := ite_f kc1 hf
    refine lv_iconst (v := nI 1) hx hb dX1_fact_8 rfl ?_
    refine lv_goto (tgt := 13) hx hb dX1_fact_9 (by decide) ?_
    refine lv_istore_n (lv' := [(2, .int (nI 1)), (0, .ref h), (1, .int x1)]) hx hb dX1_fact_13 rfl hl (by decide) rfl (fun ls hl => ?_)
    refine lv_iload_n hx hb dX1_fact_14 rfl (lv_at hl 2 rfl) ?_
    by_cases kc19 : x1 = nI 0
    · have hf := ite_t kc19 hf
      refine lv_tableIn (tgt := 60) hx hb dX1_fact_15 (sw_lo kc19 (by decide) (by decide)) (sw_hi kc19 (by decide) (by decide)) (sw_at kc19 (by decide) rfl) (by decide) ?_
      refine lv_aload_n hx hb dX1_fact_60 rfl (lv_at hl 1 rfl) ?_
      refine gp_get (C := RX1) (T := TX1) E hK hP (shS_h h) rfl in_X1 21 (by decide) (hts _ q281) (fun _ z => z) (vS_i (by decide)) dX1_fact_61 ?_
      cases hf
      exact g_iret (Pic := fun H => PS D dT h _ ρ H) E hr hlk hP hS rfl dX1_fact_64
    · have hf := ite_f kc19 hf
      by_cases kc20 : x1 = nI 1
      · have hf := ite_t kc20 hf
        refine lv_tableIn (tgt := 65) hx hb dX1_fact_15 (sw_lo kc20 (by decide) (by decide)) (sw_hi kc20 (by decide) (by decide)) (sw_at kc20 (by decide) rfl) (by decide) ?_
        refine lv_iload_n hx hb dX1_fact_65 rfl (lv_at hl 0 rfl) ?_
        refine lv_if_eq (tgt := 81) hx hb dX1_fact_66 (by decide) (fun kc21 => ?_) (fun kc21 => ?_)
        · exact absurd kc21 (by decide)
        · skip
          refine lv_aload_n hx hb dX1_fact_69 rfl (lv_at hl 1 rfl) ?_
          refine gp_get (C := RX1) (T := TX1) E hK hP (shS_h h) rfl in_X1 4 (by decide) (hts _ q247) (fun _ z => z) (vS_a (by decide) (by decide)) dX1_fact_70 ?_
          refine lv_aload_n hx hb dX1_fact_73 rfl (lv_at hl 1 rfl) ?_
          refine gp_get (C := RX1) (T := TX1) E hK hP (shS_h h) rfl in_X1 20 (by decide) (hts _ q280) (fun _ z => z) (vS_i (by decide)) dX1_fact_74 ?_
          obtain ⟨v22, hv22, hf⟩ := ob hf
          refine gp_iald E hK hP (shS_a (by decide) (by decide)) (rd_in hv22).1 (by rw [vS_e (by decide) (by decide), ← (rd_in hv22).2]) dX1_fact_77 ?_
          refine lv_goto (tgt := 82) hx hb dX1_fact_78 (by decide) ?_
          cases hf
          exact g_iret (Pic := fun H => PS D dT h _ ρ H) E hr hlk hP hS rfl dX1_fact_82
      · have hf := ite_f kc20 hf
        by_cases kc23 : x1 = nI 2
        · have hf := ite_t kc23 hf
          refine lv_tableIn (tgt := 83) hx hb dX1_fact_15 (sw_lo kc23 (by decide) (by decide)) (sw_hi kc23 (by decide) (by decide)) (sw_at kc23 (by decide) rfl) (by decide) ?_
          refine lv_aload_n hx hb dX1_fact_83 rfl (lv_at hl 1 rfl) ?_
          refine gp_get (C := RX1) (T := TX1) E hK hP (shS_h h) rfl in_X1 0 (by decide) (hts _ q239) (fun _ z => z) (vS_2 (by decide)) dX1_fact_84 ?_
          refine lv_aload_n hx hb dX1_fact_87 rfl (lv_at hl 1 rfl) ?_
          refine gp_get (C := RX1) (T := TX1) E hK hP (shS_h h) rfl in_X1 22 (by decide) (hts _ q282) (fun _ z => z) (vS_i (by decide)) dX1_fact_88 ?_
          obtain ⟨r24, hr24, hf⟩ := ob hf
          refine gp_aald (t := 2) (ty := .array .int) E hK hP rfl rfl (shS_2 (by decide)) (rw_in hr24).1 (by rw [vS_o (by decide), (rw_in hr24).2.1]) dX1_fact_91 ?_
          refine lv_aload_n hx hb dX1_fact_92 rfl (lv_at hl 1 rfl) ?_
          refine gp_get (C := RX1) (T := TX1) E hK hP (shS_h h) rfl in_X1 21 (by decide) (hts _ q281) (fun _ z => z) (vS_i (by decide)) dX1_fact_93 ?_
          obtain ⟨v25, hv25, hf⟩ := ob hf
          refine gp_iald E hK hP (shS_r (by decide) (rw_in hr24).2.2) (rr_in hv25).1 (by rw [vS_r (by decide) (rw_in hr24).2.2, ← (rr_in hv25).2]) dX1_fact_96 ?_
          cases hf
          exact g_iret (Pic := fun H => PS D dT h _ ρ H) E hr hlk hP hS rfl dX1_fact_97
        · have hf := ite_f kc23 hf
          by_cases kc26 : x1 = nI 3
          · have hf := ite_t kc26 hf
            refine lv_tableIn (tgt := 98) hx hb dX1_fact_15 (sw_lo kc26 (by decide) (by decide)) (sw_hi kc26 (by decide) (by decide)) (sw_at kc26 (by decide) rfl) (by decide) ?_
            refine lv_aload_n hx hb dX1_fact_98 rfl (lv_at hl 1 rfl) ?_
            refine lv_aload_n hx hb dX1_fact_99 rfl (lv_at hl 1 rfl) ?_
            refine gp_get (C := RX1) (T := TX1) E hK hP (shS_h h) rfl in_X1 22 (by decide) (hts _ q282) (fun _ z => z) (vS_i (by decide)) dX1_fact_100 ?_
            obtain ⟨v28, hc27, hf⟩ := ob hf
            refine g_calli E hE (Pic1 := fun H => PS D dT h μ _ H) hP hS (fun _ z => z.elim) (As := [.int (μ 22 0)]) (ts_all l D dT h _ (μ 22 0) μ _ hc27) (g_recv hK hP (shS_h h) rfl) (lw_V q1045 q1046 q1047 q162 q1048) ds_all rfl (by decide) (by decide) hl rfl (Nat.le_of_ble_eq_true rfl) dX1_fact_103 (fun H locs hP _ hS => ?_)
            cases hf
            exact g_iret (Pic := fun H => PS D dT h _ ρ H) E hr hlk hP hS rfl dX1_fact_106
          · have hf := ite_f kc26 hf
            by_cases kc29 : x1 = nI 4
            · have hf := ite_t kc29 hf
              refine lv_tableIn (tgt := 107) hx hb dX1_fact_15 (sw_lo kc29 (by decide) (by decide)) (sw_hi kc29 (by decide) (by decide)) (sw_at kc29 (by decide) rfl) (by decide) ?_
              refine lv_aload_n hx hb dX1_fact_107 rfl (lv_at hl 1 rfl) ?_
              refine gp_get (C := RX1) (T := TX1) E hK hP (shS_h h) rfl in_X1 15 (by decide) (hts _ q270) (fun _ z => z) (vS_i (by decide)) dX1_fact_108 ?_
              cases hf
              exact g_iret (Pic := fun H => PS D dT h _ ρ H) E hr hlk hP hS rfl dX1_fact_111
            · have hf := ite_f kc29 hf
              by_cases kc30 : x1 = nI 5
              · have hf := ite_t kc30 hf
                refine lv_tableIn (tgt := 112) hx hb dX1_fact_15 (sw_lo kc30 (by decide) (by decide)) (sw_hi kc30 (by decide) (by decide)) (sw_at kc30 (by decide) rfl) (by decide) ?_
                refine lv_iload_n hx hb dX1_fact_112 rfl (lv_at hl 0 rfl) ?_
                refine lv_if_eq (tgt := 128) hx hb dX1_fact_113 (by decide) (fun kc31 => ?_) (fun kc31 => ?_)
                · exact absurd kc31 (by decide)
                · skip
                  refine lv_aload_n hx hb dX1_fact_116 rfl (lv_at hl 1 rfl) ?_
                  refine gp_get (C := RX1) (T := TX1) E hK hP (shS_h h) rfl in_X1 6 (by decide) (hts _ q251) (fun _ z => z) (vS_a (by decide) (by decide)) dX1_fact_117 ?_
                  refine lv_aload_n hx hb dX1_fact_120 rfl (lv_at hl 1 rfl) ?_
                  refine gp_get (C := RX1) (T := TX1) E hK hP (shS_h h) rfl in_X1 20 (by decide) (hts _ q280) (fun _ z => z) (vS_i (by decide)) dX1_fact_121 ?_
                  obtain ⟨v32, hv32, hf⟩ := ob hf
                  refine gp_iald E hK hP (shS_a (by decide) (by decide)) (rd_in hv32).1 (by rw [vS_e (by decide) (by decide), ← (rd_in hv32).2]) dX1_fact_124 ?_
                  refine lv_goto (tgt := 129) hx hb dX1_fact_125 (by decide) ?_
                  cases hf
                  exact g_iret (Pic := fun H => PS D dT h _ ρ H) E hr hlk hP hS rfl dX1_fact_129
              · have hf := ite_f kc30 hf
                by_cases kc33 : x1 = nI 6
                · have hf := ite_t kc33 hf
                  refine lv_tableIn (tgt := 130) hx hb dX1_fact_15 (sw_lo kc33 (by decide) (by decide)) (sw_hi kc33 (by decide) (by decide)) (sw_at kc33 (by decide) rfl) (by decide) ?_
                  refine lv_iload_n hx hb dX1_fact_130 rfl (lv_at hl 0 rfl) ?_
                  refine lv_if_eq (tgt := 146) hx hb dX1_fact_131 (by decide) (fun kc34 => ?_) (fun kc34 => ?_)
                  · exact absurd kc34 (by decide)
                  · skip
                    refine lv_aload_n hx hb dX1_fact_134 rfl (lv_at hl 1 rfl) ?_
                    refine gp_get (C := RX1) (T := TX1) E hK hP (shS_h h) rfl in_X1 7 (by decide) (hts _ q253) (fun _ z => z) (vS_a (by decide) (by decide)) dX1_fact_135 ?_
                    refine lv_aload_n hx hb dX1_fact_138 rfl (lv_at hl 1 rfl) ?_
                    refine gp_get (C := RX1) (T := TX1) E hK hP (shS_h h) rfl in_X1 20 (by decide) (hts _ q280) (fun _ z => z) (vS_i (by decide)) dX1_fact_139 ?_
                    obtain ⟨v35, hv35, hf⟩ := ob hf
                    refine gp_iald E hK hP (shS_a (by decide) (by decide)) (rd_in hv35).1 (by rw [vS_e (by decide) (by decide), ← (rd_in hv35).2]) dX1_fact_142 ?_
                    refine lv_goto (tgt := 147) hx hb dX1_fact_143 (by decide) ?_
                    cases hf
                    exact g_iret (Pic := fun H => PS D dT h _ ρ H) E hr hlk hP hS rfl dX1_fact_147
                · have hf := ite_f kc33 hf
                  by_cases kc36 : x1 = nI 7
                  · have hf := ite_t kc36 hf
                    refine lv_tableIn (tgt := 148) hx hb dX1_fact_15 (sw_lo kc36 (by decide) (by decide)) (sw_hi kc36 (by decide) (by decide)) (sw_at kc36 (by decide) rfl) (by decide) ?_
                    refine lv_aload_n hx hb dX1_fact_148 rfl (lv_at hl 1 rfl) ?_
                    refine gp_get (C := RX1) (T := TX1) E hK hP (shS_h h) rfl in_X1 16 (by decide) (hts _ q272) (fun _ z => z) (vS_i (by decide)) dX1_fact_149 ?_
                    cases hf
                    exact g_iret (Pic := fun H => PS D dT h _ ρ H) E hr hlk hP hS rfl dX1_fact_152
                  · have hf := ite_f kc36 hf
                    refine lv_tableOut (tgt := 153) hx hb dX1_fact_15 (sw_no 0 7 rfl rfl (fun k a b => by rcases (show k = 0 ∨ k = 1 ∨ k = 2 ∨ k = 3 ∨ k = 4 ∨ k = 5 ∨ k = 6 ∨ k = 7 by omega) with rfl | rfl | rfl | rfl | rfl | rfl | rfl | rfl <;> assumption)) (by decide) ?_
                    refine lv_aload_n hx hb dX1_fact_153 rfl (lv_at hl 1 rfl) ?_
                    refine lv_aload_n hx hb dX1_fact_154 rfl (lv_at hl 1 rfl) ?_
                    refine gp_get (C := RX1) (T := TX1) E hK hP (shS_h h) rfl in_X1 22 (by decide) (hts _ q282) (fun _ z => z) (vS_i (by decide)) dX1_fact_155 ?_
                    obtain ⟨v38, hc37, hf⟩ := ob hf
                    refine g_calli E hE (Pic1 := fun H => PS D dT h μ _ H) hP hS (fun _ z => z.elim) (As := [.int (μ 22 0)]) (ts_folk l D dT h _ (μ 22 0) μ _ hc37) (g_recv hK hP (shS_h h) rfl) (lw_V q1049 q1050 q1051 q162 q1052) ds_folk rfl (by decide) (by decide) hl rfl (Nat.le_of_ble_eq_true rfl) dX1_fact_158 (fun H locs hP _ hS => ?_)
                    cases hf
                    exact g_iret (Pic := fun H => PS D dT h _ ρ H) E hr hlk hP hS rfl dX1_fact_161
set_option maxHeartbeats 4000000 in
def fs_asks (x1 : Int32) (x2 : Int32) (μ : nwM) : Option (nwM) := (wf_ μ 20 x1).bind fun μ1 => (rd_ μ1 3 12 x1).bind fun v2 => (wf_ μ1 21 v2).bind fun μ3 => (wf_ μ3 22 x2).bind fun μ4 => some μ4
set_option maxHeartbeats 4000000 in
theorem ds_asks : yX1_asks.cls = RX1 ∧ yX1_asks.cls ≠ "java/lang/invoke/MethodHandle" ∧ yX1_asks.cls ≠ "java/lang/invoke/VarHandle" ∧ (parseMethodDescriptor yX1_asks.desc).map (fun d => d.parameters.length) = some 2 := ⟨rfl, by decide +kernel, by decide +kernel, by decide +kernel⟩
set_option maxHeartbeats 4000000 in
theorem ts_asks (l : Launch) (D : va_G) (dT : Nat → ClassId) (h : Nat) (ρ : Nat → Nat) (x1 : Int32) (x2 : Int32) (μ : nwM) (res : nwM) (hf : fs_asks x1 x2 μ = some res) : Met l yX1_asks (ws_ yX1_asks cX1_asks 3 none) (rmd 0) (sPc D dT h μ ρ [.ref h, .int x1, .int x2]) (va_Qv (fun (_ : Unit) => True) (fun _ t => PS D dT h res ρ t.heap) (sA h)) 0 0 (sA h) := by
  refine g_met (D := D) (dT := dT) (A := sA h) (own := RX1) (Pic := fun H => PS D dT h μ ρ H) (by decide) rfl (Nat.le_of_ble_eq_true rfl) ?_
  intro p e s m below meth c ls E hE hr hlk hl hP
  have hK := hE.1
  have hS : va_S (sA h) s.heap s.heap [] := va_S.rf
  obtain ⟨hx, hb, hml, hown, hts⟩ := id E
  have hl : lv_has ls 3 [(0, .ref h), (1, .int x1), (2, .int x2)] := hl
  unfold fs_asks at hf
  refine lv_aload_n hx hb dX1_asks_0 rfl (lv_at hl 0 rfl) ?_
  refine lv_iload_n hx hb dX1_asks_1 rfl (lv_at hl 1 rfl) ?_
  obtain ⟨μ1, hμ1, hf⟩ := ob hf
  refine gp_put (C := RX1) (T := TX1) (ty := .int) E hK hP hS (sA_h h) (shS_h h) rfl in_X1 tyX1 tyX1_ok nmX1 20 (by decide) (hts _ q280) (fun _ z => z) rfl rfl rfl rfl dX1_asks_2 (fun H locs hP _ hS => ?_)
  have hP := PS_put (by decide) hμ1 hP
  refine lv_aload_n hx hb dX1_asks_5 rfl (lv_at hl 0 rfl) ?_
  refine lv_aload_n hx hb dX1_asks_6 rfl (lv_at hl 0 rfl) ?_
  refine gp_get (C := RX1) (T := TX1) E hK hP (shS_h h) rfl in_X1 3 (by decide) (hts _ q245) (fun _ z => z) (vS_a (by decide) (by decide)) dX1_asks_7 ?_
  refine lv_iload_n hx hb dX1_asks_10 rfl (lv_at hl 1 rfl) ?_
  obtain ⟨v2, hv2, hf⟩ := ob hf
  refine gp_iald E hK hP (shS_a (by decide) (by decide)) (rd_in hv2).1 (by rw [vS_e (by decide) (by decide), ← (rd_in hv2).2]) dX1_asks_11 ?_
  obtain ⟨μ3, hμ3, hf⟩ := ob hf
  refine gp_put (C := RX1) (T := TX1) (ty := .int) E hK hP hS (sA_h h) (shS_h h) rfl in_X1 tyX1 tyX1_ok nmX1 21 (by decide) (hts _ q281) (fun _ z => z) rfl rfl rfl rfl dX1_asks_12 (fun H locs hP _ hS => ?_)
  have hP := PS_put (by decide) hμ3 hP
  refine lv_aload_n hx hb dX1_asks_15 rfl (lv_at hl 0 rfl) ?_
  refine lv_iload_n hx hb dX1_asks_16 rfl (lv_at hl 2 rfl) ?_
  obtain ⟨μ4, hμ4, hf⟩ := ob hf
  refine gp_put (C := RX1) (T := TX1) (ty := .int) E hK hP hS (sA_h h) (shS_h h) rfl in_X1 tyX1 tyX1_ok nmX1 22 (by decide) (hts _ q282) (fun _ z => z) rfl rfl rfl rfl dX1_asks_17 (fun H locs hP _ hS => ?_)
  have hP := PS_put (by decide) hμ4 hP
  cases hf
  exact g_vret (Pic := fun H => PS D dT h _ ρ H) E hr hlk hP hS dX1_asks_20
set_option maxHeartbeats 4000000 in
def fs_canCall (x1 : Int32) (x2 : Int32) (μ : nwM) : Option (Int32) := (fs_is x1 μ).bind fun v2 => (if v2 = 0 then some (nI 0) else (fi_isIn x2 (nI 0) (nI 7) ()).bind fun v4 => (if v4 = 0 then some (nI 0) else (rd_ μ 6 12 x1).bind fun v6 => (if v6 = 0 then some (nI 1) else (rd_ μ 5 12 x1).bind fun v8 => (if v8 = x2 then some (nI 1) else some (nI 0)))))
set_option maxHeartbeats 4000000 in
theorem ds_canCall : yX1_canCall.cls = RX1 ∧ yX1_canCall.cls ≠ "java/lang/invoke/MethodHandle" ∧ yX1_canCall.cls ≠ "java/lang/invoke/VarHandle" ∧ (parseMethodDescriptor yX1_canCall.desc).map (fun d => d.parameters.length) = some 2 := ⟨rfl, by decide +kernel, by decide +kernel, by decide +kernel⟩
set_option maxHeartbeats 4000000 in
theorem ts_canCall (l : Launch) (D : va_G) (dT : Nat → ClassId) (h : Nat) (ρ : Nat → Nat) (x1 : Int32) (x2 : Int32) (μ : nwM) (res : Int32) (hf : fs_canCall x1 x2 μ = some res) : Met l yX1_canCall (ws_ yX1_canCall cX1_canCall 3 (some .boolean)) (rmd 2) (sPc D dT h μ ρ [.ref h, .int x1, .int x2]) (va_Qi (fun r' (_ : Unit) => r' = res) (fun _ t => PS D dT h μ ρ t.heap) (fun _ => False)) 0 0 (fun _ => False) := by
  refine g_met (D := D) (dT := dT) (A := fun _ => False) (own := RX1) (Pic := fun H => PS D dT h μ ρ H) (by decide) rfl (Nat.le_of_ble_eq_true rfl) ?_
  intro p e s m below meth c ls E hE hr hlk hl hP
  have hK := hE.1
  have hS : va_S (fun _ => False) s.heap s.heap [] := va_S.rf
  obtain ⟨hx, hb, hml, hown, hts⟩ := id E
  have hl : lv_has ls 3 [(0, .ref h), (1, .int x1), (2, .int x2)] := hl
  unfold fs_canCall at hf
  refine lv_aload_n hx hb dX1_canCall_0 rfl (lv_at hl 0 rfl) ?_
  refine lv_iload_n hx hb dX1_canCall_1 rfl (lv_at hl 1 rfl) ?_
  obtain ⟨v2, hc1, hf⟩ := ob hf
  refine g_calli E hE (Pic1 := fun H => PS D dT h μ _ H) hP hS (fun _ z => z.elim) (As := [.int x1]) (ts_is l D dT h _ x1 μ _ hc1) (g_recv hK hP (shS_h h) rfl) (lw_V q984 q985 q986 q162 q987) ds_is rfl (by decide) (by decide) hl rfl (Nat.le_of_ble_eq_true rfl) dX1_canCall_2 (fun H locs hP _ hS => ?_)
  refine lv_if_eq (tgt := 41) hx hb dX1_canCall_5 (by decide) (fun kc3 => ?_) (fun kc3 => ?_)
  · have hf := ite_t kc3 hf
    refine lv_iconst (v := nI 0) hx hb dX1_canCall_41 rfl ?_
    cases hf
    exact g_zret (Pic := fun H => PS D dT h _ ρ H) E hr hlk hP hS rfl dX1_canCall_42
  · have hf := ite_f kc3 hf
    refine lv_iload_n hx hb dX1_canCall_8 rfl (lv_at hl 2 rfl) ?_
    refine lv_iconst (v := nI 0) hx hb dX1_canCall_9 rfl ?_
    refine lv_bipush (v := nI 7) hx hb dX1_canCall_10 rfl ?_
    obtain ⟨v4, hv4, hf⟩ := ob hf
    refine p_calliN E hS (As := [.int x2, .int (nI 0), .int (nI 7)]) (ti_isIn l x2 (nI 0) (nI 7) _ hv4) (nmw_0 hE.2) q161 q387 q388 di_isIn rfl (by decide) (by decide) hl rfl (Nat.le_of_ble_eq_true rfl) dX1_canCall_12 (fun H1 locs1 hq1 hS => ?_)
    have hP := GP.same hP hq1
    refine lv_if_eq (tgt := 41) hx hb dX1_canCall_15 (by decide) (fun kc5 => ?_) (fun kc5 => ?_)
    · have hf := ite_t kc5 hf
      refine lv_iconst (v := nI 0) hx hb dX1_canCall_41 rfl ?_
      cases hf
      exact g_zret (Pic := fun H => PS D dT h _ ρ H) E hr hlk hP hS rfl dX1_canCall_42
    · have hf := ite_f kc5 hf
      refine lv_aload_n hx hb dX1_canCall_18 rfl (lv_at hl 0 rfl) ?_
      refine gp_get (C := RX1) (T := TX1) E hK hP (shS_h h) rfl in_X1 6 (by decide) (hts _ q251) (fun _ z => z) (vS_a (by decide) (by decide)) dX1_canCall_19 ?_
      refine lv_iload_n hx hb dX1_canCall_22 rfl (lv_at hl 1 rfl) ?_
      obtain ⟨v6, hv6, hf⟩ := ob hf
      refine gp_iald E hK hP (shS_a (by decide) (by decide)) (rd_in hv6).1 (by rw [vS_e (by decide) (by decide), ← (rd_in hv6).2]) dX1_canCall_23 ?_
      refine lv_if_eq (tgt := 37) hx hb dX1_canCall_24 (by decide) (fun kc7 => ?_) (fun kc7 => ?_)
      · have hf := ite_t kc7 hf
        refine lv_iconst (v := nI 1) hx hb dX1_canCall_37 rfl ?_
        refine lv_goto (tgt := 42) hx hb dX1_canCall_38 (by decide) ?_
        cases hf
        exact g_zret (Pic := fun H => PS D dT h _ ρ H) E hr hlk hP hS rfl dX1_canCall_42
      · have hf := ite_f kc7 hf
        refine lv_aload_n hx hb dX1_canCall_27 rfl (lv_at hl 0 rfl) ?_
        refine gp_get (C := RX1) (T := TX1) E hK hP (shS_h h) rfl in_X1 5 (by decide) (hts _ q249) (fun _ z => z) (vS_a (by decide) (by decide)) dX1_canCall_28 ?_
        refine lv_iload_n hx hb dX1_canCall_31 rfl (lv_at hl 1 rfl) ?_
        obtain ⟨v8, hv8, hf⟩ := ob hf
        refine gp_iald E hK hP (shS_a (by decide) (by decide)) (rd_in hv8).1 (by rw [vS_e (by decide) (by decide), ← (rd_in hv8).2]) dX1_canCall_32 ?_
        refine lv_iload_n hx hb dX1_canCall_33 rfl (lv_at hl 2 rfl) ?_
        refine lv_icmp_ne (tgt := 41) hx hb dX1_canCall_34 (by decide) (fun kc9 => ?_) (fun kc9 => ?_)
        · have hf := ite_f kc9 hf
          refine lv_iconst (v := nI 0) hx hb dX1_canCall_41 rfl ?_
          cases hf
          exact g_zret (Pic := fun H => PS D dT h _ ρ H) E hr hlk hP hS rfl dX1_canCall_42
        · have hf := ite_t kc9 hf
          refine lv_iconst (v := nI 1) hx hb dX1_canCall_37 rfl ?_
          refine lv_goto (tgt := 42) hx hb dX1_canCall_38 (by decide) ?_
          cases hf
          exact g_zret (Pic := fun H => PS D dT h _ ρ H) E hr hlk hP hS rfl dX1_canCall_42
set_option maxHeartbeats 4000000 in
def fs_canMove (x1 : Int32) (x2 : Int32) (μ : nwM) : Option (Int32) := (fs_lives x1 μ).bind fun v2 => (if v2 = 0 then some (nI 0) else (fi_isIn x2 (nI 0) (nI 7) ()).bind fun v4 => (if v4 = 0 then some (nI 0) else (rd_ μ 5 12 x1).bind fun v6 => (if v6 = x2 then some (nI 0) else some (nI 1))))
set_option maxHeartbeats 4000000 in
theorem ds_canMove : yX1_canMove.cls = RX1 ∧ yX1_canMove.cls ≠ "java/lang/invoke/MethodHandle" ∧ yX1_canMove.cls ≠ "java/lang/invoke/VarHandle" ∧ (parseMethodDescriptor yX1_canMove.desc).map (fun d => d.parameters.length) = some 2 := ⟨rfl, by decide +kernel, by decide +kernel, by decide +kernel⟩
set_option maxHeartbeats 4000000 in
theorem ts_canMove (l : Launch) (D : va_G) (dT : Nat → ClassId) (h : Nat) (ρ : Nat → Nat) (x1 : Int32) (x2 : Int32) (μ : nwM) (res : Int32) (hf : fs_canMove x1 x2 μ = some res) : Met l yX1_canMove (ws_ yX1_canMove cX1_canMove 3 (some .boolean)) (rmd 3) (sPc D dT h μ ρ [.ref h, .int x1, .int x2]) (va_Qi (fun r' (_ : Unit) => r' = res) (fun _ t => PS D dT h μ ρ t.heap) (fun _ => False)) 0 0 (fun _ => False) := by
  refine g_met (D := D) (dT := dT) (A := fun _ => False) (own := RX1) (Pic := fun H => PS D dT h μ ρ H) (by decide) rfl (Nat.le_of_ble_eq_true rfl) ?_
  intro p e s m below meth c ls E hE hr hlk hl hP
  have hK := hE.1
  have hS : va_S (fun _ => False) s.heap s.heap [] := va_S.rf
  obtain ⟨hx, hb, hml, hown, hts⟩ := id E
  have hl : lv_has ls 3 [(0, .ref h), (1, .int x1), (2, .int x2)] := hl
  unfold fs_canMove at hf
  refine lv_aload_n hx hb dX1_canMove_0 rfl (lv_at hl 0 rfl) ?_
  refine lv_iload_n hx hb dX1_canMove_1 rfl (lv_at hl 1 rfl) ?_
  obtain ⟨v2, hc1, hf⟩ := ob hf
  refine g_calli E hE (Pic1 := fun H => PS D dT h μ _ H) hP hS (fun _ z => z.elim) (As := [.int x1]) (ts_lives l D dT h _ x1 μ _ hc1) (g_recv hK hP (shS_h h) rfl) (lw_V q1072 q1073 q1074 q162 q1075) ds_lives rfl (by decide) (by decide) hl rfl (Nat.le_of_ble_eq_true rfl) dX1_canMove_2 (fun H locs hP _ hS => ?_)
  refine lv_if_eq (tgt := 32) hx hb dX1_canMove_5 (by decide) (fun kc3 => ?_) (fun kc3 => ?_)
  · have hf := ite_t kc3 hf
    refine lv_iconst (v := nI 0) hx hb dX1_canMove_32 rfl ?_
    cases hf
    exact g_zret (Pic := fun H => PS D dT h _ ρ H) E hr hlk hP hS rfl dX1_canMove_33
  · have hf := ite_f kc3 hf
    refine lv_iload_n hx hb dX1_canMove_8 rfl (lv_at hl 2 rfl) ?_
    refine lv_iconst (v := nI 0) hx hb dX1_canMove_9 rfl ?_
    refine lv_bipush (v := nI 7) hx hb dX1_canMove_10 rfl ?_
    obtain ⟨v4, hv4, hf⟩ := ob hf
    refine p_calliN E hS (As := [.int x2, .int (nI 0), .int (nI 7)]) (ti_isIn l x2 (nI 0) (nI 7) _ hv4) (nmw_0 hE.2) q161 q387 q388 di_isIn rfl (by decide) (by decide) hl rfl (Nat.le_of_ble_eq_true rfl) dX1_canMove_12 (fun H1 locs1 hq1 hS => ?_)
    have hP := GP.same hP hq1
    refine lv_if_eq (tgt := 32) hx hb dX1_canMove_15 (by decide) (fun kc5 => ?_) (fun kc5 => ?_)
    · have hf := ite_t kc5 hf
      refine lv_iconst (v := nI 0) hx hb dX1_canMove_32 rfl ?_
      cases hf
      exact g_zret (Pic := fun H => PS D dT h _ ρ H) E hr hlk hP hS rfl dX1_canMove_33
    · have hf := ite_f kc5 hf
      refine lv_aload_n hx hb dX1_canMove_18 rfl (lv_at hl 0 rfl) ?_
      refine gp_get (C := RX1) (T := TX1) E hK hP (shS_h h) rfl in_X1 5 (by decide) (hts _ q249) (fun _ z => z) (vS_a (by decide) (by decide)) dX1_canMove_19 ?_
      refine lv_iload_n hx hb dX1_canMove_22 rfl (lv_at hl 1 rfl) ?_
      obtain ⟨v6, hv6, hf⟩ := ob hf
      refine gp_iald E hK hP (shS_a (by decide) (by decide)) (rd_in hv6).1 (by rw [vS_e (by decide) (by decide), ← (rd_in hv6).2]) dX1_canMove_23 ?_
      refine lv_iload_n hx hb dX1_canMove_24 rfl (lv_at hl 2 rfl) ?_
      refine lv_icmp_eq (tgt := 32) hx hb dX1_canMove_25 (by decide) (fun kc7 => ?_) (fun kc7 => ?_)
      · have hf := ite_t kc7 hf
        refine lv_iconst (v := nI 0) hx hb dX1_canMove_32 rfl ?_
        cases hf
        exact g_zret (Pic := fun H => PS D dT h _ ρ H) E hr hlk hP hS rfl dX1_canMove_33
      · have hf := ite_f kc7 hf
        refine lv_iconst (v := nI 1) hx hb dX1_canMove_28 rfl ?_
        refine lv_goto (tgt := 33) hx hb dX1_canMove_29 (by decide) ?_
        cases hf
        exact g_zret (Pic := fun H => PS D dT h _ ρ H) E hr hlk hP hS rfl dX1_canMove_33
set_option maxHeartbeats 4000000 in
def fs_moveTo (x1 : Int32) (x2 : Int32) (μ : nwM) : Option (nwM) := (wr_ μ 5 12 x1 x2).bind fun μ1 => (fs_notes (nI 1) x1 x2 (nI 0) μ1).bind fun μ3 => some μ3
set_option maxHeartbeats 4000000 in
theorem ds_moveTo : yX1_moveTo.cls = RX1 ∧ yX1_moveTo.cls ≠ "java/lang/invoke/MethodHandle" ∧ yX1_moveTo.cls ≠ "java/lang/invoke/VarHandle" ∧ (parseMethodDescriptor yX1_moveTo.desc).map (fun d => d.parameters.length) = some 2 := ⟨rfl, by decide +kernel, by decide +kernel, by decide +kernel⟩
set_option maxHeartbeats 4000000 in
theorem ts_moveTo (l : Launch) (D : va_G) (dT : Nat → ClassId) (h : Nat) (ρ : Nat → Nat) (x1 : Int32) (x2 : Int32) (μ : nwM) (res : nwM) (hf : fs_moveTo x1 x2 μ = some res) : Met l yX1_moveTo (ws_ yX1_moveTo cX1_moveTo 3 none) (rmd 1) (sPc D dT h μ ρ [.ref h, .int x1, .int x2]) (va_Qv (fun (_ : Unit) => True) (fun _ t => PS D dT h res ρ t.heap) (sA h)) 0 0 (sA h) := by
  refine g_met (D := D) (dT := dT) (A := sA h) (own := RX1) (Pic := fun H => PS D dT h μ ρ H) (by decide) rfl (Nat.le_of_ble_eq_true rfl) ?_
  intro p e s m below meth c ls E hE hr hlk hl hP
  have hK := hE.1
  have hS : va_S (sA h) s.heap s.heap [] := va_S.rf
  obtain ⟨hx, hb, hml, hown, hts⟩ := id E
  have hl : lv_has ls 3 [(0, .ref h), (1, .int x1), (2, .int x2)] := hl
  unfold fs_moveTo at hf
  refine lv_aload_n hx hb dX1_moveTo_0 rfl (lv_at hl 0 rfl) ?_
  refine gp_get (C := RX1) (T := TX1) E hK hP (shS_h h) rfl in_X1 5 (by decide) (hts _ q249) (fun _ z => z) (vS_a (by decide) (by decide)) dX1_moveTo_1 ?_
  refine lv_iload_n hx hb dX1_moveTo_4 rfl (lv_at hl 1 rfl) ?_
  refine lv_iload_n hx hb dX1_moveTo_5 rfl (lv_at hl 2 rfl) ?_
  obtain ⟨μ1, hμ1, hf⟩ := ob hf
  refine gp_iast E hK hP hS (sA_a (by decide) (by decide)) (shS_a (by decide) (by decide)) (wr_in hμ1).1 dX1_moveTo_6 (fun H locs hP _ hS => ?_)
  have hP := PS_ast (by decide) (by decide) hμ1 hP
  refine lv_aload_n hx hb dX1_moveTo_7 rfl (lv_at hl 0 rfl) ?_
  refine lv_iconst (v := nI 1) hx hb dX1_moveTo_8 rfl ?_
  refine lv_iload_n hx hb dX1_moveTo_9 rfl (lv_at hl 1 rfl) ?_
  refine lv_iload_n hx hb dX1_moveTo_10 rfl (lv_at hl 2 rfl) ?_
  refine lv_iconst (v := nI 0) hx hb dX1_moveTo_11 rfl ?_
  obtain ⟨μ3, hc2, hf⟩ := ob hf
  refine g_callv E hE (Pic1 := fun H => PS D dT h μ3 _ H) hP hS (fun _ z => z) (As := [.int (nI 1), .int x1, .int x2, .int (nI 0)]) (ts_notes l D dT h _ (nI 1) x1 x2 (nI 0) μ1 _ hc2) (g_recv hK hP (shS_h h) rfl) (lw_V q1060 q1062 qs37 q162 q1063) ds_notes rfl (by decide) (by decide) hl rfl (Nat.le_of_ble_eq_true rfl) dX1_moveTo_12 (fun H locs hP _ hS => ?_)
  cases hf
  exact g_vret (Pic := fun H => PS D dT h _ ρ H) E hr hlk hP hS dX1_moveTo_15
set_option maxHeartbeats 4000000 in
def fs_buries (x1 : Int32) (μ : nwM) : Option (nwM) := (wr_ μ 6 12 x1 (nI 1)).bind fun μ1 => (rd_ μ1 5 12 x1).bind fun v2 => (fs_notes (nI 2) x1 v2 (nI 0) μ1).bind fun μ4 => some μ4
set_option maxHeartbeats 4000000 in
theorem ds_buries : yX1_buries.cls = RX1 ∧ yX1_buries.cls ≠ "java/lang/invoke/MethodHandle" ∧ yX1_buries.cls ≠ "java/lang/invoke/VarHandle" ∧ (parseMethodDescriptor yX1_buries.desc).map (fun d => d.parameters.length) = some 1 := ⟨rfl, by decide +kernel, by decide +kernel, by decide +kernel⟩
set_option maxHeartbeats 4000000 in
theorem ts_buries (l : Launch) (D : va_G) (dT : Nat → ClassId) (h : Nat) (ρ : Nat → Nat) (x1 : Int32) (μ : nwM) (res : nwM) (hf : fs_buries x1 μ = some res) : Met l yX1_buries (ws_ yX1_buries cX1_buries 2 none) (rmd 1) (sPc D dT h μ ρ [.ref h, .int x1]) (va_Qv (fun (_ : Unit) => True) (fun _ t => PS D dT h res ρ t.heap) (sA h)) 0 0 (sA h) := by
  refine g_met (D := D) (dT := dT) (A := sA h) (own := RX1) (Pic := fun H => PS D dT h μ ρ H) (by decide) rfl (Nat.le_of_ble_eq_true rfl) ?_
  intro p e s m below meth c ls E hE hr hlk hl hP
  have hK := hE.1
  have hS : va_S (sA h) s.heap s.heap [] := va_S.rf
  obtain ⟨hx, hb, hml, hown, hts⟩ := id E
  have hl : lv_has ls 2 [(0, .ref h), (1, .int x1)] := hl
  unfold fs_buries at hf
  refine lv_aload_n hx hb dX1_buries_0 rfl (lv_at hl 0 rfl) ?_
  refine gp_get (C := RX1) (T := TX1) E hK hP (shS_h h) rfl in_X1 6 (by decide) (hts _ q251) (fun _ z => z) (vS_a (by decide) (by decide)) dX1_buries_1 ?_
  refine lv_iload_n hx hb dX1_buries_4 rfl (lv_at hl 1 rfl) ?_
  refine lv_iconst (v := nI 1) hx hb dX1_buries_5 rfl ?_
  obtain ⟨μ1, hμ1, hf⟩ := ob hf
  refine gp_iast E hK hP hS (sA_a (by decide) (by decide)) (shS_a (by decide) (by decide)) (wr_in hμ1).1 dX1_buries_6 (fun H locs hP _ hS => ?_)
  have hP := PS_ast (by decide) (by decide) hμ1 hP
  refine lv_aload_n hx hb dX1_buries_7 rfl (lv_at hl 0 rfl) ?_
  refine lv_iconst (v := nI 2) hx hb dX1_buries_8 rfl ?_
  refine lv_iload_n hx hb dX1_buries_9 rfl (lv_at hl 1 rfl) ?_
  refine lv_aload_n hx hb dX1_buries_10 rfl (lv_at hl 0 rfl) ?_
  refine gp_get (C := RX1) (T := TX1) E hK hP (shS_h h) rfl in_X1 5 (by decide) (hts _ q249) (fun _ z => z) (vS_a (by decide) (by decide)) dX1_buries_11 ?_
  refine lv_iload_n hx hb dX1_buries_14 rfl (lv_at hl 1 rfl) ?_
  obtain ⟨v2, hv2, hf⟩ := ob hf
  refine gp_iald E hK hP (shS_a (by decide) (by decide)) (rd_in hv2).1 (by rw [vS_e (by decide) (by decide), ← (rd_in hv2).2]) dX1_buries_15 ?_
  refine lv_iconst (v := nI 0) hx hb dX1_buries_16 rfl ?_
  obtain ⟨μ4, hc3, hf⟩ := ob hf
  refine g_callv E hE (Pic1 := fun H => PS D dT h μ4 _ H) hP hS (fun _ z => z) (As := [.int (nI 2), .int x1, .int v2, .int (nI 0)]) (ts_notes l D dT h _ (nI 2) x1 v2 (nI 0) μ1 _ hc3) (g_recv hK hP (shS_h h) rfl) (lw_V q1060 q1062 qs37 q162 q1063) ds_notes rfl (by decide) (by decide) hl rfl (Nat.le_of_ble_eq_true rfl) dX1_buries_17 (fun H locs hP _ hS => ?_)
  cases hf
  exact g_vret (Pic := fun H => PS D dT h _ ρ H) E hr hlk hP hS dX1_buries_20
set_option maxHeartbeats 4000000 in
def fs_mostOf_L4 (x1 : Int32) (μ : nwM) : (Int32 × Int32) → Option ((Int32 × Int32) ⊕ (Int32)) := fun st => (if (nI 5) ≤ st.2 then some (.inr st.1) else (rw_ 8 x1).bind fun r2 => (rr_ μ 0 r2 st.2).bind fun v3 => (rw_ 8 x1).bind fun r4 => (rr_ μ 0 r4 st.1).bind fun v5 => (if v3 ≤ v5 then some (.inl (st.1, st.2 + nI 1)) else some (.inl (st.2, st.2 + nI 1))))
set_option maxHeartbeats 4000000 in
noncomputable def fs_mostOf (x1 : Int32) (μ : nwM) : Option (Int32) := (wh_ (fs_mostOf_L4 x1 μ) (nI 0, nI 1)).bind fun x7 => (rw_ 8 x1).bind fun r8 => (rr_ μ 0 r8 x7).bind fun v9 => (if v9 = 0 then some (-1) else some x7)
set_option maxHeartbeats 4000000 in
theorem fs_mostOf_L4_w {p : Program} {l : Launch} {e : Env} {s : State} {m : MethodId} {args : Array Value} {below : List Frame} {meth : Method} {c : Code} {D : va_G} {dT : Nat → ClassId} {Q : State → Prop} {h : Nat} {ρ : Nat → Nat} (E : CallFix p m c cX1_mostOf 4 s args lw_all RX1) (hK : va_K D nwCl (nwT dT) s) (hE : EV D dT s) (x1 : Int32) (μ : nwM) {st : Int32 × Int32} {x : Int32} (hw : wh_ (fs_mostOf_L4 x1 μ) st = some x) (hk : (fun x : Int32 => ∀ (ls : Array Slot) (H : Heap) (locs : List Loc), lv_has ls 4 [(0, .ref h), (1, .int x1), (2, .int x)] → PS D dT h μ ρ H → va_S (fun _ => False) s.heap H locs → W p l e (rmd 0) s m args below meth c H locs 0 0 Q (F0 m 36 ls [])) x) : (fun st : Int32 × Int32 => ∀ (ls : Array Slot) (H : Heap) (locs : List Loc), lv_has ls 4 [(0, .ref h), (1, .int x1), (2, .int st.1), (3, .int st.2)] → PS D dT h μ ρ H → va_S (fun _ => False) s.heap H locs → W p l e (rmd 0) s m args below meth c H locs 0 0 Q (F0 m 4 ls [])) st := by
  obtain ⟨hx, hb, hml, hown, hts⟩ := id E
  refine wh_run (P := (fun st : Int32 × Int32 => ∀ (ls : Array Slot) (H : Heap) (locs : List Loc), lv_has ls 4 [(0, .ref h), (1, .int x1), (2, .int st.1), (3, .int st.2)] → PS D dT h μ ρ H → va_S (fun _ => False) s.heap H locs → W p l e (rmd 0) s m args below meth c H locs 0 0 Q (F0 m 4 ls []))) (PE := (fun x : Int32 => ∀ (ls : Array Slot) (H : Heap) (locs : List Loc), lv_has ls 4 [(0, .ref h), (1, .int x1), (2, .int x)] → PS D dT h μ ρ H → va_S (fun _ => False) s.heap H locs → W p l e (rmd 0) s m args below meth c H locs 0 0 Q (F0 m 36 ls []))) ?_ hw hk
  clear hw hk
  intro st x hf hk ls H locs hl hP hS
  refine lv_iload_n hx hb dX1_mostOf_4 rfl (lv_at hl 3 rfl) ?_
  refine lv_iconst (v := nI 5) hx hb dX1_mostOf_5 rfl ?_
  refine lv_icmp_ge (tgt := 36) hx hb dX1_mostOf_6 (by decide) (fun kc1 => ?_) (fun kc1 => ?_)
  · have hf := ite_t kc1 hf
    cases hf
    exact hk _ _ _ (lv_sub hl [0, 1, 2] rfl) hP hS
  · have hf := ite_f kc1 hf
    refine lv_aload_n hx hb dX1_mostOf_9 rfl (lv_at hl 0 rfl) ?_
    refine gp_get (C := RX1) (T := TX1) E hK hP (shS_h h) rfl in_X1 0 (by decide) (hts _ q239) (fun _ z => z) (vS_2 (by decide)) dX1_mostOf_10 ?_
    refine lv_iload_n hx hb dX1_mostOf_13 rfl (lv_at hl 1 rfl) ?_
    obtain ⟨r2, hr2, hf⟩ := ob hf
    refine gp_aald (t := 2) (ty := .array .int) E hK hP rfl rfl (shS_2 (by decide)) (rw_in hr2).1 (by rw [vS_o (by decide), (rw_in hr2).2.1]) dX1_mostOf_14 ?_
    refine lv_iload_n hx hb dX1_mostOf_15 rfl (lv_at hl 3 rfl) ?_
    obtain ⟨v3, hv3, hf⟩ := ob hf
    refine gp_iald E hK hP (shS_r (by decide) (rw_in hr2).2.2) (rr_in hv3).1 (by rw [vS_r (by decide) (rw_in hr2).2.2, ← (rr_in hv3).2]) dX1_mostOf_16 ?_
    refine lv_aload_n hx hb dX1_mostOf_17 rfl (lv_at hl 0 rfl) ?_
    refine gp_get (C := RX1) (T := TX1) E hK hP (shS_h h) rfl in_X1 0 (by decide) (hts _ q239) (fun _ z => z) (vS_2 (by decide)) dX1_mostOf_18 ?_
    refine lv_iload_n hx hb dX1_mostOf_21 rfl (lv_at hl 1 rfl) ?_
    obtain ⟨r4, hr4, hf⟩ := ob hf
    refine gp_aald (t := 2) (ty := .array .int) E hK hP rfl rfl (shS_2 (by decide)) (rw_in hr4).1 (by rw [vS_o (by decide), (rw_in hr4).2.1]) dX1_mostOf_22 ?_
    refine lv_iload_n hx hb dX1_mostOf_23 rfl (lv_at hl 2 rfl) ?_
    obtain ⟨v5, hv5, hf⟩ := ob hf
    refine gp_iald E hK hP (shS_r (by decide) (rw_in hr4).2.2) (rr_in hv5).1 (by rw [vS_r (by decide) (rw_in hr4).2.2, ← (rr_in hv5).2]) dX1_mostOf_24 ?_
    refine lv_icmp_le (tgt := 30) hx hb dX1_mostOf_25 (by decide) (fun kc6 => ?_) (fun kc6 => ?_)
    · have hf := ite_t kc6 hf
      refine lv_iinc (v := st.2 + nI 1) (lv' := [(3, .int (st.2 + nI 1)), (0, .ref h), (1, .int x1), (2, .int st.1)]) hx hb dX1_mostOf_30 hl (k := 3) rfl rfl (by decide) rfl (fun ls hl => ?_)
      refine lv_goto (tgt := 4) hx hb dX1_mostOf_33 (by decide) ?_
      cases hf
      exact hk _ _ _ (lv_sub hl [1, 2, 3, 0] rfl) hP hS
    · have hf := ite_f kc6 hf
      refine lv_iload_n hx hb dX1_mostOf_28 rfl (lv_at hl 3 rfl) ?_
      refine lv_istore_n (lv' := [(2, .int st.2), (0, .ref h), (1, .int x1), (3, .int st.2)]) hx hb dX1_mostOf_29 rfl hl (by decide) rfl (fun ls hl => ?_)
      refine lv_iinc (v := st.2 + nI 1) (lv' := [(3, .int (st.2 + nI 1)), (2, .int st.2), (0, .ref h), (1, .int x1)]) hx hb dX1_mostOf_30 hl (k := 3) rfl rfl (by decide) rfl (fun ls hl => ?_)
      refine lv_goto (tgt := 4) hx hb dX1_mostOf_33 (by decide) ?_
      cases hf
      exact hk _ _ _ (lv_sub hl [2, 3, 1, 0] rfl) hP hS
set_option maxHeartbeats 4000000 in
theorem ds_mostOf : yX1_mostOf.cls = RX1 ∧ yX1_mostOf.cls ≠ "java/lang/invoke/MethodHandle" ∧ yX1_mostOf.cls ≠ "java/lang/invoke/VarHandle" ∧ (parseMethodDescriptor yX1_mostOf.desc).map (fun d => d.parameters.length) = some 1 := ⟨rfl, by decide +kernel, by decide +kernel, by decide +kernel⟩
set_option maxHeartbeats 4000000 in
theorem ts_mostOf (l : Launch) (D : va_G) (dT : Nat → ClassId) (h : Nat) (ρ : Nat → Nat) (x1 : Int32) (μ : nwM) (res : Int32) (hf : fs_mostOf x1 μ = some res) : Met l yX1_mostOf (ws_ yX1_mostOf cX1_mostOf 4 (some .int)) (rmd 0) (sPc D dT h μ ρ [.ref h, .int x1]) (va_Qi (fun r' (_ : Unit) => r' = res) (fun _ t => PS D dT h μ ρ t.heap) (fun _ => False)) 0 0 (fun _ => False) := by
  refine g_met (D := D) (dT := dT) (A := fun _ => False) (own := RX1) (Pic := fun H => PS D dT h μ ρ H) (by decide) rfl (Nat.le_of_ble_eq_true rfl) ?_
  intro p e s m below meth c ls E hE hr hlk hl hP
  have hK := hE.1
  have hS : va_S (fun _ => False) s.heap s.heap [] := va_S.rf
  obtain ⟨hx, hb, hml, hown, hts⟩ := id E
  have hl : lv_has ls 4 [(0, .ref h), (1, .int x1)] := hl
  unfold fs_mostOf at hf
  refine lv_iconst (v := nI 0) hx hb dX1_mostOf_0 rfl ?_
  refine lv_istore_n (lv' := [(2, .int (nI 0)), (0, .ref h), (1, .int x1)]) hx hb dX1_mostOf_1 rfl hl (by decide) rfl (fun ls hl => ?_)
  refine lv_iconst (v := nI 1) hx hb dX1_mostOf_2 rfl ?_
  refine lv_istore_n (lv' := [(3, .int (nI 1)), (2, .int (nI 0)), (0, .ref h), (1, .int x1)]) hx hb dX1_mostOf_3 rfl hl (by decide) rfl (fun ls hl => ?_)
  obtain ⟨x7, hx7, hf⟩ := ob hf
  refine fs_mostOf_L4_w E hK hE x1 μ hx7 (fun ls H locs hl hP hS => ?_) _ _ _ (lv_sub hl [2, 3, 1, 0] rfl) hP hS
  refine lv_aload_n hx hb dX1_mostOf_36 rfl (lv_at hl 0 rfl) ?_
  refine gp_get (C := RX1) (T := TX1) E hK hP (shS_h h) rfl in_X1 0 (by decide) (hts _ q239) (fun _ z => z) (vS_2 (by decide)) dX1_mostOf_37 ?_
  refine lv_iload_n hx hb dX1_mostOf_40 rfl (lv_at hl 1 rfl) ?_
  obtain ⟨r8, hr8, hf⟩ := ob hf
  refine gp_aald (t := 2) (ty := .array .int) E hK hP rfl rfl (shS_2 (by decide)) (rw_in hr8).1 (by rw [vS_o (by decide), (rw_in hr8).2.1]) dX1_mostOf_41 ?_
  refine lv_iload_n hx hb dX1_mostOf_42 rfl (lv_at hl 2 rfl) ?_
  obtain ⟨v9, hv9, hf⟩ := ob hf
  refine gp_iald E hK hP (shS_r (by decide) (rw_in hr8).2.2) (rr_in hv9).1 (by rw [vS_r (by decide) (rw_in hr8).2.2, ← (rr_in hv9).2]) dX1_mostOf_43 ?_
  refine lv_if_ne (tgt := 51) hx hb dX1_mostOf_44 (by decide) (fun kc10 => ?_) (fun kc10 => ?_)
  · have hf := ite_f kc10 hf
    refine lv_iload_n hx hb dX1_mostOf_51 rfl (lv_at hl 2 rfl) ?_
    cases hf
    exact g_iret (Pic := fun H => PS D dT h _ ρ H) E hr hlk hP hS rfl dX1_mostOf_52
  · have hf := ite_t kc10 hf
    refine lv_iconst (v := (-1)) hx hb dX1_mostOf_47 rfl ?_
    refine lv_goto (tgt := 52) hx hb dX1_mostOf_48 (by decide) ?_
    cases hf
    exact g_iret (Pic := fun H => PS D dT h _ ρ H) E hr hlk hP hS rfl dX1_mostOf_52
set_option maxHeartbeats 4000000 in
noncomputable def fs_strengthOf (x1 : Int32) (μ : nwM) : Option (Int32) := (rw_ 8 x1).bind fun r1 => (fs_mostOf x1 μ).bind fun v3 => (rr_ μ 0 r1 v3).bind fun v4 => some (mx_ (nI 1) (mn_ (nI 9) (v4 / (nI 10))))
set_option maxHeartbeats 4000000 in
theorem ds_strengthOf : yX1_strengthOf.cls = RX1 ∧ yX1_strengthOf.cls ≠ "java/lang/invoke/MethodHandle" ∧ yX1_strengthOf.cls ≠ "java/lang/invoke/VarHandle" ∧ (parseMethodDescriptor yX1_strengthOf.desc).map (fun d => d.parameters.length) = some 1 := ⟨rfl, by decide +kernel, by decide +kernel, by decide +kernel⟩
set_option maxHeartbeats 4000000 in
theorem ts_strengthOf (l : Launch) (D : va_G) (dT : Nat → ClassId) (h : Nat) (ρ : Nat → Nat) (x1 : Int32) (μ : nwM) (res : Int32) (hf : fs_strengthOf x1 μ = some res) : Met l yX1_strengthOf (ws_ yX1_strengthOf cX1_strengthOf 2 (some .int)) (rmd 1) (sPc D dT h μ ρ [.ref h, .int x1]) (va_Qi (fun r' (_ : Unit) => r' = res) (fun _ t => PS D dT h μ ρ t.heap) (fun _ => False)) 0 0 (fun _ => False) := by
  refine g_met (D := D) (dT := dT) (A := fun _ => False) (own := RX1) (Pic := fun H => PS D dT h μ ρ H) (by decide) rfl (Nat.le_of_ble_eq_true rfl) ?_
  intro p e s m below meth c ls E hE hr hlk hl hP
  have hK := hE.1
  have hS : va_S (fun _ => False) s.heap s.heap [] := va_S.rf
  obtain ⟨hx, hb, hml, hown, hts⟩ := id E
  have hl : lv_has ls 2 [(0, .ref h), (1, .int x1)] := hl
  unfold fs_strengthOf at hf
  refine lv_iconst (v := nI 1) hx hb dX1_strengthOf_0 rfl ?_
  refine lv_bipush (v := nI 9) hx hb dX1_strengthOf_1 rfl ?_
  refine lv_aload_n hx hb dX1_strengthOf_3 rfl (lv_at hl 0 rfl) ?_
  refine gp_get (C := RX1) (T := TX1) E hK hP (shS_h h) rfl in_X1 0 (by decide) (hts _ q239) (fun _ z => z) (vS_2 (by decide)) dX1_strengthOf_4 ?_
  refine lv_iload_n hx hb dX1_strengthOf_7 rfl (lv_at hl 1 rfl) ?_
  obtain ⟨r1, hr1, hf⟩ := ob hf
  refine gp_aald (t := 2) (ty := .array .int) E hK hP rfl rfl (shS_2 (by decide)) (rw_in hr1).1 (by rw [vS_o (by decide), (rw_in hr1).2.1]) dX1_strengthOf_8 ?_
  refine lv_aload_n hx hb dX1_strengthOf_9 rfl (lv_at hl 0 rfl) ?_
  refine lv_iload_n hx hb dX1_strengthOf_10 rfl (lv_at hl 1 rfl) ?_
  obtain ⟨v3, hc2, hf⟩ := ob hf
  refine g_calli E hE (Pic1 := fun H => PS D dT h μ _ H) hP hS (fun _ z => z.elim) (As := [.int x1]) (ts_mostOf l D dT h _ x1 μ _ hc2) (g_recv hK hP (shS_h h) rfl) (lw_V q1101 q1094 q1095 q162 q1096) ds_mostOf rfl (by decide) (by decide) hl rfl (Nat.le_of_ble_eq_true rfl) dX1_strengthOf_11 (fun H locs hP _ hS => ?_)
  obtain ⟨v4, hv4, hf⟩ := ob hf
  refine gp_iald E hK hP (shS_r (by decide) (rw_in hr1).2.2) (rr_in hv4).1 (by rw [vS_r (by decide) (rw_in hr1).2.2, ← (rr_in hv4).2]) dX1_strengthOf_14 ?_
  refine lv_bipush (v := nI 10) hx hb dX1_strengthOf_15 rfl ?_
  refine lv_idiv hx hb dX1_strengthOf_17 (by decide) ?_
  refine mn_calli E (by decide) hl q1058 q794 q182 q795 (Nat.le_of_ble_eq_true rfl) dX1_strengthOf_18 ?_
  refine lv_nm (y := mn_ (nI 9) (v4 / (nI 10))) rfl ?_
  refine mx_calli E (by decide) hl q1059 q757 q182 q758 (Nat.le_of_ble_eq_true rfl) dX1_strengthOf_21 ?_
  refine lv_nm (y := mx_ (nI 1) (mn_ (nI 9) (v4 / (nI 10)))) rfl ?_
  cases hf
  exact g_iret (Pic := fun H => PS D dT h _ ρ H) E hr hlk hP hS rfl dX1_strengthOf_24
set_option maxHeartbeats 4000000 in
def fs_comes (x1 : Int32) (x2 : Int32) (x3 : Int32) (μ : nwM) : Option (nwM) := (wr_ μ 3 12 (μ 13 0) x1).bind fun μ1 => (wr_ μ1 4 12 (μ1 13 0) x2).bind fun μ2 => (wr_ μ2 5 12 (μ2 13 0) x3).bind fun μ3 => (wr_ μ3 6 12 (μ3 13 0) (nI 0)).bind fun μ4 => (wr_ μ4 7 12 (μ4 13 0) (nI 0)).bind fun μ5 => (wf_ μ5 13 ((μ5 13 0) + (nI 1))).bind fun μ6 => some μ6
set_option maxHeartbeats 4000000 in
theorem ds_comes : yX1_comes.cls = RX1 ∧ yX1_comes.cls ≠ "java/lang/invoke/MethodHandle" ∧ yX1_comes.cls ≠ "java/lang/invoke/VarHandle" ∧ (parseMethodDescriptor yX1_comes.desc).map (fun d => d.parameters.length) = some 3 := ⟨rfl, by decide +kernel, by decide +kernel, by decide +kernel⟩
set_option maxHeartbeats 4000000 in
theorem ts_comes (l : Launch) (D : va_G) (dT : Nat → ClassId) (h : Nat) (ρ : Nat → Nat) (x1 : Int32) (x2 : Int32) (x3 : Int32) (μ : nwM) (res : nwM) (hf : fs_comes x1 x2 x3 μ = some res) : Met l yX1_comes (ws_ yX1_comes cX1_comes 4 none) (rmd 0) (sPc D dT h μ ρ [.ref h, .int x1, .int x2, .int x3]) (va_Qv (fun (_ : Unit) => True) (fun _ t => PS D dT h res ρ t.heap) (sA h)) 0 0 (sA h) := by
  refine g_met (D := D) (dT := dT) (A := sA h) (own := RX1) (Pic := fun H => PS D dT h μ ρ H) (by decide) rfl (Nat.le_of_ble_eq_true rfl) ?_
  intro p e s m below meth c ls E hE hr hlk hl hP
  have hK := hE.1
  have hS : va_S (sA h) s.heap s.heap [] := va_S.rf
  obtain ⟨hx, hb, hml, hown, hts⟩ := id E
  have hl : lv_has ls 4 [(0, .ref h), (1, .int x1), (2, .int x2), (3, .int x3)] := hl
  unfold fs_comes at hf
  refine lv_aload_n hx hb dX1_comes_0 rfl (lv_at hl 0 rfl) ?_
  refine gp_get (C := RX1) (T := TX1) E hK hP (shS_h h) rfl in_X1 3 (by decide) (hts _ q245) (fun _ z => z) (vS_a (by decide) (by decide)) dX1_comes_1 ?_
  refine lv_aload_n hx hb dX1_comes_4 rfl (lv_at hl 0 rfl) ?_
  refine gp_get (C := RX1) (T := TX1) E hK hP (shS_h h) rfl in_X1 13 (by decide) (hts _ q265) (fun _ z => z) (vS_i (by decide)) dX1_comes_5 ?_
  refine lv_iload_n hx hb dX1_comes_8 rfl (lv_at hl 1 rfl) ?_
  obtain ⟨μ1, hμ1, hf⟩ := ob hf
  refine gp_iast E hK hP hS (sA_a (by decide) (by decide)) (shS_a (by decide) (by decide)) (wr_in hμ1).1 dX1_comes_9 (fun H locs hP _ hS => ?_)
  have hP := PS_ast (by decide) (by decide) hμ1 hP
  refine lv_aload_n hx hb dX1_comes_10 rfl (lv_at hl 0 rfl) ?_
  refine gp_get (C := RX1) (T := TX1) E hK hP (shS_h h) rfl in_X1 4 (by decide) (hts _ q247) (fun _ z => z) (vS_a (by decide) (by decide)) dX1_comes_11 ?_
  refine lv_aload_n hx hb dX1_comes_14 rfl (lv_at hl 0 rfl) ?_
  refine gp_get (C := RX1) (T := TX1) E hK hP (shS_h h) rfl in_X1 13 (by decide) (hts _ q265) (fun _ z => z) (vS_i (by decide)) dX1_comes_15 ?_
  refine lv_iload_n hx hb dX1_comes_18 rfl (lv_at hl 2 rfl) ?_
  obtain ⟨μ2, hμ2, hf⟩ := ob hf
  refine gp_iast E hK hP hS (sA_a (by decide) (by decide)) (shS_a (by decide) (by decide)) (wr_in hμ2).1 dX1_comes_19 (fun H locs hP _ hS => ?_)
  have hP := PS_ast (by decide) (by decide) hμ2 hP
  refine lv_aload_n hx hb dX1_comes_20 rfl (lv_at hl 0 rfl) ?_
  refine gp_get (C := RX1) (T := TX1) E hK hP (shS_h h) rfl in_X1 5 (by decide) (hts _ q249) (fun _ z => z) (vS_a (by decide) (by decide)) dX1_comes_21 ?_
  refine lv_aload_n hx hb dX1_comes_24 rfl (lv_at hl 0 rfl) ?_
  refine gp_get (C := RX1) (T := TX1) E hK hP (shS_h h) rfl in_X1 13 (by decide) (hts _ q265) (fun _ z => z) (vS_i (by decide)) dX1_comes_25 ?_
  refine lv_iload_n hx hb dX1_comes_28 rfl (lv_at hl 3 rfl) ?_
  obtain ⟨μ3, hμ3, hf⟩ := ob hf
  refine gp_iast E hK hP hS (sA_a (by decide) (by decide)) (shS_a (by decide) (by decide)) (wr_in hμ3).1 dX1_comes_29 (fun H locs hP _ hS => ?_)
  have hP := PS_ast (by decide) (by decide) hμ3 hP
  refine lv_aload_n hx hb dX1_comes_30 rfl (lv_at hl 0 rfl) ?_
  refine gp_get (C := RX1) (T := TX1) E hK hP (shS_h h) rfl in_X1 6 (by decide) (hts _ q251) (fun _ z => z) (vS_a (by decide) (by decide)) dX1_comes_31 ?_
  refine lv_aload_n hx hb dX1_comes_34 rfl (lv_at hl 0 rfl) ?_
  refine gp_get (C := RX1) (T := TX1) E hK hP (shS_h h) rfl in_X1 13 (by decide) (hts _ q265) (fun _ z => z) (vS_i (by decide)) dX1_comes_35 ?_
  refine lv_iconst (v := nI 0) hx hb dX1_comes_38 rfl ?_
  obtain ⟨μ4, hμ4, hf⟩ := ob hf
  refine gp_iast E hK hP hS (sA_a (by decide) (by decide)) (shS_a (by decide) (by decide)) (wr_in hμ4).1 dX1_comes_39 (fun H locs hP _ hS => ?_)
  have hP := PS_ast (by decide) (by decide) hμ4 hP
  refine lv_aload_n hx hb dX1_comes_40 rfl (lv_at hl 0 rfl) ?_
  refine gp_get (C := RX1) (T := TX1) E hK hP (shS_h h) rfl in_X1 7 (by decide) (hts _ q253) (fun _ z => z) (vS_a (by decide) (by decide)) dX1_comes_41 ?_
  refine lv_aload_n hx hb dX1_comes_44 rfl (lv_at hl 0 rfl) ?_
  refine gp_get (C := RX1) (T := TX1) E hK hP (shS_h h) rfl in_X1 13 (by decide) (hts _ q265) (fun _ z => z) (vS_i (by decide)) dX1_comes_45 ?_
  refine lv_iconst (v := nI 0) hx hb dX1_comes_48 rfl ?_
  obtain ⟨μ5, hμ5, hf⟩ := ob hf
  refine gp_iast E hK hP hS (sA_a (by decide) (by decide)) (shS_a (by decide) (by decide)) (wr_in hμ5).1 dX1_comes_49 (fun H locs hP _ hS => ?_)
  have hP := PS_ast (by decide) (by decide) hμ5 hP
  refine lv_aload_n hx hb dX1_comes_50 rfl (lv_at hl 0 rfl) ?_
  refine lv_dup hx hb dX1_comes_51 rfl ?_
  refine gp_get (C := RX1) (T := TX1) E hK hP (shS_h h) rfl in_X1 13 (by decide) (hts _ q265) (fun _ z => z) (vS_i (by decide)) dX1_comes_52 ?_
  refine lv_iconst (v := nI 1) hx hb dX1_comes_55 rfl ?_
  refine lv_iadd hx hb dX1_comes_56 ?_
  obtain ⟨μ6, hμ6, hf⟩ := ob hf
  refine gp_put (C := RX1) (T := TX1) (ty := .int) E hK hP hS (sA_h h) (shS_h h) rfl in_X1 tyX1 tyX1_ok nmX1 13 (by decide) (hts _ q265) (fun _ z => z) rfl rfl rfl rfl dX1_comes_57 (fun H locs hP _ hS => ?_)
  have hP := PS_put (by decide) hμ6 hP
  cases hf
  exact g_vret (Pic := fun H => PS D dT h _ ρ H) E hr hlk hP hS dX1_comes_60
set_option maxHeartbeats 4000000 in
noncomputable def fs_births (x1 : Int32) (μ : nwM) : Option (Int32 × nwM) := (fs_mostOf x1 μ).bind fun v2 => (fs_strengthOf x1 μ).bind fun v4 => (fs_comes v2 v4 x1 μ).bind fun μ6 => (fs_notes (nI 3) ((μ6 13 0) - (nI 1)) x1 (nI 0) μ6).bind fun μ8 => some ((μ8 13 0) - (nI 1), μ8)
set_option maxHeartbeats 4000000 in
theorem ds_births : yX1_births.cls = RX1 ∧ yX1_births.cls ≠ "java/lang/invoke/MethodHandle" ∧ yX1_births.cls ≠ "java/lang/invoke/VarHandle" ∧ (parseMethodDescriptor yX1_births.desc).map (fun d => d.parameters.length) = some 1 := ⟨rfl, by decide +kernel, by decide +kernel, by decide +kernel⟩
set_option maxHeartbeats 4000000 in
theorem ts_births (l : Launch) (D : va_G) (dT : Nat → ClassId) (h : Nat) (ρ : Nat → Nat) (x1 : Int32) (μ : nwM) (res : Int32 × nwM) (hf : fs_births x1 μ = some res) : Met l yX1_births (ws_ yX1_births cX1_births 2 (some .int)) (rmd 2) (sPc D dT h μ ρ [.ref h, .int x1]) (va_Qi (fun r' (_ : Unit) => r' = res.1) (fun _ t => PS D dT h res.2 ρ t.heap) (sA h)) 0 0 (sA h) := by
  refine g_met (D := D) (dT := dT) (A := sA h) (own := RX1) (Pic := fun H => PS D dT h μ ρ H) (by decide) rfl (Nat.le_of_ble_eq_true rfl) ?_
  intro p e s m below meth c ls E hE hr hlk hl hP
  have hK := hE.1
  have hS : va_S (sA h) s.heap s.heap [] := va_S.rf
  obtain ⟨hx, hb, hml, hown, hts⟩ := id E
  have hl : lv_has ls 2 [(0, .ref h), (1, .int x1)] := hl
  unfold fs_births at hf
  refine lv_aload_n hx hb dX1_births_0 rfl (lv_at hl 0 rfl) ?_
  refine lv_aload_n hx hb dX1_births_1 rfl (lv_at hl 0 rfl) ?_
  refine lv_iload_n hx hb dX1_births_2 rfl (lv_at hl 1 rfl) ?_
  obtain ⟨v2, hc1, hf⟩ := ob hf
  refine g_calli E hE (Pic1 := fun H => PS D dT h μ _ H) hP hS (fun _ z => z.elim) (As := [.int x1]) (ts_mostOf l D dT h _ x1 μ _ hc1) (g_recv hK hP (shS_h h) rfl) (lw_V q1101 q1094 q1095 q162 q1096) ds_mostOf rfl (by decide) (by decide) hl rfl (Nat.le_of_ble_eq_true rfl) dX1_births_3 (fun H locs hP _ hS => ?_)
  refine lv_aload_n hx hb dX1_births_6 rfl (lv_at hl 0 rfl) ?_
  refine lv_iload_n hx hb dX1_births_7 rfl (lv_at hl 1 rfl) ?_
  obtain ⟨v4, hc3, hf⟩ := ob hf
  refine g_calli E hE (Pic1 := fun H => PS D dT h μ _ H) hP hS (fun _ z => z.elim) (As := [.int x1]) (ts_strengthOf l D dT h _ x1 μ _ hc3) (g_recv hK hP (shS_h h) rfl) (lw_V q1102 q1103 q1104 q162 q1105) ds_strengthOf rfl (by decide) (by decide) hl rfl (Nat.le_of_ble_eq_true rfl) dX1_births_8 (fun H locs hP _ hS => ?_)
  refine lv_iload_n hx hb dX1_births_11 rfl (lv_at hl 1 rfl) ?_
  obtain ⟨μ6, hc5, hf⟩ := ob hf
  refine g_callv E hE (Pic1 := fun H => PS D dT h μ6 _ H) hP hS (fun _ z => z) (As := [.int v2, .int v4, .int x1]) (ts_comes l D dT h _ v2 v4 x1 μ _ hc5) (g_recv hK hP (shS_h h) rfl) (lw_V q1106 q961 q962 q162 q963) ds_comes rfl (by decide) (by decide) hl rfl (Nat.le_of_ble_eq_true rfl) dX1_births_12 (fun H locs hP _ hS => ?_)
  refine lv_aload_n hx hb dX1_births_15 rfl (lv_at hl 0 rfl) ?_
  refine lv_iconst (v := nI 3) hx hb dX1_births_16 rfl ?_
  refine lv_aload_n hx hb dX1_births_17 rfl (lv_at hl 0 rfl) ?_
  refine gp_get (C := RX1) (T := TX1) E hK hP (shS_h h) rfl in_X1 13 (by decide) (hts _ q265) (fun _ z => z) (vS_i (by decide)) dX1_births_18 ?_
  refine lv_iconst (v := nI 1) hx hb dX1_births_21 rfl ?_
  refine lv_isub hx hb dX1_births_22 ?_
  refine lv_iload_n hx hb dX1_births_23 rfl (lv_at hl 1 rfl) ?_
  refine lv_iconst (v := nI 0) hx hb dX1_births_24 rfl ?_
  obtain ⟨μ8, hc7, hf⟩ := ob hf
  refine g_callv E hE (Pic1 := fun H => PS D dT h μ8 _ H) hP hS (fun _ z => z) (As := [.int (nI 3), .int ((μ6 13 0) - (nI 1)), .int x1, .int (nI 0)]) (ts_notes l D dT h _ (nI 3) ((μ6 13 0) - (nI 1)) x1 (nI 0) μ6 _ hc7) (g_recv hK hP (shS_h h) rfl) (lw_V q1060 q1062 qs37 q162 q1063) ds_notes rfl (by decide) (by decide) hl rfl (Nat.le_of_ble_eq_true rfl) dX1_births_25 (fun H locs hP _ hS => ?_)
  refine lv_aload_n hx hb dX1_births_28 rfl (lv_at hl 0 rfl) ?_
  refine gp_get (C := RX1) (T := TX1) E hK hP (shS_h h) rfl in_X1 13 (by decide) (hts _ q265) (fun _ z => z) (vS_i (by decide)) dX1_births_29 ?_
  refine lv_iconst (v := nI 1) hx hb dX1_births_32 rfl ?_
  refine lv_isub hx hb dX1_births_33 ?_
  cases hf
  exact g_iret (Pic := fun H => PS D dT h _ ρ H) E hr hlk hP hS rfl dX1_births_34
set_option maxHeartbeats 4000000 in
def fs_carries (x1 : Int32) (μ : nwM) : Option (Int32) := (rd_ μ 8 8 x1).bind fun v1 => (if v1 = (-1) then some (nI 0) else (rw_ 8 x1).bind fun r3 => (rr_ μ 0 r3 (nI 2)).bind fun v4 => (if v4 < (nI 10) then some (nI 0) else some (nI 1)))
set_option maxHeartbeats 4000000 in
theorem ds_carries : yX1_carries.cls = RX1 ∧ yX1_carries.cls ≠ "java/lang/invoke/MethodHandle" ∧ yX1_carries.cls ≠ "java/lang/invoke/VarHandle" ∧ (parseMethodDescriptor yX1_carries.desc).map (fun d => d.parameters.length) = some 1 := ⟨rfl, by decide +kernel, by decide +kernel, by decide +kernel⟩
set_option maxHeartbeats 4000000 in
theorem ts_carries (l : Launch) (D : va_G) (dT : Nat → ClassId) (h : Nat) (ρ : Nat → Nat) (x1 : Int32) (μ : nwM) (res : Int32) (hf : fs_carries x1 μ = some res) : Met l yX1_carries (ws_ yX1_carries cX1_carries 2 (some .boolean)) (rmd 0) (sPc D dT h μ ρ [.ref h, .int x1]) (va_Qi (fun r' (_ : Unit) => r' = res) (fun _ t => PS D dT h μ ρ t.heap) (fun _ => False)) 0 0 (fun _ => False) := by
  refine g_met (D := D) (dT := dT) (A := fun _ => False) (own := RX1) (Pic := fun H => PS D dT h μ ρ H) (by decide) rfl (Nat.le_of_ble_eq_true rfl) ?_
  intro p e s m below meth c ls E hE hr hlk hl hP
  have hK := hE.1
  have hS : va_S (fun _ => False) s.heap s.heap [] := va_S.rf
  obtain ⟨hx, hb, hml, hown, hts⟩ := id E
  have hl : lv_has ls 2 [(0, .ref h), (1, .int x1)] := hl
  unfold fs_carries at hf
  refine lv_aload_n hx hb dX1_carries_0 rfl (lv_at hl 0 rfl) ?_
  refine gp_get (C := RX1) (T := TX1) E hK hP (shS_h h) rfl in_X1 8 (by decide) (hts _ q255) (fun _ z => z) (vS_a (by decide) (by decide)) dX1_carries_1 ?_
  refine lv_iload_n hx hb dX1_carries_4 rfl (lv_at hl 1 rfl) ?_
  obtain ⟨v1, hv1, hf⟩ := ob hf
  refine gp_iald E hK hP (shS_a (by decide) (by decide)) (rd_in hv1).1 (by rw [vS_e (by decide) (by decide), ← (rd_in hv1).2]) dX1_carries_5 ?_
  refine lv_iconst (v := (-1)) hx hb dX1_carries_6 rfl ?_
  refine lv_icmp_eq (tgt := 27) hx hb dX1_carries_7 (by decide) (fun kc2 => ?_) (fun kc2 => ?_)
  · have hf := ite_t kc2 hf
    refine lv_iconst (v := nI 0) hx hb dX1_carries_27 rfl ?_
    cases hf
    exact g_zret (Pic := fun H => PS D dT h _ ρ H) E hr hlk hP hS rfl dX1_carries_28
  · have hf := ite_f kc2 hf
    refine lv_aload_n hx hb dX1_carries_10 rfl (lv_at hl 0 rfl) ?_
    refine gp_get (C := RX1) (T := TX1) E hK hP (shS_h h) rfl in_X1 0 (by decide) (hts _ q239) (fun _ z => z) (vS_2 (by decide)) dX1_carries_11 ?_
    refine lv_iload_n hx hb dX1_carries_14 rfl (lv_at hl 1 rfl) ?_
    obtain ⟨r3, hr3, hf⟩ := ob hf
    refine gp_aald (t := 2) (ty := .array .int) E hK hP rfl rfl (shS_2 (by decide)) (rw_in hr3).1 (by rw [vS_o (by decide), (rw_in hr3).2.1]) dX1_carries_15 ?_
    refine lv_iconst (v := nI 2) hx hb dX1_carries_16 rfl ?_
    obtain ⟨v4, hv4, hf⟩ := ob hf
    refine gp_iald E hK hP (shS_r (by decide) (rw_in hr3).2.2) (rr_in hv4).1 (by rw [vS_r (by decide) (rw_in hr3).2.2, ← (rr_in hv4).2]) dX1_carries_17 ?_
    refine lv_bipush (v := nI 10) hx hb dX1_carries_18 rfl ?_
    refine lv_icmp_lt (tgt := 27) hx hb dX1_carries_20 (by decide) (fun kc5 => ?_) (fun kc5 => ?_)
    · have hf := ite_t kc5 hf
      refine lv_iconst (v := nI 0) hx hb dX1_carries_27 rfl ?_
      cases hf
      exact g_zret (Pic := fun H => PS D dT h _ ρ H) E hr hlk hP hS rfl dX1_carries_28
    · have hf := ite_f kc5 hf
      refine lv_iconst (v := nI 1) hx hb dX1_carries_23 rfl ?_
      refine lv_goto (tgt := 28) hx hb dX1_carries_24 (by decide) ?_
      cases hf
      exact g_zret (Pic := fun H => PS D dT h _ ρ H) E hr hlk hP hS rfl dX1_carries_28
set_option maxHeartbeats 4000000 in
def fs_blows_L10 (x1 : Int32) : (Int32 × nwM) → Option ((Int32 × nwM) ⊕ (nwM)) := fun st => (if (nI 5) ≤ st.1 then some (.inr st.2) else (rw_ 8 x1).bind fun r3 => (fs_carries x1 st.2).bind fun v5 => (if v5 = 0 then (ww_ st.2 1 r3 st.1 (nI 0)).bind fun μ7 => some (.inl (st.1 + nI 1, μ7)) else (rw_ 8 x1).bind fun r8 => (rr_ st.2 0 r8 st.1).bind fun v9 => (ww_ st.2 1 r3 st.1 (v9 / (nI 2))).bind fun μ10 => some (.inl (st.1 + nI 1, μ10))))
set_option maxHeartbeats 4000000 in
noncomputable def fs_blows_L2 : (Int32 × nwM) → Option ((Int32 × nwM) ⊕ (nwM)) := fun st => (if (nI 8) ≤ st.1 then some (.inr st.2) else (wh_ (fs_blows_L10 st.1) (nI 0, st.2)).bind fun x11 => some (.inl (st.1 + nI 1, x11)))
set_option maxHeartbeats 4000000 in
def fs_blows_L67 (x1 : Int32) : (Int32 × nwM) → Option ((Int32 × nwM) ⊕ (nwM)) := fun st => (if (nI 5) ≤ st.1 then some (.inr st.2) else (rw_ 8 x1).bind fun r15 => (rr_ st.2 0 r15 st.1).bind fun v16 => (rw_ 8 x1).bind fun r17 => (rr_ st.2 1 r17 st.1).bind fun v18 => (ww_ st.2 0 r15 st.1 (v16 - v18)).bind fun μ19 => (rw_ 8 x1).bind fun r20 => (rr_ μ19 1 r20 st.1).bind fun v21 => (if v21 ≤ 0 then some (.inl (st.1 + nI 1, μ19)) else (rd_ μ19 8 8 x1).bind fun v23 => (rw_ 8 v23).bind fun r24 => (rr_ μ19 0 r24 st.1).bind fun v25 => (rw_ 8 x1).bind fun r26 => (rr_ μ19 1 r26 st.1).bind fun v27 => (ww_ μ19 0 r24 st.1 (v25 + v27)).bind fun μ28 => some (.inl (st.1 + nI 1, μ28))))
set_option maxHeartbeats 4000000 in
noncomputable def fs_blows_L59 : (Int32 × nwM) → Option ((Int32 × nwM) ⊕ (nwM)) := fun st => (if (nI 8) ≤ st.1 then some (.inr st.2) else (wh_ (fs_blows_L67 st.1) (nI 0, st.2)).bind fun x29 => some (.inl (st.1 + nI 1, x29)))
set_option maxHeartbeats 4000000 in
def fs_blows_L148 (x1 : Int32) : (Int32 × nwM) → Option ((Int32 × nwM) ⊕ (nwM)) := fun st => (if (nI 5) ≤ st.1 then some (.inr st.2) else (rw_ 8 x1).bind fun r33 => (rw_ 8 x1).bind fun r34 => (rr_ st.2 0 r34 st.1).bind fun v35 => (ww_ st.2 0 r33 st.1 (mn_ (nI 99) v35)).bind fun μ36 => some (.inl (st.1 + nI 1, μ36)))
set_option maxHeartbeats 4000000 in
noncomputable def fs_blows_L140 : (Int32 × nwM) → Option ((Int32 × nwM) ⊕ (nwM)) := fun st => (if (nI 8) ≤ st.1 then some (.inr st.2) else (wh_ (fs_blows_L148 st.1) (nI 0, st.2)).bind fun x37 => some (.inl (st.1 + nI 1, x37)))
set_option maxHeartbeats 4000000 in
noncomputable def fs_blows (μ : nwM) : Option (nwM) := (wh_ (fs_blows_L2) (nI 0, μ)).bind fun x12 => (wh_ (fs_blows_L59) (nI 0, x12)).bind fun x30 => (wh_ (fs_blows_L140) (nI 0, x30)).bind fun x38 => some x38
set_option maxHeartbeats 4000000 in
theorem fs_blows_L10_w {p : Program} {l : Launch} {e : Env} {s : State} {m : MethodId} {args : Array Value} {below : List Frame} {meth : Method} {c : Code} {D : va_G} {dT : Nat → ClassId} {Q : State → Prop} {h : Nat} {ρ : Nat → Nat} (E : CallFix p m c cX1_blows 3 s args lw_all RX1) (hK : va_K D nwCl (nwT dT) s) (hE : EV D dT s) (x1 : Int32) {st : Int32 × nwM} {x : nwM} (hw : wh_ (fs_blows_L10 x1) st = some x) (hk : (fun x : nwM => ∀ (ls : Array Slot) (H : Heap) (locs : List Loc), lv_has ls 3 [(0, .ref h), (1, .int x1)] → PS D dT h x ρ H → va_S (sA h) s.heap H locs → W p l e (rmd 1) s m args below meth c H locs 0 0 Q (F0 m 51 ls [])) x) : (fun st : Int32 × nwM => ∀ (ls : Array Slot) (H : Heap) (locs : List Loc), lv_has ls 3 [(0, .ref h), (1, .int x1), (2, .int st.1)] → PS D dT h st.2 ρ H → va_S (sA h) s.heap H locs → W p l e (rmd 1) s m args below meth c H locs 0 0 Q (F0 m 10 ls [])) st := by
  obtain ⟨hx, hb, hml, hown, hts⟩ := id E
  refine wh_run (P := (fun st : Int32 × nwM => ∀ (ls : Array Slot) (H : Heap) (locs : List Loc), lv_has ls 3 [(0, .ref h), (1, .int x1), (2, .int st.1)] → PS D dT h st.2 ρ H → va_S (sA h) s.heap H locs → W p l e (rmd 1) s m args below meth c H locs 0 0 Q (F0 m 10 ls []))) (PE := (fun x : nwM => ∀ (ls : Array Slot) (H : Heap) (locs : List Loc), lv_has ls 3 [(0, .ref h), (1, .int x1)] → PS D dT h x ρ H → va_S (sA h) s.heap H locs → W p l e (rmd 1) s m args below meth c H locs 0 0 Q (F0 m 51 ls []))) ?_ hw hk
  clear hw hk
  intro st x hf hk ls H locs hl hP hS
  refine lv_iload_n hx hb dX1_blows_10 rfl (lv_at hl 2 rfl) ?_
  refine lv_iconst (v := nI 5) hx hb dX1_blows_11 rfl ?_
  refine lv_icmp_ge (tgt := 51) hx hb dX1_blows_12 (by decide) (fun kc2 => ?_) (fun kc2 => ?_)
  · have hf := ite_t kc2 hf
    cases hf
    exact hk _ _ _ (lv_sub hl [0, 1] rfl) hP hS
  · have hf := ite_f kc2 hf
    refine lv_aload_n hx hb dX1_blows_15 rfl (lv_at hl 0 rfl) ?_
    refine gp_get (C := RX1) (T := TX1) E hK hP (shS_h h) rfl in_X1 1 (by decide) (hts _ q242) (fun _ z => z) (vS_2 (by decide)) dX1_blows_16 ?_
    refine lv_iload_n hx hb dX1_blows_19 rfl (lv_at hl 1 rfl) ?_
    obtain ⟨r3, hr3, hf⟩ := ob hf
    refine gp_aald (t := 2) (ty := .array .int) E hK hP rfl rfl (shS_2 (by decide)) (rw_in hr3).1 (by rw [vS_o (by decide), (rw_in hr3).2.1]) dX1_blows_20 ?_
    refine lv_iload_n hx hb dX1_blows_21 rfl (lv_at hl 2 rfl) ?_
    refine lv_aload_n hx hb dX1_blows_22 rfl (lv_at hl 0 rfl) ?_
    refine lv_iload_n hx hb dX1_blows_23 rfl (lv_at hl 1 rfl) ?_
    obtain ⟨v5, hc4, hf⟩ := ob hf
    refine g_calli E hE (Pic1 := fun H => PS D dT h st.2 _ H) hP hS (fun _ z => z.elim) (As := [.int x1]) (ts_carries l D dT h _ x1 st.2 _ hc4) (g_recv hK hP (shS_h h) rfl) (lw_V q1166 q1168 qs40 q162 q1169) ds_carries rfl (by decide) (by decide) hl rfl (Nat.le_of_ble_eq_true rfl) dX1_blows_24 (fun H locs hP _ hS => ?_)
    refine lv_if_eq (tgt := 43) hx hb dX1_blows_27 (by decide) (fun kc6 => ?_) (fun kc6 => ?_)
    · have hf := ite_t kc6 hf
      refine lv_iconst (v := nI 0) hx hb dX1_blows_43 rfl ?_
      obtain ⟨μ7, hμ7, hf⟩ := ob hf
      refine gp_iast E hK hP hS (sA_r (by decide) (rw_in hr3).2.2) (shS_r (by decide) (rw_in hr3).2.2) (ww_in hμ7).1 dX1_blows_44 (fun H locs hP _ hS => ?_)
      have hP := PS_rast (by decide) (rw_in hr3).2.2 hμ7 hP
      refine lv_iinc (v := st.1 + nI 1) (lv' := [(2, .int (st.1 + nI 1)), (0, .ref h), (1, .int x1)]) hx hb dX1_blows_45 hl (k := 2) rfl rfl (by decide) rfl (fun ls hl => ?_)
      refine lv_goto (tgt := 10) hx hb dX1_blows_48 (by decide) ?_
      cases hf
      exact hk _ _ _ (lv_sub hl [1, 2, 0] rfl) hP hS
    · have hf := ite_f kc6 hf
      refine lv_aload_n hx hb dX1_blows_30 rfl (lv_at hl 0 rfl) ?_
      refine gp_get (C := RX1) (T := TX1) E hK hP (shS_h h) rfl in_X1 0 (by decide) (hts _ q239) (fun _ z => z) (vS_2 (by decide)) dX1_blows_31 ?_
      refine lv_iload_n hx hb dX1_blows_34 rfl (lv_at hl 1 rfl) ?_
      obtain ⟨r8, hr8, hf⟩ := ob hf
      refine gp_aald (t := 2) (ty := .array .int) E hK hP rfl rfl (shS_2 (by decide)) (rw_in hr8).1 (by rw [vS_o (by decide), (rw_in hr8).2.1]) dX1_blows_35 ?_
      refine lv_iload_n hx hb dX1_blows_36 rfl (lv_at hl 2 rfl) ?_
      obtain ⟨v9, hv9, hf⟩ := ob hf
      refine gp_iald E hK hP (shS_r (by decide) (rw_in hr8).2.2) (rr_in hv9).1 (by rw [vS_r (by decide) (rw_in hr8).2.2, ← (rr_in hv9).2]) dX1_blows_37 ?_
      refine lv_iconst (v := nI 2) hx hb dX1_blows_38 rfl ?_
      refine lv_idiv hx hb dX1_blows_39 (by decide) ?_
      refine lv_goto (tgt := 44) hx hb dX1_blows_40 (by decide) ?_
      obtain ⟨μ10, hμ10, hf⟩ := ob hf
      refine gp_iast E hK hP hS (sA_r (by decide) (rw_in hr3).2.2) (shS_r (by decide) (rw_in hr3).2.2) (ww_in hμ10).1 dX1_blows_44 (fun H locs hP _ hS => ?_)
      have hP := PS_rast (by decide) (rw_in hr3).2.2 hμ10 hP
      refine lv_iinc (v := st.1 + nI 1) (lv' := [(2, .int (st.1 + nI 1)), (0, .ref h), (1, .int x1)]) hx hb dX1_blows_45 hl (k := 2) rfl rfl (by decide) rfl (fun ls hl => ?_)
      refine lv_goto (tgt := 10) hx hb dX1_blows_48 (by decide) ?_
      cases hf
      exact hk _ _ _ (lv_sub hl [1, 2, 0] rfl) hP hS
set_option maxHeartbeats 4000000 in
theorem fs_blows_L2_w {p : Program} {l : Launch} {e : Env} {s : State} {m : MethodId} {args : Array Value} {below : List Frame} {meth : Method} {c : Code} {D : va_G} {dT : Nat → ClassId} {Q : State → Prop} {h : Nat} {ρ : Nat → Nat} (E : CallFix p m c cX1_blows 3 s args lw_all RX1) (hK : va_K D nwCl (nwT dT) s) (hE : EV D dT s) {st : Int32 × nwM} {x : nwM} (hw : wh_ (fs_blows_L2) st = some x) (hk : (fun x : nwM => ∀ (ls : Array Slot) (H : Heap) (locs : List Loc), lv_has ls 3 [(0, .ref h)] → PS D dT h x ρ H → va_S (sA h) s.heap H locs → W p l e (rmd 1) s m args below meth c H locs 0 0 Q (F0 m 57 ls [])) x) : (fun st : Int32 × nwM => ∀ (ls : Array Slot) (H : Heap) (locs : List Loc), lv_has ls 3 [(0, .ref h), (1, .int st.1)] → PS D dT h st.2 ρ H → va_S (sA h) s.heap H locs → W p l e (rmd 1) s m args below meth c H locs 0 0 Q (F0 m 2 ls [])) st := by
  obtain ⟨hx, hb, hml, hown, hts⟩ := id E
  refine wh_run (P := (fun st : Int32 × nwM => ∀ (ls : Array Slot) (H : Heap) (locs : List Loc), lv_has ls 3 [(0, .ref h), (1, .int st.1)] → PS D dT h st.2 ρ H → va_S (sA h) s.heap H locs → W p l e (rmd 1) s m args below meth c H locs 0 0 Q (F0 m 2 ls []))) (PE := (fun x : nwM => ∀ (ls : Array Slot) (H : Heap) (locs : List Loc), lv_has ls 3 [(0, .ref h)] → PS D dT h x ρ H → va_S (sA h) s.heap H locs → W p l e (rmd 1) s m args below meth c H locs 0 0 Q (F0 m 57 ls []))) ?_ hw hk
  clear hw hk
  intro st x hf hk ls H locs hl hP hS
  refine lv_iload_n hx hb dX1_blows_2 rfl (lv_at hl 1 rfl) ?_
  refine lv_bipush (v := nI 8) hx hb dX1_blows_3 rfl ?_
  refine lv_icmp_ge (tgt := 57) hx hb dX1_blows_5 (by decide) (fun kc1 => ?_) (fun kc1 => ?_)
  · have hf := ite_t kc1 hf
    cases hf
    exact hk _ _ _ (lv_sub hl [0] rfl) hP hS
  · have hf := ite_f kc1 hf
    refine lv_iconst (v := nI 0) hx hb dX1_blows_8 rfl ?_
    refine lv_istore_n (lv' := [(2, .int (nI 0)), (0, .ref h), (1, .int st.1)]) hx hb dX1_blows_9 rfl hl (by decide) rfl (fun ls hl => ?_)
    obtain ⟨x11, hx11, hf⟩ := ob hf
    refine fs_blows_L10_w E hK hE st.1 hx11 (fun ls H locs hl hP hS => ?_) _ _ _ (lv_sub hl [1, 2, 0] rfl) hP hS
    refine lv_iinc (v := st.1 + nI 1) (lv' := [(1, .int (st.1 + nI 1)), (0, .ref h)]) hx hb dX1_blows_51 hl (k := 1) rfl rfl (by decide) rfl (fun ls hl => ?_)
    refine lv_goto (tgt := 2) hx hb dX1_blows_54 (by decide) ?_
    cases hf
    exact hk _ _ _ (lv_sub hl [1, 0] rfl) hP hS
set_option maxHeartbeats 4000000 in
theorem fs_blows_L67_w {p : Program} {l : Launch} {e : Env} {s : State} {m : MethodId} {args : Array Value} {below : List Frame} {meth : Method} {c : Code} {D : va_G} {dT : Nat → ClassId} {Q : State → Prop} {h : Nat} {ρ : Nat → Nat} (E : CallFix p m c cX1_blows 3 s args lw_all RX1) (hK : va_K D nwCl (nwT dT) s) (hE : EV D dT s) (x1 : Int32) {st : Int32 × nwM} {x : nwM} (hw : wh_ (fs_blows_L67 x1) st = some x) (hk : (fun x : nwM => ∀ (ls : Array Slot) (H : Heap) (locs : List Loc), lv_has ls 3 [(0, .ref h), (1, .int x1)] → PS D dT h x ρ H → va_S (sA h) s.heap H locs → W p l e (rmd 1) s m args below meth c H locs 0 0 Q (F0 m 132 ls [])) x) : (fun st : Int32 × nwM => ∀ (ls : Array Slot) (H : Heap) (locs : List Loc), lv_has ls 3 [(0, .ref h), (1, .int x1), (2, .int st.1)] → PS D dT h st.2 ρ H → va_S (sA h) s.heap H locs → W p l e (rmd 1) s m args below meth c H locs 0 0 Q (F0 m 67 ls [])) st := by
  obtain ⟨hx, hb, hml, hown, hts⟩ := id E
  refine wh_run (P := (fun st : Int32 × nwM => ∀ (ls : Array Slot) (H : Heap) (locs : List Loc), lv_has ls 3 [(0, .ref h), (1, .int x1), (2, .int st.1)] → PS D dT h st.2 ρ H → va_S (sA h) s.heap H locs → W p l e (rmd 1) s m args below meth c H locs 0 0 Q (F0 m 67 ls []))) (PE := (fun x : nwM => ∀ (ls : Array Slot) (H : Heap) (locs : List Loc), lv_has ls 3 [(0, .ref h), (1, .int x1)] → PS D dT h x ρ H → va_S (sA h) s.heap H locs → W p l e (rmd 1) s m args below meth c H locs 0 0 Q (F0 m 132 ls []))) ?_ hw hk
  clear hw hk
  intro st x hf hk ls H locs hl hP hS
  refine lv_iload_n hx hb dX1_blows_67 rfl (lv_at hl 2 rfl) ?_
  refine lv_iconst (v := nI 5) hx hb dX1_blows_68 rfl ?_
  refine lv_icmp_ge (tgt := 132) hx hb dX1_blows_69 (by decide) (fun kc14 => ?_) (fun kc14 => ?_)
  · have hf := ite_t kc14 hf
    cases hf
    exact hk _ _ _ (lv_sub hl [0, 1] rfl) hP hS
  · have hf := ite_f kc14 hf
    refine lv_aload_n hx hb dX1_blows_72 rfl (lv_at hl 0 rfl) ?_
    refine gp_get (C := RX1) (T := TX1) E hK hP (shS_h h) rfl in_X1 0 (by decide) (hts _ q239) (fun _ z => z) (vS_2 (by decide)) dX1_blows_73 ?_
    refine lv_iload_n hx hb dX1_blows_76 rfl (lv_at hl 1 rfl) ?_
    obtain ⟨r15, hr15, hf⟩ := ob hf
    refine gp_aald (t := 2) (ty := .array .int) E hK hP rfl rfl (shS_2 (by decide)) (rw_in hr15).1 (by rw [vS_o (by decide), (rw_in hr15).2.1]) dX1_blows_77 ?_
    refine lv_iload_n hx hb dX1_blows_78 rfl (lv_at hl 2 rfl) ?_
    refine lv_dup2_11 hx hb dX1_blows_79 rfl rfl ?_
    obtain ⟨v16, hv16, hf⟩ := ob hf
    refine gp_iald E hK hP (shS_r (by decide) (rw_in hr15).2.2) (rr_in hv16).1 (by rw [vS_r (by decide) (rw_in hr15).2.2, ← (rr_in hv16).2]) dX1_blows_80 ?_
    refine lv_aload_n hx hb dX1_blows_81 rfl (lv_at hl 0 rfl) ?_
    refine gp_get (C := RX1) (T := TX1) E hK hP (shS_h h) rfl in_X1 1 (by decide) (hts _ q242) (fun _ z => z) (vS_2 (by decide)) dX1_blows_82 ?_
    refine lv_iload_n hx hb dX1_blows_85 rfl (lv_at hl 1 rfl) ?_
    obtain ⟨r17, hr17, hf⟩ := ob hf
    refine gp_aald (t := 2) (ty := .array .int) E hK hP rfl rfl (shS_2 (by decide)) (rw_in hr17).1 (by rw [vS_o (by decide), (rw_in hr17).2.1]) dX1_blows_86 ?_
    refine lv_iload_n hx hb dX1_blows_87 rfl (lv_at hl 2 rfl) ?_
    obtain ⟨v18, hv18, hf⟩ := ob hf
    refine gp_iald E hK hP (shS_r (by decide) (rw_in hr17).2.2) (rr_in hv18).1 (by rw [vS_r (by decide) (rw_in hr17).2.2, ← (rr_in hv18).2]) dX1_blows_88 ?_
    refine lv_isub hx hb dX1_blows_89 ?_
    obtain ⟨μ19, hμ19, hf⟩ := ob hf
    refine gp_iast E hK hP hS (sA_r (by decide) (rw_in hr15).2.2) (shS_r (by decide) (rw_in hr15).2.2) (ww_in hμ19).1 dX1_blows_90 (fun H locs hP _ hS => ?_)
    have hP := PS_rast (by decide) (rw_in hr15).2.2 hμ19 hP
    refine lv_aload_n hx hb dX1_blows_91 rfl (lv_at hl 0 rfl) ?_
    refine gp_get (C := RX1) (T := TX1) E hK hP (shS_h h) rfl in_X1 1 (by decide) (hts _ q242) (fun _ z => z) (vS_2 (by decide)) dX1_blows_92 ?_
    refine lv_iload_n hx hb dX1_blows_95 rfl (lv_at hl 1 rfl) ?_
    obtain ⟨r20, hr20, hf⟩ := ob hf
    refine gp_aald (t := 2) (ty := .array .int) E hK hP rfl rfl (shS_2 (by decide)) (rw_in hr20).1 (by rw [vS_o (by decide), (rw_in hr20).2.1]) dX1_blows_96 ?_
    refine lv_iload_n hx hb dX1_blows_97 rfl (lv_at hl 2 rfl) ?_
    obtain ⟨v21, hv21, hf⟩ := ob hf
    refine gp_iald E hK hP (shS_r (by decide) (rw_in hr20).2.2) (rr_in hv21).1 (by rw [vS_r (by decide) (rw_in hr20).2.2, ← (rr_in hv21).2]) dX1_blows_98 ?_
    refine lv_if_le (tgt := 126) hx hb dX1_blows_99 (by decide) (fun kc22 => ?_) (fun kc22 => ?_)
    · have hf := ite_t kc22 hf
      refine lv_iinc (v := st.1 + nI 1) (lv' := [(2, .int (st.1 + nI 1)), (0, .ref h), (1, .int x1)]) hx hb dX1_blows_126 hl (k := 2) rfl rfl (by decide) rfl (fun ls hl => ?_)
      refine lv_goto (tgt := 67) hx hb dX1_blows_129 (by decide) ?_
      cases hf
      exact hk _ _ _ (lv_sub hl [1, 2, 0] rfl) hP hS
    · have hf := ite_f kc22 hf
      refine lv_aload_n hx hb dX1_blows_102 rfl (lv_at hl 0 rfl) ?_
      refine gp_get (C := RX1) (T := TX1) E hK hP (shS_h h) rfl in_X1 0 (by decide) (hts _ q239) (fun _ z => z) (vS_2 (by decide)) dX1_blows_103 ?_
      refine lv_aload_n hx hb dX1_blows_106 rfl (lv_at hl 0 rfl) ?_
      refine gp_get (C := RX1) (T := TX1) E hK hP (shS_h h) rfl in_X1 8 (by decide) (hts _ q255) (fun _ z => z) (vS_a (by decide) (by decide)) dX1_blows_107 ?_
      refine lv_iload_n hx hb dX1_blows_110 rfl (lv_at hl 1 rfl) ?_
      obtain ⟨v23, hv23, hf⟩ := ob hf
      refine gp_iald E hK hP (shS_a (by decide) (by decide)) (rd_in hv23).1 (by rw [vS_e (by decide) (by decide), ← (rd_in hv23).2]) dX1_blows_111 ?_
      obtain ⟨r24, hr24, hf⟩ := ob hf
      refine gp_aald (t := 2) (ty := .array .int) E hK hP rfl rfl (shS_2 (by decide)) (rw_in hr24).1 (by rw [vS_o (by decide), (rw_in hr24).2.1]) dX1_blows_112 ?_
      refine lv_iload_n hx hb dX1_blows_113 rfl (lv_at hl 2 rfl) ?_
      refine lv_dup2_11 hx hb dX1_blows_114 rfl rfl ?_
      obtain ⟨v25, hv25, hf⟩ := ob hf
      refine gp_iald E hK hP (shS_r (by decide) (rw_in hr24).2.2) (rr_in hv25).1 (by rw [vS_r (by decide) (rw_in hr24).2.2, ← (rr_in hv25).2]) dX1_blows_115 ?_
      refine lv_aload_n hx hb dX1_blows_116 rfl (lv_at hl 0 rfl) ?_
      refine gp_get (C := RX1) (T := TX1) E hK hP (shS_h h) rfl in_X1 1 (by decide) (hts _ q242) (fun _ z => z) (vS_2 (by decide)) dX1_blows_117 ?_
      refine lv_iload_n hx hb dX1_blows_120 rfl (lv_at hl 1 rfl) ?_
      obtain ⟨r26, hr26, hf⟩ := ob hf
      refine gp_aald (t := 2) (ty := .array .int) E hK hP rfl rfl (shS_2 (by decide)) (rw_in hr26).1 (by rw [vS_o (by decide), (rw_in hr26).2.1]) dX1_blows_121 ?_
      refine lv_iload_n hx hb dX1_blows_122 rfl (lv_at hl 2 rfl) ?_
      obtain ⟨v27, hv27, hf⟩ := ob hf
      refine gp_iald E hK hP (shS_r (by decide) (rw_in hr26).2.2) (rr_in hv27).1 (by rw [vS_r (by decide) (rw_in hr26).2.2, ← (rr_in hv27).2]) dX1_blows_123 ?_
      refine lv_iadd hx hb dX1_blows_124 ?_
      obtain ⟨μ28, hμ28, hf⟩ := ob hf
      refine gp_iast E hK hP hS (sA_r (by decide) (rw_in hr24).2.2) (shS_r (by decide) (rw_in hr24).2.2) (ww_in hμ28).1 dX1_blows_125 (fun H locs hP _ hS => ?_)
      have hP := PS_rast (by decide) (rw_in hr24).2.2 hμ28 hP
      refine lv_iinc (v := st.1 + nI 1) (lv' := [(2, .int (st.1 + nI 1)), (0, .ref h), (1, .int x1)]) hx hb dX1_blows_126 hl (k := 2) rfl rfl (by decide) rfl (fun ls hl => ?_)
      refine lv_goto (tgt := 67) hx hb dX1_blows_129 (by decide) ?_
      cases hf
      exact hk _ _ _ (lv_sub hl [1, 2, 0] rfl) hP hS
set_option maxHeartbeats 4000000 in
theorem fs_blows_L59_w {p : Program} {l : Launch} {e : Env} {s : State} {m : MethodId} {args : Array Value} {below : List Frame} {meth : Method} {c : Code} {D : va_G} {dT : Nat → ClassId} {Q : State → Prop} {h : Nat} {ρ : Nat → Nat} (E : CallFix p m c cX1_blows 3 s args lw_all RX1) (hK : va_K D nwCl (nwT dT) s) (hE : EV D dT s) {st : Int32 × nwM} {x : nwM} (hw : wh_ (fs_blows_L59) st = some x) (hk : (fun x : nwM => ∀ (ls : Array Slot) (H : Heap) (locs : List Loc), lv_has ls 3 [(0, .ref h)] → PS D dT h x ρ H → va_S (sA h) s.heap H locs → W p l e (rmd 1) s m args below meth c H locs 0 0 Q (F0 m 138 ls [])) x) : (fun st : Int32 × nwM => ∀ (ls : Array Slot) (H : Heap) (locs : List Loc), lv_has ls 3 [(0, .ref h), (1, .int st.1)] → PS D dT h st.2 ρ H → va_S (sA h) s.heap H locs → W p l e (rmd 1) s m args below meth c H locs 0 0 Q (F0 m 59 ls [])) st := by
  obtain ⟨hx, hb, hml, hown, hts⟩ := id E
  refine wh_run (P := (fun st : Int32 × nwM => ∀ (ls : Array Slot) (H : Heap) (locs : List Loc), lv_has ls 3 [(0, .ref h), (1, .int st.1)] → PS D dT h st.2 ρ H → va_S (sA h) s.heap H locs → W p l e (rmd 1) s m args below meth c H locs 0 0 Q (F0 m 59 ls []))) (PE := (fun x : nwM => ∀ (ls : Array Slot) (H : Heap) (locs : List Loc), lv_has ls 3 [(0, .ref h)] → PS D dT h x ρ H → va_S (sA h) s.heap H locs → W p l e (rmd 1) s m args below meth c H locs 0 0 Q (F0 m 138 ls []))) ?_ hw hk
  clear hw hk
  intro st x hf hk ls H locs hl hP hS
  refine lv_iload_n hx hb dX1_blows_59 rfl (lv_at hl 1 rfl) ?_
  refine lv_bipush (v := nI 8) hx hb dX1_blows_60 rfl ?_
  refine lv_icmp_ge (tgt := 138) hx hb dX1_blows_62 (by decide) (fun kc13 => ?_) (fun kc13 => ?_)
  · have hf := ite_t kc13 hf
    cases hf
    exact hk _ _ _ (lv_sub hl [0] rfl) hP hS
  · have hf := ite_f kc13 hf
    refine lv_iconst (v := nI 0) hx hb dX1_blows_65 rfl ?_
    refine lv_istore_n (lv' := [(2, .int (nI 0)), (0, .ref h), (1, .int st.1)]) hx hb dX1_blows_66 rfl hl (by decide) rfl (fun ls hl => ?_)
    obtain ⟨x29, hx29, hf⟩ := ob hf
    refine fs_blows_L67_w E hK hE st.1 hx29 (fun ls H locs hl hP hS => ?_) _ _ _ (lv_sub hl [1, 2, 0] rfl) hP hS
    refine lv_iinc (v := st.1 + nI 1) (lv' := [(1, .int (st.1 + nI 1)), (0, .ref h)]) hx hb dX1_blows_132 hl (k := 1) rfl rfl (by decide) rfl (fun ls hl => ?_)
    refine lv_goto (tgt := 59) hx hb dX1_blows_135 (by decide) ?_
    cases hf
    exact hk _ _ _ (lv_sub hl [1, 0] rfl) hP hS
set_option maxHeartbeats 4000000 in
theorem fs_blows_L148_w {p : Program} {l : Launch} {e : Env} {s : State} {m : MethodId} {args : Array Value} {below : List Frame} {meth : Method} {c : Code} {D : va_G} {dT : Nat → ClassId} {Q : State → Prop} {h : Nat} {ρ : Nat → Nat} (E : CallFix p m c cX1_blows 3 s args lw_all RX1) (hK : va_K D nwCl (nwT dT) s) (hE : EV D dT s) (x1 : Int32) {st : Int32 × nwM} {x : nwM} (hw : wh_ (fs_blows_L148 x1) st = some x) (hk : (fun x : nwM => ∀ (ls : Array Slot) (H : Heap) (locs : List Loc), lv_has ls 3 [(0, .ref h), (1, .int x1)] → PS D dT h x ρ H → va_S (sA h) s.heap H locs → W p l e (rmd 1) s m args below meth c H locs 0 0 Q (F0 m 180 ls [])) x) : (fun st : Int32 × nwM => ∀ (ls : Array Slot) (H : Heap) (locs : List Loc), lv_has ls 3 [(0, .ref h), (1, .int x1), (2, .int st.1)] → PS D dT h st.2 ρ H → va_S (sA h) s.heap H locs → W p l e (rmd 1) s m args below meth c H locs 0 0 Q (F0 m 148 ls [])) st := by
  obtain ⟨hx, hb, hml, hown, hts⟩ := id E
  refine wh_run (P := (fun st : Int32 × nwM => ∀ (ls : Array Slot) (H : Heap) (locs : List Loc), lv_has ls 3 [(0, .ref h), (1, .int x1), (2, .int st.1)] → PS D dT h st.2 ρ H → va_S (sA h) s.heap H locs → W p l e (rmd 1) s m args below meth c H locs 0 0 Q (F0 m 148 ls []))) (PE := (fun x : nwM => ∀ (ls : Array Slot) (H : Heap) (locs : List Loc), lv_has ls 3 [(0, .ref h), (1, .int x1)] → PS D dT h x ρ H → va_S (sA h) s.heap H locs → W p l e (rmd 1) s m args below meth c H locs 0 0 Q (F0 m 180 ls []))) ?_ hw hk
  clear hw hk
  intro st x hf hk ls H locs hl hP hS
  refine lv_iload_n hx hb dX1_blows_148 rfl (lv_at hl 2 rfl) ?_
  refine lv_iconst (v := nI 5) hx hb dX1_blows_149 rfl ?_
  refine lv_icmp_ge (tgt := 180) hx hb dX1_blows_150 (by decide) (fun kc32 => ?_) (fun kc32 => ?_)
  · have hf := ite_t kc32 hf
    cases hf
    exact hk _ _ _ (lv_sub hl [0, 1] rfl) hP hS
  · have hf := ite_f kc32 hf
    refine lv_aload_n hx hb dX1_blows_153 rfl (lv_at hl 0 rfl) ?_
    refine gp_get (C := RX1) (T := TX1) E hK hP (shS_h h) rfl in_X1 0 (by decide) (hts _ q239) (fun _ z => z) (vS_2 (by decide)) dX1_blows_154 ?_
    refine lv_iload_n hx hb dX1_blows_157 rfl (lv_at hl 1 rfl) ?_
    obtain ⟨r33, hr33, hf⟩ := ob hf
    refine gp_aald (t := 2) (ty := .array .int) E hK hP rfl rfl (shS_2 (by decide)) (rw_in hr33).1 (by rw [vS_o (by decide), (rw_in hr33).2.1]) dX1_blows_158 ?_
    refine lv_iload_n hx hb dX1_blows_159 rfl (lv_at hl 2 rfl) ?_
    refine lv_bipush (v := nI 99) hx hb dX1_blows_160 rfl ?_
    refine lv_aload_n hx hb dX1_blows_162 rfl (lv_at hl 0 rfl) ?_
    refine gp_get (C := RX1) (T := TX1) E hK hP (shS_h h) rfl in_X1 0 (by decide) (hts _ q239) (fun _ z => z) (vS_2 (by decide)) dX1_blows_163 ?_
    refine lv_iload_n hx hb dX1_blows_166 rfl (lv_at hl 1 rfl) ?_
    obtain ⟨r34, hr34, hf⟩ := ob hf
    refine gp_aald (t := 2) (ty := .array .int) E hK hP rfl rfl (shS_2 (by decide)) (rw_in hr34).1 (by rw [vS_o (by decide), (rw_in hr34).2.1]) dX1_blows_167 ?_
    refine lv_iload_n hx hb dX1_blows_168 rfl (lv_at hl 2 rfl) ?_
    obtain ⟨v35, hv35, hf⟩ := ob hf
    refine gp_iald E hK hP (shS_r (by decide) (rw_in hr34).2.2) (rr_in hv35).1 (by rw [vS_r (by decide) (rw_in hr34).2.2, ← (rr_in hv35).2]) dX1_blows_169 ?_
    refine mn_calli E (by decide) hl q1058 q794 q182 q795 (Nat.le_of_ble_eq_true rfl) dX1_blows_170 ?_
    refine lv_nm (y := mn_ (nI 99) v35) rfl ?_
    obtain ⟨μ36, hμ36, hf⟩ := ob hf
    refine gp_iast E hK hP hS (sA_r (by decide) (rw_in hr33).2.2) (shS_r (by decide) (rw_in hr33).2.2) (ww_in hμ36).1 dX1_blows_173 (fun H locs hP _ hS => ?_)
    have hP := PS_rast (by decide) (rw_in hr33).2.2 hμ36 hP
    refine lv_iinc (v := st.1 + nI 1) (lv' := [(2, .int (st.1 + nI 1)), (0, .ref h), (1, .int x1)]) hx hb dX1_blows_174 hl (k := 2) rfl rfl (by decide) rfl (fun ls hl => ?_)
    refine lv_goto (tgt := 148) hx hb dX1_blows_177 (by decide) ?_
    cases hf
    exact hk _ _ _ (lv_sub hl [1, 2, 0] rfl) hP hS
set_option maxHeartbeats 4000000 in
theorem fs_blows_L140_w {p : Program} {l : Launch} {e : Env} {s : State} {m : MethodId} {args : Array Value} {below : List Frame} {meth : Method} {c : Code} {D : va_G} {dT : Nat → ClassId} {Q : State → Prop} {h : Nat} {ρ : Nat → Nat} (E : CallFix p m c cX1_blows 3 s args lw_all RX1) (hK : va_K D nwCl (nwT dT) s) (hE : EV D dT s) {st : Int32 × nwM} {x : nwM} (hw : wh_ (fs_blows_L140) st = some x) (hk : (fun x : nwM => ∀ (ls : Array Slot) (H : Heap) (locs : List Loc), lv_has ls 3 [] → PS D dT h x ρ H → va_S (sA h) s.heap H locs → W p l e (rmd 1) s m args below meth c H locs 0 0 Q (F0 m 186 ls [])) x) : (fun st : Int32 × nwM => ∀ (ls : Array Slot) (H : Heap) (locs : List Loc), lv_has ls 3 [(0, .ref h), (1, .int st.1)] → PS D dT h st.2 ρ H → va_S (sA h) s.heap H locs → W p l e (rmd 1) s m args below meth c H locs 0 0 Q (F0 m 140 ls [])) st := by
  obtain ⟨hx, hb, hml, hown, hts⟩ := id E
  refine wh_run (P := (fun st : Int32 × nwM => ∀ (ls : Array Slot) (H : Heap) (locs : List Loc), lv_has ls 3 [(0, .ref h), (1, .int st.1)] → PS D dT h st.2 ρ H → va_S (sA h) s.heap H locs → W p l e (rmd 1) s m args below meth c H locs 0 0 Q (F0 m 140 ls []))) (PE := (fun x : nwM => ∀ (ls : Array Slot) (H : Heap) (locs : List Loc), lv_has ls 3 [] → PS D dT h x ρ H → va_S (sA h) s.heap H locs → W p l e (rmd 1) s m args below meth c H locs 0 0 Q (F0 m 186 ls []))) ?_ hw hk
  clear hw hk
  intro st x hf hk ls H locs hl hP hS
  refine lv_iload_n hx hb dX1_blows_140 rfl (lv_at hl 1 rfl) ?_
  refine lv_bipush (v := nI 8) hx hb dX1_blows_141 rfl ?_
  refine lv_icmp_ge (tgt := 186) hx hb dX1_blows_143 (by decide) (fun kc31 => ?_) (fun kc31 => ?_)
  · have hf := ite_t kc31 hf
    cases hf
    exact hk _ _ _ (lv_sub hl [] rfl) hP hS
  · have hf := ite_f kc31 hf
    refine lv_iconst (v := nI 0) hx hb dX1_blows_146 rfl ?_
    refine lv_istore_n (lv' := [(2, .int (nI 0)), (0, .ref h), (1, .int st.1)]) hx hb dX1_blows_147 rfl hl (by decide) rfl (fun ls hl => ?_)
    obtain ⟨x37, hx37, hf⟩ := ob hf
    refine fs_blows_L148_w E hK hE st.1 hx37 (fun ls H locs hl hP hS => ?_) _ _ _ (lv_sub hl [1, 2, 0] rfl) hP hS
    refine lv_iinc (v := st.1 + nI 1) (lv' := [(1, .int (st.1 + nI 1)), (0, .ref h)]) hx hb dX1_blows_180 hl (k := 1) rfl rfl (by decide) rfl (fun ls hl => ?_)
    refine lv_goto (tgt := 140) hx hb dX1_blows_183 (by decide) ?_
    cases hf
    exact hk _ _ _ (lv_sub hl [1, 0] rfl) hP hS
set_option maxHeartbeats 4000000 in
theorem ds_blows : yX1_blows.cls = RX1 ∧ yX1_blows.cls ≠ "java/lang/invoke/MethodHandle" ∧ yX1_blows.cls ≠ "java/lang/invoke/VarHandle" ∧ (parseMethodDescriptor yX1_blows.desc).map (fun d => d.parameters.length) = some 0 := ⟨rfl, by decide +kernel, by decide +kernel, by decide +kernel⟩
set_option maxHeartbeats 4000000 in
theorem ts_blows (l : Launch) (D : va_G) (dT : Nat → ClassId) (h : Nat) (ρ : Nat → Nat) (μ : nwM) (res : nwM) (hf : fs_blows μ = some res) : Met l yX1_blows (ws_ yX1_blows cX1_blows 3 none) (rmd 1) (sPc D dT h μ ρ [.ref h]) (va_Qv (fun (_ : Unit) => True) (fun _ t => PS D dT h res ρ t.heap) (sA h)) 0 0 (sA h) := by
  refine g_met (D := D) (dT := dT) (A := sA h) (own := RX1) (Pic := fun H => PS D dT h μ ρ H) (by decide) rfl (Nat.le_of_ble_eq_true rfl) ?_
  intro p e s m below meth c ls E hE hr hlk hl hP
  have hK := hE.1
  have hS : va_S (sA h) s.heap s.heap [] := va_S.rf
  obtain ⟨hx, hb, hml, hown, hts⟩ := id E
  have hl : lv_has ls 3 [(0, .ref h)] := hl
  unfold fs_blows at hf
  refine lv_iconst (v := nI 0) hx hb dX1_blows_0 rfl ?_
  refine lv_istore_n (lv' := [(1, .int (nI 0)), (0, .ref h)]) hx hb dX1_blows_1 rfl hl (by decide) rfl (fun ls hl => ?_)
  obtain ⟨x12, hx12, hf⟩ := ob hf
  refine fs_blows_L2_w E hK hE hx12 (fun ls H locs hl hP hS => ?_) _ _ _ (lv_sub hl [1, 0] rfl) hP hS
  refine lv_iconst (v := nI 0) hx hb dX1_blows_57 rfl ?_
  refine lv_istore_n (lv' := [(1, .int (nI 0)), (0, .ref h)]) hx hb dX1_blows_58 rfl hl (by decide) rfl (fun ls hl => ?_)
  obtain ⟨x30, hx30, hf⟩ := ob hf
  refine fs_blows_L59_w E hK hE hx30 (fun ls H locs hl hP hS => ?_) _ _ _ (lv_sub hl [1, 0] rfl) hP hS
  refine lv_iconst (v := nI 0) hx hb dX1_blows_138 rfl ?_
  refine lv_istore_n (lv' := [(1, .int (nI 0)), (0, .ref h)]) hx hb dX1_blows_139 rfl hl (by decide) rfl (fun ls hl => ?_)
  obtain ⟨x38, hx38, hf⟩ := ob hf
  refine fs_blows_L140_w E hK hE hx38 (fun ls H locs hl hP hS => ?_) _ _ _ (lv_sub hl [1, 0] rfl) hP hS
  cases hf
  exact g_vret (Pic := fun H => PS D dT h _ ρ H) E hr hlk hP hS dX1_blows_186
