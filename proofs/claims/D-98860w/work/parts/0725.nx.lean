/-! walks, written by my programs -/
set_option maxRecDepth 100000
set_option maxHeartbeats 4000000 in
def fx_graves_L4 (μ : nwX) : (Int32 × Int32) → Option ((Int32 × Int32) ⊕ (Int32)) := fun st => (if ((μ.2.1 0) 13 0) ≤ st.2 then some (.inr st.1) else (rd_ (μ.2.1 0) 6 12 st.2).bind fun v2 => some (.inl (st.1 ||| (v2 <<< (st.2 &&& 31)), st.2 + nI 1)))
set_option maxHeartbeats 4000000 in
noncomputable def fx_graves (μ : nwX) : Option (Int32) := (wh_ (fx_graves_L4 μ) (nI 0, nI 0)).bind fun x3 => some x3
set_option maxHeartbeats 4000000 in
theorem fx_graves_L4_w {p : Program} {l : Launch} {e : Env} {s : State} {m : MethodId} {args : Array Value} {below : List Frame} {meth : Method} {c : Code} {D : va_G} {dT : Nat → ClassId} {Q : State → Prop} {g : Nat} (E : CallFix p m c cX0_graves 3 s args lw_all RX0) (hK : va_K D nwCl (nwT dT) s) (hE : EV D dT s) (μ : nwX) {st : Int32 × Int32} {x : Int32} (hw : wh_ (fx_graves_L4 μ) st = some x) (hk : (fun x : Int32 => ∀ (ls : Array Slot) (H : Heap) (locs : List Loc), lv_has ls 3 [(1, .int x)] → PX D dT g μ H → va_S (fun _ => False) s.heap H locs → W p l e (rmd 0) s m args below meth c H locs 0 0 Q (F0 m 35 ls [])) x) : (fun st : Int32 × Int32 => ∀ (ls : Array Slot) (H : Heap) (locs : List Loc), lv_has ls 3 [(0, .ref g), (1, .int st.1), (2, .int st.2)] → PX D dT g μ H → va_S (fun _ => False) s.heap H locs → W p l e (rmd 0) s m args below meth c H locs 0 0 Q (F0 m 4 ls [])) st := by
  obtain ⟨hx, hb, hml, hown, hts⟩ := id E
  refine wh_run (P := (fun st : Int32 × Int32 => ∀ (ls : Array Slot) (H : Heap) (locs : List Loc), lv_has ls 3 [(0, .ref g), (1, .int st.1), (2, .int st.2)] → PX D dT g μ H → va_S (fun _ => False) s.heap H locs → W p l e (rmd 0) s m args below meth c H locs 0 0 Q (F0 m 4 ls []))) (PE := (fun x : Int32 => ∀ (ls : Array Slot) (H : Heap) (locs : List Loc), lv_has ls 3 [(1, .int x)] → PX D dT g μ H → va_S (fun _ => False) s.heap H locs → W p l e (rmd 0) s m args below meth c H locs 0 0 Q (F0 m 35 ls []))) ?_ hw hk
  clear hw hk
  intro st x hf hk ls H locs hl hP hS
  refine lv_iload_n hx hb dX0_graves_4 rfl (lv_at hl 2 rfl) ?_
  refine lv_aload_n hx hb dX0_graves_5 rfl (lv_at hl 0 rfl) ?_
  refine gp_get (C := RX0) (T := TX0) E hK hP.1 (shO_g g) rfl in_X0 4 (by decide) (hts _ q337) (fun _ z => z) vO_4 dX0_graves_6 ?_
  refine gp_getN (C := RX1) (T := TX1) E hK (hP.2.1 0 (by decide)).1 (shS_h _) rfl in_X1 13 (by decide) (nfw_12 hE.2) (fun _ z => z) (vS_i (by decide)) dX0_graves_9 ?_
  refine lv_icmp_ge (tgt := 35) hx hb dX0_graves_12 (by decide) (fun kc1 => ?_) (fun kc1 => ?_)
  · have hf := ite_t kc1 hf
    cases hf
    exact hk _ _ _ (lv_sub hl [1] rfl) hP hS
  · have hf := ite_f kc1 hf
    refine lv_iload_n hx hb dX0_graves_15 rfl (lv_at hl 1 rfl) ?_
    refine lv_aload_n hx hb dX0_graves_16 rfl (lv_at hl 0 rfl) ?_
    refine gp_get (C := RX0) (T := TX0) E hK hP.1 (shO_g g) rfl in_X0 4 (by decide) (hts _ q337) (fun _ z => z) vO_4 dX0_graves_17 ?_
    refine gp_getN (C := RX1) (T := TX1) E hK (hP.2.1 0 (by decide)).1 (shS_h _) rfl in_X1 6 (by decide) (nfw_5 hE.2) (fun _ z => z) (vS_a (by decide) (by decide)) dX0_graves_20 ?_
    refine lv_iload_n hx hb dX0_graves_23 rfl (lv_at hl 2 rfl) ?_
    obtain ⟨v2, hv2, hf⟩ := ob hf
    refine gp_iald E hK (hP.2.1 0 (by decide)).1 (shS_a (by decide) (by decide)) (rd_in hv2).1 (by rw [vS_e (by decide) (by decide), ← (rd_in hv2).2]) dX0_graves_24 ?_
    refine lv_iload_n hx hb dX0_graves_25 rfl (lv_at hl 2 rfl) ?_
    refine lv_ishl hx hb dX0_graves_26 ?_
    refine lv_ior hx hb dX0_graves_27 ?_
    refine lv_istore_n (lv' := [(1, .int (st.1 ||| (v2 <<< (st.2 &&& 31)))), (0, .ref g), (2, .int st.2)]) hx hb dX0_graves_28 rfl hl (by decide) rfl (fun ls hl => ?_)
    refine lv_iinc (v := st.2 + nI 1) (lv' := [(2, .int (st.2 + nI 1)), (1, .int (st.1 ||| (v2 <<< (st.2 &&& 31)))), (0, .ref g)]) hx hb dX0_graves_29 hl (k := 2) rfl rfl (by decide) rfl (fun ls hl => ?_)
    refine lv_goto (tgt := 4) hx hb dX0_graves_32 (by decide) ?_
    cases hf
    exact hk _ _ _ (lv_sub hl [2, 1, 0] rfl) hP hS
set_option maxHeartbeats 4000000 in
theorem dx_graves : yX0_graves.cls = RX0 ∧ yX0_graves.cls ≠ "java/lang/invoke/MethodHandle" ∧ yX0_graves.cls ≠ "java/lang/invoke/VarHandle" ∧ (parseMethodDescriptor yX0_graves.desc).map (fun d => d.parameters.length) = some 0 := ⟨rfl, by decide +kernel, by decide +kernel, by decide +kernel⟩
set_option maxHeartbeats 4000000 in
theorem tx_graves (l : Launch) (D : va_G) (dT : Nat → ClassId) (g : Nat) (μ : nwX) (res : Int32) (hf : fx_graves μ = some res) : Met l yX0_graves (ws_ yX0_graves cX0_graves 3 (some .int)) (rmd 0) (va_Pc [.ref g] (fun U => PX D dT g μ U.heap ∧ EV D dT U)) (va_Qi (fun r' (_ : Unit) => r' = res) (fun _ t => PX D dT g μ t.heap) (fun _ => False)) 0 0 (fun _ => False) := by
  refine g_met (D := D) (dT := dT) (A := fun _ => False) (own := RX0) (Pic := fun H => PX D dT g μ H) (by decide) rfl (Nat.le_of_ble_eq_true rfl) ?_
  intro p e s m below meth c ls E hE hr hlk hl hP
  have hK := hE.1
  have hS : va_S (fun _ => False) s.heap s.heap [] := va_S.rf
  obtain ⟨hx, hb, hml, hown, hts⟩ := id E
  have hl : lv_has ls 3 [(0, .ref g)] := hl
  unfold fx_graves at hf
  refine lv_iconst (v := nI 0) hx hb dX0_graves_0 rfl ?_
  refine lv_istore_n (lv' := [(1, .int (nI 0)), (0, .ref g)]) hx hb dX0_graves_1 rfl hl (by decide) rfl (fun ls hl => ?_)
  refine lv_iconst (v := nI 0) hx hb dX0_graves_2 rfl ?_
  refine lv_istore_n (lv' := [(2, .int (nI 0)), (1, .int (nI 0)), (0, .ref g)]) hx hb dX0_graves_3 rfl hl (by decide) rfl (fun ls hl => ?_)
  obtain ⟨x3, hx3, hf⟩ := ob hf
  refine fx_graves_L4_w E hK hE μ hx3 (fun ls H locs hl hP hS => ?_) _ _ _ (lv_sub hl [2, 1, 0] rfl) hP hS
  refine lv_iload_n hx hb dX0_graves_35 rfl (lv_at hl 0 rfl) ?_
  cases hf
  exact g_iret (Pic := fun H => PX D dT g _ H) E hr hlk hP hS rfl dX0_graves_36
set_option maxHeartbeats 4000000 in
noncomputable def fx_look (x1 : Int32) (μ : nwX) : Option (Int32) := (if x1 = nI 0 then some ((μ.2.1 0) 13 0) else (if x1 = nI 1 then some ((μ.2.1 0) 15 0) else (if x1 = nI 2 then some ((μ.2.1 0) 16 0) else (if x1 = nI 3 then some ((μ.2.1 0) 14 0) else (if x1 = nI 4 then some ((μ.2.1 0) 18 0) else (if x1 = nI 5 then some ((μ.2.1 0) 17 0) else (if x1 = nI 6 then some (nI (μ.2.2.2.2 0).1.length) else (if x1 = nI 7 then some (nI (μ.2.2.2.2 0).2.1.length) else (if x1 = nI 8 then some (nI (μ.2.2.2.2 0).2.2.1.length) else (if x1 = nI 9 then some (nI (μ.2.2.2.2 0).2.2.2.length) else (if x1 = nI 10 then some (μ.1 8 0) else (if x1 = nI 11 then (fx_graves μ).bind fun v14 => some v14 else some (-1)))))))))))))
set_option maxHeartbeats 4000000 in
theorem dx_look : yX0_look.cls = RX0 ∧ yX0_look.cls ≠ "java/lang/invoke/MethodHandle" ∧ yX0_look.cls ≠ "java/lang/invoke/VarHandle" ∧ (parseMethodDescriptor yX0_look.desc).map (fun d => d.parameters.length) = some 1 := ⟨rfl, by decide +kernel, by decide +kernel, by decide +kernel⟩
set_option maxHeartbeats 4000000 in
theorem tx_look (l : Launch) (D : va_G) (dT : Nat → ClassId) (g : Nat) (x1 : Int32) (μ : nwX) (res : Int32) (hf : fx_look x1 μ = some res) : Met l yX0_look (ws_ yX0_look cX0_look 2 (some .int)) (rmd 3) (va_Pc [.ref g, .int x1] (fun U => PX D dT g μ U.heap ∧ EV D dT U)) (va_Qi (fun r' (_ : Unit) => r' = res) (fun _ t => PX D dT g μ t.heap) (fun _ => False)) 0 0 (fun _ => False) := by
  refine g_met (D := D) (dT := dT) (A := fun _ => False) (own := RX0) (Pic := fun H => PX D dT g μ H) (by decide) rfl (Nat.le_of_ble_eq_true rfl) ?_
  intro p e s m below meth c ls E hE hr hlk hl hP
  have hK := hE.1
  have hS : va_S (fun _ => False) s.heap s.heap [] := va_S.rf
  obtain ⟨hx, hb, hml, hown, hts⟩ := id E
  have hl : lv_has ls 2 [(0, .ref g), (1, .int x1)] := hl
  unfold fx_look at hf
  refine lv_iload_n hx hb dX0_look_0 rfl (lv_at hl 1 rfl) ?_
  by_cases kc1 : x1 = nI 0
  · have hf := ite_t kc1 hf
    refine lv_tableIn (tgt := 64) hx hb dX0_look_1 (sw_lo kc1 (by decide) (by decide)) (sw_hi kc1 (by decide) (by decide)) (sw_at kc1 (by decide) rfl) (by decide) ?_
    refine lv_aload_n hx hb dX0_look_64 rfl (lv_at hl 0 rfl) ?_
    refine gp_get (C := RX0) (T := TX0) E hK hP.1 (shO_g g) rfl in_X0 4 (by decide) (hts _ q337) (fun _ z => z) vO_4 dX0_look_65 ?_
    refine gp_getN (C := RX1) (T := TX1) E hK (hP.2.1 0 (by decide)).1 (shS_h _) rfl in_X1 13 (by decide) (nfw_12 hE.2) (fun _ z => z) (vS_i (by decide)) dX0_look_68 ?_
    cases hf
    exact g_iret (Pic := fun H => PX D dT g _ H) E hr hlk hP hS rfl dX0_look_71
  · have hf := ite_f kc1 hf
    by_cases kc2 : x1 = nI 1
    · have hf := ite_t kc2 hf
      refine lv_tableIn (tgt := 72) hx hb dX0_look_1 (sw_lo kc2 (by decide) (by decide)) (sw_hi kc2 (by decide) (by decide)) (sw_at kc2 (by decide) rfl) (by decide) ?_
      refine lv_aload_n hx hb dX0_look_72 rfl (lv_at hl 0 rfl) ?_
      refine gp_get (C := RX0) (T := TX0) E hK hP.1 (shO_g g) rfl in_X0 4 (by decide) (hts _ q337) (fun _ z => z) vO_4 dX0_look_73 ?_
      refine gp_getN (C := RX1) (T := TX1) E hK (hP.2.1 0 (by decide)).1 (shS_h _) rfl in_X1 15 (by decide) (nfw_14 hE.2) (fun _ z => z) (vS_i (by decide)) dX0_look_76 ?_
      cases hf
      exact g_iret (Pic := fun H => PX D dT g _ H) E hr hlk hP hS rfl dX0_look_79
    · have hf := ite_f kc2 hf
      by_cases kc3 : x1 = nI 2
      · have hf := ite_t kc3 hf
        refine lv_tableIn (tgt := 80) hx hb dX0_look_1 (sw_lo kc3 (by decide) (by decide)) (sw_hi kc3 (by decide) (by decide)) (sw_at kc3 (by decide) rfl) (by decide) ?_
        refine lv_aload_n hx hb dX0_look_80 rfl (lv_at hl 0 rfl) ?_
        refine gp_get (C := RX0) (T := TX0) E hK hP.1 (shO_g g) rfl in_X0 4 (by decide) (hts _ q337) (fun _ z => z) vO_4 dX0_look_81 ?_
        refine gp_getN (C := RX1) (T := TX1) E hK (hP.2.1 0 (by decide)).1 (shS_h _) rfl in_X1 16 (by decide) (nfw_15 hE.2) (fun _ z => z) (vS_i (by decide)) dX0_look_84 ?_
        cases hf
        exact g_iret (Pic := fun H => PX D dT g _ H) E hr hlk hP hS rfl dX0_look_87
      · have hf := ite_f kc3 hf
        by_cases kc4 : x1 = nI 3
        · have hf := ite_t kc4 hf
          refine lv_tableIn (tgt := 88) hx hb dX0_look_1 (sw_lo kc4 (by decide) (by decide)) (sw_hi kc4 (by decide) (by decide)) (sw_at kc4 (by decide) rfl) (by decide) ?_
          refine lv_aload_n hx hb dX0_look_88 rfl (lv_at hl 0 rfl) ?_
          refine gp_get (C := RX0) (T := TX0) E hK hP.1 (shO_g g) rfl in_X0 4 (by decide) (hts _ q337) (fun _ z => z) vO_4 dX0_look_89 ?_
          refine gp_getN (C := RX1) (T := TX1) E hK (hP.2.1 0 (by decide)).1 (shS_h _) rfl in_X1 14 (by decide) (nfw_13 hE.2) (fun _ z => z) (vS_i (by decide)) dX0_look_92 ?_
          cases hf
          exact g_iret (Pic := fun H => PX D dT g _ H) E hr hlk hP hS rfl dX0_look_95
        · have hf := ite_f kc4 hf
          by_cases kc5 : x1 = nI 4
          · have hf := ite_t kc5 hf
            refine lv_tableIn (tgt := 96) hx hb dX0_look_1 (sw_lo kc5 (by decide) (by decide)) (sw_hi kc5 (by decide) (by decide)) (sw_at kc5 (by decide) rfl) (by decide) ?_
            refine lv_aload_n hx hb dX0_look_96 rfl (lv_at hl 0 rfl) ?_
            refine gp_get (C := RX0) (T := TX0) E hK hP.1 (shO_g g) rfl in_X0 4 (by decide) (hts _ q337) (fun _ z => z) vO_4 dX0_look_97 ?_
            refine gp_getN (C := RX1) (T := TX1) E hK (hP.2.1 0 (by decide)).1 (shS_h _) rfl in_X1 18 (by decide) (nfw_17 hE.2) (fun _ z => z) (vS_i (by decide)) dX0_look_100 ?_
            cases hf
            exact g_iret (Pic := fun H => PX D dT g _ H) E hr hlk hP hS rfl dX0_look_103
          · have hf := ite_f kc5 hf
            by_cases kc6 : x1 = nI 5
            · have hf := ite_t kc6 hf
              refine lv_tableIn (tgt := 104) hx hb dX0_look_1 (sw_lo kc6 (by decide) (by decide)) (sw_hi kc6 (by decide) (by decide)) (sw_at kc6 (by decide) rfl) (by decide) ?_
              refine lv_aload_n hx hb dX0_look_104 rfl (lv_at hl 0 rfl) ?_
              refine gp_get (C := RX0) (T := TX0) E hK hP.1 (shO_g g) rfl in_X0 4 (by decide) (hts _ q337) (fun _ z => z) vO_4 dX0_look_105 ?_
              refine gp_getN (C := RX1) (T := TX1) E hK (hP.2.1 0 (by decide)).1 (shS_h _) rfl in_X1 17 (by decide) (nfw_16 hE.2) (fun _ z => z) (vS_i (by decide)) dX0_look_108 ?_
              cases hf
              exact g_iret (Pic := fun H => PX D dT g _ H) E hr hlk hP hS rfl dX0_look_111
            · have hf := ite_f kc6 hf
              by_cases kc7 : x1 = nI 6
              · have hf := ite_t kc7 hf
                refine lv_tableIn (tgt := 112) hx hb dX0_look_1 (sw_lo kc7 (by decide) (by decide)) (sw_hi kc7 (by decide) (by decide)) (sw_at kc7 (by decide) rfl) (by decide) ?_
                refine lv_aload_n hx hb dX0_look_112 rfl (lv_at hl 0 rfl) ?_
                refine gp_get (C := RX0) (T := TX0) E hK hP.1 (shO_g g) rfl in_X0 4 (by decide) (hts _ q337) (fun _ z => z) vO_4 dX0_look_113 ?_
                refine gp_getN (C := RX1) (T := TX1) E hK (hP.2.1 0 (by decide)).1 (shS_h _) rfl in_X1 9 (by decide) (nfw_8 hE.2) (fun _ z => z) (vS_l (by decide) (by decide)) dX0_look_116 ?_
                refine lx_size E hE ((hP.2.1 0 (by decide)).2.1) hS (lw_V q801 q630 q631 q165 q632) (by decide) hl (Nat.le_of_ble_eq_true rfl) dX0_look_119 (fun H1 locs1 hq1 hS => ?_)
                have hP := PX_same hP (hz_all hq1) hq1
                cases hf
                exact g_iret (Pic := fun H => PX D dT g _ H) E hr hlk hP hS rfl dX0_look_122
              · have hf := ite_f kc7 hf
                by_cases kc8 : x1 = nI 7
                · have hf := ite_t kc8 hf
                  refine lv_tableIn (tgt := 123) hx hb dX0_look_1 (sw_lo kc8 (by decide) (by decide)) (sw_hi kc8 (by decide) (by decide)) (sw_at kc8 (by decide) rfl) (by decide) ?_
                  refine lv_aload_n hx hb dX0_look_123 rfl (lv_at hl 0 rfl) ?_
                  refine gp_get (C := RX0) (T := TX0) E hK hP.1 (shO_g g) rfl in_X0 4 (by decide) (hts _ q337) (fun _ z => z) vO_4 dX0_look_124 ?_
                  refine gp_getN (C := RX1) (T := TX1) E hK (hP.2.1 0 (by decide)).1 (shS_h _) rfl in_X1 10 (by decide) (nfw_9 hE.2) (fun _ z => z) (vS_l (by decide) (by decide)) dX0_look_127 ?_
                  refine lx_size E hE ((hP.2.1 0 (by decide)).2.2.1) hS (lw_V q801 q630 q631 q165 q632) (by decide) hl (Nat.le_of_ble_eq_true rfl) dX0_look_130 (fun H1 locs1 hq1 hS => ?_)
                  have hP := PX_same hP (hz_all hq1) hq1
                  cases hf
                  exact g_iret (Pic := fun H => PX D dT g _ H) E hr hlk hP hS rfl dX0_look_133
                · have hf := ite_f kc8 hf
                  by_cases kc9 : x1 = nI 8
                  · have hf := ite_t kc9 hf
                    refine lv_tableIn (tgt := 134) hx hb dX0_look_1 (sw_lo kc9 (by decide) (by decide)) (sw_hi kc9 (by decide) (by decide)) (sw_at kc9 (by decide) rfl) (by decide) ?_
                    refine lv_aload_n hx hb dX0_look_134 rfl (lv_at hl 0 rfl) ?_
                    refine gp_get (C := RX0) (T := TX0) E hK hP.1 (shO_g g) rfl in_X0 4 (by decide) (hts _ q337) (fun _ z => z) vO_4 dX0_look_135 ?_
                    refine gp_getN (C := RX1) (T := TX1) E hK (hP.2.1 0 (by decide)).1 (shS_h _) rfl in_X1 11 (by decide) (nfw_10 hE.2) (fun _ z => z) (vS_l (by decide) (by decide)) dX0_look_138 ?_
                    refine lx_size E hE ((hP.2.1 0 (by decide)).2.2.2.1) hS (lw_V q801 q630 q631 q165 q632) (by decide) hl (Nat.le_of_ble_eq_true rfl) dX0_look_141 (fun H1 locs1 hq1 hS => ?_)
                    have hP := PX_same hP (hz_all hq1) hq1
                    cases hf
                    exact g_iret (Pic := fun H => PX D dT g _ H) E hr hlk hP hS rfl dX0_look_144
                  · have hf := ite_f kc9 hf
                    by_cases kc10 : x1 = nI 9
                    · have hf := ite_t kc10 hf
                      refine lv_tableIn (tgt := 145) hx hb dX0_look_1 (sw_lo kc10 (by decide) (by decide)) (sw_hi kc10 (by decide) (by decide)) (sw_at kc10 (by decide) rfl) (by decide) ?_
                      refine lv_aload_n hx hb dX0_look_145 rfl (lv_at hl 0 rfl) ?_
                      refine gp_get (C := RX0) (T := TX0) E hK hP.1 (shO_g g) rfl in_X0 4 (by decide) (hts _ q337) (fun _ z => z) vO_4 dX0_look_146 ?_
                      refine gp_getN (C := RX1) (T := TX1) E hK (hP.2.1 0 (by decide)).1 (shS_h _) rfl in_X1 12 (by decide) (nfw_11 hE.2) (fun _ z => z) (vS_l (by decide) (by decide)) dX0_look_149 ?_
                      refine lx_size E hE ((hP.2.1 0 (by decide)).2.2.2.2) hS (lw_V q801 q630 q631 q165 q632) (by decide) hl (Nat.le_of_ble_eq_true rfl) dX0_look_152 (fun H1 locs1 hq1 hS => ?_)
                      have hP := PX_same hP (hz_all hq1) hq1
                      cases hf
                      exact g_iret (Pic := fun H => PX D dT g _ H) E hr hlk hP hS rfl dX0_look_155
                    · have hf := ite_f kc10 hf
                      by_cases kc11 : x1 = nI 10
                      · have hf := ite_t kc11 hf
                        refine lv_tableIn (tgt := 156) hx hb dX0_look_1 (sw_lo kc11 (by decide) (by decide)) (sw_hi kc11 (by decide) (by decide)) (sw_at kc11 (by decide) rfl) (by decide) ?_
                        refine lv_aload_n hx hb dX0_look_156 rfl (lv_at hl 0 rfl) ?_
                        refine gp_get (C := RX0) (T := TX0) E hK hP.1 (shO_g g) rfl in_X0 8 (by decide) (hts _ q342) (fun _ z => z) (vO_i (by decide)) dX0_look_157 ?_
                        cases hf
                        exact g_iret (Pic := fun H => PX D dT g _ H) E hr hlk hP hS rfl dX0_look_160
                      · have hf := ite_f kc11 hf
                        by_cases kc12 : x1 = nI 11
                        · have hf := ite_t kc12 hf
                          refine lv_tableIn (tgt := 161) hx hb dX0_look_1 (sw_lo kc12 (by decide) (by decide)) (sw_hi kc12 (by decide) (by decide)) (sw_at kc12 (by decide) rfl) (by decide) ?_
                          refine lv_aload_n hx hb dX0_look_161 rfl (lv_at hl 0 rfl) ?_
                          obtain ⟨v14, hc13, hf⟩ := ob hf
                          refine gx_calli E hE (Pic := fun H => PX D dT g μ H) (Pic1 := fun H => PX D dT g μ H) hP hS (fun _ z => z.elim) (As := []) (tx_graves l D dT g μ _ hc13) (g_recv hK hP.1 (shO_g g) rfl) (lw_V q1403 q1405 qs58 q161 q1406) dx_graves rfl (by decide) (by decide) hl rfl (Nat.le_of_ble_eq_true rfl) dX0_look_162 (fun H locs hP _ _ hS => ?_)
                          cases hf
                          exact g_iret (Pic := fun H => PX D dT g _ H) E hr hlk hP hS rfl dX0_look_165
                        · have hf := ite_f kc12 hf
                          refine lv_tableOut (tgt := 166) hx hb dX0_look_1 (sw_no 0 11 rfl rfl (fun k a b => by rcases (show k = 0 ∨ k = 1 ∨ k = 2 ∨ k = 3 ∨ k = 4 ∨ k = 5 ∨ k = 6 ∨ k = 7 ∨ k = 8 ∨ k = 9 ∨ k = 10 ∨ k = 11 by omega) with rfl | rfl | rfl | rfl | rfl | rfl | rfl | rfl | rfl | rfl | rfl | rfl <;> assumption)) (by decide) ?_
                          refine lv_iconst (v := (-1)) hx hb dX0_look_166 rfl ?_
                          cases hf
                          exact g_iret (Pic := fun H => PX D dT g _ H) E hr hlk hP hS rfl dX0_look_167
