/-! walks, written by my programs -/
set_option maxRecDepth 100000
set_option maxHeartbeats 4000000 in
noncomputable def fd_ClearWant_isMet (t : nwW) (μ : nwM) : Option (Int32) := (fo_Want_island t).bind fun v1 => (fs_all v1 μ).bind fun v3 => (if v3 = 0 then some (nI 1) else some (nI 0))
set_option maxHeartbeats 4000000 in
theorem dd_ClearWant_isMet : yX13_isMet.cls ≠ "java/lang/invoke/MethodHandle" ∧ yX13_isMet.cls ≠ "java/lang/invoke/VarHandle" ∧ (parseMethodDescriptor yX13_isMet.desc).map (fun d => d.parameters.length) = some 1 := ⟨by decide +kernel, by decide +kernel, by decide +kernel⟩
set_option maxHeartbeats 4000000 in
theorem td_ClearWant_isMet (l : Launch) (D : va_G) (dT : Nat → ClassId) (a h : Nat) (ρ : Nat → Nat) (t : nwW) (μ : nwM) (res : Int32) (hf : fd_ClearWant_isMet t μ = some res) : Met l yX13_isMet (ws_ yX13_isMet cX13_isMet 2 (some .boolean)) (rmd 1) (va_Pc [.ref a, .ref h] (fun U => (PS D dT h μ ρ U.heap ∧ oO D 11 3 [.int t.2.2.1, .int t.2.2.2.1, .int t.2.2.2.2] nN a U.heap) ∧ EV D dT U)) (va_Qi (fun r' (_ : Unit) => r' = res) (fun _ t => PS D dT h μ ρ t.heap) (fun _ => False)) 0 0 (fun _ => False) := by
  refine g_met (D := D) (dT := dT) (A := fun _ => False) (own := RX13) (Pic := fun H => PS D dT h μ ρ H ∧ oO D 11 3 [.int t.2.2.1, .int t.2.2.2.1, .int t.2.2.2.2] nN a H) (by decide) rfl (Nat.le_of_ble_eq_true rfl) ?_
  intro p e s m below meth c ls E hE hr hlk hl hP
  obtain ⟨hP, hO⟩ := hP
  have hK := hE.1
  have hS : va_S (fun _ => False) s.heap s.heap [] := va_S.rf
  obtain ⟨hx, hb, hml, hown, hts⟩ := id E
  have hl : lv_has ls 2 [(0, .ref a), (1, .ref h)] := hl
  unfold fd_ClearWant_isMet at hf
  refine lv_aload_n hx hb dX13_isMet_0 rfl (lv_at hl 1 rfl) ?_
  refine lv_aload_n hx hb dX13_isMet_1 rfl (lv_at hl 0 rfl) ?_
  obtain ⟨v1, hv1, hf⟩ := ob hf
  refine u_calli (Pic := fun H => oO D 11 3 [.int t.2.2.1, .int t.2.2.2.1, .int t.2.2.2.2] nN a H) (Pic1 := fun _ => True) (A1 := nN) (owner := "NamesWeather$Want") (x := ⟨"NamesWeather$ClearWant", "island", "()I"⟩) E hE ((hO.keep hS (fun _ z => z.elim)).weak (fun _ z => z.elim)) hS (fun _ z => z.elim) (As := []) (to_Want_island l D dT a t _ hv1) (o_recv hK (hO.keep hS (fun _ z => z.elim)) rfl) (va_cwU 0 hts (lw_U q1261 q1262 q1264 q1265 q186 q1266) rfl rfl rfl rfl ⟨by decide +kernel, by decide +kernel, by decide +kernel⟩ (rmd_ok (by decide) (by decide))) rfl hl rfl (Nat.le_of_ble_eq_true rfl) dX13_isMet_2 (fun H1 locs1 _ hq1 hS => ?_)
  have hP := GP.same hP (fun q z => hq1 q z (fun y => y))
  obtain ⟨v3, hc2, hf⟩ := ob hf
  refine g_calli E hE (Pic1 := fun H => PS D dT h μ _ H) hP hS (fun _ z => z.elim) (As := [.int v1]) (ts_all l D dT h _ v1 μ _ hc2) (g_recv hK hP (shS_h h) rfl) (lw_V q1267 q1046 q1047 q162 q1048) ds_all rfl (by decide) (by decide) hl rfl (Nat.le_of_ble_eq_true rfl) dX13_isMet_5 (fun H locs hP _ hS => ?_)
  refine lv_if_ne (tgt := 15) hx hb dX13_isMet_8 (by decide) (fun kc4 => ?_) (fun kc4 => ?_)
  · have hf := ite_f kc4 hf
    refine lv_iconst (v := nI 0) hx hb dX13_isMet_15 rfl ?_
    cases hf
    exact g_zret (Pic := fun H => PS D dT h _ ρ H) E hr hlk hP hS rfl dX13_isMet_16
  · have hf := ite_t kc4 hf
    refine lv_iconst (v := nI 1) hx hb dX13_isMet_11 rfl ?_
    refine lv_goto (tgt := 16) hx hb dX13_isMet_12 (by decide) ?_
    cases hf
    exact g_zret (Pic := fun H => PS D dT h _ ρ H) E hr hlk hP hS rfl dX13_isMet_16
set_option maxHeartbeats 4000000 in
def fd_SkyWant_isMet (t : nwW) (μ : nwM) : Option (Int32) := (fo_Want_island t).bind fun v1 => (rw_ 8 v1).bind fun r2 => (rr_ μ 0 r2 t.1).bind fun v3 => (if v3 < t.2.1 then some (nI 0) else some (nI 1))
set_option maxHeartbeats 4000000 in
theorem dd_SkyWant_isMet : yX14_isMet.cls ≠ "java/lang/invoke/MethodHandle" ∧ yX14_isMet.cls ≠ "java/lang/invoke/VarHandle" ∧ (parseMethodDescriptor yX14_isMet.desc).map (fun d => d.parameters.length) = some 1 := ⟨by decide +kernel, by decide +kernel, by decide +kernel⟩
set_option maxHeartbeats 4000000 in
theorem td_SkyWant_isMet (l : Launch) (D : va_G) (dT : Nat → ClassId) (a h : Nat) (ρ : Nat → Nat) (t : nwW) (μ : nwM) (res : Int32) (hf : fd_SkyWant_isMet t μ = some res) : Met l yX14_isMet (ws_ yX14_isMet cX14_isMet 2 (some .boolean)) (rmd 1) (va_Pc [.ref a, .ref h] (fun U => (PS D dT h μ ρ U.heap ∧ oO D 12 5 [.int t.2.2.1, .int t.2.2.2.1, .int t.2.2.2.2, .int t.1, .int t.2.1] nN a U.heap) ∧ EV D dT U)) (va_Qi (fun r' (_ : Unit) => r' = res) (fun _ t => PS D dT h μ ρ t.heap) (fun _ => False)) 0 0 (fun _ => False) := by
  refine g_met (D := D) (dT := dT) (A := fun _ => False) (own := RX14) (Pic := fun H => PS D dT h μ ρ H ∧ oO D 12 5 [.int t.2.2.1, .int t.2.2.2.1, .int t.2.2.2.2, .int t.1, .int t.2.1] nN a H) (by decide) rfl (Nat.le_of_ble_eq_true rfl) ?_
  intro p e s m below meth c ls E hE hr hlk hl hP
  obtain ⟨hP, hO⟩ := hP
  have hK := hE.1
  have hS : va_S (fun _ => False) s.heap s.heap [] := va_S.rf
  obtain ⟨hx, hb, hml, hown, hts⟩ := id E
  have hl : lv_has ls 2 [(0, .ref a), (1, .ref h)] := hl
  unfold fd_SkyWant_isMet at hf
  refine lv_aload_n hx hb dX14_isMet_0 rfl (lv_at hl 1 rfl) ?_
  refine gp_getN (C := RX1) (T := TX1) E hK hP (shS_h h) rfl in_X1 0 (by decide) (nfw_29 hE.2) (fun _ z => z) (vS_2 (by decide)) dX14_isMet_1 ?_
  refine lv_aload_n hx hb dX14_isMet_4 rfl (lv_at hl 0 rfl) ?_
  obtain ⟨v1, hv1, hf⟩ := ob hf
  refine u_calli (Pic := fun H => oO D 12 5 [.int t.2.2.1, .int t.2.2.2.1, .int t.2.2.2.2, .int t.1, .int t.2.1] nN a H) (Pic1 := fun _ => True) (A1 := nN) (owner := "NamesWeather$Want") (x := ⟨"NamesWeather$SkyWant", "island", "()I"⟩) E hE ((hO.keep hS (fun _ z => z.elim)).weak (fun _ z => z.elim)) hS (fun _ z => z.elim) (As := []) (to_Want_island_12 l D dT a t _ hv1) (o_recv hK (hO.keep hS (fun _ z => z.elim)) rfl) (va_cwU 0 hts (lw_U q1271 q1272 q1273 q1265 q186 q1266) rfl rfl rfl rfl ⟨by decide +kernel, by decide +kernel, by decide +kernel⟩ (rmd_ok (by decide) (by decide))) rfl hl rfl (Nat.le_of_ble_eq_true rfl) dX14_isMet_5 (fun H1 locs1 _ hq1 hS => ?_)
  have hP := GP.same hP (fun q z => hq1 q z (fun y => y))
  obtain ⟨r2, hr2, hf⟩ := ob hf
  refine gp_aald (t := 2) (ty := .array .int) E hK hP rfl rfl (shS_2 (by decide)) (rw_in hr2).1 (by rw [vS_o (by decide), (rw_in hr2).2.1]) dX14_isMet_8 ?_
  refine lv_aload_n hx hb dX14_isMet_9 rfl (lv_at hl 0 rfl) ?_
  refine o_get (C := RX14) (T := TX14) E hK (hO.keep hS (fun _ z => z.elim)) rfl in_X14 3 (by decide) (hts _ q872) (fun _ z => z) (v := .int t.1) rfl dX14_isMet_10 ?_
  obtain ⟨v3, hv3, hf⟩ := ob hf
  refine gp_iald E hK hP (shS_r (by decide) (rw_in hr2).2.2) (rr_in hv3).1 (by rw [vS_r (by decide) (rw_in hr2).2.2, ← (rr_in hv3).2]) dX14_isMet_13 ?_
  refine lv_aload_n hx hb dX14_isMet_14 rfl (lv_at hl 0 rfl) ?_
  refine o_get (C := RX14) (T := TX14) E hK (hO.keep hS (fun _ z => z.elim)) rfl in_X14 4 (by decide) (hts _ q873) (fun _ z => z) (v := .int t.2.1) rfl dX14_isMet_15 ?_
  refine lv_icmp_lt (tgt := 25) hx hb dX14_isMet_18 (by decide) (fun kc4 => ?_) (fun kc4 => ?_)
  · have hf := ite_t kc4 hf
    refine lv_iconst (v := nI 0) hx hb dX14_isMet_25 rfl ?_
    cases hf
    exact g_zret (Pic := fun H => PS D dT h _ ρ H) E hr hlk hP hS rfl dX14_isMet_26
  · have hf := ite_f kc4 hf
    refine lv_iconst (v := nI 1) hx hb dX14_isMet_21 rfl ?_
    refine lv_goto (tgt := 26) hx hb dX14_isMet_22 (by decide) ?_
    cases hf
    exact g_zret (Pic := fun H => PS D dT h _ ρ H) E hr hlk hP hS rfl dX14_isMet_26
