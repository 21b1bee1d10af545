/-! walks, written by my programs -/
set_option maxRecDepth 100000
set_option maxHeartbeats 4000000 in
def fs_areClashing_L2 (x1 : Int32) (x2 : Int32) (L : nwL) (μ : nwM) : Int32 → Option ((Int32) ⊕ (Int32)) := fun st => (if (nI L.2.1.length) ≤ st then some (.inr (nI 0)) else (lg_ L.2.1 st).bind fun e2 => (fo_Quench_isOf x1 x2 e2).bind fun v3 => (if v3 = 0 then some (.inl (st + nI 1)) else some (.inr (nI 1))))
set_option maxHeartbeats 4000000 in
noncomputable def fs_areClashing (x1 : Int32) (x2 : Int32) (L : nwL) (μ : nwM) : Option (Int32) := wh_ (fs_areClashing_L2 x1 x2 L μ) (nI 0)
set_option maxHeartbeats 4000000 in
theorem fs_areClashing_L2_w {p : Program} {l : Launch} {e : Env} {s : State} {m : MethodId} {args : Array Value} {below : List Frame} {meth : Method} {c : Code} {D : va_G} {dT : Nat → ClassId} {h : Nat} {ρ : Nat → Nat} {L : nwL} (E : CallFix p m c cX1_areClashing 4 s args lw_all RX1) (hK : va_K D nwCl (nwT dT) s) (hr : meth.sig.returnType = (some .boolean)) (hlk : meth.locks = false) (hE : EV D dT s) (hL : LR D dT (sA h) ρ L s.heap) (x1 : Int32) (x2 : Int32) (μ : nwM) {res : Int32} {st : Int32} {x : Int32} (hw : wh_ (fs_areClashing_L2 x1 x2 L μ) st = some x) (hk : (fun r : Int32 => r = res) x) : (fun st : Int32 => ∀ (ls : Array Slot) (H : Heap) (locs : List Loc), lv_has ls 4 [(0, .ref h), (1, .int x1), (2, .int x2), (3, .int st)] → PS D dT h μ ρ H → va_S (fun _ => False) s.heap H locs → W p l e (rmd 3) s m args below meth c H locs 0 0 (MQ below (va_Qi (fun r' (_ : Unit) => r' = res) (fun _ t => PS D dT h μ ρ t.heap) (fun _ => False)) args s 0 0 (fun _ => False)) (F0 m 2 ls [])) st := by
  obtain ⟨hx, hb, hml, hown, hts⟩ := id E
  refine wh_run (P := (fun st : Int32 => ∀ (ls : Array Slot) (H : Heap) (locs : List Loc), lv_has ls 4 [(0, .ref h), (1, .int x1), (2, .int x2), (3, .int st)] → PS D dT h μ ρ H → va_S (fun _ => False) s.heap H locs → W p l e (rmd 3) s m args below meth c H locs 0 0 (MQ below (va_Qi (fun r' (_ : Unit) => r' = res) (fun _ t => PS D dT h μ ρ t.heap) (fun _ => False)) args s 0 0 (fun _ => False)) (F0 m 2 ls []))) (PE := (fun r : Int32 => r = res)) ?_ hw hk
  clear hw hk
  intro st x hf hk ls H locs hl hP hS
  refine lv_iload_n hx hb dX1_areClashing_2 rfl (lv_at hl 3 rfl) ?_
  refine lv_aload_n hx hb dX1_areClashing_3 rfl (lv_at hl 0 rfl) ?_
  refine gp_get (C := RX1) (T := TX1) E hK hP (shS_h h) rfl in_X1 10 (by decide) (hts _ q259) (fun _ z => z) (vS_l (by decide) (by decide)) dX1_areClashing_4 ?_
  refine ls_size E hE hL.2.1 hS (fun _ z => z.elim) (lw_V q1009 q630 q631 q165 q632) (by decide) hl (Nat.le_of_ble_eq_true rfl) dX1_areClashing_7 (fun H1 locs1 hq1 hS => ?_)
  have hP := GP.same hP hq1
  refine lv_icmp_ge (tgt := 40) hx hb dX1_areClashing_10 (by decide) (fun kc1 => ?_) (fun kc1 => ?_)
  · have hf := ite_t kc1 hf
    refine lv_iconst (v := nI 0) hx hb dX1_areClashing_40 rfl ?_
    cases hf
    have hk : nI 0 = res := hk
    subst hk
    exact g_zret (Pic := fun H => PS D dT h _ ρ H) E hr hlk hP hS rfl dX1_areClashing_41
  · have hf := ite_f kc1 hf
    refine lv_aload_n hx hb dX1_areClashing_13 rfl (lv_at hl 0 rfl) ?_
    refine gp_get (C := RX1) (T := TX1) E hK hP (shS_h h) rfl in_X1 10 (by decide) (hts _ q259) (fun _ z => z) (vS_l (by decide) (by decide)) dX1_areClashing_14 ?_
    refine lv_iload_n hx hb dX1_areClashing_17 rfl (lv_at hl 3 rfl) ?_
    obtain ⟨e2, he2, hf⟩ := ob hf
    refine ls_get E hE hL.2.1 he2 hS (fun _ z => z.elim) (lw_V q1010 q1011 q1012 q165 q1013) (by decide) hl (Nat.le_of_ble_eq_true rfl) dX1_areClashing_18 (fun be2 H1 locs1 ge2 hq1 hS => ?_)
    have hP := GP.same hP hq1
    refine o_castS E hK (oQu.keep ge2 hS (fun _ z => z.elim)) rfl q1157 dX1_areClashing_21 ?_
    refine lv_iload_n hx hb dX1_areClashing_24 rfl (lv_at hl 1 rfl) ?_
    refine lv_iload_n hx hb dX1_areClashing_25 rfl (lv_at hl 2 rfl) ?_
    obtain ⟨v3, hv3, hf⟩ := ob hf
    refine g_callp E hE (Pic := fun H => oO D 10 3 [.int e2.1, .int e2.2.1, .int e2.2.2] nN be2 H) ((oQu.keep ge2 hS (fun _ z => z.elim)).weak (fun _ z => z.elim)) hS (As := [.int x1, .int x2]) (to_Quench_isOf l D dT be2 x1 x2 e2 _ hv3) (o_recv hK (oQu.keep ge2 hS (fun _ z => z.elim)) rfl) (lw_V q1235 q1236 q1237 q185 q1238) ⟨rfl, do_Quench_isOf⟩ rfl (by decide) (by decide) hl rfl (Nat.le_of_ble_eq_true rfl) dX1_areClashing_26 (fun H1 locs1 hq1 hS => ?_)
    have hP := GP.same hP hq1
    refine lv_if_eq (tgt := 34) hx hb dX1_areClashing_29 (by decide) (fun kc4 => ?_) (fun kc4 => ?_)
    · have hf := ite_t kc4 hf
      refine lv_iinc (v := st + nI 1) (lv' := [(3, .int (st + nI 1)), (0, .ref h), (1, .int x1), (2, .int x2)]) hx hb dX1_areClashing_34 hl (k := 3) rfl rfl (by decide) rfl (fun ls hl => ?_)
      refine lv_goto (tgt := 2) hx hb dX1_areClashing_37 (by decide) ?_
      cases hf
      exact hk _ _ _ (lv_sub hl [1, 2, 3, 0] rfl) hP hS
    · have hf := ite_f kc4 hf
      refine lv_iconst (v := nI 1) hx hb dX1_areClashing_32 rfl ?_
      cases hf
      have hk : nI 1 = res := hk
      subst hk
      exact g_zret (Pic := fun H => PS D dT h _ ρ H) E hr hlk hP hS rfl dX1_areClashing_33
set_option maxHeartbeats 4000000 in
theorem ds_areClashing : yX1_areClashing.cls = RX1 ∧ yX1_areClashing.cls ≠ "java/lang/invoke/MethodHandle" ∧ yX1_areClashing.cls ≠ "java/lang/invoke/VarHandle" ∧ (parseMethodDescriptor yX1_areClashing.desc).map (fun d => d.parameters.length) = some 2 := ⟨rfl, by decide +kernel, by decide +kernel, by decide +kernel⟩
set_option maxHeartbeats 4000000 in
theorem ts_areClashing (l : Launch) (D : va_G) (dT : Nat → ClassId) (h : Nat) (ρ : Nat → Nat) (x1 : Int32) (x2 : Int32) (L : nwL) (μ : nwM) (res : Int32) (hf : fs_areClashing x1 x2 L μ = some res) : Met l yX1_areClashing (ws_ yX1_areClashing cX1_areClashing 4 (some .boolean)) (rmd 3) (va_Pc [.ref h, .int x1, .int x2] (fun U => (PS D dT h μ ρ U.heap ∧ LR D dT (sA h) ρ L U.heap) ∧ EV D dT U)) (va_Qi (fun r' (_ : Unit) => r' = res) (fun _ t => PS D dT h μ ρ t.heap) (fun _ => False)) 0 0 (fun _ => False) := by
  refine g_met (D := D) (dT := dT) (A := fun _ => False) (own := RX1) (Pic := fun H => PS D dT h μ ρ H ∧ LR D dT (sA h) ρ L H) (by decide) rfl (Nat.le_of_ble_eq_true rfl) ?_
  intro p e s m below meth c ls E hE hr hlk hl hP
  obtain ⟨hP, hL⟩ := hP
  have hK := hE.1
  have hS : va_S (fun _ => False) s.heap s.heap [] := va_S.rf
  obtain ⟨hx, hb, hml, hown, hts⟩ := id E
  have hl : lv_has ls 4 [(0, .ref h), (1, .int x1), (2, .int x2)] := hl
  unfold fs_areClashing at hf
  refine lv_iconst (v := nI 0) hx hb dX1_areClashing_0 rfl ?_
  refine lv_istore_n (lv' := [(3, .int (nI 0)), (0, .ref h), (1, .int x1), (2, .int x2)]) hx hb dX1_areClashing_1 rfl hl (by decide) rfl (fun ls hl => ?_)
  exact fs_areClashing_L2_w E hK hr hlk hE hL x1 x2 μ hf rfl _ _ _ (lv_sub hl [1, 2, 3, 0] rfl) hP hS
set_option maxHeartbeats 4000000 in
noncomputable def fs_add (x1 : Int32) (x2 : Int32) (L : nwL) (μ : nwM) : Option (Int32 × nwM) := (fs_asks x1 x2 μ).bind fun μ2 => (rd_ μ2 4 12 x1).bind fun v3 => (fs_tells (nI 7) ((nI 3) * v3) (nI 99) L μ2).bind fun v5 => some (v5, μ2)
set_option maxHeartbeats 4000000 in
theorem ds_add : yX1_add.cls = RX1 ∧ yX1_add.cls ≠ "java/lang/invoke/MethodHandle" ∧ yX1_add.cls ≠ "java/lang/invoke/VarHandle" ∧ (parseMethodDescriptor yX1_add.desc).map (fun d => d.parameters.length) = some 2 := ⟨rfl, by decide +kernel, by decide +kernel, by decide +kernel⟩
set_option maxHeartbeats 4000000 in
theorem ts_add (l : Launch) (D : va_G) (dT : Nat → ClassId) (h : Nat) (ρ : Nat → Nat) (x1 : Int32) (x2 : Int32) (L : nwL) (μ : nwM) (res : Int32 × nwM) (hf : fs_add x1 x2 L μ = some res) : Met l yX1_add (ws_ yX1_add cX1_add 3 (some .int)) (rmd 405) (va_Pc [.ref h, .int x1, .int x2] (fun U => (PS D dT h μ ρ U.heap ∧ LR D dT (sA h) ρ L U.heap) ∧ EV D dT U)) (va_Qi (fun r' (_ : Unit) => r' = res.1) (fun _ t => PS D dT h res.2 ρ t.heap) (sA h)) 0 0 (sA h) := by
  refine g_met (D := D) (dT := dT) (A := sA h) (own := RX1) (Pic := fun H => PS D dT h μ ρ H ∧ LR D dT (sA h) ρ L H) (by decide) rfl (Nat.le_of_ble_eq_true rfl) ?_
  intro p e s m below meth c ls E hE hr hlk hl hP
  obtain ⟨hP, hL⟩ := hP
  have hK := hE.1
  have hS : va_S (sA h) s.heap s.heap [] := va_S.rf
  obtain ⟨hx, hb, hml, hown, hts⟩ := id E
  have hl : lv_has ls 3 [(0, .ref h), (1, .int x1), (2, .int x2)] := hl
  unfold fs_add at hf
  refine lv_aload_n hx hb dX1_add_0 rfl (lv_at hl 0 rfl) ?_
  refine lv_iload_n hx hb dX1_add_1 rfl (lv_at hl 1 rfl) ?_
  refine lv_iload_n hx hb dX1_add_2 rfl (lv_at hl 2 rfl) ?_
  obtain ⟨μ2, hc1, hf⟩ := ob hf
  refine g_callv E hE (Pic1 := fun H => PS D dT h μ2 _ H) hP hS (fun _ z => z) (As := [.int x1, .int x2]) (ts_asks l D dT h _ x1 x2 μ _ hc1) (g_recv hK hP (shS_h h) rfl) (lw_V q1001 q1003 qs35 q162 q1004) ds_asks rfl (by decide) (by decide) hl rfl (Nat.le_of_ble_eq_true rfl) dX1_add_3 (fun H locs hP _ hS => ?_)
  refine lv_aload_n hx hb dX1_add_6 rfl (lv_at hl 0 rfl) ?_
  refine lv_bipush (v := nI 7) hx hb dX1_add_7 rfl ?_
  refine lv_iconst (v := nI 3) hx hb dX1_add_9 rfl ?_
  refine lv_aload_n hx hb dX1_add_10 rfl (lv_at hl 0 rfl) ?_
  refine gp_get (C := RX1) (T := TX1) E hK hP (shS_h h) rfl in_X1 4 (by decide) (hts _ q247) (fun _ z => z) (vS_a (by decide) (by decide)) dX1_add_11 ?_
  refine lv_iload_n hx hb dX1_add_14 rfl (lv_at hl 1 rfl) ?_
  obtain ⟨v3, hv3, hf⟩ := ob hf
  refine gp_iald E hK hP (shS_a (by decide) (by decide)) (rd_in hv3).1 (by rw [vS_e (by decide) (by decide), ← (rd_in hv3).2]) dX1_add_15 ?_
  refine lv_imul hx hb dX1_add_16 ?_
  refine lv_bipush (v := nI 99) hx hb dX1_add_17 rfl ?_
  obtain ⟨v5, hc4, hf⟩ := ob hf
  refine g_calli E hE (Pic := fun H => PS D dT h μ2 _ H ∧ LR D dT (sA h) ρ L H) (Pic1 := fun H => PS D dT h μ2 _ H) ⟨hP, hL.keep hS (fun _ z => z)⟩ hS (fun _ z => z.elim) (As := [.int (nI 7), .int ((nI 3) * v3), .int (nI 99)]) (ts_tells l D dT h _ (nI 7) ((nI 3) * v3) (nI 99) L μ2 _ hc4) (g_recv hK hP (shS_h h) rfl) (lw_V q1005 q1007 qs36 q162 q1008) ds_tells rfl (by decide) (by decide) hl rfl (Nat.le_of_ble_eq_true rfl) dX1_add_19 (fun H locs hP _ hS => ?_)
  cases hf
  exact g_iret (Pic := fun H => PS D dT h _ ρ H) E hr hlk hP hS rfl dX1_add_22
set_option maxHeartbeats 4000000 in
noncomputable def fs_cost (x1 : Int32) (L : nwL) (μ : nwM) : Option (Int32 × nwM) := (rd_ μ 5 12 x1).bind fun v1 => (fs_asks x1 v1 μ).bind fun μ3 => (rd_ μ3 4 12 x1).bind fun v4 => (fs_tells (nI 9) v4 (nI 999) L μ3).bind fun v6 => some (v6, μ3)
set_option maxHeartbeats 4000000 in
theorem ds_cost : yX1_cost.cls = RX1 ∧ yX1_cost.cls ≠ "java/lang/invoke/MethodHandle" ∧ yX1_cost.cls ≠ "java/lang/invoke/VarHandle" ∧ (parseMethodDescriptor yX1_cost.desc).map (fun d => d.parameters.length) = some 1 := ⟨rfl, by decide +kernel, by decide +kernel, by decide +kernel⟩
set_option maxHeartbeats 4000000 in
theorem ts_cost (l : Launch) (D : va_G) (dT : Nat → ClassId) (h : Nat) (ρ : Nat → Nat) (x1 : Int32) (L : nwL) (μ : nwM) (res : Int32 × nwM) (hf : fs_cost x1 L μ = some res) : Met l yX1_cost (ws_ yX1_cost cX1_cost 2 (some .int)) (rmd 405) (va_Pc [.ref h, .int x1] (fun U => (PS D dT h μ ρ U.heap ∧ LR D dT (sA h) ρ L U.heap) ∧ EV D dT U)) (va_Qi (fun r' (_ : Unit) => r' = res.1) (fun _ t => PS D dT h res.2 ρ t.heap) (sA h)) 0 0 (sA h) := by
  refine g_met (D := D) (dT := dT) (A := sA h) (own := RX1) (Pic := fun H => PS D dT h μ ρ H ∧ LR D dT (sA h) ρ L H) (by decide) rfl (Nat.le_of_ble_eq_true rfl) ?_
  intro p e s m below meth c ls E hE hr hlk hl hP
  obtain ⟨hP, hL⟩ := hP
  have hK := hE.1
  have hS : va_S (sA h) s.heap s.heap [] := va_S.rf
  obtain ⟨hx, hb, hml, hown, hts⟩ := id E
  have hl : lv_has ls 2 [(0, .ref h), (1, .int x1)] := hl
  unfold fs_cost at hf
  refine lv_aload_n hx hb dX1_cost_0 rfl (lv_at hl 0 rfl) ?_
  refine lv_iload_n hx hb dX1_cost_1 rfl (lv_at hl 1 rfl) ?_
  refine lv_aload_n hx hb dX1_cost_2 rfl (lv_at hl 0 rfl) ?_
  refine gp_get (C := RX1) (T := TX1) E hK hP (shS_h h) rfl in_X1 5 (by decide) (hts _ q249) (fun _ z => z) (vS_a (by decide) (by decide)) dX1_cost_3 ?_
  refine lv_iload_n hx hb dX1_cost_6 rfl (lv_at hl 1 rfl) ?_
  obtain ⟨v1, hv1, hf⟩ := ob hf
  refine gp_iald E hK hP (shS_a (by decide) (by decide)) (rd_in hv1).1 (by rw [vS_e (by decide) (by decide), ← (rd_in hv1).2]) dX1_cost_7 ?_
  obtain ⟨μ3, hc2, hf⟩ := ob hf
  refine g_callv E hE (Pic1 := fun H => PS D dT h μ3 _ H) hP hS (fun _ z => z) (As := [.int x1, .int v1]) (ts_asks l D dT h _ x1 v1 μ _ hc2) (g_recv hK hP (shS_h h) rfl) (lw_V q1001 q1003 qs35 q162 q1004) ds_asks rfl (by decide) (by decide) hl rfl (Nat.le_of_ble_eq_true rfl) dX1_cost_8 (fun H locs hP _ hS => ?_)
  refine lv_aload_n hx hb dX1_cost_11 rfl (lv_at hl 0 rfl) ?_
  refine lv_bipush (v := nI 9) hx hb dX1_cost_12 rfl ?_
  refine lv_aload_n hx hb dX1_cost_14 rfl (lv_at hl 0 rfl) ?_
  refine gp_get (C := RX1) (T := TX1) E hK hP (shS_h h) rfl in_X1 4 (by decide) (hts _ q247) (fun _ z => z) (vS_a (by decide) (by decide)) dX1_cost_15 ?_
  refine lv_iload_n hx hb dX1_cost_18 rfl (lv_at hl 1 rfl) ?_
  obtain ⟨v4, hv4, hf⟩ := ob hf
  refine gp_iald E hK hP (shS_a (by decide) (by decide)) (rd_in hv4).1 (by rw [vS_e (by decide) (by decide), ← (rd_in hv4).2]) dX1_cost_19 ?_
  refine lv_sipush (v := nI 999) hx hb dX1_cost_20 rfl ?_
  obtain ⟨v6, hc5, hf⟩ := ob hf
  refine g_calli E hE (Pic := fun H => PS D dT h μ3 _ H ∧ LR D dT (sA h) ρ L H) (Pic1 := fun H => PS D dT h μ3 _ H) ⟨hP, hL.keep hS (fun _ z => z)⟩ hS (fun _ z => z.elim) (As := [.int (nI 9), .int v4, .int (nI 999)]) (ts_tells l D dT h _ (nI 9) v4 (nI 999) L μ3 _ hc5) (g_recv hK hP (shS_h h) rfl) (lw_V q1005 q1007 qs36 q162 q1008) ds_tells rfl (by decide) (by decide) hl rfl (Nat.le_of_ble_eq_true rfl) dX1_cost_23 (fun H locs hP _ hS => ?_)
  cases hf
  exact g_iret (Pic := fun H => PS D dT h _ ρ H) E hr hlk hP hS rfl dX1_cost_26
set_option maxHeartbeats 4000000 in
noncomputable def fs_fade (x1 : Int32) (x2 : Int32) (L : nwL) (μ : nwM) : Option (Int32 × nwM) := (wf_ μ 20 (-1)).bind fun μ1 => (wf_ μ1 21 x2).bind fun μ2 => (wf_ μ2 22 x1).bind fun μ3 => (fs_tells (nI 8) (nI 1) (nI 99) L μ3).bind fun v5 => some (v5, μ3)
set_option maxHeartbeats 4000000 in
theorem ds_fade : yX1_fade.cls = RX1 ∧ yX1_fade.cls ≠ "java/lang/invoke/MethodHandle" ∧ yX1_fade.cls ≠ "java/lang/invoke/VarHandle" ∧ (parseMethodDescriptor yX1_fade.desc).map (fun d => d.parameters.length) = some 2 := ⟨rfl, by decide +kernel, by decide +kernel, by decide +kernel⟩
set_option maxHeartbeats 4000000 in
theorem ts_fade (l : Launch) (D : va_G) (dT : Nat → ClassId) (h : Nat) (ρ : Nat → Nat) (x1 : Int32) (x2 : Int32) (L : nwL) (μ : nwM) (res : Int32 × nwM) (hf : fs_fade x1 x2 L μ = some res) : Met l yX1_fade (ws_ yX1_fade cX1_fade 3 (some .int)) (rmd 405) (va_Pc [.ref h, .int x1, .int x2] (fun U => (PS D dT h μ ρ U.heap ∧ LR D dT (sA h) ρ L U.heap) ∧ EV D dT U)) (va_Qi (fun r' (_ : Unit) => r' = res.1) (fun _ t => PS D dT h res.2 ρ t.heap) (sA h)) 0 0 (sA h) := by
  refine g_met (D := D) (dT := dT) (A := sA h) (own := RX1) (Pic := fun H => PS D dT h μ ρ H ∧ LR D dT (sA h) ρ L H) (by decide) rfl (Nat.le_of_ble_eq_true rfl) ?_
  intro p e s m below meth c ls E hE hr hlk hl hP
  obtain ⟨hP, hL⟩ := hP
  have hK := hE.1
  have hS : va_S (sA h) s.heap s.heap [] := va_S.rf
  obtain ⟨hx, hb, hml, hown, hts⟩ := id E
  have hl : lv_has ls 3 [(0, .ref h), (1, .int x1), (2, .int x2)] := hl
  unfold fs_fade at hf
  refine lv_aload_n hx hb dX1_fade_0 rfl (lv_at hl 0 rfl) ?_
  refine lv_iconst (v := (-1)) hx hb dX1_fade_1 rfl ?_
  obtain ⟨μ1, hμ1, hf⟩ := ob hf
  refine gp_put (C := RX1) (T := TX1) (ty := .int) E hK hP hS (sA_h h) (shS_h h) rfl in_X1 tyX1 tyX1_ok nmX1 20 (by decide) (hts _ q280) (fun _ z => z) rfl rfl rfl rfl dX1_fade_2 (fun H locs hP _ hS => ?_)
  have hP := PS_put (by decide) hμ1 hP
  refine lv_aload_n hx hb dX1_fade_5 rfl (lv_at hl 0 rfl) ?_
  refine lv_iload_n hx hb dX1_fade_6 rfl (lv_at hl 2 rfl) ?_
  obtain ⟨μ2, hμ2, hf⟩ := ob hf
  refine gp_put (C := RX1) (T := TX1) (ty := .int) E hK hP hS (sA_h h) (shS_h h) rfl in_X1 tyX1 tyX1_ok nmX1 21 (by decide) (hts _ q281) (fun _ z => z) rfl rfl rfl rfl dX1_fade_7 (fun H locs hP _ hS => ?_)
  have hP := PS_put (by decide) hμ2 hP
  refine lv_aload_n hx hb dX1_fade_10 rfl (lv_at hl 0 rfl) ?_
  refine lv_iload_n hx hb dX1_fade_11 rfl (lv_at hl 1 rfl) ?_
  obtain ⟨μ3, hμ3, hf⟩ := ob hf
  refine gp_put (C := RX1) (T := TX1) (ty := .int) E hK hP hS (sA_h h) (shS_h h) rfl in_X1 tyX1 tyX1_ok nmX1 22 (by decide) (hts _ q282) (fun _ z => z) rfl rfl rfl rfl dX1_fade_12 (fun H locs hP _ hS => ?_)
  have hP := PS_put (by decide) hμ3 hP
  refine lv_aload_n hx hb dX1_fade_15 rfl (lv_at hl 0 rfl) ?_
  refine lv_bipush (v := nI 8) hx hb dX1_fade_16 rfl ?_
  refine lv_iconst (v := nI 1) hx hb dX1_fade_18 rfl ?_
  refine lv_bipush (v := nI 99) hx hb dX1_fade_19 rfl ?_
  obtain ⟨v5, hc4, hf⟩ := ob hf
  refine g_calli E hE (Pic := fun H => PS D dT h μ3 _ H ∧ LR D dT (sA h) ρ L H) (Pic1 := fun H => PS D dT h μ3 _ H) ⟨hP, hL.keep hS (fun _ z => z)⟩ hS (fun _ z => z.elim) (As := [.int (nI 8), .int (nI 1), .int (nI 99)]) (ts_tells l D dT h _ (nI 8) (nI 1) (nI 99) L μ3 _ hc4) (g_recv hK hP (shS_h h) rfl) (lw_V q1005 q1007 qs36 q162 q1008) ds_tells rfl (by decide) (by decide) hl rfl (Nat.le_of_ble_eq_true rfl) dX1_fade_21 (fun H locs hP _ hS => ?_)
  cases hf
  exact g_iret (Pic := fun H => PS D dT h _ ρ H) E hr hlk hP hS rfl dX1_fade_24
set_option maxHeartbeats 4000000 in
noncomputable def fs_calls (x1 : Int32) (x2 : Int32) (x3 : Int32) (L : nwL) (μ : nwM) : Option (Int32 × nwM) := (rw_ 8 x2).bind fun r1 => (rd_ μ 3 12 x1).bind fun v2 => (rr_ μ 0 r1 v2).bind fun v3 => bd2 (fs_add x1 x2 L μ) fun v5 μ6 => (rd_ μ6 3 12 x1).bind fun v7 => (rr_ μ6 0 r1 v7).bind fun v8 => (rd_ μ6 3 12 x1).bind fun v9 => (rr_ μ6 0 r1 v9).bind fun v10 => (ww_ μ6 0 r1 v9 (v10 + ((mn_ (nI 99) (v3 + v5)) - v8))).bind fun μ11 => (rd_ μ11 7 12 x1).bind fun v12 => (wr_ μ11 7 12 x1 (mn_ (nI 999) (v12 + (nI 1)))).bind fun μ13 => (wf_ μ13 16 (mn_ (nI 999) ((μ13 16 0) + (nI 1)))).bind fun μ14 => (fs_notes x3 x1 x2 ((mn_ (nI 99) (v3 + v5)) - v8) μ14).bind fun μ16 => some ((mn_ (nI 99) (v3 + v5)) - v8, μ16)
set_option maxHeartbeats 4000000 in
theorem ds_calls : yX1_calls.cls = RX1 ∧ yX1_calls.cls ≠ "java/lang/invoke/MethodHandle" ∧ yX1_calls.cls ≠ "java/lang/invoke/VarHandle" ∧ (parseMethodDescriptor yX1_calls.desc).map (fun d => d.parameters.length) = some 3 := ⟨rfl, by decide +kernel, by decide +kernel, by decide +kernel⟩
set_option maxHeartbeats 4000000 in
theorem ts_calls (l : Launch) (D : va_G) (dT : Nat → ClassId) (h : Nat) (ρ : Nat → Nat) (x1 : Int32) (x2 : Int32) (x3 : Int32) (L : nwL) (μ : nwM) (res : Int32 × nwM) (hf : fs_calls x1 x2 x3 L μ = some res) : Met l yX1_calls (ws_ yX1_calls cX1_calls 6 (some .int)) (rmd 406) (va_Pc [.ref h, .int x1, .int x2, .int x3] (fun U => (PS D dT h μ ρ U.heap ∧ LR D dT (sA h) ρ L U.heap) ∧ EV D dT U)) (va_Qi (fun r' (_ : Unit) => r' = res.1) (fun _ t => PS D dT h res.2 ρ t.heap) (sA h)) 0 0 (sA h) := by
  refine g_met (D := D) (dT := dT) (A := sA h) (own := RX1) (Pic := fun H => PS D dT h μ ρ H ∧ LR D dT (sA h) ρ L H) (by decide) rfl (Nat.le_of_ble_eq_true rfl) ?_
  intro p e s m below meth c ls E hE hr hlk hl hP
  obtain ⟨hP, hL⟩ := hP
  have hK := hE.1
  have hS : va_S (sA h) s.heap s.heap [] := va_S.rf
  obtain ⟨hx, hb, hml, hown, hts⟩ := id E
  have hl : lv_has ls 6 [(0, .ref h), (1, .int x1), (2, .int x2), (3, .int x3)] := hl
  unfold fs_calls at hf
  refine lv_aload_n hx hb dX1_calls_0 rfl (lv_at hl 0 rfl) ?_
  refine gp_get (C := RX1) (T := TX1) E hK hP (shS_h h) rfl in_X1 0 (by decide) (hts _ q239) (fun _ z => z) (vS_2 (by decide)) dX1_calls_1 ?_
  refine lv_iload_n hx hb dX1_calls_4 rfl (lv_at hl 2 rfl) ?_
  obtain ⟨r1, hr1, hf⟩ := ob hf
  refine gp_aald (t := 2) (ty := .array .int) E hK hP rfl rfl (shS_2 (by decide)) (rw_in hr1).1 (by rw [vS_o (by decide), (rw_in hr1).2.1]) dX1_calls_5 ?_
  refine lv_astore (lv' := [(4, .ref (h + b2 0 + 1 + r1)), (0, .ref h), (1, .int x1), (2, .int x2), (3, .int x3)]) hx hb dX1_calls_6 hl (by decide) rfl (fun ls hl => ?_)
  refine lv_bipush (v := nI 99) hx hb dX1_calls_8 rfl ?_
  refine lv_aload hx hb dX1_calls_10 (lv_at hl 0 rfl) ?_
  refine lv_aload_n hx hb dX1_calls_12 rfl (lv_at hl 1 rfl) ?_
  refine gp_get (C := RX1) (T := TX1) E hK hP (shS_h h) rfl in_X1 3 (by decide) (hts _ q245) (fun _ z => z) (vS_a (by decide) (by decide)) dX1_calls_13 ?_
  refine lv_iload_n hx hb dX1_calls_16 rfl (lv_at hl 2 rfl) ?_
  obtain ⟨v2, hv2, hf⟩ := ob hf
  refine gp_iald E hK hP (shS_a (by decide) (by decide)) (rd_in hv2).1 (by rw [vS_e (by decide) (by decide), ← (rd_in hv2).2]) dX1_calls_17 ?_
  obtain ⟨v3, hv3, hf⟩ := ob hf
  refine gp_iald E hK hP (shS_r (by decide) (rw_in hr1).2.2) (rr_in hv3).1 (by rw [vS_r (by decide) (rw_in hr1).2.2, ← (rr_in hv3).2]) dX1_calls_18 ?_
  refine lv_aload_n hx hb dX1_calls_19 rfl (lv_at hl 1 rfl) ?_
  refine lv_iload_n hx hb dX1_calls_20 rfl (lv_at hl 2 rfl) ?_
  refine lv_iload_n hx hb dX1_calls_21 rfl (lv_at hl 3 rfl) ?_
  obtain ⟨v5, μ6, hc4, hf⟩ := ob2 hf
  refine g_calli E hE (Pic := fun H => PS D dT h μ _ H ∧ LR D dT (sA h) ρ L H) (Pic1 := fun H => PS D dT h μ6 _ H) ⟨hP, hL.keep hS (fun _ z => z)⟩ hS (fun _ z => z) (As := [.int x1, .int x2]) (ts_add l D dT h _ x1 x2 L μ _ hc4) (g_recv hK hP (shS_h h) rfl) (lw_V q997 q998 q999 q162 q1000) ds_add rfl (by decide) (by decide) hl rfl (Nat.le_of_ble_eq_true rfl) dX1_calls_22 (fun H locs hP _ hS => ?_)
  refine lv_iadd hx hb dX1_calls_25 ?_
  refine mn_calli E (by decide) hl q1058 q794 q182 q795 (Nat.le_of_ble_eq_true rfl) dX1_calls_26 ?_
  refine lv_nm (y := mn_ (nI 99) (v3 + v5)) rfl ?_
  refine lv_aload hx hb dX1_calls_29 (lv_at hl 0 rfl) ?_
  refine lv_aload_n hx hb dX1_calls_31 rfl (lv_at hl 1 rfl) ?_
  refine gp_get (C := RX1) (T := TX1) E hK hP (shS_h h) rfl in_X1 3 (by decide) (hts _ q245) (fun _ z => z) (vS_a (by decide) (by decide)) dX1_calls_32 ?_
  refine lv_iload_n hx hb dX1_calls_35 rfl (lv_at hl 2 rfl) ?_
  obtain ⟨v7, hv7, hf⟩ := ob hf
  refine gp_iald E hK hP (shS_a (by decide) (by decide)) (rd_in hv7).1 (by rw [vS_e (by decide) (by decide), ← (rd_in hv7).2]) dX1_calls_36 ?_
  obtain ⟨v8, hv8, hf⟩ := ob hf
  refine gp_iald E hK hP (shS_r (by decide) (rw_in hr1).2.2) (rr_in hv8).1 (by rw [vS_r (by decide) (rw_in hr1).2.2, ← (rr_in hv8).2]) dX1_calls_37 ?_
  refine lv_isub hx hb dX1_calls_38 ?_
  refine lv_istore (lv' := [(5, .int ((mn_ (nI 99) (v3 + v5)) - v8)), (4, .ref (h + b2 0 + 1 + r1)), (0, .ref h), (1, .int x1), (2, .int x2), (3, .int x3)]) hx hb dX1_calls_39 hl (by decide) rfl (fun ls hl => ?_)
  refine lv_aload hx hb dX1_calls_41 (lv_at hl 1 rfl) ?_
  refine lv_aload_n hx hb dX1_calls_43 rfl (lv_at hl 2 rfl) ?_
  refine gp_get (C := RX1) (T := TX1) E hK hP (shS_h h) rfl in_X1 3 (by decide) (hts _ q245) (fun _ z => z) (vS_a (by decide) (by decide)) dX1_calls_44 ?_
  refine lv_iload_n hx hb dX1_calls_47 rfl (lv_at hl 3 rfl) ?_
  obtain ⟨v9, hv9, hf⟩ := ob hf
  refine gp_iald E hK hP (shS_a (by decide) (by decide)) (rd_in hv9).1 (by rw [vS_e (by decide) (by decide), ← (rd_in hv9).2]) dX1_calls_48 ?_
  refine lv_dup2_11 hx hb dX1_calls_49 rfl rfl ?_
  obtain ⟨v10, hv10, hf⟩ := ob hf
  refine gp_iald E hK hP (shS_r (by decide) (rw_in hr1).2.2) (rr_in hv10).1 (by rw [vS_r (by decide) (rw_in hr1).2.2, ← (rr_in hv10).2]) dX1_calls_50 ?_
  refine lv_iload hx hb dX1_calls_51 (lv_at hl 0 rfl) ?_
  refine lv_iadd hx hb dX1_calls_53 ?_
  obtain ⟨μ11, hμ11, hf⟩ := ob hf
  refine gp_iast E hK hP hS (sA_r (by decide) (rw_in hr1).2.2) (shS_r (by decide) (rw_in hr1).2.2) (ww_in hμ11).1 dX1_calls_54 (fun H locs hP _ hS => ?_)
  have hP := PS_rast (by decide) (rw_in hr1).2.2 hμ11 hP
  refine lv_aload_n hx hb dX1_calls_55 rfl (lv_at hl 2 rfl) ?_
  refine gp_get (C := RX1) (T := TX1) E hK hP (shS_h h) rfl in_X1 7 (by decide) (hts _ q253) (fun _ z => z) (vS_a (by decide) (by decide)) dX1_calls_56 ?_
  refine lv_iload_n hx hb dX1_calls_59 rfl (lv_at hl 3 rfl) ?_
  refine lv_sipush (v := nI 999) hx hb dX1_calls_60 rfl ?_
  refine lv_aload_n hx hb dX1_calls_63 rfl (lv_at hl 2 rfl) ?_
  refine gp_get (C := RX1) (T := TX1) E hK hP (shS_h h) rfl in_X1 7 (by decide) (hts _ q253) (fun _ z => z) (vS_a (by decide) (by decide)) dX1_calls_64 ?_
  refine lv_iload_n hx hb dX1_calls_67 rfl (lv_at hl 3 rfl) ?_
  obtain ⟨v12, hv12, hf⟩ := ob hf
  refine gp_iald E hK hP (shS_a (by decide) (by decide)) (rd_in hv12).1 (by rw [vS_e (by decide) (by decide), ← (rd_in hv12).2]) dX1_calls_68 ?_
  refine lv_iconst (v := nI 1) hx hb dX1_calls_69 rfl ?_
  refine lv_iadd hx hb dX1_calls_70 ?_
  refine mn_calli E (by decide) hl q1058 q794 q182 q795 (Nat.le_of_ble_eq_true rfl) dX1_calls_71 ?_
  refine lv_nm (y := mn_ (nI 999) (v12 + (nI 1))) rfl ?_
  obtain ⟨μ13, hμ13, hf⟩ := ob hf
  refine gp_iast E hK hP hS (sA_a (by decide) (by decide)) (shS_a (by decide) (by decide)) (wr_in hμ13).1 dX1_calls_74 (fun H locs hP _ hS => ?_)
  have hP := PS_ast (by decide) (by decide) hμ13 hP
  refine lv_aload_n hx hb dX1_calls_75 rfl (lv_at hl 2 rfl) ?_
  refine lv_sipush (v := nI 999) hx hb dX1_calls_76 rfl ?_
  refine lv_aload_n hx hb dX1_calls_79 rfl (lv_at hl 2 rfl) ?_
  refine gp_get (C := RX1) (T := TX1) E hK hP (shS_h h) rfl in_X1 16 (by decide) (hts _ q272) (fun _ z => z) (vS_i (by decide)) dX1_calls_80 ?_
  refine lv_iconst (v := nI 1) hx hb dX1_calls_83 rfl ?_
  refine lv_iadd hx hb dX1_calls_84 ?_
  refine mn_calli E (by decide) hl q1058 q794 q182 q795 (Nat.le_of_ble_eq_true rfl) dX1_calls_85 ?_
  refine lv_nm (y := mn_ (nI 999) ((μ13 16 0) + (nI 1))) rfl ?_
  obtain ⟨μ14, hμ14, hf⟩ := ob hf
  refine gp_put (C := RX1) (T := TX1) (ty := .int) E hK hP hS (sA_h h) (shS_h h) rfl in_X1 tyX1 tyX1_ok nmX1 16 (by decide) (hts _ q272) (fun _ z => z) rfl rfl rfl rfl dX1_calls_88 (fun H locs hP _ hS => ?_)
  have hP := PS_put (by decide) hμ14 hP
  refine lv_aload_n hx hb dX1_calls_91 rfl (lv_at hl 2 rfl) ?_
  refine lv_iload_n hx hb dX1_calls_92 rfl (lv_at hl 5 rfl) ?_
  refine lv_iload_n hx hb dX1_calls_93 rfl (lv_at hl 3 rfl) ?_
  refine lv_iload_n hx hb dX1_calls_94 rfl (lv_at hl 4 rfl) ?_
  refine lv_iload hx hb dX1_calls_95 (lv_at hl 0 rfl) ?_
  obtain ⟨μ16, hc15, hf⟩ := ob hf
  refine g_callv E hE (Pic1 := fun H => PS D dT h μ16 _ H) hP hS (fun _ z => z) (As := [.int x3, .int x1, .int x2, .int ((mn_ (nI 99) (v3 + v5)) - v8)]) (ts_notes l D dT h _ x3 x1 x2 ((mn_ (nI 99) (v3 + v5)) - v8) μ14 _ hc15) (g_recv hK hP (shS_h h) rfl) (lw_V q1060 q1062 qs37 q162 q1063) ds_notes rfl (by decide) (by decide) hl rfl (Nat.le_of_ble_eq_true rfl) dX1_calls_97 (fun H locs hP _ hS => ?_)
  refine lv_iload hx hb dX1_calls_100 (lv_at hl 0 rfl) ?_
  cases hf
  exact g_iret (Pic := fun H => PS D dT h _ ρ H) E hr hlk hP hS rfl dX1_calls_102
set_option maxHeartbeats 4000000 in
def fs_quenches_L10 (x1 : Int32) (L : nwL) : (Int32 × nwM) → Option ((Int32 × nwM) ⊕ (nwM)) := fun st => (if (nI L.2.1.length) ≤ st.1 then some (.inr st.2) else (lg_ L.2.1 st.1).bind fun e3 => (rw_ 8 x1).bind fun r4 => (rw_ 8 x1).bind fun r5 => (rr_ st.2 0 r5 e3.2.1).bind fun v6 => (rw_ 8 x1).bind fun r7 => (rr_ st.2 0 r7 e3.1).bind fun v8 => (ww_ st.2 0 r4 e3.2.1 (mx_ (nI 0) (v6 - ((e3.2.2 * v8) / (nI 10))))).bind fun μ9 => some (.inl (st.1 + nI 1, μ9)))
set_option maxHeartbeats 4000000 in
noncomputable def fs_quenches_L2 (L : nwL) : (Int32 × nwM) → Option ((Int32 × nwM) ⊕ (nwM)) := fun st => (if (nI 8) ≤ st.1 then some (.inr st.2) else (wh_ (fs_quenches_L10 st.1 L) (nI 0, st.2)).bind fun x10 => some (.inl (st.1 + nI 1, x10)))
set_option maxHeartbeats 4000000 in
noncomputable def fs_quenches (L : nwL) (μ : nwM) : Option (nwM) := (wh_ (fs_quenches_L2 L) (nI 0, μ)).bind fun x11 => some x11
set_option maxHeartbeats 4000000 in
theorem fs_quenches_L10_w {p : Program} {l : Launch} {e : Env} {s : State} {m : MethodId} {args : Array Value} {below : List Frame} {meth : Method} {c : Code} {D : va_G} {dT : Nat → ClassId} {Q : State → Prop} {h : Nat} {ρ : Nat → Nat} {L : nwL} (E : CallFix p m c cX1_quenches 4 s args lw_all RX1) (hK : va_K D nwCl (nwT dT) s) (hE : EV D dT s) (hL : LR D dT (sA h) ρ L s.heap) (x1 : Int32) {st : Int32 × nwM} {x : nwM} (hw : wh_ (fs_quenches_L10 x1 L) st = some x) (hk : (fun x : nwM => ∀ (ls : Array Slot) (H : Heap) (locs : List Loc), lv_has ls 4 [(0, .ref h), (1, .int x1)] → PS D dT h x ρ H → va_S (sA h) s.heap H locs → W p l e (rmd 3) s m args below meth c H locs 0 0 Q (F0 m 85 ls [])) x) : (fun st : Int32 × nwM => ∀ (ls : Array Slot) (H : Heap) (locs : List Loc), lv_has ls 4 [(0, .ref h), (1, .int x1), (2, .int st.1)] → PS D dT h st.2 ρ H → va_S (sA h) s.heap H locs → W p l e (rmd 3) s m args below meth c H locs 0 0 Q (F0 m 10 ls [])) st := by
  obtain ⟨hx, hb, hml, hown, hts⟩ := id E
  refine wh_run (P := (fun st : Int32 × nwM => ∀ (ls : Array Slot) (H : Heap) (locs : List Loc), lv_has ls 4 [(0, .ref h), (1, .int x1), (2, .int st.1)] → PS D dT h st.2 ρ H → va_S (sA h) s.heap H locs → W p l e (rmd 3) s m args below meth c H locs 0 0 Q (F0 m 10 ls []))) (PE := (fun x : nwM => ∀ (ls : Array Slot) (H : Heap) (locs : List Loc), lv_has ls 4 [(0, .ref h), (1, .int x1)] → PS D dT h x ρ H → va_S (sA h) s.heap H locs → W p l e (rmd 3) s m args below meth c H locs 0 0 Q (F0 m 85 ls []))) ?_ hw hk
  clear hw hk
  intro st x hf hk ls H locs hl hP hS
  refine lv_iload_n hx hb dX1_quenches_10 rfl (lv_at hl 2 rfl) ?_
  refine lv_aload_n hx hb dX1_quenches_11 rfl (lv_at hl 0 rfl) ?_
  refine gp_get (C := RX1) (T := TX1) E hK hP (shS_h h) rfl in_X1 10 (by decide) (hts _ q259) (fun _ z => z) (vS_l (by decide) (by decide)) dX1_quenches_12 ?_
  refine ls_size E hE hL.2.1 hS (fun _ z => z) (lw_V q1009 q630 q631 q165 q632) (by decide) hl (Nat.le_of_ble_eq_true rfl) dX1_quenches_15 (fun H1 locs1 hq1 hS => ?_)
  have hP := GP.same hP hq1
  refine lv_icmp_ge (tgt := 85) hx hb dX1_quenches_18 (by decide) (fun kc2 => ?_) (fun kc2 => ?_)
  · have hf := ite_t kc2 hf
    cases hf
    exact hk _ _ _ (lv_sub hl [0, 1] rfl) hP hS
  · have hf := ite_f kc2 hf
    refine lv_aload_n hx hb dX1_quenches_21 rfl (lv_at hl 0 rfl) ?_
    refine gp_get (C := RX1) (T := TX1) E hK hP (shS_h h) rfl in_X1 10 (by decide) (hts _ q259) (fun _ z => z) (vS_l (by decide) (by decide)) dX1_quenches_22 ?_
    refine lv_iload_n hx hb dX1_quenches_25 rfl (lv_at hl 2 rfl) ?_
    obtain ⟨e3, he3, hf⟩ := ob hf
    refine ls_get E hE hL.2.1 he3 hS (fun _ z => z) (lw_V q1010 q1011 q1012 q165 q1013) (by decide) hl (Nat.le_of_ble_eq_true rfl) dX1_quenches_26 (fun be3 H1 locs1 ge3 hq1 hS => ?_)
    have hP := GP.same hP hq1
    refine o_castS E hK (oQu.keep ge3 hS (fun _ z => z)) rfl q1157 dX1_quenches_29 ?_
    refine lv_astore_n (lv' := [(3, .ref be3), (0, .ref h), (1, .int x1), (2, .int st.1)]) hx hb dX1_quenches_32 rfl hl (by decide) rfl (fun ls hl => ?_)
    refine lv_aload_n hx hb dX1_quenches_33 rfl (lv_at hl 1 rfl) ?_
    refine gp_get (C := RX1) (T := TX1) E hK hP (shS_h h) rfl in_X1 0 (by decide) (hts _ q239) (fun _ z => z) (vS_2 (by decide)) dX1_quenches_34 ?_
    refine lv_iload_n hx hb dX1_quenches_37 rfl (lv_at hl 2 rfl) ?_
    obtain ⟨r4, hr4, hf⟩ := ob hf
    refine gp_aald (t := 2) (ty := .array .int) E hK hP rfl rfl (shS_2 (by decide)) (rw_in hr4).1 (by rw [vS_o (by decide), (rw_in hr4).2.1]) dX1_quenches_38 ?_
    refine lv_aload_n hx hb dX1_quenches_39 rfl (lv_at hl 0 rfl) ?_
    refine o_getN (C := RX11) (T := TX11) E hK (oQu.keep ge3 hS (fun _ z => z)) rfl in_X11 1 (by decide) (nfw_27 hE.2) (fun _ z => z) (v := .int e3.2.1) rfl dX1_quenches_40 ?_
    refine lv_iconst (v := nI 0) hx hb dX1_quenches_43 rfl ?_
    refine lv_aload_n hx hb dX1_quenches_44 rfl (lv_at hl 1 rfl) ?_
    refine gp_get (C := RX1) (T := TX1) E hK hP (shS_h h) rfl in_X1 0 (by decide) (hts _ q239) (fun _ z => z) (vS_2 (by decide)) dX1_quenches_45 ?_
    refine lv_iload_n hx hb dX1_quenches_48 rfl (lv_at hl 2 rfl) ?_
    obtain ⟨r5, hr5, hf⟩ := ob hf
    refine gp_aald (t := 2) (ty := .array .int) E hK hP rfl rfl (shS_2 (by decide)) (rw_in hr5).1 (by rw [vS_o (by decide), (rw_in hr5).2.1]) dX1_quenches_49 ?_
    refine lv_aload_n hx hb dX1_quenches_50 rfl (lv_at hl 0 rfl) ?_
    refine o_getN (C := RX11) (T := TX11) E hK (oQu.keep ge3 hS (fun _ z => z)) rfl in_X11 1 (by decide) (nfw_27 hE.2) (fun _ z => z) (v := .int e3.2.1) rfl dX1_quenches_51 ?_
    obtain ⟨v6, hv6, hf⟩ := ob hf
    refine gp_iald E hK hP (shS_r (by decide) (rw_in hr5).2.2) (rr_in hv6).1 (by rw [vS_r (by decide) (rw_in hr5).2.2, ← (rr_in hv6).2]) dX1_quenches_54 ?_
    refine lv_aload_n hx hb dX1_quenches_55 rfl (lv_at hl 0 rfl) ?_
    refine o_getN (C := RX11) (T := TX11) E hK (oQu.keep ge3 hS (fun _ z => z)) rfl in_X11 2 (by decide) (nfw_28 hE.2) (fun _ z => z) (v := .int e3.2.2) rfl dX1_quenches_56 ?_
    refine lv_aload_n hx hb dX1_quenches_59 rfl (lv_at hl 1 rfl) ?_
    refine gp_get (C := RX1) (T := TX1) E hK hP (shS_h h) rfl in_X1 0 (by decide) (hts _ q239) (fun _ z => z) (vS_2 (by decide)) dX1_quenches_60 ?_
    refine lv_iload_n hx hb dX1_quenches_63 rfl (lv_at hl 2 rfl) ?_
    obtain ⟨r7, hr7, hf⟩ := ob hf
    refine gp_aald (t := 2) (ty := .array .int) E hK hP rfl rfl (shS_2 (by decide)) (rw_in hr7).1 (by rw [vS_o (by decide), (rw_in hr7).2.1]) dX1_quenches_64 ?_
    refine lv_aload_n hx hb dX1_quenches_65 rfl (lv_at hl 0 rfl) ?_
    refine o_getN (C := RX11) (T := TX11) E hK (oQu.keep ge3 hS (fun _ z => z)) rfl in_X11 0 (by decide) (nfw_26 hE.2) (fun _ z => z) (v := .int e3.1) rfl dX1_quenches_66 ?_
    obtain ⟨v8, hv8, hf⟩ := ob hf
    refine gp_iald E hK hP (shS_r (by decide) (rw_in hr7).2.2) (rr_in hv8).1 (by rw [vS_r (by decide) (rw_in hr7).2.2, ← (rr_in hv8).2]) dX1_quenches_69 ?_
    refine lv_imul hx hb dX1_quenches_70 ?_
    refine lv_bipush (v := nI 10) hx hb dX1_quenches_71 rfl ?_
    refine lv_idiv hx hb dX1_quenches_73 (by decide) ?_
    refine lv_isub hx hb dX1_quenches_74 ?_
    refine mx_calli E (by decide) hl q1059 q757 q182 q758 (Nat.le_of_ble_eq_true rfl) dX1_quenches_75 ?_
    refine lv_nm (y := mx_ (nI 0) (v6 - ((e3.2.2 * v8) / (nI 10)))) rfl ?_
    obtain ⟨μ9, hμ9, hf⟩ := ob hf
    refine gp_iast E hK hP hS (sA_r (by decide) (rw_in hr4).2.2) (shS_r (by decide) (rw_in hr4).2.2) (ww_in hμ9).1 dX1_quenches_78 (fun H locs hP _ hS => ?_)
    have hP := PS_rast (by decide) (rw_in hr4).2.2 hμ9 hP
    refine lv_iinc (v := st.1 + nI 1) (lv' := [(2, .int (st.1 + nI 1)), (3, .ref be3), (0, .ref h), (1, .int x1)]) hx hb dX1_quenches_79 hl (k := 3) rfl rfl (by decide) rfl (fun ls hl => ?_)
    refine lv_goto (tgt := 10) hx hb dX1_quenches_82 (by decide) ?_
    cases hf
    exact hk _ _ _ (lv_sub hl [2, 3, 0] rfl) hP hS
set_option maxHeartbeats 4000000 in
theorem fs_quenches_L2_w {p : Program} {l : Launch} {e : Env} {s : State} {m : MethodId} {args : Array Value} {below : List Frame} {meth : Method} {c : Code} {D : va_G} {dT : Nat → ClassId} {Q : State → Prop} {h : Nat} {ρ : Nat → Nat} {L : nwL} (E : CallFix p m c cX1_quenches 4 s args lw_all RX1) (hK : va_K D nwCl (nwT dT) s) (hE : EV D dT s) (hL : LR D dT (sA h) ρ L s.heap) {st : Int32 × nwM} {x : nwM} (hw : wh_ (fs_quenches_L2 L) st = some x) (hk : (fun x : nwM => ∀ (ls : Array Slot) (H : Heap) (locs : List Loc), lv_has ls 4 [] → PS D dT h x ρ H → va_S (sA h) s.heap H locs → W p l e (rmd 3) s m args below meth c H locs 0 0 Q (F0 m 91 ls [])) x) : (fun st : Int32 × nwM => ∀ (ls : Array Slot) (H : Heap) (locs : List Loc), lv_has ls 4 [(0, .ref h), (1, .int st.1)] → PS D dT h st.2 ρ H → va_S (sA h) s.heap H locs → W p l e (rmd 3) s m args below meth c H locs 0 0 Q (F0 m 2 ls [])) st := by
  obtain ⟨hx, hb, hml, hown, hts⟩ := id E
  refine wh_run (P := (fun st : Int32 × nwM => ∀ (ls : Array Slot) (H : Heap) (locs : List Loc), lv_has ls 4 [(0, .ref h), (1, .int st.1)] → PS D dT h st.2 ρ H → va_S (sA h) s.heap H locs → W p l e (rmd 3) s m args below meth c H locs 0 0 Q (F0 m 2 ls []))) (PE := (fun x : nwM => ∀ (ls : Array Slot) (H : Heap) (locs : List Loc), lv_has ls 4 [] → PS D dT h x ρ H → va_S (sA h) s.heap H locs → W p l e (rmd 3) s m args below meth c H locs 0 0 Q (F0 m 91 ls []))) ?_ hw hk
  clear hw hk
  intro st x hf hk ls H locs hl hP hS
  refine lv_iload_n hx hb dX1_quenches_2 rfl (lv_at hl 1 rfl) ?_
  refine lv_bipush (v := nI 8) hx hb dX1_quenches_3 rfl ?_
  refine lv_icmp_ge (tgt := 91) hx hb dX1_quenches_5 (by decide) (fun kc1 => ?_) (fun kc1 => ?_)
  · have hf := ite_t kc1 hf
    cases hf
    exact hk _ _ _ (lv_sub hl [] rfl) hP hS
  · have hf := ite_f kc1 hf
    refine lv_iconst (v := nI 0) hx hb dX1_quenches_8 rfl ?_
    refine lv_istore_n (lv' := [(2, .int (nI 0)), (0, .ref h), (1, .int st.1)]) hx hb dX1_quenches_9 rfl hl (by decide) rfl (fun ls hl => ?_)
    obtain ⟨x10, hx10, hf⟩ := ob hf
    refine fs_quenches_L10_w E hK hE hL st.1 hx10 (fun ls H locs hl hP hS => ?_) _ _ _ (lv_sub hl [1, 2, 0] rfl) hP hS
    refine lv_iinc (v := st.1 + nI 1) (lv' := [(1, .int (st.1 + nI 1)), (0, .ref h)]) hx hb dX1_quenches_85 hl (k := 1) rfl rfl (by decide) rfl (fun ls hl => ?_)
    refine lv_goto (tgt := 2) hx hb dX1_quenches_88 (by decide) ?_
    cases hf
    exact hk _ _ _ (lv_sub hl [1, 0] rfl) hP hS
set_option maxHeartbeats 4000000 in
theorem ds_quenches : yX1_quenches.cls = RX1 ∧ yX1_quenches.cls ≠ "java/lang/invoke/MethodHandle" ∧ yX1_quenches.cls ≠ "java/lang/invoke/VarHandle" ∧ (parseMethodDescriptor yX1_quenches.desc).map (fun d => d.parameters.length) = some 0 := ⟨rfl, by decide +kernel, by decide +kernel, by decide +kernel⟩
set_option maxHeartbeats 4000000 in
theorem ts_quenches (l : Launch) (D : va_G) (dT : Nat → ClassId) (h : Nat) (ρ : Nat → Nat) (L : nwL) (μ : nwM) (res : nwM) (hf : fs_quenches L μ = some res) : Met l yX1_quenches (ws_ yX1_quenches cX1_quenches 4 none) (rmd 3) (va_Pc [.ref h] (fun U => (PS D dT h μ ρ U.heap ∧ LR D dT (sA h) ρ L U.heap) ∧ EV D dT U)) (va_Qv (fun (_ : Unit) => True) (fun _ t => PS D dT h res ρ t.heap) (sA h)) 0 0 (sA h) := by
  refine g_met (D := D) (dT := dT) (A := sA h) (own := RX1) (Pic := fun H => PS D dT h μ ρ H ∧ LR D dT (sA h) ρ L H) (by decide) rfl (Nat.le_of_ble_eq_true rfl) ?_
  intro p e s m below meth c ls E hE hr hlk hl hP
  obtain ⟨hP, hL⟩ := hP
  have hK := hE.1
  have hS : va_S (sA h) s.heap s.heap [] := va_S.rf
  obtain ⟨hx, hb, hml, hown, hts⟩ := id E
  have hl : lv_has ls 4 [(0, .ref h)] := hl
  unfold fs_quenches at hf
  refine lv_iconst (v := nI 0) hx hb dX1_quenches_0 rfl ?_
  refine lv_istore_n (lv' := [(1, .int (nI 0)), (0, .ref h)]) hx hb dX1_quenches_1 rfl hl (by decide) rfl (fun ls hl => ?_)
  obtain ⟨x11, hx11, hf⟩ := ob hf
  refine fs_quenches_L2_w E hK hE hL hx11 (fun ls H locs hl hP hS => ?_) _ _ _ (lv_sub hl [1, 0] rfl) hP hS
  cases hf
  exact g_vret (Pic := fun H => PS D dT h _ ρ H) E hr hlk hP hS dX1_quenches_91
set_option maxHeartbeats 4000000 in
noncomputable def fs_fades_L10 (x1 : Int32) (L : nwL) : (Int32 × nwM) → Option ((Int32 × nwM) ⊕ (nwM)) := fun st => (if (nI 5) ≤ st.1 then some (.inr st.2) else (rw_ 8 x1).bind fun r3 => (rw_ 8 x1).bind fun r4 => (rr_ st.2 0 r4 st.1).bind fun v5 => bd2 (fs_fade x1 st.1 L st.2) fun v7 μ8 => (ww_ μ8 0 r3 st.1 (mx_ (nI 0) (v5 - v7))).bind fun μ9 => some (.inl (st.1 + nI 1, μ9)))
set_option maxHeartbeats 4000000 in
noncomputable def fs_fades_L2 (L : nwL) : (Int32 × nwM) → Option ((Int32 × nwM) ⊕ (nwM)) := fun st => (if (nI 8) ≤ st.1 then some (.inr st.2) else (wh_ (fs_fades_L10 st.1 L) (nI 0, st.2)).bind fun x10 => some (.inl (st.1 + nI 1, x10)))
set_option maxHeartbeats 4000000 in
noncomputable def fs_fades (L : nwL) (μ : nwM) : Option (nwM) := (wh_ (fs_fades_L2 L) (nI 0, μ)).bind fun x11 => some x11
set_option maxHeartbeats 4000000 in
theorem fs_fades_L10_w {p : Program} {l : Launch} {e : Env} {s : State} {m : MethodId} {args : Array Value} {below : List Frame} {meth : Method} {c : Code} {D : va_G} {dT : Nat → ClassId} {Q : State → Prop} {h : Nat} {ρ : Nat → Nat} {L : nwL} (E : CallFix p m c cX1_fades 3 s args lw_all RX1) (hK : va_K D nwCl (nwT dT) s) (hE : EV D dT s) (hL : LR D dT (sA h) ρ L s.heap) (x1 : Int32) {st : Int32 × nwM} {x : nwM} (hw : wh_ (fs_fades_L10 x1 L) st = some x) (hk : (fun x : nwM => ∀ (ls : Array Slot) (H : Heap) (locs : List Loc), lv_has ls 3 [(0, .ref h), (1, .int x1)] → PS D dT h x ρ H → va_S (sA h) s.heap H locs → W p l e (rmd 406) s m args below meth c H locs 0 0 Q (F0 m 48 ls [])) x) : (fun st : Int32 × nwM => ∀ (ls : Array Slot) (H : Heap) (locs : List Loc), lv_has ls 3 [(0, .ref h), (1, .int x1), (2, .int st.1)] → PS D dT h st.2 ρ H → va_S (sA h) s.heap H locs → W p l e (rmd 406) s m args below meth c H locs 0 0 Q (F0 m 10 ls [])) st := by
  obtain ⟨hx, hb, hml, hown, hts⟩ := id E
  refine wh_run (P := (fun st : Int32 × nwM => ∀ (ls : Array Slot) (H : Heap) (locs : List Loc), lv_has ls 3 [(0, .ref h), (1, .int x1), (2, .int st.1)] → PS D dT h st.2 ρ H → va_S (sA h) s.heap H locs → W p l e (rmd 406) s m args below meth c H locs 0 0 Q (F0 m 10 ls []))) (PE := (fun x : nwM => ∀ (ls : Array Slot) (H : Heap) (locs : List Loc), lv_has ls 3 [(0, .ref h), (1, .int x1)] → PS D dT h x ρ H → va_S (sA h) s.heap H locs → W p l e (rmd 406) s m args below meth c H locs 0 0 Q (F0 m 48 ls []))) ?_ hw hk
  clear hw hk
  intro st x hf hk ls H locs hl hP hS
  refine lv_iload_n hx hb dX1_fades_10 rfl (lv_at hl 2 rfl) ?_
  refine lv_iconst (v := nI 5) hx hb dX1_fades_11 rfl ?_
  refine lv_icmp_ge (tgt := 48) hx hb dX1_fades_12 (by decide) (fun kc2 => ?_) (fun kc2 => ?_)
  · have hf := ite_t kc2 hf
    cases hf
    exact hk _ _ _ (lv_sub hl [0, 1] rfl) hP hS
  · have hf := ite_f kc2 hf
    refine lv_aload_n hx hb dX1_fades_15 rfl (lv_at hl 0 rfl) ?_
    refine gp_get (C := RX1) (T := TX1) E hK hP (shS_h h) rfl in_X1 0 (by decide) (hts _ q239) (fun _ z => z) (vS_2 (by decide)) dX1_fades_16 ?_
    refine lv_iload_n hx hb dX1_fades_19 rfl (lv_at hl 1 rfl) ?_
    obtain ⟨r3, hr3, hf⟩ := ob hf
    refine gp_aald (t := 2) (ty := .array .int) E hK hP rfl rfl (shS_2 (by decide)) (rw_in hr3).1 (by rw [vS_o (by decide), (rw_in hr3).2.1]) dX1_fades_20 ?_
    refine lv_iload_n hx hb dX1_fades_21 rfl (lv_at hl 2 rfl) ?_
    refine lv_iconst (v := nI 0) hx hb dX1_fades_22 rfl ?_
    refine lv_aload_n hx hb dX1_fades_23 rfl (lv_at hl 0 rfl) ?_
    refine gp_get (C := RX1) (T := TX1) E hK hP (shS_h h) rfl in_X1 0 (by decide) (hts _ q239) (fun _ z => z) (vS_2 (by decide)) dX1_fades_24 ?_
    refine lv_iload_n hx hb dX1_fades_27 rfl (lv_at hl 1 rfl) ?_
    obtain ⟨r4, hr4, hf⟩ := ob hf
    refine gp_aald (t := 2) (ty := .array .int) E hK hP rfl rfl (shS_2 (by decide)) (rw_in hr4).1 (by rw [vS_o (by decide), (rw_in hr4).2.1]) dX1_fades_28 ?_
    refine lv_iload_n hx hb dX1_fades_29 rfl (lv_at hl 2 rfl) ?_
    obtain ⟨v5, hv5, hf⟩ := ob hf
    refine gp_iald E hK hP (shS_r (by decide) (rw_in hr4).2.2) (rr_in hv5).1 (by rw [vS_r (by decide) (rw_in hr4).2.2, ← (rr_in hv5).2]) dX1_fades_30 ?_
    refine lv_aload_n hx hb dX1_fades_31 rfl (lv_at hl 0 rfl) ?_
    refine lv_iload_n hx hb dX1_fades_32 rfl (lv_at hl 1 rfl) ?_
    refine lv_iload_n hx hb dX1_fades_33 rfl (lv_at hl 2 rfl) ?_
    obtain ⟨v7, μ8, hc6, hf⟩ := ob2 hf
    refine g_calli E hE (Pic := fun H => PS D dT h st.2 _ H ∧ LR D dT (sA h) ρ L H) (Pic1 := fun H => PS D dT h μ8 _ H) ⟨hP, hL.keep hS (fun _ z => z)⟩ hS (fun _ z => z) (As := [.int x1, .int st.1]) (ts_fade l D dT h _ x1 st.1 L st.2 _ hc6) (g_recv hK hP (shS_h h) rfl) (lw_V q1174 q1175 q1176 q162 q1177) ds_fade rfl (by decide) (by decide) hl rfl (Nat.le_of_ble_eq_true rfl) dX1_fades_34 (fun H locs hP _ hS => ?_)
    refine lv_isub hx hb dX1_fades_37 ?_
    refine mx_calli E (by decide) hl q1059 q757 q182 q758 (Nat.le_of_ble_eq_true rfl) dX1_fades_38 ?_
    refine lv_nm (y := mx_ (nI 0) (v5 - v7)) rfl ?_
    obtain ⟨μ9, hμ9, hf⟩ := ob hf
    refine gp_iast E hK hP hS (sA_r (by decide) (rw_in hr3).2.2) (shS_r (by decide) (rw_in hr3).2.2) (ww_in hμ9).1 dX1_fades_41 (fun H locs hP _ hS => ?_)
    have hP := PS_rast (by decide) (rw_in hr3).2.2 hμ9 hP
    refine lv_iinc (v := st.1 + nI 1) (lv' := [(2, .int (st.1 + nI 1)), (0, .ref h), (1, .int x1)]) hx hb dX1_fades_42 hl (k := 2) rfl rfl (by decide) rfl (fun ls hl => ?_)
    refine lv_goto (tgt := 10) hx hb dX1_fades_45 (by decide) ?_
    cases hf
    exact hk _ _ _ (lv_sub hl [1, 2, 0] rfl) hP hS
set_option maxHeartbeats 4000000 in
theorem fs_fades_L2_w {p : Program} {l : Launch} {e : Env} {s : State} {m : MethodId} {args : Array Value} {below : List Frame} {meth : Method} {c : Code} {D : va_G} {dT : Nat → ClassId} {Q : State → Prop} {h : Nat} {ρ : Nat → Nat} {L : nwL} (E : CallFix p m c cX1_fades 3 s args lw_all RX1) (hK : va_K D nwCl (nwT dT) s) (hE : EV D dT s) (hL : LR D dT (sA h) ρ L s.heap) {st : Int32 × nwM} {x : nwM} (hw : wh_ (fs_fades_L2 L) st = some x) (hk : (fun x : nwM => ∀ (ls : Array Slot) (H : Heap) (locs : List Loc), lv_has ls 3 [] → PS D dT h x ρ H → va_S (sA h) s.heap H locs → W p l e (rmd 406) s m args below meth c H locs 0 0 Q (F0 m 54 ls [])) x) : (fun st : Int32 × nwM => ∀ (ls : Array Slot) (H : Heap) (locs : List Loc), lv_has ls 3 [(0, .ref h), (1, .int st.1)] → PS D dT h st.2 ρ H → va_S (sA h) s.heap H locs → W p l e (rmd 406) s m args below meth c H locs 0 0 Q (F0 m 2 ls [])) st := by
  obtain ⟨hx, hb, hml, hown, hts⟩ := id E
  refine wh_run (P := (fun st : Int32 × nwM => ∀ (ls : Array Slot) (H : Heap) (locs : List Loc), lv_has ls 3 [(0, .ref h), (1, .int st.1)] → PS D dT h st.2 ρ H → va_S (sA h) s.heap H locs → W p l e (rmd 406) s m args below meth c H locs 0 0 Q (F0 m 2 ls []))) (PE := (fun x : nwM => ∀ (ls : Array Slot) (H : Heap) (locs : List Loc), lv_has ls 3 [] → PS D dT h x ρ H → va_S (sA h) s.heap H locs → W p l e (rmd 406) s m args below meth c H locs 0 0 Q (F0 m 54 ls []))) ?_ hw hk
  clear hw hk
  intro st x hf hk ls H locs hl hP hS
  refine lv_iload_n hx hb dX1_fades_2 rfl (lv_at hl 1 rfl) ?_
  refine lv_bipush (v := nI 8) hx hb dX1_fades_3 rfl ?_
  refine lv_icmp_ge (tgt := 54) hx hb dX1_fades_5 (by decide) (fun kc1 => ?_) (fun kc1 => ?_)
  · have hf := ite_t kc1 hf
    cases hf
    exact hk _ _ _ (lv_sub hl [] rfl) hP hS
  · have hf := ite_f kc1 hf
    refine lv_iconst (v := nI 0) hx hb dX1_fades_8 rfl ?_
    refine lv_istore_n (lv' := [(2, .int (nI 0)), (0, .ref h), (1, .int st.1)]) hx hb dX1_fades_9 rfl hl (by decide) rfl (fun ls hl => ?_)
    obtain ⟨x10, hx10, hf⟩ := ob hf
    refine fs_fades_L10_w E hK hE hL st.1 hx10 (fun ls H locs hl hP hS => ?_) _ _ _ (lv_sub hl [1, 2, 0] rfl) hP hS
    refine lv_iinc (v := st.1 + nI 1) (lv' := [(1, .int (st.1 + nI 1)), (0, .ref h)]) hx hb dX1_fades_48 hl (k := 1) rfl rfl (by decide) rfl (fun ls hl => ?_)
    refine lv_goto (tgt := 2) hx hb dX1_fades_51 (by decide) ?_
    cases hf
    exact hk _ _ _ (lv_sub hl [1, 0] rfl) hP hS
set_option maxHeartbeats 4000000 in
theorem ds_fades : yX1_fades.cls = RX1 ∧ yX1_fades.cls ≠ "java/lang/invoke/MethodHandle" ∧ yX1_fades.cls ≠ "java/lang/invoke/VarHandle" ∧ (parseMethodDescriptor yX1_fades.desc).map (fun d => d.parameters.length) = some 0 := ⟨rfl, by decide +kernel, by decide +kernel, by decide +kernel⟩
set_option maxHeartbeats 4000000 in
theorem ts_fades (l : Launch) (D : va_G) (dT : Nat → ClassId) (h : Nat) (ρ : Nat → Nat) (L : nwL) (μ : nwM) (res : nwM) (hf : fs_fades L μ = some res) : Met l yX1_fades (ws_ yX1_fades cX1_fades 3 none) (rmd 406) (va_Pc [.ref h] (fun U => (PS D dT h μ ρ U.heap ∧ LR D dT (sA h) ρ L U.heap) ∧ EV D dT U)) (va_Qv (fun (_ : Unit) => True) (fun _ t => PS D dT h res ρ t.heap) (sA h)) 0 0 (sA h) := by
  refine g_met (D := D) (dT := dT) (A := sA h) (own := RX1) (Pic := fun H => PS D dT h μ ρ H ∧ LR D dT (sA h) ρ L H) (by decide) rfl (Nat.le_of_ble_eq_true rfl) ?_
  intro p e s m below meth c ls E hE hr hlk hl hP
  obtain ⟨hP, hL⟩ := hP
  have hK := hE.1
  have hS : va_S (sA h) s.heap s.heap [] := va_S.rf
  obtain ⟨hx, hb, hml, hown, hts⟩ := id E
  have hl : lv_has ls 3 [(0, .ref h)] := hl
  unfold fs_fades at hf
  refine lv_iconst (v := nI 0) hx hb dX1_fades_0 rfl ?_
  refine lv_istore_n (lv' := [(1, .int (nI 0)), (0, .ref h)]) hx hb dX1_fades_1 rfl hl (by decide) rfl (fun ls hl => ?_)
  obtain ⟨x11, hx11, hf⟩ := ob hf
  refine fs_fades_L2_w E hK hE hL hx11 (fun ls H locs hl hP hS => ?_) _ _ _ (lv_sub hl [1, 0] rfl) hP hS
  cases hf
  exact g_vret (Pic := fun H => PS D dT h _ ρ H) E hr hlk hP hS dX1_fades_54
set_option maxHeartbeats 4000000 in
noncomputable def fs_criesOut (L : nwL) (μ : nwM) : Option (nwM) := (if (μ 14 0) = 0 then some μ else (if (μ 13 0) = 0 then some μ else bd2 (fs_draw (nI 1000) μ) fun v4 μ5 => (if v4 < (μ5 14 0) then bd2 (fs_draw (μ5 13 0) μ5) fun v8 μ9 => bd2 (fs_draw (nI 8) μ9) fun v11 μ12 => (fs_canCall v8 v11 μ12).bind fun v14 => (if v14 = 0 then some μ12 else bd2 (fs_calls v8 v11 (nI 4) L μ12) fun v17 μ18 => (wf_ μ18 19 ((μ18 19 0) + (nI 1))).bind fun μ19 => some μ19) else some μ5)))
set_option maxHeartbeats 4000000 in
theorem ds_criesOut : yX1_criesOut.cls = RX1 ∧ yX1_criesOut.cls ≠ "java/lang/invoke/MethodHandle" ∧ yX1_criesOut.cls ≠ "java/lang/invoke/VarHandle" ∧ (parseMethodDescriptor yX1_criesOut.desc).map (fun d => d.parameters.length) = some 0 := ⟨rfl, by decide +kernel, by decide +kernel, by decide +kernel⟩
set_option maxHeartbeats 4000000 in
theorem ts_criesOut (l : Launch) (D : va_G) (dT : Nat → ClassId) (h : Nat) (ρ : Nat → Nat) (L : nwL) (μ : nwM) (res : nwM) (hf : fs_criesOut L μ = some res) : Met l yX1_criesOut (ws_ yX1_criesOut cX1_criesOut 3 none) (rmd 407) (va_Pc [.ref h] (fun U => (PS D dT h μ ρ U.heap ∧ LR D dT (sA h) ρ L U.heap) ∧ EV D dT U)) (va_Qv (fun (_ : Unit) => True) (fun _ t => PS D dT h res ρ t.heap) (sA h)) 0 0 (sA h) := by
  refine g_met (D := D) (dT := dT) (A := sA h) (own := RX1) (Pic := fun H => PS D dT h μ ρ H ∧ LR D dT (sA h) ρ L H) (by decide) rfl (Nat.le_of_ble_eq_true rfl) ?_
  intro p e s m below meth c ls E hE hr hlk hl hP
  obtain ⟨hP, hL⟩ := hP
  have hK := hE.1
  have hS : va_S (sA h) s.heap s.heap [] := va_S.rf
  obtain ⟨hx, hb, hml, hown, hts⟩ := id E
  have hl : lv_has ls 3 [(0, .ref h)] := hl
  unfold fs_criesOut at hf
  refine lv_aload_n hx hb dX1_criesOut_0 rfl (lv_at hl 0 rfl) ?_
  refine gp_get (C := RX1) (T := TX1) E hK hP (shS_h h) rfl in_X1 14 (by decide) (hts _ q268) (fun _ z => z) (vS_i (by decide)) dX1_criesOut_1 ?_
  refine lv_if_eq (tgt := 28) hx hb dX1_criesOut_4 (by decide) (fun kc1 => ?_) (fun kc1 => ?_)
  · have hf := ite_t kc1 hf
    cases hf
    exact g_vret (Pic := fun H => PS D dT h _ ρ H) E hr hlk hP hS dX1_criesOut_28
  · have hf := ite_f kc1 hf
    refine lv_aload_n hx hb dX1_criesOut_7 rfl (lv_at hl 0 rfl) ?_
    refine gp_get (C := RX1) (T := TX1) E hK hP (shS_h h) rfl in_X1 13 (by decide) (hts _ q265) (fun _ z => z) (vS_i (by decide)) dX1_criesOut_8 ?_
    refine lv_if_eq (tgt := 28) hx hb dX1_criesOut_11 (by decide) (fun kc2 => ?_) (fun kc2 => ?_)
    · have hf := ite_t kc2 hf
      cases hf
      exact g_vret (Pic := fun H => PS D dT h _ ρ H) E hr hlk hP hS dX1_criesOut_28
    · have hf := ite_f kc2 hf
      refine lv_aload_n hx hb dX1_criesOut_14 rfl (lv_at hl 0 rfl) ?_
      refine lv_sipush (v := nI 1000) hx hb dX1_criesOut_15 rfl ?_
      obtain ⟨v4, μ5, hc3, hf⟩ := ob2 hf
      refine g_calli E hE (Pic1 := fun H => PS D dT h μ5 _ H) hP hS (fun _ z => z) (As := [.int (nI 1000)]) (ts_draw l D dT h _ (nI 1000) μ _ hc3) (g_recv hK hP (shS_h h) rfl) (lw_V q1186 q1187 q1188 q162 q1189) ds_draw rfl (by decide) (by decide) hl rfl (Nat.le_of_ble_eq_true rfl) dX1_criesOut_18 (fun H locs hP _ hS => ?_)
      refine lv_aload_n hx hb dX1_criesOut_21 rfl (lv_at hl 0 rfl) ?_
      refine gp_get (C := RX1) (T := TX1) E hK hP (shS_h h) rfl in_X1 14 (by decide) (hts _ q268) (fun _ z => z) (vS_i (by decide)) dX1_criesOut_22 ?_
      refine lv_icmp_lt (tgt := 29) hx hb dX1_criesOut_25 (by decide) (fun kc6 => ?_) (fun kc6 => ?_)
      · have hf := ite_t kc6 hf
        refine lv_aload_n hx hb dX1_criesOut_29 rfl (lv_at hl 0 rfl) ?_
        refine lv_aload_n hx hb dX1_criesOut_30 rfl (lv_at hl 0 rfl) ?_
        refine gp_get (C := RX1) (T := TX1) E hK hP (shS_h h) rfl in_X1 13 (by decide) (hts _ q265) (fun _ z => z) (vS_i (by decide)) dX1_criesOut_31 ?_
        obtain ⟨v8, μ9, hc7, hf⟩ := ob2 hf
        refine g_calli E hE (Pic1 := fun H => PS D dT h μ9 _ H) hP hS (fun _ z => z) (As := [.int (μ5 13 0)]) (ts_draw l D dT h _ (μ5 13 0) μ5 _ hc7) (g_recv hK hP (shS_h h) rfl) (lw_V q1186 q1187 q1188 q162 q1189) ds_draw rfl (by decide) (by decide) hl rfl (Nat.le_of_ble_eq_true rfl) dX1_criesOut_34 (fun H locs hP _ hS => ?_)
        refine lv_istore_n (lv' := [(1, .int v8), (0, .ref h)]) hx hb dX1_criesOut_37 rfl hl (by decide) rfl (fun ls hl => ?_)
        refine lv_aload_n hx hb dX1_criesOut_38 rfl (lv_at hl 1 rfl) ?_
        refine lv_bipush (v := nI 8) hx hb dX1_criesOut_39 rfl ?_
        obtain ⟨v11, μ12, hc10, hf⟩ := ob2 hf
        refine g_calli E hE (Pic1 := fun H => PS D dT h μ12 _ H) hP hS (fun _ z => z) (As := [.int (nI 8)]) (ts_draw l D dT h _ (nI 8) μ9 _ hc10) (g_recv hK hP (shS_h h) rfl) (lw_V q1186 q1187 q1188 q162 q1189) ds_draw rfl (by decide) (by decide) hl rfl (Nat.le_of_ble_eq_true rfl) dX1_criesOut_41 (fun H locs hP _ hS => ?_)
        refine lv_istore_n (lv' := [(2, .int v11), (1, .int v8), (0, .ref h)]) hx hb dX1_criesOut_44 rfl hl (by decide) rfl (fun ls hl => ?_)
        refine lv_aload_n hx hb dX1_criesOut_45 rfl (lv_at hl 2 rfl) ?_
        refine lv_iload_n hx hb dX1_criesOut_46 rfl (lv_at hl 1 rfl) ?_
        refine lv_iload_n hx hb dX1_criesOut_47 rfl (lv_at hl 0 rfl) ?_
        obtain ⟨v14, hc13, hf⟩ := ob hf
        refine g_calli E hE (Pic1 := fun H => PS D dT h μ12 _ H) hP hS (fun _ z => z.elim) (As := [.int v8, .int v11]) (ts_canCall l D dT h _ v8 v11 μ12 _ hc13) (g_recv hK hP (shS_h h) rfl) (lw_V q1192 q981 q982 q162 q983) ds_canCall rfl (by decide) (by decide) hl rfl (Nat.le_of_ble_eq_true rfl) dX1_criesOut_48 (fun H locs hP _ hS => ?_)
        refine lv_if_ne (tgt := 55) hx hb dX1_criesOut_51 (by decide) (fun kc15 => ?_) (fun kc15 => ?_)
        · have hf := ite_f kc15 hf
          refine lv_aload_n hx hb dX1_criesOut_55 rfl (lv_at hl 2 rfl) ?_
          refine lv_iload_n hx hb dX1_criesOut_56 rfl (lv_at hl 1 rfl) ?_
          refine lv_iload_n hx hb dX1_criesOut_57 rfl (lv_at hl 0 rfl) ?_
          refine lv_iconst (v := nI 4) hx hb dX1_criesOut_58 rfl ?_
          obtain ⟨v17, μ18, hc16, hf⟩ := ob2 hf
          refine g_calli E hE (Pic := fun H => PS D dT h μ12 _ H ∧ LR D dT (sA h) ρ L H) (Pic1 := fun H => PS D dT h μ18 _ H) ⟨hP, hL.keep hS (fun _ z => z)⟩ hS (fun _ z => z) (As := [.int v8, .int v11, .int (nI 4)]) (ts_calls l D dT h _ v8 v11 (nI 4) L μ12 _ hc16) (g_recv hK hP (shS_h h) rfl) (lw_V q1193 q994 q995 q162 q996) ds_calls rfl (by decide) (by decide) hl rfl (Nat.le_of_ble_eq_true rfl) dX1_criesOut_59 (fun H locs hP _ hS => ?_)
          refine lv_pop hx hb dX1_criesOut_62 rfl ?_
          refine lv_aload_n hx hb dX1_criesOut_63 rfl (lv_at hl 2 rfl) ?_
          refine lv_dup hx hb dX1_criesOut_64 rfl ?_
          refine gp_get (C := RX1) (T := TX1) E hK hP (shS_h h) rfl in_X1 19 (by decide) (hts _ q279) (fun _ z => z) (vS_i (by decide)) dX1_criesOut_65 ?_
          refine lv_iconst (v := nI 1) hx hb dX1_criesOut_68 rfl ?_
          refine lv_iadd hx hb dX1_criesOut_69 ?_
          obtain ⟨μ19, hμ19, hf⟩ := ob hf
          refine gp_put (C := RX1) (T := TX1) (ty := .int) E hK hP hS (sA_h h) (shS_h h) rfl in_X1 tyX1 tyX1_ok nmX1 19 (by decide) (hts _ q279) (fun _ z => z) rfl rfl rfl rfl dX1_criesOut_70 (fun H locs hP _ hS => ?_)
          have hP := PS_put (by decide) hμ19 hP
          cases hf
          exact g_vret (Pic := fun H => PS D dT h _ ρ H) E hr hlk hP hS dX1_criesOut_73
        · have hf := ite_t kc15 hf
          cases hf
          exact g_vret (Pic := fun H => PS D dT h _ ρ H) E hr hlk hP hS dX1_criesOut_54
      · have hf := ite_f kc6 hf
        cases hf
        exact g_vret (Pic := fun H => PS D dT h _ ρ H) E hr hlk hP hS dX1_criesOut_28
set_option maxHeartbeats 4000000 in
noncomputable def fs_evening (x1 : Int32) (L : nwL) (μ : nwM) : Option (nwM) := (fs_blows μ).bind fun μ2 => (fs_fades L μ2).bind fun μ4 => (fs_graves μ4).bind fun μ6 => (if x1 = 0 then (wf_ μ6 15 ((μ6 15 0) + (nI 1))).bind fun μ8 => (wf_ μ8 16 (nI 0)).bind fun μ9 => some μ9 else (fs_criesOut L μ6).bind fun μ11 => (wf_ μ11 15 ((μ11 15 0) + (nI 1))).bind fun μ12 => (wf_ μ12 16 (nI 0)).bind fun μ13 => some μ13)
set_option maxHeartbeats 4000000 in
theorem ds_evening : yX1_evening.cls = RX1 ∧ yX1_evening.cls ≠ "java/lang/invoke/MethodHandle" ∧ yX1_evening.cls ≠ "java/lang/invoke/VarHandle" ∧ (parseMethodDescriptor yX1_evening.desc).map (fun d => d.parameters.length) = some 1 := ⟨rfl, by decide +kernel, by decide +kernel, by decide +kernel⟩
set_option maxHeartbeats 4000000 in
theorem ts_evening (l : Launch) (D : va_G) (dT : Nat → ClassId) (h : Nat) (ρ : Nat → Nat) (x1 : Int32) (L : nwL) (μ : nwM) (res : nwM) (hf : fs_evening x1 L μ = some res) : Met l yX1_evening (ws_ yX1_evening cX1_evening 2 none) (rmd 408) (va_Pc [.ref h, .int x1] (fun U => (PS D dT h μ ρ U.heap ∧ LR D dT (sA h) ρ L U.heap) ∧ EV D dT U)) (va_Qv (fun (_ : Unit) => True) (fun _ t => PS D dT h res ρ t.heap) (sA h)) 0 0 (sA h) := by
  refine g_met (D := D) (dT := dT) (A := sA h) (own := RX1) (Pic := fun H => PS D dT h μ ρ H ∧ LR D dT (sA h) ρ L H) (by decide) rfl (Nat.le_of_ble_eq_true rfl) ?_
  intro p e s m below meth c ls E hE hr hlk hl hP
  obtain ⟨hP, hL⟩ := hP
  have hK := hE.1
  have hS : va_S (sA h) s.heap s.heap [] := va_S.rf
  obtain ⟨hx, hb, hml, hown, hts⟩ := id E
  have hl : lv_has ls 2 [(0, .ref h), (1, .int x1)] := hl
  unfold fs_evening at hf
  refine lv_aload_n hx hb dX1_evening_0 rfl (lv_at hl 0 rfl) ?_
  obtain ⟨μ2, hc1, hf⟩ := ob hf
  refine g_callv E hE (Pic1 := fun H => PS D dT h μ2 _ H) hP hS (fun _ z => z) (As := []) (ts_blows l D dT h _ μ _ hc1) (g_recv hK hP (shS_h h) rfl) (lw_V q1162 q1164 qs39 q162 q1165) ds_blows rfl (by decide) (by decide) hl rfl (Nat.le_of_ble_eq_true rfl) dX1_evening_1 (fun H locs hP _ hS => ?_)
  refine lv_aload_n hx hb dX1_evening_4 rfl (lv_at hl 0 rfl) ?_
  obtain ⟨μ4, hc3, hf⟩ := ob hf
  refine g_callv E hE (Pic := fun H => PS D dT h μ2 _ H ∧ LR D dT (sA h) ρ L H) (Pic1 := fun H => PS D dT h μ4 _ H) ⟨hP, hL.keep hS (fun _ z => z)⟩ hS (fun _ z => z) (As := []) (ts_fades l D dT h _ L μ2 _ hc3) (g_recv hK hP (shS_h h) rfl) (lw_V q1170 q1172 qs41 q162 q1173) ds_fades rfl (by decide) (by decide) hl rfl (Nat.le_of_ble_eq_true rfl) dX1_evening_5 (fun H locs hP _ hS => ?_)
  refine lv_aload_n hx hb dX1_evening_8 rfl (lv_at hl 0 rfl) ?_
  obtain ⟨μ6, hc5, hf⟩ := ob hf
  refine g_callv E hE (Pic1 := fun H => PS D dT h μ6 _ H) hP hS (fun _ z => z) (As := []) (ts_graves l D dT h _ μ4 _ hc5) (g_recv hK hP (shS_h h) rfl) (lw_V q1178 q1180 qs42 q162 q1181) ds_graves rfl (by decide) (by decide) hl rfl (Nat.le_of_ble_eq_true rfl) dX1_evening_9 (fun H locs hP _ hS => ?_)
  refine lv_iload_n hx hb dX1_evening_12 rfl (lv_at hl 1 rfl) ?_
  refine lv_if_eq (tgt := 20) hx hb dX1_evening_13 (by decide) (fun kc7 => ?_) (fun kc7 => ?_)
  · have hf := ite_t kc7 hf
    refine lv_aload_n hx hb dX1_evening_20 rfl (lv_at hl 0 rfl) ?_
    refine lv_dup hx hb dX1_evening_21 rfl ?_
    refine gp_get (C := RX1) (T := TX1) E hK hP (shS_h h) rfl in_X1 15 (by decide) (hts _ q270) (fun _ z => z) (vS_i (by decide)) dX1_evening_22 ?_
    refine lv_iconst (v := nI 1) hx hb dX1_evening_25 rfl ?_
    refine lv_iadd hx hb dX1_evening_26 ?_
    obtain ⟨μ8, hμ8, hf⟩ := ob hf
    refine gp_put (C := RX1) (T := TX1) (ty := .int) E hK hP hS (sA_h h) (shS_h h) rfl in_X1 tyX1 tyX1_ok nmX1 15 (by decide) (hts _ q270) (fun _ z => z) rfl rfl rfl rfl dX1_evening_27 (fun H locs hP _ hS => ?_)
    have hP := PS_put (by decide) hμ8 hP
    refine lv_aload_n hx hb dX1_evening_30 rfl (lv_at hl 0 rfl) ?_
    refine lv_iconst (v := nI 0) hx hb dX1_evening_31 rfl ?_
    obtain ⟨μ9, hμ9, hf⟩ := ob hf
    refine gp_put (C := RX1) (T := TX1) (ty := .int) E hK hP hS (sA_h h) (shS_h h) rfl in_X1 tyX1 tyX1_ok nmX1 16 (by decide) (hts _ q272) (fun _ z => z) rfl rfl rfl rfl dX1_evening_32 (fun H locs hP _ hS => ?_)
    have hP := PS_put (by decide) hμ9 hP
    cases hf
    exact g_vret (Pic := fun H => PS D dT h _ ρ H) E hr hlk hP hS dX1_evening_35
  · have hf := ite_f kc7 hf
    refine lv_aload_n hx hb dX1_evening_16 rfl (lv_at hl 0 rfl) ?_
    obtain ⟨μ11, hc10, hf⟩ := ob hf
    refine g_callv E hE (Pic := fun H => PS D dT h μ6 _ H ∧ LR D dT (sA h) ρ L H) (Pic1 := fun H => PS D dT h μ11 _ H) ⟨hP, hL.keep hS (fun _ z => z)⟩ hS (fun _ z => z) (As := []) (ts_criesOut l D dT h _ L μ6 _ hc10) (g_recv hK hP (shS_h h) rfl) (lw_V q1182 q1184 qs43 q162 q1185) ds_criesOut rfl (by decide) (by decide) hl rfl (Nat.le_of_ble_eq_true rfl) dX1_evening_17 (fun H locs hP _ hS => ?_)
    refine lv_aload_n hx hb dX1_evening_20 rfl (lv_at hl 0 rfl) ?_
    refine lv_dup hx hb dX1_evening_21 rfl ?_
    refine gp_get (C := RX1) (T := TX1) E hK hP (shS_h h) rfl in_X1 15 (by decide) (hts _ q270) (fun _ z => z) (vS_i (by decide)) dX1_evening_22 ?_
    refine lv_iconst (v := nI 1) hx hb dX1_evening_25 rfl ?_
    refine lv_iadd hx hb dX1_evening_26 ?_
    obtain ⟨μ12, hμ12, hf⟩ := ob hf
    refine gp_put (C := RX1) (T := TX1) (ty := .int) E hK hP hS (sA_h h) (shS_h h) rfl in_X1 tyX1 tyX1_ok nmX1 15 (by decide) (hts _ q270) (fun _ z => z) rfl rfl rfl rfl dX1_evening_27 (fun H locs hP _ hS => ?_)
    have hP := PS_put (by decide) hμ12 hP
    refine lv_aload_n hx hb dX1_evening_30 rfl (lv_at hl 0 rfl) ?_
    refine lv_iconst (v := nI 0) hx hb dX1_evening_31 rfl ?_
    obtain ⟨μ13, hμ13, hf⟩ := ob hf
    refine gp_put (C := RX1) (T := TX1) (ty := .int) E hK hP hS (sA_h h) (shS_h h) rfl in_X1 tyX1 tyX1_ok nmX1 16 (by decide) (hts _ q272) (fun _ z => z) rfl rfl rfl rfl dX1_evening_32 (fun H locs hP _ hS => ?_)
    have hP := PS_put (by decide) hμ13 hP
    cases hf
    exact g_vret (Pic := fun H => PS D dT h _ ρ H) E hr hlk hP hS dX1_evening_35
