/-! walks, written by my programs -/
set_option maxRecDepth 100000
set_option maxHeartbeats 4000000 in
noncomputable def fs_morning_L2 (L : nwL) : (Int32 × nwM) → Option ((Int32 × nwM) ⊕ (nwM)) := fun st => (if (nI L.2.2.2.length) ≤ st.1 then some (.inr st.2) else (lg_ L.2.2.2 st.1).bind fun e2 => (fo_Deed_isOf (st.2 15 0) e2).bind fun v3 => (if v3 = 0 then some (.inl (st.1 + nI 1, st.2)) else (lg_ L.2.2.2 st.1).bind fun e5 => (fd_does e5 L st.2).bind fun μ6 => some (.inl (st.1 + nI 1, μ6))))
set_option maxHeartbeats 4000000 in
noncomputable def fs_morning (L : nwL) (μ : nwM) : Option (nwM) := (wh_ (fs_morning_L2 L) (nI 0, μ)).bind fun x7 => (fs_quenches L x7).bind fun μ9 => some μ9
set_option maxHeartbeats 4000000 in
theorem fs_morning_L2_w {p : Program} {l : Launch} {e : Env} {s : State} {m : MethodId} {args : Array Value} {below : List Frame} {meth : Method} {c : Code} {D : va_G} {dT : Nat → ClassId} {Q : State → Prop} {h : Nat} {ρ : Nat → Nat} {L : nwL} (E : CallFix p m c cX1_morning 2 s args lw_all RX1) (hK : va_K D nwCl (nwT dT) s) (hE : EV D dT s) (hL : LR D dT (sA h) ρ L s.heap) {st : Int32 × nwM} {x : nwM} (hw : wh_ (fs_morning_L2 L) st = some x) (hk : (fun x : nwM => ∀ (ls : Array Slot) (H : Heap) (locs : List Loc), lv_has ls 2 [(0, .ref h)] → PS D dT h x ρ H → va_S (sA h) s.heap H locs → W p l e (rmd 408) s m args below meth c H locs 0 0 Q (F0 m 55 ls [])) x) : (fun st : Int32 × nwM => ∀ (ls : Array Slot) (H : Heap) (locs : List Loc), lv_has ls 2 [(0, .ref h), (1, .int st.1)] → PS D dT h st.2 ρ H → va_S (sA h) s.heap H locs → W p l e (rmd 408) s m args below meth c H locs 0 0 Q (F0 m 2 ls [])) st := by
  obtain ⟨hx, hb, hml, hown, hts⟩ := id E
  refine wh_run (P := (fun st : Int32 × nwM => ∀ (ls : Array Slot) (H : Heap) (locs : List Loc), lv_has ls 2 [(0, .ref h), (1, .int st.1)] → PS D dT h st.2 ρ H → va_S (sA h) s.heap H locs → W p l e (rmd 408) s m args below meth c H locs 0 0 Q (F0 m 2 ls []))) (PE := (fun x : nwM => ∀ (ls : Array Slot) (H : Heap) (locs : List Loc), lv_has ls 2 [(0, .ref h)] → PS D dT h x ρ H → va_S (sA h) s.heap H locs → W p l e (rmd 408) s m args below meth c H locs 0 0 Q (F0 m 55 ls []))) ?_ hw hk
  clear hw hk
  intro st x hf hk ls H locs hl hP hS
  refine lv_iload_n hx hb dX1_morning_2 rfl (lv_at hl 1 rfl) ?_
  refine lv_aload_n hx hb dX1_morning_3 rfl (lv_at hl 0 rfl) ?_
  refine gp_get (C := RX1) (T := TX1) E hK hP (shS_h h) rfl in_X1 12 (by decide) (hts _ q263) (fun _ z => z) (vS_l (by decide) (by decide)) dX1_morning_4 ?_
  refine ls_size E hE hL.2.2.2 hS (fun _ z => z) (lw_V q1009 q630 q631 q165 q632) (by decide) hl (Nat.le_of_ble_eq_true rfl) dX1_morning_7 (fun H1 locs1 hq1 hS => ?_)
  have hP := GP.same hP hq1
  refine lv_icmp_ge (tgt := 55) hx hb dX1_morning_10 (by decide) (fun kc1 => ?_) (fun kc1 => ?_)
  · have hf := ite_t kc1 hf
    cases hf
    exact hk _ _ _ (lv_sub hl [0] rfl) hP hS
  · have hf := ite_f kc1 hf
    refine lv_aload_n hx hb dX1_morning_13 rfl (lv_at hl 0 rfl) ?_
    refine gp_get (C := RX1) (T := TX1) E hK hP (shS_h h) rfl in_X1 12 (by decide) (hts _ q263) (fun _ z => z) (vS_l (by decide) (by decide)) dX1_morning_14 ?_
    refine lv_iload_n hx hb dX1_morning_17 rfl (lv_at hl 1 rfl) ?_
    obtain ⟨e2, he2, hf⟩ := ob hf
    refine ls_get E hE hL.2.2.2 he2 hS (fun _ z => z) (lw_V q1010 q1011 q1012 q165 q1013) (by decide) hl (Nat.le_of_ble_eq_true rfl) dX1_morning_18 (fun be2 H1 locs1 ge2 hq1 hS => ?_)
    have hP := GP.same hP hq1
    refine de_cast E hE (oDe.keep ge2 hS (fun _ z => z)) q1115 dX1_morning_21 ?_
    refine lv_aload_n hx hb dX1_morning_24 rfl (lv_at hl 0 rfl) ?_
    refine gp_get (C := RX1) (T := TX1) E hK hP (shS_h h) rfl in_X1 15 (by decide) (hts _ q270) (fun _ z => z) (vS_i (by decide)) dX1_morning_25 ?_
    obtain ⟨v3, hv3, hf⟩ := ob hf
    refine de_isOf E hE (oDe.keep ge2 hS (fun _ z => z)) hv3 hS (by decide) hl (Nat.le_of_ble_eq_true rfl) dX1_morning_28 (fun H1 locs1 hq1 hS => ?_)
    have hP := GP.same hP hq1
    refine lv_if_eq (tgt := 49) hx hb dX1_morning_31 (by decide) (fun kc4 => ?_) (fun kc4 => ?_)
    · have hf := ite_t kc4 hf
      refine lv_iinc (v := st.1 + nI 1) (lv' := [(1, .int (st.1 + nI 1)), (0, .ref h)]) hx hb dX1_morning_49 hl (k := 1) rfl rfl (by decide) rfl (fun ls hl => ?_)
      refine lv_goto (tgt := 2) hx hb dX1_morning_52 (by decide) ?_
      cases hf
      exact hk _ _ _ (lv_sub hl [1, 0] rfl) hP hS
    · have hf := ite_f kc4 hf
      refine lv_aload_n hx hb dX1_morning_34 rfl (lv_at hl 0 rfl) ?_
      refine gp_get (C := RX1) (T := TX1) E hK hP (shS_h h) rfl in_X1 12 (by decide) (hts _ q263) (fun _ z => z) (vS_l (by decide) (by decide)) dX1_morning_35 ?_
      refine lv_iload_n hx hb dX1_morning_38 rfl (lv_at hl 1 rfl) ?_
      obtain ⟨e5, he5, hf⟩ := ob hf
      refine ls_get E hE hL.2.2.2 he5 hS (fun _ z => z) (lw_V q1010 q1011 q1012 q165 q1013) (by decide) hl (Nat.le_of_ble_eq_true rfl) dX1_morning_39 (fun be5 H1 locs1 ge5 hq1 hS => ?_)
      have hP := GP.same hP hq1
      refine de_cast E hE (oDe.keep ge5 hS (fun _ z => z)) q1115 dX1_morning_42 ?_
      refine lv_aload_n hx hb dX1_morning_45 rfl (lv_at hl 0 rfl) ?_
      obtain ⟨μ6, hμ6, hf⟩ := ob hf
      refine de_does E hE (oDe.keep ge5 hS (fun _ z => z)) hP (hL.keep hS (fun _ z => z)) hμ6 hS (by decide) hl (Nat.le_of_ble_eq_true rfl) dX1_morning_46 (fun H locs hP hS => ?_)
      refine lv_iinc (v := st.1 + nI 1) (lv' := [(1, .int (st.1 + nI 1)), (0, .ref h)]) hx hb dX1_morning_49 hl (k := 1) rfl rfl (by decide) rfl (fun ls hl => ?_)
      refine lv_goto (tgt := 2) hx hb dX1_morning_52 (by decide) ?_
      cases hf
      exact hk _ _ _ (lv_sub hl [1, 0] rfl) hP hS
set_option maxHeartbeats 4000000 in
theorem ds_morning : yX1_morning.cls = RX1 ∧ yX1_morning.cls ≠ "java/lang/invoke/MethodHandle" ∧ yX1_morning.cls ≠ "java/lang/invoke/VarHandle" ∧ (parseMethodDescriptor yX1_morning.desc).map (fun d => d.parameters.length) = some 0 := ⟨rfl, by decide +kernel, by decide +kernel, by decide +kernel⟩
set_option maxHeartbeats 4000000 in
theorem ts_morning (l : Launch) (D : va_G) (dT : Nat → ClassId) (h : Nat) (ρ : Nat → Nat) (L : nwL) (μ : nwM) (res : nwM) (hf : fs_morning L μ = some res) : Met l yX1_morning (ws_ yX1_morning cX1_morning 2 none) (rmd 408) (va_Pc [.ref h] (fun U => (PS D dT h μ ρ U.heap ∧ LR D dT (sA h) ρ L U.heap) ∧ EV D dT U)) (va_Qv (fun (_ : Unit) => True) (fun _ t => PS D dT h res ρ t.heap) (sA h)) 0 0 (sA h) := by
  refine g_met (D := D) (dT := dT) (A := sA h) (own := RX1) (Pic := fun H => PS D dT h μ ρ H ∧ LR D dT (sA h) ρ L H) (by decide) rfl (Nat.le_of_ble_eq_true rfl) ?_
  intro p e s m below meth c ls E hE hr hlk hl hP
  obtain ⟨hP, hL⟩ := hP
  have hK := hE.1
  have hS : va_S (sA h) s.heap s.heap [] := va_S.rf
  obtain ⟨hx, hb, hml, hown, hts⟩ := id E
  have hl : lv_has ls 2 [(0, .ref h)] := hl
  unfold fs_morning at hf
  refine lv_iconst (v := nI 0) hx hb dX1_morning_0 rfl ?_
  refine lv_istore_n (lv' := [(1, .int (nI 0)), (0, .ref h)]) hx hb dX1_morning_1 rfl hl (by decide) rfl (fun ls hl => ?_)
  obtain ⟨x7, hx7, hf⟩ := ob hf
  refine fs_morning_L2_w E hK hE hL hx7 (fun ls H locs hl hP hS => ?_) _ _ _ (lv_sub hl [1, 0] rfl) hP hS
  refine lv_aload_n hx hb dX1_morning_55 rfl (lv_at hl 0 rfl) ?_
  obtain ⟨μ9, hc8, hf⟩ := ob hf
  refine g_callv E hE (Pic := fun H => PS D dT h x7 _ H ∧ LR D dT (sA h) ρ L H) (Pic1 := fun H => PS D dT h μ9 _ H) ⟨hP, hL.keep hS (fun _ z => z)⟩ hS (fun _ z => z) (As := []) (ts_quenches l D dT h _ L x7 _ hc8) (g_recv hK hP (shS_h h) rfl) (lw_V q1153 q1155 qs38 q162 q1156) ds_quenches rfl (by decide) (by decide) hl rfl (Nat.le_of_ble_eq_true rfl) dX1_morning_56 (fun H locs hP _ hS => ?_)
  cases hf
  exact g_vret (Pic := fun H => PS D dT h _ ρ H) E hr hlk hP hS dX1_morning_59
