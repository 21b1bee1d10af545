/-! walks, written by my programs -/
set_option maxRecDepth 100000
set_option maxHeartbeats 4000000 in
noncomputable def fx_boats_L37 (x1 : Int32) (x2 : Int32) : (Int32 × nwX) → Option ((Int32 × nwX) ⊕ (Int32 × nwX)) := fun st => bd2 (fx_sails (nI 0) (nI 0) st.1 x1 st.2) fun v5 χ6 => (if v5 = 0 then some (.inl (st.1 + nI 1, χ6)) else some (.inr (st.1, χ6)))
set_option maxHeartbeats 4000000 in
noncomputable def fx_boats (x1 : Int32) (x2 : Int32) (μ : nwX) : Option (Int32 × nwX) := (fi_isIn x1 (nI 1) (nI 6) ()).bind fun v1 => (if v1 = 0 then some ((-1), μ) else (if x2 = 0 then (wh_ (fx_boats_L37 x1 x2) (nI 0, μ)).bind fun x8 => (if x2 = 0 then some (x8.1, x8.2) else (rd_ x8.2.1 11 12 (x2 - (nI 10))).bind fun v10 => some (v10, x8.2)) else (fi_isIn x2 (nI 10) ((nI 9) + ((μ.2.1 0) 13 0)) ()).bind fun v11 => (if v11 = 0 then some ((-1), μ) else (wh_ (fx_boats_L37 x1 x2) (nI 0, μ)).bind fun x13 => (if x2 = 0 then some (x13.1, x13.2) else (rd_ x13.2.1 11 12 (x2 - (nI 10))).bind fun v15 => some (v15, x13.2)))))
set_option maxHeartbeats 4000000 in
theorem fx_boats_L37_w {p : Program} {l : Launch} {e : Env} {s : State} {m : MethodId} {args : Array Value} {below : List Frame} {meth : Method} {c : Code} {D : va_G} {dT : Nat → ClassId} {Q : State → Prop} {g : Nat} (E : CallFix p m c cX0_boats 4 s args lw_all RX0) (hK : va_K D nwCl (nwT dT) s) (hE : EV D dT s) (x1 : Int32) (x2 : Int32) {st : Int32 × nwX} {x : Int32 × nwX} (hw : wh_ (fx_boats_L37 x1 x2) st = some x) (hk : (fun x : Int32 × nwX => ∀ (ls : Array Slot) (H : Heap) (locs : List Loc), lv_has ls 4 [(0, .ref g), (2, .int x2), (3, .int x.1)] → PX D dT g x.2 H → va_S (xA g) s.heap H locs → W p l e (rmd 21) s m args below meth c H locs 0 0 Q (F0 m 54 ls [])) x) : (fun st : Int32 × nwX => ∀ (ls : Array Slot) (H : Heap) (locs : List Loc), lv_has ls 4 [(0, .ref g), (1, .int x1), (2, .int x2), (3, .int st.1)] → PX D dT g st.2 H → va_S (xA g) s.heap H locs → W p l e (rmd 21) s m args below meth c H locs 0 0 Q (F0 m 37 ls [])) st := by
  obtain ⟨hx, hb, hml, hown, hts⟩ := id E
  refine wh_run (P := (fun st : Int32 × nwX => ∀ (ls : Array Slot) (H : Heap) (locs : List Loc), lv_has ls 4 [(0, .ref g), (1, .int x1), (2, .int x2), (3, .int st.1)] → PX D dT g st.2 H → va_S (xA g) s.heap H locs → W p l e (rmd 21) s m args below meth c H locs 0 0 Q (F0 m 37 ls []))) (PE := (fun x : Int32 × nwX => ∀ (ls : Array Slot) (H : Heap) (locs : List Loc), lv_has ls 4 [(0, .ref g), (2, .int x2), (3, .int x.1)] → PX D dT g x.2 H → va_S (xA g) s.heap H locs → W p l e (rmd 21) s m args below meth c H locs 0 0 Q (F0 m 54 ls []))) ?_ hw hk
  clear hw hk
  intro st x hf hk ls H locs hl hP hS
  refine lv_aload_n hx hb dX0_boats_37 rfl (lv_at hl 0 rfl) ?_
  refine lv_iconst (v := nI 0) hx hb dX0_boats_38 rfl ?_
  refine lv_iconst (v := nI 0) hx hb dX0_boats_39 rfl ?_
  refine lv_iload_n hx hb dX0_boats_40 rfl (lv_at hl 3 rfl) ?_
  refine lv_iload_n hx hb dX0_boats_41 rfl (lv_at hl 1 rfl) ?_
  obtain ⟨v5, χ6, hc4, hf⟩ := ob2 hf
  refine gx_calli E hE (Pic := fun H => PX D dT g st.2 H) (Pic1 := fun H => PX D dT g χ6 H) hP hS (fun _ z => z) (As := [.int (nI 0), .int (nI 0), .int st.1, .int x1]) (tx_sails l D dT g (nI 0) (nI 0) st.1 x1 st.2 _ hc4) (g_recv hK hP.1 (shO_g g) rfl) (lw_V q1332 q1334 qs51 q161 q1335) dx_sails rfl (by decide) (by decide) hl rfl (Nat.le_of_ble_eq_true rfl) dX0_boats_42 (fun H locs hP _ _ hS => ?_)
  refine lv_if_ne (tgt := 54) hx hb dX0_boats_45 (by decide) (fun kc7 => ?_) (fun kc7 => ?_)
  · have hf := ite_f kc7 hf
    cases hf
    exact hk _ _ _ (lv_sub hl [0, 2, 3] rfl) hP hS
  · have hf := ite_t kc7 hf
    refine lv_iinc (v := st.1 + nI 1) (lv' := [(3, .int (st.1 + nI 1)), (0, .ref g), (1, .int x1), (2, .int x2)]) hx hb dX0_boats_48 hl (k := 3) rfl rfl (by decide) rfl (fun ls hl => ?_)
    refine lv_goto (tgt := 37) hx hb dX0_boats_51 (by decide) ?_
    cases hf
    exact hk _ _ _ (lv_sub hl [1, 2, 3, 0] rfl) hP hS
set_option maxHeartbeats 4000000 in
theorem dx_boats : yX0_boats.cls = RX0 ∧ yX0_boats.cls ≠ "java/lang/invoke/MethodHandle" ∧ yX0_boats.cls ≠ "java/lang/invoke/VarHandle" ∧ (parseMethodDescriptor yX0_boats.desc).map (fun d => d.parameters.length) = some 2 := ⟨rfl, by decide +kernel, by decide +kernel, by decide +kernel⟩
set_option maxHeartbeats 4000000 in
theorem tx_boats (l : Launch) (D : va_G) (dT : Nat → ClassId) (g : Nat) (x1 : Int32) (x2 : Int32) (μ : nwX) (res : Int32 × nwX) (hf : fx_boats x1 x2 μ = some res) : Met l yX0_boats (ws_ yX0_boats cX0_boats 4 (some .int)) (rmd 21) (va_Pc [.ref g, .int x1, .int x2] (fun U => PX D dT g μ U.heap ∧ EV D dT U)) (va_Qi (fun r' (_ : Unit) => r' = res.1) (fun _ t => PX D dT g res.2 t.heap) (xA g)) 0 0 (xA g) := by
  refine g_met (D := D) (dT := dT) (A := xA g) (own := RX0) (Pic := fun H => PX D dT g μ H) (by decide) rfl (Nat.le_of_ble_eq_true rfl) ?_
  intro p e s m below meth c ls E hE hr hlk hl hP
  have hK := hE.1
  have hS : va_S (xA g) s.heap s.heap [] := va_S.rf
  obtain ⟨hx, hb, hml, hown, hts⟩ := id E
  have hl : lv_has ls 4 [(0, .ref g), (1, .int x1), (2, .int x2)] := hl
  unfold fx_boats at hf
  refine lv_iload_n hx hb dX0_boats_0 rfl (lv_at hl 1 rfl) ?_
  refine lv_iconst (v := nI 1) hx hb dX0_boats_1 rfl ?_
  refine lv_bipush (v := nI 6) hx hb dX0_boats_2 rfl ?_
  obtain ⟨v1, hv1, hf⟩ := ob hf
  refine p_calli E hS (As := [.int x1, .int (nI 1), .int (nI 6)]) (ti_isIn l x1 (nI 1) (nI 6) _ hv1) (lw_S q386 q387 q161 q388) di_isIn rfl (by decide) (by decide) hl rfl (Nat.le_of_ble_eq_true rfl) dX0_boats_4 (fun H1 locs1 hq1 hS => ?_)
  have hP := PX_same hP (hz_all hq1) hq1
  refine lv_if_eq (tgt := 33) hx hb dX0_boats_7 (by decide) (fun kc2 => ?_) (fun kc2 => ?_)
  · have hf := ite_t kc2 hf
    refine lv_iconst (v := (-1)) hx hb dX0_boats_33 rfl ?_
    cases hf
    exact g_iret (Pic := fun H => PX D dT g _ H) E hr hlk hP hS rfl dX0_boats_34
  · have hf := ite_f kc2 hf
    refine lv_iload_n hx hb dX0_boats_10 rfl (lv_at hl 2 rfl) ?_
    refine lv_if_eq (tgt := 35) hx hb dX0_boats_11 (by decide) (fun kc3 => ?_) (fun kc3 => ?_)
    · have hf := ite_t kc3 hf
      refine lv_iconst (v := nI 0) hx hb dX0_boats_35 rfl ?_
      refine lv_istore_n (lv' := [(3, .int (nI 0)), (0, .ref g), (1, .int x1), (2, .int x2)]) hx hb dX0_boats_36 rfl hl (by decide) rfl (fun ls hl => ?_)
      obtain ⟨x8, hx8, hf⟩ := ob hf
      refine fx_boats_L37_w E hK hE x1 x2 hx8 (fun ls H locs hl hP hS => ?_) _ _ _ (lv_sub hl [1, 2, 3, 0] rfl) hP hS
      refine lv_iload_n hx hb dX0_boats_54 rfl (lv_at hl 1 rfl) ?_
      refine lv_if_ne (tgt := 62) hx hb dX0_boats_55 (by decide) (fun kc9 => ?_) (fun kc9 => ?_)
      · have hf := ite_f kc9 hf
        refine lv_aload_n hx hb dX0_boats_62 rfl (lv_at hl 0 rfl) ?_
        refine gp_get (C := RX0) (T := TX0) E hK hP.1 (shO_g g) rfl in_X0 11 (by decide) (hts _ q345) (fun _ z => z) (vO_a (by decide)) dX0_boats_63 ?_
        refine lv_iload_n hx hb dX0_boats_66 rfl (lv_at hl 1 rfl) ?_
        refine lv_bipush (v := nI 10) hx hb dX0_boats_67 rfl ?_
        refine lv_isub hx hb dX0_boats_69 ?_
        obtain ⟨v10, hv10, hf⟩ := ob hf
        refine gp_iald E hK hP.1 (shO_a (by decide) (by decide)) (rd_in hv10).1 (by rw [vO_ae (by decide) (by decide), ← (rd_in hv10).2]) dX0_boats_70 ?_
        cases hf
        exact g_iret (Pic := fun H => PX D dT g _ H) E hr hlk hP hS rfl dX0_boats_71
      · have hf := ite_t kc9 hf
        refine lv_iload_n hx hb dX0_boats_58 rfl (lv_at hl 2 rfl) ?_
        refine lv_goto (tgt := 71) hx hb dX0_boats_59 (by decide) ?_
        cases hf
        exact g_iret (Pic := fun H => PX D dT g _ H) E hr hlk hP hS rfl dX0_boats_71
    · have hf := ite_f kc3 hf
      refine lv_iload_n hx hb dX0_boats_14 rfl (lv_at hl 2 rfl) ?_
      refine lv_bipush (v := nI 10) hx hb dX0_boats_15 rfl ?_
      refine lv_bipush (v := nI 9) hx hb dX0_boats_17 rfl ?_
      refine lv_aload_n hx hb dX0_boats_19 rfl (lv_at hl 0 rfl) ?_
      refine gp_get (C := RX0) (T := TX0) E hK hP.1 (shO_g g) rfl in_X0 4 (by decide) (hts _ q337) (fun _ z => z) vO_4 dX0_boats_20 ?_
      refine gp_getN (C := RX1) (T := TX1) E hK (hP.2.1 0 (by decide)).1 (shS_h _) rfl in_X1 13 (by decide) (nfw_12 hE.2) (fun _ z => z) (vS_i (by decide)) dX0_boats_23 ?_
      refine lv_iadd hx hb dX0_boats_26 ?_
      obtain ⟨v11, hv11, hf⟩ := ob hf
      refine p_calli E hS (As := [.int x2, .int (nI 10), .int ((nI 9) + ((μ.2.1 0) 13 0))]) (ti_isIn l x2 (nI 10) ((nI 9) + ((μ.2.1 0) 13 0)) _ hv11) (lw_S q386 q387 q161 q388) di_isIn rfl (by decide) (by decide) hl rfl (Nat.le_of_ble_eq_true rfl) dX0_boats_27 (fun H1 locs1 hq1 hS => ?_)
      have hP := PX_same hP (hz_all hq1) hq1
      refine lv_if_ne (tgt := 35) hx hb dX0_boats_30 (by decide) (fun kc12 => ?_) (fun kc12 => ?_)
      · have hf := ite_f kc12 hf
        refine lv_iconst (v := nI 0) hx hb dX0_boats_35 rfl ?_
        refine lv_istore_n (lv' := [(3, .int (nI 0)), (0, .ref g), (1, .int x1), (2, .int x2)]) hx hb dX0_boats_36 rfl hl (by decide) rfl (fun ls hl => ?_)
        obtain ⟨x13, hx13, hf⟩ := ob hf
        refine fx_boats_L37_w E hK hE x1 x2 hx13 (fun ls H locs hl hP hS => ?_) _ _ _ (lv_sub hl [1, 2, 3, 0] rfl) hP hS
        refine lv_iload_n hx hb dX0_boats_54 rfl (lv_at hl 1 rfl) ?_
        refine lv_if_ne (tgt := 62) hx hb dX0_boats_55 (by decide) (fun kc14 => ?_) (fun kc14 => ?_)
        · have hf := ite_f kc14 hf
          refine lv_aload_n hx hb dX0_boats_62 rfl (lv_at hl 0 rfl) ?_
          refine gp_get (C := RX0) (T := TX0) E hK hP.1 (shO_g g) rfl in_X0 11 (by decide) (hts _ q345) (fun _ z => z) (vO_a (by decide)) dX0_boats_63 ?_
          refine lv_iload_n hx hb dX0_boats_66 rfl (lv_at hl 1 rfl) ?_
          refine lv_bipush (v := nI 10) hx hb dX0_boats_67 rfl ?_
          refine lv_isub hx hb dX0_boats_69 ?_
          obtain ⟨v15, hv15, hf⟩ := ob hf
          refine gp_iald E hK hP.1 (shO_a (by decide) (by decide)) (rd_in hv15).1 (by rw [vO_ae (by decide) (by decide), ← (rd_in hv15).2]) dX0_boats_70 ?_
          cases hf
          exact g_iret (Pic := fun H => PX D dT g _ H) E hr hlk hP hS rfl dX0_boats_71
        · have hf := ite_t kc14 hf
          refine lv_iload_n hx hb dX0_boats_58 rfl (lv_at hl 2 rfl) ?_
          refine lv_goto (tgt := 71) hx hb dX0_boats_59 (by decide) ?_
          cases hf
          exact g_iret (Pic := fun H => PX D dT g _ H) E hr hlk hP hS rfl dX0_boats_71
      · have hf := ite_t kc12 hf
        refine lv_iconst (v := (-1)) hx hb dX0_boats_33 rfl ?_
        cases hf
        exact g_iret (Pic := fun H => PX D dT g _ H) E hr hlk hP hS rfl dX0_boats_34
