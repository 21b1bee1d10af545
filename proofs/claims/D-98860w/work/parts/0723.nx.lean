/-! walks, written by my programs -/
set_option maxRecDepth 100000
set_option maxHeartbeats 4000000 in
noncomputable def fx_ask_L38 (x3 : Int32) (x4 : Int32) (x5 : Int32) (μ : nwX) : (Int32 × Int32 × Int32) → Option ((Int32 × Int32 × Int32) ⊕ (Int32)) := fun st => (if ((μ.2.1 0) 13 0) ≤ st.2.2 then some (.inr st.1) else (if x5 ≤ (nI 1) then some (.inr st.1) else (fx_setsWith x4 x3 ((nI 1) <<< (st.2.2 &&& 31)) μ).bind fun v11 => (if st.1 = (-1) then some (.inl (st.2.2, mx_ v11 (x5 - v11), st.2.2 + nI 1)) else (if (mx_ v11 (x5 - v11)) < st.2.1 then some (.inl (st.2.2, mx_ v11 (x5 - v11), st.2.2 + nI 1)) else some (.inl (st.1, st.2.1, st.2.2 + nI 1))))))
set_option maxHeartbeats 4000000 in
noncomputable def fx_ask (x1 : Int32) (x2 : Int32) (x3 : Int32) (μ : nwX) : Option (Int32 × nwX) := (fi_canRise x1 x2 x3 ()).bind fun v1 => (if v1 = 0 then some ((-1), μ) else bd2 (fx_laysAdds x1 x2 μ) fun v4 χ5 => (fx_setsWith v4 x3 (nI 0) χ5).bind fun v7 => (wh_ (fx_ask_L38 x3 v4 v7 χ5) ((-1), nI 0, nI 0)).bind fun x14 => some (x14, χ5))
set_option maxHeartbeats 4000000 in
theorem fx_ask_L38_w {p : Program} {l : Launch} {e : Env} {s : State} {m : MethodId} {args : Array Value} {below : List Frame} {meth : Method} {c : Code} {D : va_G} {dT : Nat → ClassId} {Q : State → Prop} {g : Nat} (E : CallFix p m c cX0_ask 11 s args lw_all RX0) (hK : va_K D nwCl (nwT dT) s) (hE : EV D dT s) (x3 : Int32) (x4 : Int32) (x5 : Int32) (μ : nwX) {st : Int32 × Int32 × Int32} {x : Int32} (hw : wh_ (fx_ask_L38 x3 x4 x5 μ) st = some x) (hk : (fun x : Int32 => ∀ (ls : Array Slot) (H : Heap) (locs : List Loc), lv_has ls 11 [(6, .int x)] → PX D dT g μ H → va_S (xA g) s.heap H locs → W p l e (rmd 407) s m args below meth c H locs 0 0 Q (F0 m 111 ls [])) x) : (fun st : Int32 × Int32 × Int32 => ∀ (ls : Array Slot) (H : Heap) (locs : List Loc), lv_has ls 11 [(0, .ref g), (3, .int x3), (4, .int x4), (5, .int x5), (6, .int st.1), (7, .int st.2.1), (8, .int st.2.2)] → PX D dT g μ H → va_S (xA g) s.heap H locs → W p l e (rmd 407) s m args below meth c H locs 0 0 Q (F0 m 38 ls [])) st := by
  obtain ⟨hx, hb, hml, hown, hts⟩ := id E
  refine wh_run (P := (fun st : Int32 × Int32 × Int32 => ∀ (ls : Array Slot) (H : Heap) (locs : List Loc), lv_has ls 11 [(0, .ref g), (3, .int x3), (4, .int x4), (5, .int x5), (6, .int st.1), (7, .int st.2.1), (8, .int st.2.2)] → PX D dT g μ H → va_S (xA g) s.heap H locs → W p l e (rmd 407) s m args below meth c H locs 0 0 Q (F0 m 38 ls []))) (PE := (fun x : Int32 => ∀ (ls : Array Slot) (H : Heap) (locs : List Loc), lv_has ls 11 [(6, .int x)] → PX D dT g μ H → va_S (xA g) s.heap H locs → W p l e (rmd 407) s m args below meth c H locs 0 0 Q (F0 m 111 ls []))) ?_ hw hk
  clear hw hk
  intro st x hf hk ls H locs hl hP hS
  refine lv_iload hx hb dX0_ask_38 (lv_at hl 6 rfl) ?_
  refine lv_aload_n hx hb dX0_ask_40 rfl (lv_at hl 0 rfl) ?_
  refine gp_get (C := RX0) (T := TX0) E hK hP.1 (shO_g g) rfl in_X0 4 (by decide) (hts _ q337) (fun _ z => z) vO_4 dX0_ask_41 ?_
  refine gp_getN (C := RX1) (T := TX1) E hK (hP.2.1 0 (by decide)).1 (shS_h _) rfl in_X1 13 (by decide) (nfw_12 hE.2) (fun _ z => z) (vS_i (by decide)) dX0_ask_44 ?_
  refine lv_icmp_ge (tgt := 111) hx hb dX0_ask_47 (by decide) (fun kc8 => ?_) (fun kc8 => ?_)
  · have hf := ite_t kc8 hf
    cases hf
    exact hk _ _ _ (lv_sub hl [4] rfl) hP hS
  · have hf := ite_f kc8 hf
    refine lv_iload hx hb dX0_ask_50 (lv_at hl 3 rfl) ?_
    refine lv_iconst (v := nI 1) hx hb dX0_ask_52 rfl ?_
    refine lv_icmp_le (tgt := 111) hx hb dX0_ask_53 (by decide) (fun kc9 => ?_) (fun kc9 => ?_)
    · have hf := ite_t kc9 hf
      cases hf
      exact hk _ _ _ (lv_sub hl [4] rfl) hP hS
    · have hf := ite_f kc9 hf
      refine lv_aload_n hx hb dX0_ask_56 rfl (lv_at hl 0 rfl) ?_
      refine lv_iload hx hb dX0_ask_57 (lv_at hl 2 rfl) ?_
      refine lv_iload_n hx hb dX0_ask_59 rfl (lv_at hl 1 rfl) ?_
      refine lv_iconst (v := nI 1) hx hb dX0_ask_60 rfl ?_
      refine lv_iload hx hb dX0_ask_61 (lv_at hl 6 rfl) ?_
      refine lv_ishl hx hb dX0_ask_63 ?_
      obtain ⟨v11, hc10, hf⟩ := ob hf
      refine gx_calli E hE (Pic := fun H => PX D dT g μ H) (Pic1 := fun H => PX D dT g μ H) hP hS (fun _ z => z.elim) (As := [.int x4, .int x3, .int ((nI 1) <<< (st.2.2 &&& 31))]) (tx_setsWith l D dT g x4 x3 ((nI 1) <<< (st.2.2 &&& 31)) μ _ hc10) (g_recv hK hP.1 (shO_g g) rfl) (lw_V q1316 q1318 qs49 q161 q1319) dx_setsWith rfl (by decide) (by decide) hl rfl (Nat.le_of_ble_eq_true rfl) dX0_ask_64 (fun H locs hP _ _ hS => ?_)
      refine lv_istore (lv' := [(9, .int v11), (0, .ref g), (3, .int x3), (4, .int x4), (5, .int x5), (6, .int st.1), (7, .int st.2.1), (8, .int st.2.2)]) hx hb dX0_ask_67 hl (by decide) rfl (fun ls hl => ?_)
      refine lv_iload hx hb dX0_ask_69 (lv_at hl 0 rfl) ?_
      refine lv_iload hx hb dX0_ask_71 (lv_at hl 4 rfl) ?_
      refine lv_iload hx hb dX0_ask_73 (lv_at hl 0 rfl) ?_
      refine lv_isub hx hb dX0_ask_75 ?_
      refine mx_calli E (by decide) hl q1253 q757 q182 q758 (Nat.le_of_ble_eq_true rfl) dX0_ask_76 ?_
      refine lv_nm (y := mx_ v11 (x5 - v11)) rfl ?_
      refine lv_istore (lv' := [(10, .int (mx_ v11 (x5 - v11))), (9, .int v11), (0, .ref g), (3, .int x3), (4, .int x4), (5, .int x5), (6, .int st.1), (7, .int st.2.1), (8, .int st.2.2)]) hx hb dX0_ask_79 hl (by decide) rfl (fun ls hl => ?_)
      refine lv_iload hx hb dX0_ask_81 (lv_at hl 6 rfl) ?_
      refine lv_iconst (v := (-1)) hx hb dX0_ask_83 rfl ?_
      refine lv_icmp_eq (tgt := 97) hx hb dX0_ask_84 (by decide) (fun kc12 => ?_) (fun kc12 => ?_)
      · have hf := ite_t kc12 hf
        refine lv_iload hx hb dX0_ask_97 (lv_at hl 0 rfl) ?_
        refine lv_istore (lv' := [(7, .int (mx_ v11 (x5 - v11))), (10, .int (mx_ v11 (x5 - v11))), (9, .int v11), (0, .ref g), (3, .int x3), (4, .int x4), (5, .int x5), (6, .int st.1), (8, .int st.2.2)]) hx hb dX0_ask_99 hl (by decide) rfl (fun ls hl => ?_)
        refine lv_iload hx hb dX0_ask_101 (lv_at hl 8 rfl) ?_
        refine lv_istore (lv' := [(6, .int st.2.2), (7, .int (mx_ v11 (x5 - v11))), (10, .int (mx_ v11 (x5 - v11))), (9, .int v11), (0, .ref g), (3, .int x3), (4, .int x4), (5, .int x5), (8, .int st.2.2)]) hx hb dX0_ask_103 hl (by decide) rfl (fun ls hl => ?_)
        refine lv_iinc (v := st.2.2 + nI 1) (lv' := [(8, .int (st.2.2 + nI 1)), (6, .int st.2.2), (7, .int (mx_ v11 (x5 - v11))), (10, .int (mx_ v11 (x5 - v11))), (9, .int v11), (0, .ref g), (3, .int x3), (4, .int x4), (5, .int x5)]) hx hb dX0_ask_105 hl (k := 8) rfl rfl (by decide) rfl (fun ls hl => ?_)
        refine lv_goto (tgt := 38) hx hb dX0_ask_108 (by decide) ?_
        cases hf
        exact hk _ _ _ (lv_sub hl [5, 6, 7, 8, 1, 2, 0] rfl) hP hS
      · have hf := ite_f kc12 hf
        refine lv_iload hx hb dX0_ask_87 (lv_at hl 0 rfl) ?_
        refine lv_iload hx hb dX0_ask_89 (lv_at hl 7 rfl) ?_
        refine lv_icmp_lt (tgt := 97) hx hb dX0_ask_91 (by decide) (fun kc13 => ?_) (fun kc13 => ?_)
        · have hf := ite_t kc13 hf
          refine lv_iload hx hb dX0_ask_97 (lv_at hl 0 rfl) ?_
          refine lv_istore (lv' := [(7, .int (mx_ v11 (x5 - v11))), (10, .int (mx_ v11 (x5 - v11))), (9, .int v11), (0, .ref g), (3, .int x3), (4, .int x4), (5, .int x5), (6, .int st.1), (8, .int st.2.2)]) hx hb dX0_ask_99 hl (by decide) rfl (fun ls hl => ?_)
          refine lv_iload hx hb dX0_ask_101 (lv_at hl 8 rfl) ?_
          refine lv_istore (lv' := [(6, .int st.2.2), (7, .int (mx_ v11 (x5 - v11))), (10, .int (mx_ v11 (x5 - v11))), (9, .int v11), (0, .ref g), (3, .int x3), (4, .int x4), (5, .int x5), (8, .int st.2.2)]) hx hb dX0_ask_103 hl (by decide) rfl (fun ls hl => ?_)
          refine lv_iinc (v := st.2.2 + nI 1) (lv' := [(8, .int (st.2.2 + nI 1)), (6, .int st.2.2), (7, .int (mx_ v11 (x5 - v11))), (10, .int (mx_ v11 (x5 - v11))), (9, .int v11), (0, .ref g), (3, .int x3), (4, .int x4), (5, .int x5)]) hx hb dX0_ask_105 hl (k := 8) rfl rfl (by decide) rfl (fun ls hl => ?_)
          refine lv_goto (tgt := 38) hx hb dX0_ask_108 (by decide) ?_
          cases hf
          exact hk _ _ _ (lv_sub hl [5, 6, 7, 8, 1, 2, 0] rfl) hP hS
        · have hf := ite_f kc13 hf
          refine lv_goto (tgt := 105) hx hb dX0_ask_94 (by decide) ?_
          refine lv_iinc (v := st.2.2 + nI 1) (lv' := [(8, .int (st.2.2 + nI 1)), (10, .int (mx_ v11 (x5 - v11))), (9, .int v11), (0, .ref g), (3, .int x3), (4, .int x4), (5, .int x5), (6, .int st.1), (7, .int st.2.1)]) hx hb dX0_ask_105 hl (k := 8) rfl rfl (by decide) rfl (fun ls hl => ?_)
          refine lv_goto (tgt := 38) hx hb dX0_ask_108 (by decide) ?_
          cases hf
          exact hk _ _ _ (lv_sub hl [3, 4, 5, 6, 7, 8, 0] rfl) hP hS
set_option maxHeartbeats 4000000 in
theorem dx_ask : yX0_ask.cls = RX0 ∧ yX0_ask.cls ≠ "java/lang/invoke/MethodHandle" ∧ yX0_ask.cls ≠ "java/lang/invoke/VarHandle" ∧ (parseMethodDescriptor yX0_ask.desc).map (fun d => d.parameters.length) = some 3 := ⟨rfl, by decide +kernel, by decide +kernel, by decide +kernel⟩
set_option maxHeartbeats 4000000 in
theorem tx_ask (l : Launch) (D : va_G) (dT : Nat → ClassId) (g : Nat) (x1 : Int32) (x2 : Int32) (x3 : Int32) (μ : nwX) (res : Int32 × nwX) (hf : fx_ask x1 x2 x3 μ = some res) : Met l yX0_ask (ws_ yX0_ask cX0_ask 11 (some .int)) (rmd 407) (va_Pc [.ref g, .int x1, .int x2, .int x3] (fun U => PX D dT g μ U.heap ∧ EV D dT U)) (va_Qi (fun r' (_ : Unit) => r' = res.1) (fun _ t => PX D dT g res.2 t.heap) (xA g)) 0 0 (xA g) := by
  refine g_met (D := D) (dT := dT) (A := xA g) (own := RX0) (Pic := fun H => PX D dT g μ H) (by decide) rfl (Nat.le_of_ble_eq_true rfl) ?_
  intro p e s m below meth c ls E hE hr hlk hl hP
  have hK := hE.1
  have hS : va_S (xA g) s.heap s.heap [] := va_S.rf
  obtain ⟨hx, hb, hml, hown, hts⟩ := id E
  have hl : lv_has ls 11 [(0, .ref g), (1, .int x1), (2, .int x2), (3, .int x3)] := hl
  unfold fx_ask at hf
  refine lv_iload_n hx hb dX0_ask_0 rfl (lv_at hl 1 rfl) ?_
  refine lv_iload_n hx hb dX0_ask_1 rfl (lv_at hl 2 rfl) ?_
  refine lv_iload_n hx hb dX0_ask_2 rfl (lv_at hl 3 rfl) ?_
  obtain ⟨v1, hv1, hf⟩ := ob hf
  refine p_calli E hS (As := [.int x1, .int x2, .int x3]) (ti_canRise l x1 x2 x3 _ hv1) (lw_S q1313 q1314 q161 q1315) di_canRise rfl (by decide) (by decide) hl rfl (Nat.le_of_ble_eq_true rfl) dX0_ask_3 (fun H1 locs1 hq1 hS => ?_)
  have hP := PX_same hP (hz_all hq1) hq1
  refine lv_if_ne (tgt := 11) hx hb dX0_ask_6 (by decide) (fun kc2 => ?_) (fun kc2 => ?_)
  · have hf := ite_f kc2 hf
    refine lv_aload_n hx hb dX0_ask_11 rfl (lv_at hl 0 rfl) ?_
    refine lv_iload_n hx hb dX0_ask_12 rfl (lv_at hl 1 rfl) ?_
    refine lv_iload_n hx hb dX0_ask_13 rfl (lv_at hl 2 rfl) ?_
    obtain ⟨v4, χ5, hc3, hf⟩ := ob2 hf
    refine gx_calli E hE (Pic := fun H => PX D dT g μ H) (Pic1 := fun H => PX D dT g χ5 H) hP hS (fun _ z => z) (As := [.int x1, .int x2]) (tx_laysAdds l D dT g x1 x2 μ _ hc3) (g_recv hK hP.1 (shO_g g) rfl) (lw_V q1287 q1289 qs47 q161 q1290) dx_laysAdds rfl (by decide) (by decide) hl rfl (Nat.le_of_ble_eq_true rfl) dX0_ask_14 (fun H locs hP _ _ hS => ?_)
    refine lv_istore (lv' := [(4, .int v4), (0, .ref g), (1, .int x1), (2, .int x2), (3, .int x3)]) hx hb dX0_ask_17 hl (by decide) rfl (fun ls hl => ?_)
    refine lv_aload_n hx hb dX0_ask_19 rfl (lv_at hl 1 rfl) ?_
    refine lv_iload hx hb dX0_ask_20 (lv_at hl 0 rfl) ?_
    refine lv_iload_n hx hb dX0_ask_22 rfl (lv_at hl 4 rfl) ?_
    refine lv_iconst (v := nI 0) hx hb dX0_ask_23 rfl ?_
    obtain ⟨v7, hc6, hf⟩ := ob hf
    refine gx_calli E hE (Pic := fun H => PX D dT g χ5 H) (Pic1 := fun H => PX D dT g χ5 H) hP hS (fun _ z => z.elim) (As := [.int v4, .int x3, .int (nI 0)]) (tx_setsWith l D dT g v4 x3 (nI 0) χ5 _ hc6) (g_recv hK hP.1 (shO_g g) rfl) (lw_V q1316 q1318 qs49 q161 q1319) dx_setsWith rfl (by decide) (by decide) hl rfl (Nat.le_of_ble_eq_true rfl) dX0_ask_24 (fun H locs hP _ _ hS => ?_)
    refine lv_istore (lv' := [(5, .int v7), (4, .int v4), (0, .ref g), (1, .int x1), (2, .int x2), (3, .int x3)]) hx hb dX0_ask_27 hl (by decide) rfl (fun ls hl => ?_)
    refine lv_iconst (v := (-1)) hx hb dX0_ask_29 rfl ?_
    refine lv_istore (lv' := [(6, .int (-1)), (5, .int v7), (4, .int v4), (0, .ref g), (1, .int x1), (2, .int x2), (3, .int x3)]) hx hb dX0_ask_30 hl (by decide) rfl (fun ls hl => ?_)
    refine lv_iconst (v := nI 0) hx hb dX0_ask_32 rfl ?_
    refine lv_istore (lv' := [(7, .int (nI 0)), (6, .int (-1)), (5, .int v7), (4, .int v4), (0, .ref g), (1, .int x1), (2, .int x2), (3, .int x3)]) hx hb dX0_ask_33 hl (by decide) rfl (fun ls hl => ?_)
    refine lv_iconst (v := nI 0) hx hb dX0_ask_35 rfl ?_
    refine lv_istore (lv' := [(8, .int (nI 0)), (7, .int (nI 0)), (6, .int (-1)), (5, .int v7), (4, .int v4), (0, .ref g), (1, .int x1), (2, .int x2), (3, .int x3)]) hx hb dX0_ask_36 hl (by decide) rfl (fun ls hl => ?_)
    obtain ⟨x14, hx14, hf⟩ := ob hf
    refine fx_ask_L38_w E hK hE x3 v4 v7 χ5 hx14 (fun ls H locs hl hP hS => ?_) _ _ _ (lv_sub hl [5, 8, 4, 3, 2, 1, 0] rfl) hP hS
    refine lv_iload hx hb dX0_ask_111 (lv_at hl 0 rfl) ?_
    cases hf
    exact g_iret (Pic := fun H => PX D dT g _ H) E hr hlk hP hS rfl dX0_ask_113
  · have hf := ite_t kc2 hf
    refine lv_iconst (v := (-1)) hx hb dX0_ask_9 rfl ?_
    cases hf
    exact g_iret (Pic := fun H => PX D dT g _ H) E hr hlk hP hS rfl dX0_ask_10
set_option maxHeartbeats 4000000 in
noncomputable def fx_canSail_L6 (x1 : Int32) (x2 : Int32) (x3 : Int32) (μ : nwX) : (Int32 × Int32) → Option ((Int32 × Int32) ⊕ (Int32)) := fun st => (if x1 ≤ st.2 then (if x3 ≤ st.1 then some (.inr (nI 0)) else some (.inr (nI 1))) else (rd_ μ.1 11 12 st.2).bind fun v3 => (if v3 = x2 then (rd_ (μ.2.1 0) 3 12 st.2).bind fun v5 => (rd_ (μ.2.1 0) 3 12 x1).bind fun v6 => (fs_areClashing v5 v6 (μ.2.2.2.2 0) (μ.2.1 0)).bind fun v8 => (if v8 = 0 then some (.inl (st.1 + nI 1, st.2 + nI 1)) else some (.inr (nI 0))) else some (.inl (st.1, st.2 + nI 1))))
set_option maxHeartbeats 4000000 in
noncomputable def fx_canSail (x1 : Int32) (x2 : Int32) (x3 : Int32) (μ : nwX) : Option (Int32) := wh_ (fx_canSail_L6 x1 x2 x3 μ) (nI 0, nI 0)
set_option maxHeartbeats 4000000 in
theorem fx_canSail_L6_w {p : Program} {l : Launch} {e : Env} {s : State} {m : MethodId} {args : Array Value} {below : List Frame} {meth : Method} {c : Code} {D : va_G} {dT : Nat → ClassId} {g : Nat} (E : CallFix p m c cX0_canSail 6 s args lw_all RX0) (hK : va_K D nwCl (nwT dT) s) (hr : meth.sig.returnType = (some .boolean)) (hlk : meth.locks = false) (hE : EV D dT s) (x1 : Int32) (x2 : Int32) (x3 : Int32) (μ : nwX) {res : Int32} {st : Int32 × Int32} {x : Int32} (hw : wh_ (fx_canSail_L6 x1 x2 x3 μ) st = some x) (hk : (fun r : Int32 => r = res) x) : (fun st : Int32 × Int32 => ∀ (ls : Array Slot) (H : Heap) (locs : List Loc), lv_has ls 6 [(0, .ref g), (1, .int x1), (2, .int x2), (3, .int x3), (4, .int st.1), (5, .int st.2)] → PX D dT g μ H → va_S (fun _ => False) s.heap H locs → W p l e (rmd 4) s m args below meth c H locs 0 0 (MQ below (va_Qi (fun r' (_ : Unit) => r' = res) (fun _ t => PX D dT g μ t.heap) (fun _ => False)) args s 0 0 (fun _ => False)) (F0 m 6 ls [])) st := by
  obtain ⟨hx, hb, hml, hown, hts⟩ := id E
  refine wh_run (P := (fun st : Int32 × Int32 => ∀ (ls : Array Slot) (H : Heap) (locs : List Loc), lv_has ls 6 [(0, .ref g), (1, .int x1), (2, .int x2), (3, .int x3), (4, .int st.1), (5, .int st.2)] → PX D dT g μ H → va_S (fun _ => False) s.heap H locs → W p l e (rmd 4) s m args below meth c H locs 0 0 (MQ below (va_Qi (fun r' (_ : Unit) => r' = res) (fun _ t => PX D dT g μ t.heap) (fun _ => False)) args s 0 0 (fun _ => False)) (F0 m 6 ls []))) (PE := (fun r : Int32 => r = res)) ?_ hw hk
  clear hw hk
  intro st x hf hk ls H locs hl hP hS
  refine lv_iload hx hb dX0_canSail_6 (lv_at hl 5 rfl) ?_
  refine lv_iload_n hx hb dX0_canSail_8 rfl (lv_at hl 1 rfl) ?_
  refine lv_icmp_ge (tgt := 66) hx hb dX0_canSail_9 (by decide) (fun kc1 => ?_) (fun kc1 => ?_)
  · have hf := ite_t kc1 hf
    refine lv_iload hx hb dX0_canSail_66 (lv_at hl 4 rfl) ?_
    refine lv_iload_n hx hb dX0_canSail_68 rfl (lv_at hl 3 rfl) ?_
    refine lv_icmp_ge (tgt := 76) hx hb dX0_canSail_69 (by decide) (fun kc2 => ?_) (fun kc2 => ?_)
    · have hf := ite_t kc2 hf
      refine lv_iconst (v := nI 0) hx hb dX0_canSail_76 rfl ?_
      cases hf
      have hk : nI 0 = res := hk
      subst hk
      exact g_zret (Pic := fun H => PX D dT g _ H) E hr hlk hP hS rfl dX0_canSail_77
    · have hf := ite_f kc2 hf
      refine lv_iconst (v := nI 1) hx hb dX0_canSail_72 rfl ?_
      refine lv_goto (tgt := 77) hx hb dX0_canSail_73 (by decide) ?_
      cases hf
      have hk : nI 1 = res := hk
      subst hk
      exact g_zret (Pic := fun H => PX D dT g _ H) E hr hlk hP hS rfl dX0_canSail_77
  · have hf := ite_f kc1 hf
    refine lv_aload_n hx hb dX0_canSail_12 rfl (lv_at hl 0 rfl) ?_
    refine gp_get (C := RX0) (T := TX0) E hK hP.1 (shO_g g) rfl in_X0 11 (by decide) (hts _ q345) (fun _ z => z) (vO_a (by decide)) dX0_canSail_13 ?_
    refine lv_iload hx hb dX0_canSail_16 (lv_at hl 5 rfl) ?_
    obtain ⟨v3, hv3, hf⟩ := ob hf
    refine gp_iald E hK hP.1 (shO_a (by decide) (by decide)) (rd_in hv3).1 (by rw [vO_ae (by decide) (by decide), ← (rd_in hv3).2]) dX0_canSail_18 ?_
    refine lv_iload_n hx hb dX0_canSail_19 rfl (lv_at hl 2 rfl) ?_
    refine lv_icmp_eq (tgt := 26) hx hb dX0_canSail_20 (by decide) (fun kc4 => ?_) (fun kc4 => ?_)
    · have hf := ite_t kc4 hf
      refine lv_aload_n hx hb dX0_canSail_26 rfl (lv_at hl 0 rfl) ?_
      refine gp_get (C := RX0) (T := TX0) E hK hP.1 (shO_g g) rfl in_X0 4 (by decide) (hts _ q337) (fun _ z => z) vO_4 dX0_canSail_27 ?_
      refine lv_aload_n hx hb dX0_canSail_30 rfl (lv_at hl 0 rfl) ?_
      refine gp_get (C := RX0) (T := TX0) E hK hP.1 (shO_g g) rfl in_X0 4 (by decide) (hts _ q337) (fun _ z => z) vO_4 dX0_canSail_31 ?_
      refine gp_getN (C := RX1) (T := TX1) E hK (hP.2.1 0 (by decide)).1 (shS_h _) rfl in_X1 3 (by decide) (nfw_2 hE.2) (fun _ z => z) (vS_a (by decide) (by decide)) dX0_canSail_34 ?_
      refine lv_iload hx hb dX0_canSail_37 (lv_at hl 5 rfl) ?_
      obtain ⟨v5, hv5, hf⟩ := ob hf
      refine gp_iald E hK (hP.2.1 0 (by decide)).1 (shS_a (by decide) (by decide)) (rd_in hv5).1 (by rw [vS_e (by decide) (by decide), ← (rd_in hv5).2]) dX0_canSail_39 ?_
      refine lv_aload_n hx hb dX0_canSail_40 rfl (lv_at hl 0 rfl) ?_
      refine gp_get (C := RX0) (T := TX0) E hK hP.1 (shO_g g) rfl in_X0 4 (by decide) (hts _ q337) (fun _ z => z) vO_4 dX0_canSail_41 ?_
      refine gp_getN (C := RX1) (T := TX1) E hK (hP.2.1 0 (by decide)).1 (shS_h _) rfl in_X1 3 (by decide) (nfw_2 hE.2) (fun _ z => z) (vS_a (by decide) (by decide)) dX0_canSail_44 ?_
      refine lv_iload_n hx hb dX0_canSail_47 rfl (lv_at hl 1 rfl) ?_
      obtain ⟨v6, hv6, hf⟩ := ob hf
      refine gp_iald E hK (hP.2.1 0 (by decide)).1 (shS_a (by decide) (by decide)) (rd_in hv6).1 (by rw [vS_e (by decide) (by decide), ← (rd_in hv6).2]) dX0_canSail_48 ?_
      obtain ⟨v8, hc7, hf⟩ := ob hf
      refine gx_calli E hE (Pic := fun H => PS D dT (skA g 0) (μ.2.1 0) (μ.2.2.2.1 0) H ∧ LR D dT (sA (skA g 0)) (μ.2.2.2.1 0) (μ.2.2.2.2 0) H) (Pic1 := fun H => PS D dT (skA g 0) (μ.2.1 0) (μ.2.2.2.1 0) H) ⟨(hP.2.1 0 (by decide)).1, (hP.2.1 0 (by decide)).2.weak (fun _ z => xA_s (by decide) z)⟩ hS (fun _ z => z.elim) (As := [.int v5, .int v6]) (ts_areClashing l D dT (skA g 0) (μ.2.2.2.1 0) v5 v6 (μ.2.2.2.2 0) (μ.2.1 0) _ hc7) (g_recv hK (hP.2.1 0 (by decide)).1 (shS_h _) rfl) (lw_V q1231 q1232 q1233 q162 q1234) ds_areClashing rfl (by decide) (by decide) hl rfl (Nat.le_of_ble_eq_true rfl) dX0_canSail_49 (fun H1 locs1 hG hz1 hq1 hS => ?_)
      have hP := PX_same hP hz1 (fun q z => hq1 q z (fun y => y))
      refine lv_if_eq (tgt := 57) hx hb dX0_canSail_52 (by decide) (fun kc9 => ?_) (fun kc9 => ?_)
      · have hf := ite_t kc9 hf
        refine lv_iinc (v := st.1 + nI 1) (lv' := [(4, .int (st.1 + nI 1)), (0, .ref g), (1, .int x1), (2, .int x2), (3, .int x3), (5, .int st.2)]) hx hb dX0_canSail_57 hl (k := 4) rfl rfl (by decide) rfl (fun ls hl => ?_)
        refine lv_iinc (v := st.2 + nI 1) (lv' := [(5, .int (st.2 + nI 1)), (4, .int (st.1 + nI 1)), (0, .ref g), (1, .int x1), (2, .int x2), (3, .int x3)]) hx hb dX0_canSail_60 hl (k := 5) rfl rfl (by decide) rfl (fun ls hl => ?_)
        refine lv_goto (tgt := 6) hx hb dX0_canSail_63 (by decide) ?_
        cases hf
        exact hk _ _ _ (lv_sub hl [2, 3, 4, 5, 1, 0] rfl) hP hS
      · have hf := ite_f kc9 hf
        refine lv_iconst (v := nI 0) hx hb dX0_canSail_55 rfl ?_
        cases hf
        have hk : nI 0 = res := hk
        subst hk
        exact g_zret (Pic := fun H => PX D dT g _ H) E hr hlk hP hS rfl dX0_canSail_56
    · have hf := ite_f kc4 hf
      refine lv_goto (tgt := 60) hx hb dX0_canSail_23 (by decide) ?_
      refine lv_iinc (v := st.2 + nI 1) (lv' := [(5, .int (st.2 + nI 1)), (0, .ref g), (1, .int x1), (2, .int x2), (3, .int x3), (4, .int st.1)]) hx hb dX0_canSail_60 hl (k := 5) rfl rfl (by decide) rfl (fun ls hl => ?_)
      refine lv_goto (tgt := 6) hx hb dX0_canSail_63 (by decide) ?_
      cases hf
      exact hk _ _ _ (lv_sub hl [1, 2, 3, 4, 5, 0] rfl) hP hS
set_option maxHeartbeats 4000000 in
theorem dx_canSail : yX0_canSail.cls = RX0 ∧ yX0_canSail.cls ≠ "java/lang/invoke/MethodHandle" ∧ yX0_canSail.cls ≠ "java/lang/invoke/VarHandle" ∧ (parseMethodDescriptor yX0_canSail.desc).map (fun d => d.parameters.length) = some 3 := ⟨rfl, by decide +kernel, by decide +kernel, by decide +kernel⟩
set_option maxHeartbeats 4000000 in
theorem tx_canSail (l : Launch) (D : va_G) (dT : Nat → ClassId) (g : Nat) (x1 : Int32) (x2 : Int32) (x3 : Int32) (μ : nwX) (res : Int32) (hf : fx_canSail x1 x2 x3 μ = some res) : Met l yX0_canSail (ws_ yX0_canSail cX0_canSail 6 (some .boolean)) (rmd 4) (va_Pc [.ref g, .int x1, .int x2, .int x3] (fun U => PX D dT g μ U.heap ∧ EV D dT U)) (va_Qi (fun r' (_ : Unit) => r' = res) (fun _ t => PX D dT g μ t.heap) (fun _ => False)) 0 0 (fun _ => False) := by
  refine g_met (D := D) (dT := dT) (A := fun _ => False) (own := RX0) (Pic := fun H => PX D dT g μ H) (by decide) rfl (Nat.le_of_ble_eq_true rfl) ?_
  intro p e s m below meth c ls E hE hr hlk hl hP
  have hK := hE.1
  have hS : va_S (fun _ => False) s.heap s.heap [] := va_S.rf
  obtain ⟨hx, hb, hml, hown, hts⟩ := id E
  have hl : lv_has ls 6 [(0, .ref g), (1, .int x1), (2, .int x2), (3, .int x3)] := hl
  unfold fx_canSail at hf
  refine lv_iconst (v := nI 0) hx hb dX0_canSail_0 rfl ?_
  refine lv_istore (lv' := [(4, .int (nI 0)), (0, .ref g), (1, .int x1), (2, .int x2), (3, .int x3)]) hx hb dX0_canSail_1 hl (by decide) rfl (fun ls hl => ?_)
  refine lv_iconst (v := nI 0) hx hb dX0_canSail_3 rfl ?_
  refine lv_istore (lv' := [(5, .int (nI 0)), (4, .int (nI 0)), (0, .ref g), (1, .int x1), (2, .int x2), (3, .int x3)]) hx hb dX0_canSail_4 hl (by decide) rfl (fun ls hl => ?_)
  exact fx_canSail_L6_w E hK hr hlk hE x1 x2 x3 μ hf rfl _ _ _ (lv_sub hl [2, 3, 4, 5, 1, 0] rfl) hP hS
set_option maxHeartbeats 4000000 in
noncomputable def fx_child (x1 : Int32) (x2 : Int32) (x3 : Int32) (μ : nwX) : Option (Int32 × nwX) := (fi_isIsland x1 ()).bind fun v1 => (if v1 = 0 then some ((-1), μ) else (fi_isIn x2 (nI 0) (nI 60) ()).bind fun v3 => (if v3 = 0 then some ((-1), μ) else (fi_isIn x3 (nI 0) (nI 1) ()).bind fun v5 => (if v5 = 0 then some ((-1), μ) else (fx_thinksOf x2 μ).bind fun χ8 => (fs_mostOf x1 (χ8.2.1 2)).bind fun v10 => (if v10 = (-1) then some (v10, χ8) else (if x3 = 0 then some (v10, χ8) else (fs_strengthOf x1 (χ8.2.1 2)).bind fun v14 => some (v14, χ8))))))
set_option maxHeartbeats 4000000 in
theorem dx_child : yX0_child.cls = RX0 ∧ yX0_child.cls ≠ "java/lang/invoke/MethodHandle" ∧ yX0_child.cls ≠ "java/lang/invoke/VarHandle" ∧ (parseMethodDescriptor yX0_child.desc).map (fun d => d.parameters.length) = some 3 := ⟨rfl, by decide +kernel, by decide +kernel, by decide +kernel⟩
set_option maxHeartbeats 4000000 in
theorem tx_child (l : Launch) (D : va_G) (dT : Nat → ClassId) (g : Nat) (x1 : Int32) (x2 : Int32) (x3 : Int32) (μ : nwX) (res : Int32 × nwX) (hf : fx_child x1 x2 x3 μ = some res) : Met l yX0_child (ws_ yX0_child cX0_child 5 (some .int)) (rmd 410) (va_Pc [.ref g, .int x1, .int x2, .int x3] (fun U => PX D dT g μ U.heap ∧ EV D dT U)) (va_Qi (fun r' (_ : Unit) => r' = res.1) (fun _ t => PX D dT g res.2 t.heap) (xA g)) 0 0 (xA g) := by
  refine g_met (D := D) (dT := dT) (A := xA g) (own := RX0) (Pic := fun H => PX D dT g μ H) (by decide) rfl (Nat.le_of_ble_eq_true rfl) ?_
  intro p e s m below meth c ls E hE hr hlk hl hP
  have hK := hE.1
  have hS : va_S (xA g) s.heap s.heap [] := va_S.rf
  obtain ⟨hx, hb, hml, hown, hts⟩ := id E
  have hl : lv_has ls 5 [(0, .ref g), (1, .int x1), (2, .int x2), (3, .int x3)] := hl
  unfold fx_child at hf
  refine lv_iload_n hx hb dX0_child_0 rfl (lv_at hl 1 rfl) ?_
  obtain ⟨v1, hv1, hf⟩ := ob hf
  refine p_calli E hS (As := [.int x1]) (ti_isIsland l x1 _ hv1) (lw_S q957 q958 q161 q959) di_isIsland rfl (by decide) (by decide) hl rfl (Nat.le_of_ble_eq_true rfl) dX0_child_1 (fun H1 locs1 hq1 hS => ?_)
  have hP := PX_same hP (hz_all hq1) hq1
  refine lv_if_eq (tgt := 26) hx hb dX0_child_4 (by decide) (fun kc2 => ?_) (fun kc2 => ?_)
  · have hf := ite_t kc2 hf
    refine lv_iconst (v := (-1)) hx hb dX0_child_26 rfl ?_
    cases hf
    exact g_iret (Pic := fun H => PX D dT g _ H) E hr hlk hP hS rfl dX0_child_27
  · have hf := ite_f kc2 hf
    refine lv_iload_n hx hb dX0_child_7 rfl (lv_at hl 2 rfl) ?_
    refine lv_iconst (v := nI 0) hx hb dX0_child_8 rfl ?_
    refine lv_bipush (v := nI 60) hx hb dX0_child_9 rfl ?_
    obtain ⟨v3, hv3, hf⟩ := ob hf
    refine p_calli E hS (As := [.int x2, .int (nI 0), .int (nI 60)]) (ti_isIn l x2 (nI 0) (nI 60) _ hv3) (lw_S q386 q387 q161 q388) di_isIn rfl (by decide) (by decide) hl rfl (Nat.le_of_ble_eq_true rfl) dX0_child_11 (fun H1 locs1 hq1 hS => ?_)
    have hP := PX_same hP (hz_all hq1) hq1
    refine lv_if_eq (tgt := 26) hx hb dX0_child_14 (by decide) (fun kc4 => ?_) (fun kc4 => ?_)
    · have hf := ite_t kc4 hf
      refine lv_iconst (v := (-1)) hx hb dX0_child_26 rfl ?_
      cases hf
      exact g_iret (Pic := fun H => PX D dT g _ H) E hr hlk hP hS rfl dX0_child_27
    · have hf := ite_f kc4 hf
      refine lv_iload_n hx hb dX0_child_17 rfl (lv_at hl 3 rfl) ?_
      refine lv_iconst (v := nI 0) hx hb dX0_child_18 rfl ?_
      refine lv_iconst (v := nI 1) hx hb dX0_child_19 rfl ?_
      obtain ⟨v5, hv5, hf⟩ := ob hf
      refine p_calli E hS (As := [.int x3, .int (nI 0), .int (nI 1)]) (ti_isIn l x3 (nI 0) (nI 1) _ hv5) (lw_S q386 q387 q161 q388) di_isIn rfl (by decide) (by decide) hl rfl (Nat.le_of_ble_eq_true rfl) dX0_child_20 (fun H1 locs1 hq1 hS => ?_)
      have hP := PX_same hP (hz_all hq1) hq1
      refine lv_if_ne (tgt := 28) hx hb dX0_child_23 (by decide) (fun kc6 => ?_) (fun kc6 => ?_)
      · have hf := ite_f kc6 hf
        refine lv_aload_n hx hb dX0_child_28 rfl (lv_at hl 0 rfl) ?_
        refine lv_iload_n hx hb dX0_child_29 rfl (lv_at hl 2 rfl) ?_
        obtain ⟨χ8, hc7, hf⟩ := ob hf
        refine gx_callv E hE (Pic := fun H => PX D dT g μ H) (Pic1 := fun H => PX D dT g χ8 H) hP hS (fun _ z => z) (As := [.int x2]) (tx_thinksOf l D dT g x2 μ _ hc7) (g_recv hK hP.1 (shO_g g) rfl) (lw_V q1208 q1210 qs44 q161 q1211) dx_thinksOf rfl (by decide) (by decide) hl rfl (Nat.le_of_ble_eq_true rfl) dX0_child_30 (fun H locs hP _ _ hS => ?_)
        refine lv_aload_n hx hb dX0_child_33 rfl (lv_at hl 0 rfl) ?_
        refine gp_get (C := RX0) (T := TX0) E hK hP.1 (shO_g g) rfl in_X0 6 (by decide) (hts _ q340) (fun _ z => z) vO_6 dX0_child_34 ?_
        refine lv_iload_n hx hb dX0_child_37 rfl (lv_at hl 1 rfl) ?_
        obtain ⟨v10, hc9, hf⟩ := ob hf
        refine gx_calli E hE (Pic := fun H => PS D dT (skA g 2) (χ8.2.1 2) (χ8.2.2.2.1 2) H) (Pic1 := fun H => PS D dT (skA g 2) (χ8.2.1 2) (χ8.2.2.2.1 2) H) (hP.2.1 2 (by decide)).1 hS (fun _ z => z.elim) (As := [.int x1]) (ts_mostOf l D dT (skA g 2) (χ8.2.2.2.1 2) x1 (χ8.2.1 2) _ hc9) (g_recv hK (hP.2.1 2 (by decide)).1 (shS_h _) rfl) (lw_V q1093 q1094 q1095 q162 q1096) ds_mostOf rfl (by decide) (by decide) hl rfl (Nat.le_of_ble_eq_true rfl) dX0_child_38 (fun H1 locs1 hG hz1 hq1 hS => ?_)
        have hP := PX_same hP hz1 (fun q z => hq1 q z (fun y => y))
        refine lv_istore (lv' := [(4, .int v10), (0, .ref g), (1, .int x1), (2, .int x2), (3, .int x3)]) hx hb dX0_child_41 hl (by decide) rfl (fun ls hl => ?_)
        refine lv_iload hx hb dX0_child_43 (lv_at hl 0 rfl) ?_
        refine lv_iconst (v := (-1)) hx hb dX0_child_45 rfl ?_
        refine lv_icmp_eq (tgt := 53) hx hb dX0_child_46 (by decide) (fun kc11 => ?_) (fun kc11 => ?_)
        · have hf := ite_t kc11 hf
          refine lv_iload hx hb dX0_child_53 (lv_at hl 0 rfl) ?_
          refine lv_goto (tgt := 66) hx hb dX0_child_55 (by decide) ?_
          cases hf
          exact g_iret (Pic := fun H => PX D dT g _ H) E hr hlk hP hS rfl dX0_child_66
        · have hf := ite_f kc11 hf
          refine lv_iload_n hx hb dX0_child_49 rfl (lv_at hl 4 rfl) ?_
          refine lv_if_ne (tgt := 58) hx hb dX0_child_50 (by decide) (fun kc12 => ?_) (fun kc12 => ?_)
          · have hf := ite_f kc12 hf
            refine lv_aload_n hx hb dX0_child_58 rfl (lv_at hl 1 rfl) ?_
            refine gp_get (C := RX0) (T := TX0) E hK hP.1 (shO_g g) rfl in_X0 6 (by decide) (hts _ q340) (fun _ z => z) vO_6 dX0_child_59 ?_
            refine lv_iload_n hx hb dX0_child_62 rfl (lv_at hl 2 rfl) ?_
            obtain ⟨v14, hc13, hf⟩ := ob hf
            refine gx_calli E hE (Pic := fun H => PS D dT (skA g 2) (χ8.2.1 2) (χ8.2.2.2.1 2) H) (Pic1 := fun H => PS D dT (skA g 2) (χ8.2.1 2) (χ8.2.2.2.1 2) H) (hP.2.1 2 (by decide)).1 hS (fun _ z => z.elim) (As := [.int x1]) (ts_strengthOf l D dT (skA g 2) (χ8.2.2.2.1 2) x1 (χ8.2.1 2) _ hc13) (g_recv hK (hP.2.1 2 (by decide)).1 (shS_h _) rfl) (lw_V q1344 q1103 q1104 q162 q1105) ds_strengthOf rfl (by decide) (by decide) hl rfl (Nat.le_of_ble_eq_true rfl) dX0_child_63 (fun H1 locs1 hG hz1 hq1 hS => ?_)
            have hP := PX_same hP hz1 (fun q z => hq1 q z (fun y => y))
            cases hf
            exact g_iret (Pic := fun H => PX D dT g _ H) E hr hlk hP hS rfl dX0_child_66
          · have hf := ite_t kc12 hf
            refine lv_iload hx hb dX0_child_53 (lv_at hl 0 rfl) ?_
            refine lv_goto (tgt := 66) hx hb dX0_child_55 (by decide) ?_
            cases hf
            exact g_iret (Pic := fun H => PX D dT g _ H) E hr hlk hP hS rfl dX0_child_66
      · have hf := ite_t kc6 hf
        refine lv_iconst (v := (-1)) hx hb dX0_child_26 rfl ?_
        cases hf
        exact g_iret (Pic := fun H => PX D dT g _ H) E hr hlk hP hS rfl dX0_child_27
set_option maxHeartbeats 4000000 in
noncomputable def fx_doClash (x1 : Int32) (x2 : Int32) (μ : nwX) : Option (Int32) := (fs_lives x1 (μ.2.1 0)).bind fun v2 => (if v2 = 0 then some (nI 0) else (fs_lives x2 (μ.2.1 0)).bind fun v5 => (if v5 = 0 then some (nI 0) else (rd_ (μ.2.1 0) 5 12 x1).bind fun v7 => (rd_ (μ.2.1 0) 5 12 x2).bind fun v8 => (if v7 = v8 then (rd_ (μ.2.1 0) 3 12 x1).bind fun v10 => (rd_ (μ.2.1 0) 3 12 x2).bind fun v11 => (fs_areClashing v10 v11 (μ.2.2.2.2 0) (μ.2.1 0)).bind fun v13 => (if v13 = 0 then some (nI 0) else some (nI 1)) else some (nI 0))))
set_option maxHeartbeats 4000000 in
theorem dx_doClash : yX0_doClash.cls = RX0 ∧ yX0_doClash.cls ≠ "java/lang/invoke/MethodHandle" ∧ yX0_doClash.cls ≠ "java/lang/invoke/VarHandle" ∧ (parseMethodDescriptor yX0_doClash.desc).map (fun d => d.parameters.length) = some 2 := ⟨rfl, by decide +kernel, by decide +kernel, by decide +kernel⟩
set_option maxHeartbeats 4000000 in
theorem tx_doClash (l : Launch) (D : va_G) (dT : Nat → ClassId) (g : Nat) (x1 : Int32) (x2 : Int32) (μ : nwX) (res : Int32) (hf : fx_doClash x1 x2 μ = some res) : Met l yX0_doClash (ws_ yX0_doClash cX0_doClash 3 (some .boolean)) (rmd 4) (va_Pc [.ref g, .int x1, .int x2] (fun U => PX D dT g μ U.heap ∧ EV D dT U)) (va_Qi (fun r' (_ : Unit) => r' = res) (fun _ t => PX D dT g μ t.heap) (fun _ => False)) 0 0 (fun _ => False) := by
  refine g_met (D := D) (dT := dT) (A := fun _ => False) (own := RX0) (Pic := fun H => PX D dT g μ H) (by decide) rfl (Nat.le_of_ble_eq_true rfl) ?_
  intro p e s m below meth c ls E hE hr hlk hl hP
  have hK := hE.1
  have hS : va_S (fun _ => False) s.heap s.heap [] := va_S.rf
  obtain ⟨hx, hb, hml, hown, hts⟩ := id E
  have hl : lv_has ls 3 [(0, .ref g), (1, .int x1), (2, .int x2)] := hl
  unfold fx_doClash at hf
  refine lv_aload_n hx hb dX0_doClash_0 rfl (lv_at hl 0 rfl) ?_
  refine gp_get (C := RX0) (T := TX0) E hK hP.1 (shO_g g) rfl in_X0 4 (by decide) (hts _ q337) (fun _ z => z) vO_4 dX0_doClash_1 ?_
  refine lv_iload_n hx hb dX0_doClash_4 rfl (lv_at hl 1 rfl) ?_
  obtain ⟨v2, hc1, hf⟩ := ob hf
  refine gx_calli E hE (Pic := fun H => PS D dT (skA g 0) (μ.2.1 0) (μ.2.2.2.1 0) H) (Pic1 := fun H => PS D dT (skA g 0) (μ.2.1 0) (μ.2.2.2.1 0) H) (hP.2.1 0 (by decide)).1 hS (fun _ z => z.elim) (As := [.int x1]) (ts_lives l D dT (skA g 0) (μ.2.2.2.1 0) x1 (μ.2.1 0) _ hc1) (g_recv hK (hP.2.1 0 (by decide)).1 (shS_h _) rfl) (lw_V q1084 q1073 q1074 q162 q1075) ds_lives rfl (by decide) (by decide) hl rfl (Nat.le_of_ble_eq_true rfl) dX0_doClash_5 (fun H1 locs1 hG hz1 hq1 hS => ?_)
  have hP := PX_same hP hz1 (fun q z => hq1 q z (fun y => y))
  refine lv_if_eq (tgt := 75) hx hb dX0_doClash_8 (by decide) (fun kc3 => ?_) (fun kc3 => ?_)
  · have hf := ite_t kc3 hf
    refine lv_iconst (v := nI 0) hx hb dX0_doClash_75 rfl ?_
    cases hf
    exact g_zret (Pic := fun H => PX D dT g _ H) E hr hlk hP hS rfl dX0_doClash_76
  · have hf := ite_f kc3 hf
    refine lv_aload_n hx hb dX0_doClash_11 rfl (lv_at hl 0 rfl) ?_
    refine gp_get (C := RX0) (T := TX0) E hK hP.1 (shO_g g) rfl in_X0 4 (by decide) (hts _ q337) (fun _ z => z) vO_4 dX0_doClash_12 ?_
    refine lv_iload_n hx hb dX0_doClash_15 rfl (lv_at hl 2 rfl) ?_
    obtain ⟨v5, hc4, hf⟩ := ob hf
    refine gx_calli E hE (Pic := fun H => PS D dT (skA g 0) (μ.2.1 0) (μ.2.2.2.1 0) H) (Pic1 := fun H => PS D dT (skA g 0) (μ.2.1 0) (μ.2.2.2.1 0) H) (hP.2.1 0 (by decide)).1 hS (fun _ z => z.elim) (As := [.int x2]) (ts_lives l D dT (skA g 0) (μ.2.2.2.1 0) x2 (μ.2.1 0) _ hc4) (g_recv hK (hP.2.1 0 (by decide)).1 (shS_h _) rfl) (lw_V q1084 q1073 q1074 q162 q1075) ds_lives rfl (by decide) (by decide) hl rfl (Nat.le_of_ble_eq_true rfl) dX0_doClash_16 (fun H1 locs1 hG hz1 hq1 hS => ?_)
    have hP := PX_same hP hz1 (fun q z => hq1 q z (fun y => y))
    refine lv_if_eq (tgt := 75) hx hb dX0_doClash_19 (by decide) (fun kc6 => ?_) (fun kc6 => ?_)
    · have hf := ite_t kc6 hf
      refine lv_iconst (v := nI 0) hx hb dX0_doClash_75 rfl ?_
      cases hf
      exact g_zret (Pic := fun H => PX D dT g _ H) E hr hlk hP hS rfl dX0_doClash_76
    · have hf := ite_f kc6 hf
      refine lv_aload_n hx hb dX0_doClash_22 rfl (lv_at hl 0 rfl) ?_
      refine gp_get (C := RX0) (T := TX0) E hK hP.1 (shO_g g) rfl in_X0 4 (by decide) (hts _ q337) (fun _ z => z) vO_4 dX0_doClash_23 ?_
      refine gp_getN (C := RX1) (T := TX1) E hK (hP.2.1 0 (by decide)).1 (shS_h _) rfl in_X1 5 (by decide) (nfw_4 hE.2) (fun _ z => z) (vS_a (by decide) (by decide)) dX0_doClash_26 ?_
      refine lv_iload_n hx hb dX0_doClash_29 rfl (lv_at hl 1 rfl) ?_
      obtain ⟨v7, hv7, hf⟩ := ob hf
      refine gp_iald E hK (hP.2.1 0 (by decide)).1 (shS_a (by decide) (by decide)) (rd_in hv7).1 (by rw [vS_e (by decide) (by decide), ← (rd_in hv7).2]) dX0_doClash_30 ?_
      refine lv_aload_n hx hb dX0_doClash_31 rfl (lv_at hl 0 rfl) ?_
      refine gp_get (C := RX0) (T := TX0) E hK hP.1 (shO_g g) rfl in_X0 4 (by decide) (hts _ q337) (fun _ z => z) vO_4 dX0_doClash_32 ?_
      refine gp_getN (C := RX1) (T := TX1) E hK (hP.2.1 0 (by decide)).1 (shS_h _) rfl in_X1 5 (by decide) (nfw_4 hE.2) (fun _ z => z) (vS_a (by decide) (by decide)) dX0_doClash_35 ?_
      refine lv_iload_n hx hb dX0_doClash_38 rfl (lv_at hl 2 rfl) ?_
      obtain ⟨v8, hv8, hf⟩ := ob hf
      refine gp_iald E hK (hP.2.1 0 (by decide)).1 (shS_a (by decide) (by decide)) (rd_in hv8).1 (by rw [vS_e (by decide) (by decide), ← (rd_in hv8).2]) dX0_doClash_39 ?_
      refine lv_icmp_ne (tgt := 75) hx hb dX0_doClash_40 (by decide) (fun kc9 => ?_) (fun kc9 => ?_)
      · have hf := ite_f kc9 hf
        refine lv_iconst (v := nI 0) hx hb dX0_doClash_75 rfl ?_
        cases hf
        exact g_zret (Pic := fun H => PX D dT g _ H) E hr hlk hP hS rfl dX0_doClash_76
      · have hf := ite_t kc9 hf
        refine lv_aload_n hx hb dX0_doClash_43 rfl (lv_at hl 0 rfl) ?_
        refine gp_get (C := RX0) (T := TX0) E hK hP.1 (shO_g g) rfl in_X0 4 (by decide) (hts _ q337) (fun _ z => z) vO_4 dX0_doClash_44 ?_
        refine lv_aload_n hx hb dX0_doClash_47 rfl (lv_at hl 0 rfl) ?_
        refine gp_get (C := RX0) (T := TX0) E hK hP.1 (shO_g g) rfl in_X0 4 (by decide) (hts _ q337) (fun _ z => z) vO_4 dX0_doClash_48 ?_
        refine gp_getN (C := RX1) (T := TX1) E hK (hP.2.1 0 (by decide)).1 (shS_h _) rfl in_X1 3 (by decide) (nfw_2 hE.2) (fun _ z => z) (vS_a (by decide) (by decide)) dX0_doClash_51 ?_
        refine lv_iload_n hx hb dX0_doClash_54 rfl (lv_at hl 1 rfl) ?_
        obtain ⟨v10, hv10, hf⟩ := ob hf
        refine gp_iald E hK (hP.2.1 0 (by decide)).1 (shS_a (by decide) (by decide)) (rd_in hv10).1 (by rw [vS_e (by decide) (by decide), ← (rd_in hv10).2]) dX0_doClash_55 ?_
        refine lv_aload_n hx hb dX0_doClash_56 rfl (lv_at hl 0 rfl) ?_
        refine gp_get (C := RX0) (T := TX0) E hK hP.1 (shO_g g) rfl in_X0 4 (by decide) (hts _ q337) (fun _ z => z) vO_4 dX0_doClash_57 ?_
        refine gp_getN (C := RX1) (T := TX1) E hK (hP.2.1 0 (by decide)).1 (shS_h _) rfl in_X1 3 (by decide) (nfw_2 hE.2) (fun _ z => z) (vS_a (by decide) (by decide)) dX0_doClash_60 ?_
        refine lv_iload_n hx hb dX0_doClash_63 rfl (lv_at hl 2 rfl) ?_
        obtain ⟨v11, hv11, hf⟩ := ob hf
        refine gp_iald E hK (hP.2.1 0 (by decide)).1 (shS_a (by decide) (by decide)) (rd_in hv11).1 (by rw [vS_e (by decide) (by decide), ← (rd_in hv11).2]) dX0_doClash_64 ?_
        obtain ⟨v13, hc12, hf⟩ := ob hf
        refine gx_calli E hE (Pic := fun H => PS D dT (skA g 0) (μ.2.1 0) (μ.2.2.2.1 0) H ∧ LR D dT (sA (skA g 0)) (μ.2.2.2.1 0) (μ.2.2.2.2 0) H) (Pic1 := fun H => PS D dT (skA g 0) (μ.2.1 0) (μ.2.2.2.1 0) H) ⟨(hP.2.1 0 (by decide)).1, (hP.2.1 0 (by decide)).2.weak (fun _ z => xA_s (by decide) z)⟩ hS (fun _ z => z.elim) (As := [.int v10, .int v11]) (ts_areClashing l D dT (skA g 0) (μ.2.2.2.1 0) v10 v11 (μ.2.2.2.2 0) (μ.2.1 0) _ hc12) (g_recv hK (hP.2.1 0 (by decide)).1 (shS_h _) rfl) (lw_V q1231 q1232 q1233 q162 q1234) ds_areClashing rfl (by decide) (by decide) hl rfl (Nat.le_of_ble_eq_true rfl) dX0_doClash_65 (fun H1 locs1 hG hz1 hq1 hS => ?_)
        have hP := PX_same hP hz1 (fun q z => hq1 q z (fun y => y))
        refine lv_if_eq (tgt := 75) hx hb dX0_doClash_68 (by decide) (fun kc14 => ?_) (fun kc14 => ?_)
        · have hf := ite_t kc14 hf
          refine lv_iconst (v := nI 0) hx hb dX0_doClash_75 rfl ?_
          cases hf
          exact g_zret (Pic := fun H => PX D dT g _ H) E hr hlk hP hS rfl dX0_doClash_76
        · have hf := ite_f kc14 hf
          refine lv_iconst (v := nI 1) hx hb dX0_doClash_71 rfl ?_
          refine lv_goto (tgt := 76) hx hb dX0_doClash_72 (by decide) ?_
          cases hf
          exact g_zret (Pic := fun H => PX D dT g _ H) E hr hlk hP hS rfl dX0_doClash_76
set_option maxHeartbeats 4000000 in
noncomputable def fx_areAtPeace_L15 (x1 : Int32) (x2 : Int32) (μ : nwX) : Int32 → Option ((Int32) ⊕ ((Int32) ⊕ (Int32))) := fun st => (if x2 ≤ st then some (.inr (.inl (x2 + nI 1))) else (if (((x1 >>> (x2 &&& 31)) ||| (x1 >>> (st &&& 31))) &&& (nI 1)) = 0 then (fx_doClash x2 st μ).bind fun v5 => (if v5 = 0 then some (.inl (st + nI 1)) else some (.inr (.inr (nI 0)))) else some (.inl (st + nI 1))))
set_option maxHeartbeats 4000000 in
noncomputable def fx_areAtPeace_L2 (x1 : Int32) (μ : nwX) : Int32 → Option ((Int32) ⊕ (Int32)) := fun st => (if ((μ.2.1 0) 13 0) ≤ st then some (.inr (nI 1)) else wh_ (fx_areAtPeace_L15 x1 st μ) (nI 0))
set_option maxHeartbeats 4000000 in
noncomputable def fx_areAtPeace (x1 : Int32) (μ : nwX) : Option (Int32) := wh_ (fx_areAtPeace_L2 x1 μ) (nI 0)
set_option maxHeartbeats 4000000 in
theorem fx_areAtPeace_L15_w {p : Program} {l : Launch} {e : Env} {s : State} {m : MethodId} {args : Array Value} {below : List Frame} {meth : Method} {c : Code} {D : va_G} {dT : Nat → ClassId} {g : Nat} (E : CallFix p m c cX0_areAtPeace 4 s args lw_all RX0) (hK : va_K D nwCl (nwT dT) s) (hr : meth.sig.returnType = (some .boolean)) (hlk : meth.locks = false) (hE : EV D dT s) (x1 : Int32) (x2 : Int32) (μ : nwX) {res : Int32} {st : Int32} {x : (Int32) ⊕ (Int32)} (hw : wh_ (fx_areAtPeace_L15 x1 x2 μ) st = some x) (hk : (Sum.elim (fun st : Int32 => ∀ (ls : Array Slot) (H : Heap) (locs : List Loc), lv_has ls 4 [(0, .ref g), (1, .int x1), (2, .int st)] → PX D dT g μ H → va_S (fun _ => False) s.heap H locs → W p l e (rmd 5) s m args below meth c H locs 0 0 (MQ below (va_Qi (fun r' (_ : Unit) => r' = res) (fun _ t => PX D dT g μ t.heap) (fun _ => False)) args s 0 0 (fun _ => False)) (F0 m 2 ls [])) (fun r : Int32 => r = res)) x) : (fun st : Int32 => ∀ (ls : Array Slot) (H : Heap) (locs : List Loc), lv_has ls 4 [(0, .ref g), (1, .int x1), (2, .int x2), (3, .int st)] → PX D dT g μ H → va_S (fun _ => False) s.heap H locs → W p l e (rmd 5) s m args below meth c H locs 0 0 (MQ below (va_Qi (fun r' (_ : Unit) => r' = res) (fun _ t => PX D dT g μ t.heap) (fun _ => False)) args s 0 0 (fun _ => False)) (F0 m 15 ls [])) st := by
  obtain ⟨hx, hb, hml, hown, hts⟩ := id E
  refine wh_run (P := (fun st : Int32 => ∀ (ls : Array Slot) (H : Heap) (locs : List Loc), lv_has ls 4 [(0, .ref g), (1, .int x1), (2, .int x2), (3, .int st)] → PX D dT g μ H → va_S (fun _ => False) s.heap H locs → W p l e (rmd 5) s m args below meth c H locs 0 0 (MQ below (va_Qi (fun r' (_ : Unit) => r' = res) (fun _ t => PX D dT g μ t.heap) (fun _ => False)) args s 0 0 (fun _ => False)) (F0 m 15 ls []))) (PE := (Sum.elim (fun st : Int32 => ∀ (ls : Array Slot) (H : Heap) (locs : List Loc), lv_has ls 4 [(0, .ref g), (1, .int x1), (2, .int st)] → PX D dT g μ H → va_S (fun _ => False) s.heap H locs → W p l e (rmd 5) s m args below meth c H locs 0 0 (MQ below (va_Qi (fun r' (_ : Unit) => r' = res) (fun _ t => PX D dT g μ t.heap) (fun _ => False)) args s 0 0 (fun _ => False)) (F0 m 2 ls [])) (fun r : Int32 => r = res))) ?_ hw hk
  clear hw hk
  intro st x hf hk ls H locs hl hP hS
  refine lv_iload_n hx hb dX0_areAtPeace_15 rfl (lv_at hl 3 rfl) ?_
  refine lv_iload_n hx hb dX0_areAtPeace_16 rfl (lv_at hl 2 rfl) ?_
  refine lv_icmp_ge (tgt := 49) hx hb dX0_areAtPeace_17 (by decide) (fun kc2 => ?_) (fun kc2 => ?_)
  · have hf := ite_t kc2 hf
    refine lv_iinc (v := x2 + nI 1) (lv' := [(2, .int (x2 + nI 1)), (0, .ref g), (1, .int x1), (3, .int st)]) hx hb dX0_areAtPeace_49 hl (k := 2) rfl rfl (by decide) rfl (fun ls hl => ?_)
    refine lv_goto (tgt := 2) hx hb dX0_areAtPeace_52 (by decide) ?_
    cases hf
    exact hk _ _ _ (lv_sub hl [1, 2, 0] rfl) hP hS
  · have hf := ite_f kc2 hf
    refine lv_iload_n hx hb dX0_areAtPeace_20 rfl (lv_at hl 1 rfl) ?_
    refine lv_iload_n hx hb dX0_areAtPeace_21 rfl (lv_at hl 2 rfl) ?_
    refine lv_ishr hx hb dX0_areAtPeace_22 ?_
    refine lv_iload_n hx hb dX0_areAtPeace_23 rfl (lv_at hl 1 rfl) ?_
    refine lv_iload_n hx hb dX0_areAtPeace_24 rfl (lv_at hl 3 rfl) ?_
    refine lv_ishr hx hb dX0_areAtPeace_25 ?_
    refine lv_ior hx hb dX0_areAtPeace_26 ?_
    refine lv_iconst (v := nI 1) hx hb dX0_areAtPeace_27 rfl ?_
    refine lv_iand hx hb dX0_areAtPeace_28 ?_
    refine lv_if_ne (tgt := 43) hx hb dX0_areAtPeace_29 (by decide) (fun kc3 => ?_) (fun kc3 => ?_)
    · have hf := ite_f kc3 hf
      refine lv_iinc (v := st + nI 1) (lv' := [(3, .int (st + nI 1)), (0, .ref g), (1, .int x1), (2, .int x2)]) hx hb dX0_areAtPeace_43 hl (k := 3) rfl rfl (by decide) rfl (fun ls hl => ?_)
      refine lv_goto (tgt := 15) hx hb dX0_areAtPeace_46 (by decide) ?_
      cases hf
      exact hk _ _ _ (lv_sub hl [1, 2, 3, 0] rfl) hP hS
    · have hf := ite_t kc3 hf
      refine lv_aload_n hx hb dX0_areAtPeace_32 rfl (lv_at hl 0 rfl) ?_
      refine lv_iload_n hx hb dX0_areAtPeace_33 rfl (lv_at hl 2 rfl) ?_
      refine lv_iload_n hx hb dX0_areAtPeace_34 rfl (lv_at hl 3 rfl) ?_
      obtain ⟨v5, hc4, hf⟩ := ob hf
      refine gx_calli E hE (Pic := fun H => PX D dT g μ H) (Pic1 := fun H => PX D dT g μ H) hP hS (fun _ z => z.elim) (As := [.int x2, .int st]) (tx_doClash l D dT g x2 st μ _ hc4) (g_recv hK hP.1 (shO_g g) rfl) (lw_V q1353 q1355 qs54 q161 q1356) dx_doClash rfl (by decide) (by decide) hl rfl (Nat.le_of_ble_eq_true rfl) dX0_areAtPeace_35 (fun H locs hP _ _ hS => ?_)
      refine lv_if_eq (tgt := 43) hx hb dX0_areAtPeace_38 (by decide) (fun kc6 => ?_) (fun kc6 => ?_)
      · have hf := ite_t kc6 hf
        refine lv_iinc (v := st + nI 1) (lv' := [(3, .int (st + nI 1)), (0, .ref g), (1, .int x1), (2, .int x2)]) hx hb dX0_areAtPeace_43 hl (k := 3) rfl rfl (by decide) rfl (fun ls hl => ?_)
        refine lv_goto (tgt := 15) hx hb dX0_areAtPeace_46 (by decide) ?_
        cases hf
        exact hk _ _ _ (lv_sub hl [1, 2, 3, 0] rfl) hP hS
      · have hf := ite_f kc6 hf
        refine lv_iconst (v := nI 0) hx hb dX0_areAtPeace_41 rfl ?_
        cases hf
        have hk : nI 0 = res := hk
        subst hk
        exact g_zret (Pic := fun H => PX D dT g _ H) E hr hlk hP hS rfl dX0_areAtPeace_42
set_option maxHeartbeats 4000000 in
theorem fx_areAtPeace_L2_w {p : Program} {l : Launch} {e : Env} {s : State} {m : MethodId} {args : Array Value} {below : List Frame} {meth : Method} {c : Code} {D : va_G} {dT : Nat → ClassId} {g : Nat} (E : CallFix p m c cX0_areAtPeace 4 s args lw_all RX0) (hK : va_K D nwCl (nwT dT) s) (hr : meth.sig.returnType = (some .boolean)) (hlk : meth.locks = false) (hE : EV D dT s) (x1 : Int32) (μ : nwX) {res : Int32} {st : Int32} {x : Int32} (hw : wh_ (fx_areAtPeace_L2 x1 μ) st = some x) (hk : (fun r : Int32 => r = res) x) : (fun st : Int32 => ∀ (ls : Array Slot) (H : Heap) (locs : List Loc), lv_has ls 4 [(0, .ref g), (1, .int x1), (2, .int st)] → PX D dT g μ H → va_S (fun _ => False) s.heap H locs → W p l e (rmd 5) s m args below meth c H locs 0 0 (MQ below (va_Qi (fun r' (_ : Unit) => r' = res) (fun _ t => PX D dT g μ t.heap) (fun _ => False)) args s 0 0 (fun _ => False)) (F0 m 2 ls [])) st := by
  obtain ⟨hx, hb, hml, hown, hts⟩ := id E
  refine wh_run (P := (fun st : Int32 => ∀ (ls : Array Slot) (H : Heap) (locs : List Loc), lv_has ls 4 [(0, .ref g), (1, .int x1), (2, .int st)] → PX D dT g μ H → va_S (fun _ => False) s.heap H locs → W p l e (rmd 5) s m args below meth c H locs 0 0 (MQ below (va_Qi (fun r' (_ : Unit) => r' = res) (fun _ t => PX D dT g μ t.heap) (fun _ => False)) args s 0 0 (fun _ => False)) (F0 m 2 ls []))) (PE := (fun r : Int32 => r = res)) ?_ hw hk
  clear hw hk
  intro st x hf hk ls H locs hl hP hS
  refine lv_iload_n hx hb dX0_areAtPeace_2 rfl (lv_at hl 2 rfl) ?_
  refine lv_aload_n hx hb dX0_areAtPeace_3 rfl (lv_at hl 0 rfl) ?_
  refine gp_get (C := RX0) (T := TX0) E hK hP.1 (shO_g g) rfl in_X0 4 (by decide) (hts _ q337) (fun _ z => z) vO_4 dX0_areAtPeace_4 ?_
  refine gp_getN (C := RX1) (T := TX1) E hK (hP.2.1 0 (by decide)).1 (shS_h _) rfl in_X1 13 (by decide) (nfw_12 hE.2) (fun _ z => z) (vS_i (by decide)) dX0_areAtPeace_7 ?_
  refine lv_icmp_ge (tgt := 55) hx hb dX0_areAtPeace_10 (by decide) (fun kc1 => ?_) (fun kc1 => ?_)
  · have hf := ite_t kc1 hf
    refine lv_iconst (v := nI 1) hx hb dX0_areAtPeace_55 rfl ?_
    cases hf
    have hk : nI 1 = res := hk
    subst hk
    exact g_zret (Pic := fun H => PX D dT g _ H) E hr hlk hP hS rfl dX0_areAtPeace_56
  · have hf := ite_f kc1 hf
    refine lv_iconst (v := nI 0) hx hb dX0_areAtPeace_13 rfl ?_
    refine lv_istore_n (lv' := [(3, .int (nI 0)), (0, .ref g), (1, .int x1), (2, .int st)]) hx hb dX0_areAtPeace_14 rfl hl (by decide) rfl (fun ls hl => ?_)
    exact fx_areAtPeace_L15_w E hK hr hlk hE x1 st μ hf hk _ _ _ (lv_sub hl [1, 2, 3, 0] rfl) hP hS
set_option maxHeartbeats 4000000 in
theorem dx_areAtPeace : yX0_areAtPeace.cls = RX0 ∧ yX0_areAtPeace.cls ≠ "java/lang/invoke/MethodHandle" ∧ yX0_areAtPeace.cls ≠ "java/lang/invoke/VarHandle" ∧ (parseMethodDescriptor yX0_areAtPeace.desc).map (fun d => d.parameters.length) = some 1 := ⟨rfl, by decide +kernel, by decide +kernel, by decide +kernel⟩
set_option maxHeartbeats 4000000 in
theorem tx_areAtPeace (l : Launch) (D : va_G) (dT : Nat → ClassId) (g : Nat) (x1 : Int32) (μ : nwX) (res : Int32) (hf : fx_areAtPeace x1 μ = some res) : Met l yX0_areAtPeace (ws_ yX0_areAtPeace cX0_areAtPeace 4 (some .boolean)) (rmd 5) (va_Pc [.ref g, .int x1] (fun U => PX D dT g μ U.heap ∧ EV D dT U)) (va_Qi (fun r' (_ : Unit) => r' = res) (fun _ t => PX D dT g μ t.heap) (fun _ => False)) 0 0 (fun _ => False) := by
  refine g_met (D := D) (dT := dT) (A := fun _ => False) (own := RX0) (Pic := fun H => PX D dT g μ H) (by decide) rfl (Nat.le_of_ble_eq_true rfl) ?_
  intro p e s m below meth c ls E hE hr hlk hl hP
  have hK := hE.1
  have hS : va_S (fun _ => False) s.heap s.heap [] := va_S.rf
  obtain ⟨hx, hb, hml, hown, hts⟩ := id E
  have hl : lv_has ls 4 [(0, .ref g), (1, .int x1)] := hl
  unfold fx_areAtPeace at hf
  refine lv_iconst (v := nI 0) hx hb dX0_areAtPeace_0 rfl ?_
  refine lv_istore_n (lv' := [(2, .int (nI 0)), (0, .ref g), (1, .int x1)]) hx hb dX0_areAtPeace_1 rfl hl (by decide) rfl (fun ls hl => ?_)
  exact fx_areAtPeace_L2_w E hK hr hlk hE x1 μ hf rfl _ _ _ (lv_sub hl [1, 2, 0] rfl) hP hS
set_option maxHeartbeats 4000000 in
noncomputable def fx_anew_L15 (x1 : Int32) (μ : nwX) : (Int32 × Int32) → Option ((Int32 × Int32) ⊕ (Int32)) := fun st => (if ((nI 1) <<< (((μ.2.1 0) 13 0) &&& 31)) ≤ st.2 then some (.inr st.1) else (if st.1 = (-1) then (fx_areAtPeace st.2 μ).bind fun v6 => (if v6 = 0 then some (.inl (st.1, st.2 + nI 1)) else some (.inl (st.2, st.2 + nI 1))) else (fi_bitCount st.2 ()).bind fun v8 => (fi_bitCount st.1 ()).bind fun v9 => (if v9 ≤ v8 then some (.inl (st.1, st.2 + nI 1)) else (fx_areAtPeace st.2 μ).bind fun v12 => (if v12 = 0 then some (.inl (st.1, st.2 + nI 1)) else some (.inl (st.2, st.2 + nI 1))))))
set_option maxHeartbeats 4000000 in
noncomputable def fx_anew (x1 : Int32) (μ : nwX) : Option (Int32) := (fi_isIn x1 (nI 0) (nI 1) ()).bind fun v1 => (if v1 = 0 then some (-1) else (wh_ (fx_anew_L15 x1 μ) ((-1), nI 0)).bind fun x14 => (if x1 = 0 then (fi_bitCount x14 ()).bind fun v16 => some v16 else some x14))
set_option maxHeartbeats 4000000 in
theorem fx_anew_L15_w {p : Program} {l : Launch} {e : Env} {s : State} {m : MethodId} {args : Array Value} {below : List Frame} {meth : Method} {c : Code} {D : va_G} {dT : Nat → ClassId} {Q : State → Prop} {g : Nat} (E : CallFix p m c cX0_anew 4 s args lw_all RX0) (hK : va_K D nwCl (nwT dT) s) (hE : EV D dT s) (x1 : Int32) (μ : nwX) {st : Int32 × Int32} {x : Int32} (hw : wh_ (fx_anew_L15 x1 μ) st = some x) (hk : (fun x : Int32 => ∀ (ls : Array Slot) (H : Heap) (locs : List Loc), lv_has ls 4 [(1, .int x1), (2, .int x)] → PX D dT g μ H → va_S (fun _ => False) s.heap H locs → W p l e (rmd 6) s m args below meth c H locs 0 0 Q (F0 m 60 ls [])) x) : (fun st : Int32 × Int32 => ∀ (ls : Array Slot) (H : Heap) (locs : List Loc), lv_has ls 4 [(0, .ref g), (1, .int x1), (2, .int st.1), (3, .int st.2)] → PX D dT g μ H → va_S (fun _ => False) s.heap H locs → W p l e (rmd 6) s m args below meth c H locs 0 0 Q (F0 m 15 ls [])) st := by
  obtain ⟨hx, hb, hml, hown, hts⟩ := id E
  refine wh_run (P := (fun st : Int32 × Int32 => ∀ (ls : Array Slot) (H : Heap) (locs : List Loc), lv_has ls 4 [(0, .ref g), (1, .int x1), (2, .int st.1), (3, .int st.2)] → PX D dT g μ H → va_S (fun _ => False) s.heap H locs → W p l e (rmd 6) s m args below meth c H locs 0 0 Q (F0 m 15 ls []))) (PE := (fun x : Int32 => ∀ (ls : Array Slot) (H : Heap) (locs : List Loc), lv_has ls 4 [(1, .int x1), (2, .int x)] → PX D dT g μ H → va_S (fun _ => False) s.heap H locs → W p l e (rmd 6) s m args below meth c H locs 0 0 Q (F0 m 60 ls []))) ?_ hw hk
  clear hw hk
  intro st x hf hk ls H locs hl hP hS
  refine lv_iload_n hx hb dX0_anew_15 rfl (lv_at hl 3 rfl) ?_
  refine lv_iconst (v := nI 1) hx hb dX0_anew_16 rfl ?_
  refine lv_aload_n hx hb dX0_anew_17 rfl (lv_at hl 0 rfl) ?_
  refine gp_get (C := RX0) (T := TX0) E hK hP.1 (shO_g g) rfl in_X0 4 (by decide) (hts _ q337) (fun _ z => z) vO_4 dX0_anew_18 ?_
  refine gp_getN (C := RX1) (T := TX1) E hK (hP.2.1 0 (by decide)).1 (shS_h _) rfl in_X1 13 (by decide) (nfw_12 hE.2) (fun _ z => z) (vS_i (by decide)) dX0_anew_21 ?_
  refine lv_ishl hx hb dX0_anew_24 ?_
  refine lv_icmp_ge (tgt := 60) hx hb dX0_anew_25 (by decide) (fun kc3 => ?_) (fun kc3 => ?_)
  · have hf := ite_t kc3 hf
    cases hf
    exact hk _ _ _ (lv_sub hl [1, 2] rfl) hP hS
  · have hf := ite_f kc3 hf
    refine lv_iload_n hx hb dX0_anew_28 rfl (lv_at hl 2 rfl) ?_
    refine lv_iconst (v := (-1)) hx hb dX0_anew_29 rfl ?_
    refine lv_icmp_eq (tgt := 44) hx hb dX0_anew_30 (by decide) (fun kc4 => ?_) (fun kc4 => ?_)
    · have hf := ite_t kc4 hf
      refine lv_aload_n hx hb dX0_anew_44 rfl (lv_at hl 0 rfl) ?_
      refine lv_iload_n hx hb dX0_anew_45 rfl (lv_at hl 3 rfl) ?_
      obtain ⟨v6, hc5, hf⟩ := ob hf
      refine gx_calli E hE (Pic := fun H => PX D dT g μ H) (Pic1 := fun H => PX D dT g μ H) hP hS (fun _ z => z.elim) (As := [.int st.2]) (tx_areAtPeace l D dT g st.2 μ _ hc5) (g_recv hK hP.1 (shO_g g) rfl) (lw_V q1349 q1351 qs53 q161 q1352) dx_areAtPeace rfl (by decide) (by decide) hl rfl (Nat.le_of_ble_eq_true rfl) dX0_anew_46 (fun H locs hP _ _ hS => ?_)
      refine lv_if_eq (tgt := 54) hx hb dX0_anew_49 (by decide) (fun kc7 => ?_) (fun kc7 => ?_)
      · have hf := ite_t kc7 hf
        refine lv_iinc (v := st.2 + nI 1) (lv' := [(3, .int (st.2 + nI 1)), (0, .ref g), (1, .int x1), (2, .int st.1)]) hx hb dX0_anew_54 hl (k := 3) rfl rfl (by decide) rfl (fun ls hl => ?_)
        refine lv_goto (tgt := 15) hx hb dX0_anew_57 (by decide) ?_
        cases hf
        exact hk _ _ _ (lv_sub hl [1, 2, 3, 0] rfl) hP hS
      · have hf := ite_f kc7 hf
        refine lv_iload_n hx hb dX0_anew_52 rfl (lv_at hl 3 rfl) ?_
        refine lv_istore_n (lv' := [(2, .int st.2), (0, .ref g), (1, .int x1), (3, .int st.2)]) hx hb dX0_anew_53 rfl hl (by decide) rfl (fun ls hl => ?_)
        refine lv_iinc (v := st.2 + nI 1) (lv' := [(3, .int (st.2 + nI 1)), (2, .int st.2), (0, .ref g), (1, .int x1)]) hx hb dX0_anew_54 hl (k := 3) rfl rfl (by decide) rfl (fun ls hl => ?_)
        refine lv_goto (tgt := 15) hx hb dX0_anew_57 (by decide) ?_
        cases hf
        exact hk _ _ _ (lv_sub hl [2, 3, 1, 0] rfl) hP hS
    · have hf := ite_f kc4 hf
      refine lv_iload_n hx hb dX0_anew_33 rfl (lv_at hl 3 rfl) ?_
      obtain ⟨v8, hv8, hf⟩ := ob hf
      refine p_calli E hS (As := [.int st.2]) (ti_bitCount l st.2 _ hv8) (lw_S q1303 q1304 q194 q1305) di_bitCount rfl (by decide) (by decide) hl rfl (Nat.le_of_ble_eq_true rfl) dX0_anew_34 (fun H1 locs1 hq1 hS => ?_)
      have hP := PX_same hP (hz_all hq1) hq1
      refine lv_iload_n hx hb dX0_anew_37 rfl (lv_at hl 2 rfl) ?_
      obtain ⟨v9, hv9, hf⟩ := ob hf
      refine p_calli E hS (As := [.int st.1]) (ti_bitCount l st.1 _ hv9) (lw_S q1303 q1304 q194 q1305) di_bitCount rfl (by decide) (by decide) hl rfl (Nat.le_of_ble_eq_true rfl) dX0_anew_38 (fun H1 locs1 hq1 hS => ?_)
      have hP := PX_same hP (hz_all hq1) hq1
      refine lv_icmp_ge (tgt := 54) hx hb dX0_anew_41 (by decide) (fun kc10 => ?_) (fun kc10 => ?_)
      · have hf := ite_t kc10 hf
        refine lv_iinc (v := st.2 + nI 1) (lv' := [(3, .int (st.2 + nI 1)), (0, .ref g), (1, .int x1), (2, .int st.1)]) hx hb dX0_anew_54 hl (k := 3) rfl rfl (by decide) rfl (fun ls hl => ?_)
        refine lv_goto (tgt := 15) hx hb dX0_anew_57 (by decide) ?_
        cases hf
        exact hk _ _ _ (lv_sub hl [1, 2, 3, 0] rfl) hP hS
      · have hf := ite_f kc10 hf
        refine lv_aload_n hx hb dX0_anew_44 rfl (lv_at hl 0 rfl) ?_
        refine lv_iload_n hx hb dX0_anew_45 rfl (lv_at hl 3 rfl) ?_
        obtain ⟨v12, hc11, hf⟩ := ob hf
        refine gx_calli E hE (Pic := fun H => PX D dT g μ H) (Pic1 := fun H => PX D dT g μ H) hP hS (fun _ z => z.elim) (As := [.int st.2]) (tx_areAtPeace l D dT g st.2 μ _ hc11) (g_recv hK hP.1 (shO_g g) rfl) (lw_V q1349 q1351 qs53 q161 q1352) dx_areAtPeace rfl (by decide) (by decide) hl rfl (Nat.le_of_ble_eq_true rfl) dX0_anew_46 (fun H locs hP _ _ hS => ?_)
        refine lv_if_eq (tgt := 54) hx hb dX0_anew_49 (by decide) (fun kc13 => ?_) (fun kc13 => ?_)
        · have hf := ite_t kc13 hf
          refine lv_iinc (v := st.2 + nI 1) (lv' := [(3, .int (st.2 + nI 1)), (0, .ref g), (1, .int x1), (2, .int st.1)]) hx hb dX0_anew_54 hl (k := 3) rfl rfl (by decide) rfl (fun ls hl => ?_)
          refine lv_goto (tgt := 15) hx hb dX0_anew_57 (by decide) ?_
          cases hf
          exact hk _ _ _ (lv_sub hl [1, 2, 3, 0] rfl) hP hS
        · have hf := ite_f kc13 hf
          refine lv_iload_n hx hb dX0_anew_52 rfl (lv_at hl 3 rfl) ?_
          refine lv_istore_n (lv' := [(2, .int st.2), (0, .ref g), (1, .int x1), (3, .int st.2)]) hx hb dX0_anew_53 rfl hl (by decide) rfl (fun ls hl => ?_)
          refine lv_iinc (v := st.2 + nI 1) (lv' := [(3, .int (st.2 + nI 1)), (2, .int st.2), (0, .ref g), (1, .int x1)]) hx hb dX0_anew_54 hl (k := 3) rfl rfl (by decide) rfl (fun ls hl => ?_)
          refine lv_goto (tgt := 15) hx hb dX0_anew_57 (by decide) ?_
          cases hf
          exact hk _ _ _ (lv_sub hl [2, 3, 1, 0] rfl) hP hS
set_option maxHeartbeats 4000000 in
theorem dx_anew : yX0_anew.cls = RX0 ∧ yX0_anew.cls ≠ "java/lang/invoke/MethodHandle" ∧ yX0_anew.cls ≠ "java/lang/invoke/VarHandle" ∧ (parseMethodDescriptor yX0_anew.desc).map (fun d => d.parameters.length) = some 1 := ⟨rfl, by decide +kernel, by decide +kernel, by decide +kernel⟩
set_option maxHeartbeats 4000000 in
theorem tx_anew (l : Launch) (D : va_G) (dT : Nat → ClassId) (g : Nat) (x1 : Int32) (μ : nwX) (res : Int32) (hf : fx_anew x1 μ = some res) : Met l yX0_anew (ws_ yX0_anew cX0_anew 4 (some .int)) (rmd 6) (va_Pc [.ref g, .int x1] (fun U => PX D dT g μ U.heap ∧ EV D dT U)) (va_Qi (fun r' (_ : Unit) => r' = res) (fun _ t => PX D dT g μ t.heap) (fun _ => False)) 0 0 (fun _ => False) := by
  refine g_met (D := D) (dT := dT) (A := fun _ => False) (own := RX0) (Pic := fun H => PX D dT g μ H) (by decide) rfl (Nat.le_of_ble_eq_true rfl) ?_
  intro p e s m below meth c ls E hE hr hlk hl hP
  have hK := hE.1
  have hS : va_S (fun _ => False) s.heap s.heap [] := va_S.rf
  obtain ⟨hx, hb, hml, hown, hts⟩ := id E
  have hl : lv_has ls 4 [(0, .ref g), (1, .int x1)] := hl
  unfold fx_anew at hf
  refine lv_iload_n hx hb dX0_anew_0 rfl (lv_at hl 1 rfl) ?_
  refine lv_iconst (v := nI 0) hx hb dX0_anew_1 rfl ?_
  refine lv_iconst (v := nI 1) hx hb dX0_anew_2 rfl ?_
  obtain ⟨v1, hv1, hf⟩ := ob hf
  refine p_calli E hS (As := [.int x1, .int (nI 0), .int (nI 1)]) (ti_isIn l x1 (nI 0) (nI 1) _ hv1) (lw_S q386 q387 q161 q388) di_isIn rfl (by decide) (by decide) hl rfl (Nat.le_of_ble_eq_true rfl) dX0_anew_3 (fun H1 locs1 hq1 hS => ?_)
  have hP := PX_same hP (hz_all hq1) hq1
  refine lv_if_ne (tgt := 11) hx hb dX0_anew_6 (by decide) (fun kc2 => ?_) (fun kc2 => ?_)
  · have hf := ite_f kc2 hf
    refine lv_iconst (v := (-1)) hx hb dX0_anew_11 rfl ?_
    refine lv_istore_n (lv' := [(2, .int (-1)), (0, .ref g), (1, .int x1)]) hx hb dX0_anew_12 rfl hl (by decide) rfl (fun ls hl => ?_)
    refine lv_iconst (v := nI 0) hx hb dX0_anew_13 rfl ?_
    refine lv_istore_n (lv' := [(3, .int (nI 0)), (2, .int (-1)), (0, .ref g), (1, .int x1)]) hx hb dX0_anew_14 rfl hl (by decide) rfl (fun ls hl => ?_)
    obtain ⟨x14, hx14, hf⟩ := ob hf
    refine fx_anew_L15_w E hK hE x1 μ hx14 (fun ls H locs hl hP hS => ?_) _ _ _ (lv_sub hl [2, 3, 1, 0] rfl) hP hS
    refine lv_iload_n hx hb dX0_anew_60 rfl (lv_at hl 0 rfl) ?_
    refine lv_if_ne (tgt := 71) hx hb dX0_anew_61 (by decide) (fun kc15 => ?_) (fun kc15 => ?_)
    · have hf := ite_f kc15 hf
      refine lv_iload_n hx hb dX0_anew_71 rfl (lv_at hl 1 rfl) ?_
      cases hf
      exact g_iret (Pic := fun H => PX D dT g _ H) E hr hlk hP hS rfl dX0_anew_72
    · have hf := ite_t kc15 hf
      refine lv_iload_n hx hb dX0_anew_64 rfl (lv_at hl 1 rfl) ?_
      obtain ⟨v16, hv16, hf⟩ := ob hf
      refine p_calli E hS (As := [.int x14]) (ti_bitCount l x14 _ hv16) (lw_S q1303 q1304 q194 q1305) di_bitCount rfl (by decide) (by decide) hl rfl (Nat.le_of_ble_eq_true rfl) dX0_anew_65 (fun H1 locs1 hq1 hS => ?_)
      have hP := PX_same hP (hz_all hq1) hq1
      refine lv_goto (tgt := 72) hx hb dX0_anew_68 (by decide) ?_
      cases hf
      exact g_iret (Pic := fun H => PX D dT g _ H) E hr hlk hP hS rfl dX0_anew_72
  · have hf := ite_t kc2 hf
    refine lv_iconst (v := (-1)) hx hb dX0_anew_9 rfl ?_
    cases hf
    exact g_iret (Pic := fun H => PX D dT g _ H) E hr hlk hP hS rfl dX0_anew_10
