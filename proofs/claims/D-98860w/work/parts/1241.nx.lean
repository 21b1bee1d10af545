/-! walks, written by my programs -/
set_option maxRecDepth 100000
set_option maxHeartbeats 4000000 in
noncomputable def fx_calls_L111 (x2 : Int32) (x4 : Int32) (x5 : Int32) (μ : nwX) : (Int32 × Int32) → Option ((Int32 × Int32) ⊕ (Int32)) := fun st => (if x4 < st.2 then some (.inr st.1) else (if (st.2 &&& (x4 ^^^ (-1))) = 0 then (fx_addOf st.2 μ).bind fun v16 => (if v16 < x5 then some (.inl (st.1, st.2 + nI 1)) else (if st.1 = (-1) then some (.inl (st.2, st.2 + nI 1)) else (fi_bitCount st.2 ()).bind fun v19 => (fi_bitCount st.1 ()).bind fun v20 => (if v20 ≤ v19 then some (.inl (st.1, st.2 + nI 1)) else some (.inl (st.2, st.2 + nI 1))))) else some (.inl (st.1, st.2 + nI 1))))
set_option maxHeartbeats 4000000 in
noncomputable def fx_calls (x1 : Int32) (x2 : Int32) (μ : nwX) : Option (Int32 × nwX) := (fi_isIn x1 (nI 0) ((nI (μ.2.2.2.2 0).2.2.1.length) - (nI 1)) ()).bind fun v1 => (if v1 = 0 then some ((-1), μ) else (fi_isIn x2 (nI 0) (nI 1) ()).bind fun v3 => (if v3 = 0 then some ((-1), μ) else (lg_ (μ.2.2.2.2 0).2.2.1 x1).bind fun e5 => (if e5.1 = (-1) then some ((-1), μ) else (lg_ (μ.2.2.2.2 0).2.2.1 x1).bind fun e7 => bd2 (fx_laysAdds e7.2.2.1 e7.1 μ) fun v9 χ10 => (rw_ 8 e7.2.2.1).bind fun r11 => (rr_ (χ10.2.1 0) 0 r11 e7.1).bind fun v12 => (wh_ (fx_calls_L111 x2 v9 (e7.2.1 - v12) χ10) ((-1), nI 0)).bind fun x22 => (if x22 = (-1) then some (x22, χ10) else (if x2 = (nI 1) then some (x22, χ10) else (fi_bitCount x22 ()).bind fun v25 => some (v25, χ10))))))
set_option maxHeartbeats 4000000 in
theorem fx_calls_L111_w {p : Program} {l : Launch} {e : Env} {s : State} {m : MethodId} {args : Array Value} {below : List Frame} {meth : Method} {c : Code} {D : va_G} {dT : Nat → ClassId} {Q : State → Prop} {g : Nat} (E : CallFix p m c cX0_calls 8 s args lw_all RX0) (hK : va_K D nwCl (nwT dT) s) (hE : EV D dT s) (x2 : Int32) (x4 : Int32) (x5 : Int32) (μ : nwX) {st : Int32 × Int32} {x : Int32} (hw : wh_ (fx_calls_L111 x2 x4 x5 μ) st = some x) (hk : (fun x : Int32 => ∀ (ls : Array Slot) (H : Heap) (locs : List Loc), lv_has ls 8 [(2, .int x2), (6, .int x)] → PX D dT g μ H → va_S (xA g) s.heap H locs → W p l e (rmd 407) s m args below meth c H locs 0 0 Q (F0 m 168 ls [])) x) : (fun st : Int32 × Int32 => ∀ (ls : Array Slot) (H : Heap) (locs : List Loc), lv_has ls 8 [(0, .ref g), (2, .int x2), (4, .int x4), (5, .int x5), (6, .int st.1), (7, .int st.2)] → PX D dT g μ H → va_S (xA g) s.heap H locs → W p l e (rmd 407) s m args below meth c H locs 0 0 Q (F0 m 111 ls [])) st := by
  obtain ⟨hx, hb, hml, hown, hts⟩ := id E
  refine wh_run (P := (fun st : Int32 × Int32 => ∀ (ls : Array Slot) (H : Heap) (locs : List Loc), lv_has ls 8 [(0, .ref g), (2, .int x2), (4, .int x4), (5, .int x5), (6, .int st.1), (7, .int st.2)] → PX D dT g μ H → va_S (xA g) s.heap H locs → W p l e (rmd 407) s m args below meth c H locs 0 0 Q (F0 m 111 ls []))) (PE := (fun x : Int32 => ∀ (ls : Array Slot) (H : Heap) (locs : List Loc), lv_has ls 8 [(2, .int x2), (6, .int x)] → PX D dT g μ H → va_S (xA g) s.heap H locs → W p l e (rmd 407) s m args below meth c H locs 0 0 Q (F0 m 168 ls []))) ?_ hw hk
  clear hw hk
  intro st x hf hk ls H locs hl hP hS
  refine lv_iload hx hb dX0_calls_111 (lv_at hl 5 rfl) ?_
  refine lv_iload hx hb dX0_calls_113 (lv_at hl 2 rfl) ?_
  refine lv_icmp_gt (tgt := 168) hx hb dX0_calls_115 (by decide) (fun kc13 => ?_) (fun kc13 => ?_)
  · have hf := ite_t kc13 hf
    cases hf
    exact hk _ _ _ (lv_sub hl [1, 4] rfl) hP hS
  · have hf := ite_f kc13 hf
    refine lv_iload hx hb dX0_calls_118 (lv_at hl 5 rfl) ?_
    refine lv_iload hx hb dX0_calls_120 (lv_at hl 2 rfl) ?_
    refine lv_iconst (v := (-1)) hx hb dX0_calls_122 rfl ?_
    refine lv_ixor hx hb dX0_calls_123 ?_
    refine lv_iand hx hb dX0_calls_124 ?_
    refine lv_if_ne (tgt := 162) hx hb dX0_calls_125 (by decide) (fun kc14 => ?_) (fun kc14 => ?_)
    · have hf := ite_f kc14 hf
      refine lv_iinc (v := st.2 + nI 1) (lv' := [(7, .int (st.2 + nI 1)), (0, .ref g), (2, .int x2), (4, .int x4), (5, .int x5), (6, .int st.1)]) hx hb dX0_calls_162 hl (k := 5) rfl rfl (by decide) rfl (fun ls hl => ?_)
      refine lv_goto (tgt := 111) hx hb dX0_calls_165 (by decide) ?_
      cases hf
      exact hk _ _ _ (lv_sub hl [1, 2, 3, 4, 5, 0] rfl) hP hS
    · have hf := ite_t kc14 hf
      refine lv_aload_n hx hb dX0_calls_128 rfl (lv_at hl 0 rfl) ?_
      refine lv_iload hx hb dX0_calls_129 (lv_at hl 5 rfl) ?_
      obtain ⟨v16, hc15, hf⟩ := ob hf
      refine gx_calli E hE (Pic := fun H => PX D dT g μ H) (Pic1 := fun H => PX D dT g μ H) hP hS (fun _ z => z.elim) (As := [.int st.2]) (tx_addOf l D dT g st.2 μ _ hc15) (g_recv hK hP.1 (shO_g g) rfl) (lw_V q1299 q1301 qs48 q161 q1302) dx_addOf rfl (by decide) (by decide) hl rfl (Nat.le_of_ble_eq_true rfl) dX0_calls_131 (fun H locs hP _ _ hS => ?_)
      refine lv_iload hx hb dX0_calls_134 (lv_at hl 3 rfl) ?_
      refine lv_icmp_lt (tgt := 162) hx hb dX0_calls_136 (by decide) (fun kc17 => ?_) (fun kc17 => ?_)
      · have hf := ite_t kc17 hf
        refine lv_iinc (v := st.2 + nI 1) (lv' := [(7, .int (st.2 + nI 1)), (0, .ref g), (2, .int x2), (4, .int x4), (5, .int x5), (6, .int st.1)]) hx hb dX0_calls_162 hl (k := 5) rfl rfl (by decide) rfl (fun ls hl => ?_)
        refine lv_goto (tgt := 111) hx hb dX0_calls_165 (by decide) ?_
        cases hf
        exact hk _ _ _ (lv_sub hl [1, 2, 3, 4, 5, 0] rfl) hP hS
      · have hf := ite_f kc17 hf
        refine lv_iload hx hb dX0_calls_139 (lv_at hl 4 rfl) ?_
        refine lv_iconst (v := (-1)) hx hb dX0_calls_141 rfl ?_
        refine lv_icmp_eq (tgt := 158) hx hb dX0_calls_142 (by decide) (fun kc18 => ?_) (fun kc18 => ?_)
        · have hf := ite_t kc18 hf
          refine lv_iload hx hb dX0_calls_158 (lv_at hl 5 rfl) ?_
          refine lv_istore (lv' := [(6, .int st.2), (0, .ref g), (2, .int x2), (4, .int x4), (5, .int x5), (7, .int st.2)]) hx hb dX0_calls_160 hl (by decide) rfl (fun ls hl => ?_)
          refine lv_iinc (v := st.2 + nI 1) (lv' := [(7, .int (st.2 + nI 1)), (6, .int st.2), (0, .ref g), (2, .int x2), (4, .int x4), (5, .int x5)]) hx hb dX0_calls_162 hl (k := 5) rfl rfl (by decide) rfl (fun ls hl => ?_)
          refine lv_goto (tgt := 111) hx hb dX0_calls_165 (by decide) ?_
          cases hf
          exact hk _ _ _ (lv_sub hl [2, 3, 4, 5, 1, 0] rfl) hP hS
        · have hf := ite_f kc18 hf
          refine lv_iload hx hb dX0_calls_145 (lv_at hl 5 rfl) ?_
          obtain ⟨v19, hv19, hf⟩ := ob hf
          refine p_calli E hS (As := [.int st.2]) (ti_bitCount l st.2 _ hv19) (lw_S q1303 q1304 q194 q1305) di_bitCount rfl (by decide) (by decide) hl rfl (Nat.le_of_ble_eq_true rfl) dX0_calls_147 (fun H1 locs1 hq1 hS => ?_)
          have hP := PX_same hP (hz_all hq1) hq1
          refine lv_iload hx hb dX0_calls_150 (lv_at hl 4 rfl) ?_
          obtain ⟨v20, hv20, hf⟩ := ob hf
          refine p_calli E hS (As := [.int st.1]) (ti_bitCount l st.1 _ hv20) (lw_S q1303 q1304 q194 q1305) di_bitCount rfl (by decide) (by decide) hl rfl (Nat.le_of_ble_eq_true rfl) dX0_calls_152 (fun H1 locs1 hq1 hS => ?_)
          have hP := PX_same hP (hz_all hq1) hq1
          refine lv_icmp_ge (tgt := 162) hx hb dX0_calls_155 (by decide) (fun kc21 => ?_) (fun kc21 => ?_)
          · have hf := ite_t kc21 hf
            refine lv_iinc (v := st.2 + nI 1) (lv' := [(7, .int (st.2 + nI 1)), (0, .ref g), (2, .int x2), (4, .int x4), (5, .int x5), (6, .int st.1)]) hx hb dX0_calls_162 hl (k := 5) rfl rfl (by decide) rfl (fun ls hl => ?_)
            refine lv_goto (tgt := 111) hx hb dX0_calls_165 (by decide) ?_
            cases hf
            exact hk _ _ _ (lv_sub hl [1, 2, 3, 4, 5, 0] rfl) hP hS
          · have hf := ite_f kc21 hf
            refine lv_iload hx hb dX0_calls_158 (lv_at hl 5 rfl) ?_
            refine lv_istore (lv' := [(6, .int st.2), (0, .ref g), (2, .int x2), (4, .int x4), (5, .int x5), (7, .int st.2)]) hx hb dX0_calls_160 hl (by decide) rfl (fun ls hl => ?_)
            refine lv_iinc (v := st.2 + nI 1) (lv' := [(7, .int (st.2 + nI 1)), (6, .int st.2), (0, .ref g), (2, .int x2), (4, .int x4), (5, .int x5)]) hx hb dX0_calls_162 hl (k := 5) rfl rfl (by decide) rfl (fun ls hl => ?_)
            refine lv_goto (tgt := 111) hx hb dX0_calls_165 (by decide) ?_
            cases hf
            exact hk _ _ _ (lv_sub hl [2, 3, 4, 5, 1, 0] rfl) hP hS
set_option maxHeartbeats 4000000 in
theorem dx_calls : yX0_calls.cls = RX0 ∧ yX0_calls.cls ≠ "java/lang/invoke/MethodHandle" ∧ yX0_calls.cls ≠ "java/lang/invoke/VarHandle" ∧ (parseMethodDescriptor yX0_calls.desc).map (fun d => d.parameters.length) = some 2 := ⟨rfl, by decide +kernel, by decide +kernel, by decide +kernel⟩
set_option maxHeartbeats 4000000 in
theorem tx_calls (l : Launch) (D : va_G) (dT : Nat → ClassId) (g : Nat) (x1 : Int32) (x2 : Int32) (μ : nwX) (res : Int32 × nwX) (hf : fx_calls x1 x2 μ = some res) : Met l yX0_calls (ws_ yX0_calls cX0_calls 8 (some .int)) (rmd 407) (va_Pc [.ref g, .int x1, .int x2] (fun U => PX D dT g μ U.heap ∧ EV D dT U)) (va_Qi (fun r' (_ : Unit) => r' = res.1) (fun _ t => PX D dT g res.2 t.heap) (xA g)) 0 0 (xA g) := by
  refine g_met (D := D) (dT := dT) (A := xA g) (own := RX0) (Pic := fun H => PX D dT g μ H) (by decide) rfl (Nat.le_of_ble_eq_true rfl) ?_
  intro p e s m below meth c ls E hE hr hlk hl hP
  have hK := hE.1
  have hS : va_S (xA g) s.heap s.heap [] := va_S.rf
  obtain ⟨hx, hb, hml, hown, hts⟩ := id E
  have hl : lv_has ls 8 [(0, .ref g), (1, .int x1), (2, .int x2)] := hl
  unfold fx_calls at hf
  refine lv_iload_n hx hb dX0_calls_0 rfl (lv_at hl 1 rfl) ?_
  refine lv_iconst (v := nI 0) hx hb dX0_calls_1 rfl ?_
  refine lv_aload_n hx hb dX0_calls_2 rfl (lv_at hl 0 rfl) ?_
  refine gp_get (C := RX0) (T := TX0) E hK hP.1 (shO_g g) rfl in_X0 4 (by decide) (hts _ q337) (fun _ z => z) vO_4 dX0_calls_3 ?_
  refine gp_getN (C := RX1) (T := TX1) E hK (hP.2.1 0 (by decide)).1 (shS_h _) rfl in_X1 11 (by decide) (nfw_10 hE.2) (fun _ z => z) (vS_l (by decide) (by decide)) dX0_calls_6 ?_
  refine lx_size E hE ((hP.2.1 0 (by decide)).2.2.2.1) hS (lw_V q801 q630 q631 q165 q632) (by decide) hl (Nat.le_of_ble_eq_true rfl) dX0_calls_9 (fun H1 locs1 hq1 hS => ?_)
  have hP := PX_same hP (hz_all hq1) hq1
  refine lv_iconst (v := nI 1) hx hb dX0_calls_12 rfl ?_
  refine lv_isub hx hb dX0_calls_13 ?_
  obtain ⟨v1, hv1, hf⟩ := ob hf
  refine p_calli E hS (As := [.int x1, .int (nI 0), .int ((nI (μ.2.2.2.2 0).2.2.1.length) - (nI 1))]) (ti_isIn l x1 (nI 0) ((nI (μ.2.2.2.2 0).2.2.1.length) - (nI 1)) _ hv1) (lw_S q386 q387 q161 q388) di_isIn rfl (by decide) (by decide) hl rfl (Nat.le_of_ble_eq_true rfl) dX0_calls_14 (fun H1 locs1 hq1 hS => ?_)
  have hP := PX_same hP (hz_all hq1) hq1
  refine lv_if_eq (tgt := 50) hx hb dX0_calls_17 (by decide) (fun kc2 => ?_) (fun kc2 => ?_)
  · have hf := ite_t kc2 hf
    refine lv_iconst (v := (-1)) hx hb dX0_calls_50 rfl ?_
    cases hf
    exact g_iret (Pic := fun H => PX D dT g _ H) E hr hlk hP hS rfl dX0_calls_51
  · have hf := ite_f kc2 hf
    refine lv_iload_n hx hb dX0_calls_20 rfl (lv_at hl 2 rfl) ?_
    refine lv_iconst (v := nI 0) hx hb dX0_calls_21 rfl ?_
    refine lv_iconst (v := nI 1) hx hb dX0_calls_22 rfl ?_
    obtain ⟨v3, hv3, hf⟩ := ob hf
    refine p_calli E hS (As := [.int x2, .int (nI 0), .int (nI 1)]) (ti_isIn l x2 (nI 0) (nI 1) _ hv3) (lw_S q386 q387 q161 q388) di_isIn rfl (by decide) (by decide) hl rfl (Nat.le_of_ble_eq_true rfl) dX0_calls_23 (fun H1 locs1 hq1 hS => ?_)
    have hP := PX_same hP (hz_all hq1) hq1
    refine lv_if_eq (tgt := 50) hx hb dX0_calls_26 (by decide) (fun kc4 => ?_) (fun kc4 => ?_)
    · have hf := ite_t kc4 hf
      refine lv_iconst (v := (-1)) hx hb dX0_calls_50 rfl ?_
      cases hf
      exact g_iret (Pic := fun H => PX D dT g _ H) E hr hlk hP hS rfl dX0_calls_51
    · have hf := ite_f kc4 hf
      refine lv_aload_n hx hb dX0_calls_29 rfl (lv_at hl 0 rfl) ?_
      refine gp_get (C := RX0) (T := TX0) E hK hP.1 (shO_g g) rfl in_X0 4 (by decide) (hts _ q337) (fun _ z => z) vO_4 dX0_calls_30 ?_
      refine gp_getN (C := RX1) (T := TX1) E hK (hP.2.1 0 (by decide)).1 (shS_h _) rfl in_X1 11 (by decide) (nfw_10 hE.2) (fun _ z => z) (vS_l (by decide) (by decide)) dX0_calls_33 ?_
      refine lv_iload_n hx hb dX0_calls_36 rfl (lv_at hl 1 rfl) ?_
      obtain ⟨e5, he5, hf⟩ := ob hf
      refine lx_get E hE ((hP.2.1 0 (by decide)).2.2.2.1) he5 hS (lw_V q1251 q1011 q1012 q165 q1013) (by decide) hl (Nat.le_of_ble_eq_true rfl) dX0_calls_37 (fun be5 H1 locs1 ge5 hq1 hS => ?_)
      have hP := PX_same hP (hz_all hq1) hq1
      have ge5 := (gK_W D).1 _ _ _ _ _ (fun q z _ => hq1 q z) ge5
      refine wa_cast E hE ge5 q1252 dX0_calls_40 ?_
      refine wa_kind E hE ge5 hS (by decide) hl (Nat.le_of_ble_eq_true rfl) dX0_calls_43 (fun H1 locs1 hq1 hS => ?_)
      have hP := PX_same hP (hz_all hq1) hq1
      have ge5 := (gK_W D).1 _ _ _ _ _ (fun q z _ => hq1 q z) ge5
      refine lv_iconst (v := (-1)) hx hb dX0_calls_46 rfl ?_
      refine lv_icmp_ne (tgt := 52) hx hb dX0_calls_47 (by decide) (fun kc6 => ?_) (fun kc6 => ?_)
      · have hf := ite_f kc6 hf
        refine lv_aload_n hx hb dX0_calls_52 rfl (lv_at hl 0 rfl) ?_
        refine gp_get (C := RX0) (T := TX0) E hK hP.1 (shO_g g) rfl in_X0 4 (by decide) (hts _ q337) (fun _ z => z) vO_4 dX0_calls_53 ?_
        refine gp_getN (C := RX1) (T := TX1) E hK (hP.2.1 0 (by decide)).1 (shS_h _) rfl in_X1 11 (by decide) (nfw_10 hE.2) (fun _ z => z) (vS_l (by decide) (by decide)) dX0_calls_56 ?_
        refine lv_iload_n hx hb dX0_calls_59 rfl (lv_at hl 1 rfl) ?_
        obtain ⟨e7, he7, hf⟩ := ob hf
        refine lx_get E hE ((hP.2.1 0 (by decide)).2.2.2.1) he7 hS (lw_V q1251 q1011 q1012 q165 q1013) (by decide) hl (Nat.le_of_ble_eq_true rfl) dX0_calls_60 (fun be7 H1 locs1 ge7 hq1 hS => ?_)
        have hP := PX_same hP (hz_all hq1) hq1
        have ge7 := (gK_W D).1 _ _ _ _ _ (fun q z _ => hq1 q z) ge7
        refine wa_cast E hE ge7 q1252 dX0_calls_63 ?_
        refine lv_astore_n (lv' := [(3, .ref be7), (0, .ref g), (1, .int x1), (2, .int x2)]) hx hb dX0_calls_66 rfl hl (by decide) rfl (fun ls hl => ?_)
        refine lv_aload_n hx hb dX0_calls_67 rfl (lv_at hl 1 rfl) ?_
        refine lv_aload_n hx hb dX0_calls_68 rfl (lv_at hl 0 rfl) ?_
        refine wa_island E hE ge7 hS (by decide) hl (Nat.le_of_ble_eq_true rfl) dX0_calls_69 (fun H1 locs1 hq1 hS => ?_)
        have hP := PX_same hP (hz_all hq1) hq1
        have ge7 := (gK_W D).1 _ _ _ _ _ (fun q z _ => hq1 q z) ge7
        refine lv_aload_n hx hb dX0_calls_72 rfl (lv_at hl 0 rfl) ?_
        refine wa_kind E hE ge7 hS (by decide) hl (Nat.le_of_ble_eq_true rfl) dX0_calls_73 (fun H1 locs1 hq1 hS => ?_)
        have hP := PX_same hP (hz_all hq1) hq1
        have ge7 := (gK_W D).1 _ _ _ _ _ (fun q z _ => hq1 q z) ge7
        obtain ⟨v9, χ10, hc8, hf⟩ := ob2 hf
        refine gx_calli E hE (Pic := fun H => PX D dT g μ H) (Pic1 := fun H => PX D dT g χ10 H) hP hS (fun _ z => z) (As := [.int e7.2.2.1, .int e7.1]) (tx_laysAdds l D dT g e7.2.2.1 e7.1 μ _ hc8) (g_recv hK hP.1 (shO_g g) rfl) (lw_V q1287 q1289 qs47 q161 q1290) dx_laysAdds rfl (by decide) (by decide) hl rfl (Nat.le_of_ble_eq_true rfl) dX0_calls_76 (fun H locs hP _ hq1 hS => ?_)
        have ge7 := (gK_W D).1 _ _ _ _ _ (fun q z y => hq1 q z y) ge7
        refine lv_istore (lv' := [(4, .int v9), (3, .ref be7), (0, .ref g), (1, .int x1), (2, .int x2)]) hx hb dX0_calls_79 hl (by decide) rfl (fun ls hl => ?_)
        refine lv_aload_n hx hb dX0_calls_81 rfl (lv_at hl 1 rfl) ?_
        refine wa_much E hE ge7 hS (by decide) hl (Nat.le_of_ble_eq_true rfl) dX0_calls_82 (fun H1 locs1 hq1 hS => ?_)
        have hP := PX_same hP (hz_all hq1) hq1
        have ge7 := (gK_W D).1 _ _ _ _ _ (fun q z _ => hq1 q z) ge7
        refine lv_aload_n hx hb dX0_calls_85 rfl (lv_at hl 2 rfl) ?_
        refine gp_get (C := RX0) (T := TX0) E hK hP.1 (shO_g g) rfl in_X0 4 (by decide) (hts _ q337) (fun _ z => z) vO_4 dX0_calls_86 ?_
        refine gp_getN (C := RX1) (T := TX1) E hK (hP.2.1 0 (by decide)).1 (shS_h _) rfl in_X1 0 (by decide) (nfw_0 hE.2) (fun _ z => z) (vS_2 (by decide)) dX0_calls_89 ?_
        refine lv_aload_n hx hb dX0_calls_92 rfl (lv_at hl 1 rfl) ?_
        refine wa_island E hE ge7 hS (by decide) hl (Nat.le_of_ble_eq_true rfl) dX0_calls_93 (fun H1 locs1 hq1 hS => ?_)
        have hP := PX_same hP (hz_all hq1) hq1
        have ge7 := (gK_W D).1 _ _ _ _ _ (fun q z _ => hq1 q z) ge7
        obtain ⟨r11, hr11, hf⟩ := ob hf
        refine gp_aald (t := 2) (ty := .array .int) E hK (hP.2.1 0 (by decide)).1 rfl rfl (shS_2 (by decide)) (rw_in hr11).1 (by rw [vS_o (by decide), (rw_in hr11).2.1]) dX0_calls_96 ?_
        refine lv_aload_n hx hb dX0_calls_97 rfl (lv_at hl 1 rfl) ?_
        refine wa_kind E hE ge7 hS (by decide) hl (Nat.le_of_ble_eq_true rfl) dX0_calls_98 (fun H1 locs1 hq1 hS => ?_)
        have hP := PX_same hP (hz_all hq1) hq1
        have ge7 := (gK_W D).1 _ _ _ _ _ (fun q z _ => hq1 q z) ge7
        obtain ⟨v12, hv12, hf⟩ := ob hf
        refine gp_iald E hK (hP.2.1 0 (by decide)).1 (shS_r (by decide) (rw_in hr11).2.2) (rr_in hv12).1 (by rw [vS_r (by decide) (rw_in hr11).2.2, ← (rr_in hv12).2]) dX0_calls_101 ?_
        refine lv_isub hx hb dX0_calls_102 ?_
        refine lv_istore (lv' := [(5, .int (e7.2.1 - v12)), (4, .int v9), (3, .ref be7), (0, .ref g), (1, .int x1), (2, .int x2)]) hx hb dX0_calls_103 hl (by decide) rfl (fun ls hl => ?_)
        refine lv_iconst (v := (-1)) hx hb dX0_calls_105 rfl ?_
        refine lv_istore (lv' := [(6, .int (-1)), (5, .int (e7.2.1 - v12)), (4, .int v9), (3, .ref be7), (0, .ref g), (1, .int x1), (2, .int x2)]) hx hb dX0_calls_106 hl (by decide) rfl (fun ls hl => ?_)
        refine lv_iconst (v := nI 0) hx hb dX0_calls_108 rfl ?_
        refine lv_istore (lv' := [(7, .int (nI 0)), (6, .int (-1)), (5, .int (e7.2.1 - v12)), (4, .int v9), (3, .ref be7), (0, .ref g), (1, .int x1), (2, .int x2)]) hx hb dX0_calls_109 hl (by decide) rfl (fun ls hl => ?_)
        obtain ⟨x22, hx22, hf⟩ := ob hf
        refine fx_calls_L111_w E hK hE x2 v9 (e7.2.1 - v12) χ10 hx22 (fun ls H locs hl hP hS => ?_) _ _ _ (lv_sub hl [5, 7, 3, 2, 1, 0] rfl) hP hS
        refine lv_iload hx hb dX0_calls_168 (lv_at hl 1 rfl) ?_
        refine lv_iconst (v := (-1)) hx hb dX0_calls_170 rfl ?_
        refine lv_icmp_eq (tgt := 179) hx hb dX0_calls_171 (by decide) (fun kc23 => ?_) (fun kc23 => ?_)
        · have hf := ite_t kc23 hf
          refine lv_iload hx hb dX0_calls_179 (lv_at hl 1 rfl) ?_
          refine lv_goto (tgt := 189) hx hb dX0_calls_181 (by decide) ?_
          cases hf
          exact g_iret (Pic := fun H => PX D dT g _ H) E hr hlk hP hS rfl dX0_calls_189
        · have hf := ite_f kc23 hf
          refine lv_iload_n hx hb dX0_calls_174 rfl (lv_at hl 0 rfl) ?_
          refine lv_iconst (v := nI 1) hx hb dX0_calls_175 rfl ?_
          refine lv_icmp_ne (tgt := 184) hx hb dX0_calls_176 (by decide) (fun kc24 => ?_) (fun kc24 => ?_)
          · have hf := ite_f kc24 hf
            refine lv_iload hx hb dX0_calls_184 (lv_at hl 1 rfl) ?_
            obtain ⟨v25, hv25, hf⟩ := ob hf
            refine p_calli E hS (As := [.int x22]) (ti_bitCount l x22 _ hv25) (lw_S q1303 q1304 q194 q1305) di_bitCount rfl (by decide) (by decide) hl rfl (Nat.le_of_ble_eq_true rfl) dX0_calls_186 (fun H1 locs1 hq1 hS => ?_)
            have hP := PX_same hP (hz_all hq1) hq1
            cases hf
            exact g_iret (Pic := fun H => PX D dT g _ H) E hr hlk hP hS rfl dX0_calls_189
          · have hf := ite_t kc24 hf
            refine lv_iload hx hb dX0_calls_179 (lv_at hl 1 rfl) ?_
            refine lv_goto (tgt := 189) hx hb dX0_calls_181 (by decide) ?_
            cases hf
            exact g_iret (Pic := fun H => PX D dT g _ H) E hr hlk hP hS rfl dX0_calls_189
      · have hf := ite_t kc6 hf
        refine lv_iconst (v := (-1)) hx hb dX0_calls_50 rfl ?_
        cases hf
        exact g_iret (Pic := fun H => PX D dT g _ H) E hr hlk hP hS rfl dX0_calls_51
