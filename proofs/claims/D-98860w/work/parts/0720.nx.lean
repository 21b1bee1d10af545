/-! walks, written by my programs -/
set_option maxRecDepth 100000
set_option maxHeartbeats 4000000 in
def fx_word_L3 (x1 : Int32) : (Int32 × nwX) → Option ((Int32 × nwX) ⊕ (nwX)) := fun st => (if st.1 < 0 then some (.inr st.2) else (xo_ st.2 (wr_ st.2.1 0 400 (st.2.1 1 0) ((x1 >>> (st.1 &&& 31)).toInt8.toInt32).toInt8.toInt32)).bind fun χ2 => (xo_ χ2 (wf_ χ2.1 1 ((χ2.1 1 0) + (nI 1)))).bind fun χ3 => some (.inl (st.1 + (-8), χ3)))
set_option maxHeartbeats 4000000 in
noncomputable def fx_word (x1 : Int32) (μ : nwX) : Option (nwX) := (wh_ (fx_word_L3 x1) (nI 24, μ)).bind fun x4 => some x4
set_option maxHeartbeats 4000000 in
theorem fx_word_L3_w {p : Program} {l : Launch} {e : Env} {s : State} {m : MethodId} {args : Array Value} {below : List Frame} {meth : Method} {c : Code} {D : va_G} {dT : Nat → ClassId} {Q : State → Prop} {g : Nat} (E : CallFix p m c cX0_word 3 s args lw_all RX0) (hK : va_K D nwCl (nwT dT) s) (hE : EV D dT s) (x1 : Int32) {st : Int32 × nwX} {x : nwX} (hw : wh_ (fx_word_L3 x1) st = some x) (hk : (fun x : nwX => ∀ (ls : Array Slot) (H : Heap) (locs : List Loc), lv_has ls 3 [] → PX D dT g x H → va_S (xA g) s.heap H locs → W p l e (rmd 0) s m args below meth c H locs 0 0 Q (F0 m 36 ls [])) x) : (fun st : Int32 × nwX => ∀ (ls : Array Slot) (H : Heap) (locs : List Loc), lv_has ls 3 [(0, .ref g), (1, .int x1), (2, .int st.1)] → PX D dT g st.2 H → va_S (xA g) s.heap H locs → W p l e (rmd 0) s m args below meth c H locs 0 0 Q (F0 m 3 ls [])) st := by
  obtain ⟨hx, hb, hml, hown, hts⟩ := id E
  refine wh_run (P := (fun st : Int32 × nwX => ∀ (ls : Array Slot) (H : Heap) (locs : List Loc), lv_has ls 3 [(0, .ref g), (1, .int x1), (2, .int st.1)] → PX D dT g st.2 H → va_S (xA g) s.heap H locs → W p l e (rmd 0) s m args below meth c H locs 0 0 Q (F0 m 3 ls []))) (PE := (fun x : nwX => ∀ (ls : Array Slot) (H : Heap) (locs : List Loc), lv_has ls 3 [] → PX D dT g x H → va_S (xA g) s.heap H locs → W p l e (rmd 0) s m args below meth c H locs 0 0 Q (F0 m 36 ls []))) ?_ hw hk
  clear hw hk
  intro st x hf hk ls H locs hl hP hS
  refine lv_iload_n hx hb dX0_word_3 rfl (lv_at hl 2 rfl) ?_
  refine lv_if_lt (tgt := 36) hx hb dX0_word_4 (by decide) (fun kc1 => ?_) (fun kc1 => ?_)
  · have hf := ite_t kc1 hf
    cases hf
    exact hk _ _ _ (lv_sub hl [] rfl) hP hS
  · have hf := ite_f kc1 hf
    refine lv_aload_n hx hb dX0_word_7 rfl (lv_at hl 0 rfl) ?_
    refine gp_get (C := RX0) (T := TX0) E hK hP.1 (shO_g g) rfl in_X0 0 (by decide) (hts _ q331) (fun _ z => z) vO_0 dX0_word_8 ?_
    refine lv_aload_n hx hb dX0_word_11 rfl (lv_at hl 0 rfl) ?_
    refine gp_get (C := RX0) (T := TX0) E hK hP.1 (shO_g g) rfl in_X0 1 (by decide) (hts _ q334) (fun _ z => z) (vO_i (by decide)) dX0_word_12 ?_
    refine lv_iload_n hx hb dX0_word_15 rfl (lv_at hl 1 rfl) ?_
    refine lv_iload_n hx hb dX0_word_16 rfl (lv_at hl 2 rfl) ?_
    refine lv_ishr hx hb dX0_word_17 ?_
    refine lv_i2b (v := (x1 >>> (st.1 &&& 31)).toInt8.toInt32) hx hb dX0_word_18 rfl ?_
    obtain ⟨χ2, hχ2, hf⟩ := ob hf
    obtain ⟨sχ2, hχ2, eχ2⟩ := xo_in hχ2
    refine gp_bast E hK hP.1 hS (xA_o (Or.inr (Or.inl rfl))) (shO_t g) (wr_in hχ2).1 dX0_word_19 (fun H locs hG oq hS => ?_)
    have hP := PX_bst hP hχ2 hG oq (hz_put hG (by rw [shO_t]; exact fun z => by cases z) oq)
    rw [← eχ2] at hP
    refine lv_aload_n hx hb dX0_word_20 rfl (lv_at hl 0 rfl) ?_
    refine lv_dup hx hb dX0_word_21 rfl ?_
    refine gp_get (C := RX0) (T := TX0) E hK hP.1 (shO_g g) rfl in_X0 1 (by decide) (hts _ q334) (fun _ z => z) (vO_i (by decide)) dX0_word_22 ?_
    refine lv_iconst (v := nI 1) hx hb dX0_word_25 rfl ?_
    refine lv_iadd hx hb dX0_word_26 ?_
    obtain ⟨χ3, hχ3, hf⟩ := ob hf
    refine gp_put (C := RX0) (T := TX0) (ty := .int) E hK hP.1 hS (xA_o (Or.inl rfl)) (shO_g g) rfl in_X0 tyX0 tyX0_ok nmX0 1 (by decide) (hts _ q334) (fun _ z => z) rfl rfl rfl rfl dX0_word_27 (fun H locs hG oq hS => ?_)
    have hP := PX_put hP (by decide) (xo_wf hχ3) hG oq (hz_put hG (by rw [shO_g]; exact fun z => by cases z) oq)
    refine lv_iinc (v := st.1 + (-8)) (lv' := [(2, .int (st.1 + (-8))), (0, .ref g), (1, .int x1)]) hx hb dX0_word_30 hl (k := 2) rfl rfl (by decide) rfl (fun ls hl => ?_)
    refine lv_goto (tgt := 3) hx hb dX0_word_33 (by decide) ?_
    cases hf
    exact hk _ _ _ (lv_sub hl [1, 2, 0] rfl) hP hS
set_option maxHeartbeats 4000000 in
theorem dx_word : yX0_word.cls = RX0 ∧ yX0_word.cls ≠ "java/lang/invoke/MethodHandle" ∧ yX0_word.cls ≠ "java/lang/invoke/VarHandle" ∧ (parseMethodDescriptor yX0_word.desc).map (fun d => d.parameters.length) = some 1 := ⟨rfl, by decide +kernel, by decide +kernel, by decide +kernel⟩
set_option maxHeartbeats 4000000 in
theorem tx_word (l : Launch) (D : va_G) (dT : Nat → ClassId) (g : Nat) (x1 : Int32) (μ : nwX) (res : nwX) (hf : fx_word x1 μ = some res) : Met l yX0_word (ws_ yX0_word cX0_word 3 none) (rmd 0) (va_Pc [.ref g, .int x1] (fun U => PX D dT g μ U.heap ∧ EV D dT U)) (va_Qv (fun (_ : Unit) => True) (fun _ t => PX D dT g res t.heap) (xA g)) 0 0 (xA g) := by
  refine g_met (D := D) (dT := dT) (A := xA g) (own := RX0) (Pic := fun H => PX D dT g μ H) (by decide) rfl (Nat.le_of_ble_eq_true rfl) ?_
  intro p e s m below meth c ls E hE hr hlk hl hP
  have hK := hE.1
  have hS : va_S (xA g) s.heap s.heap [] := va_S.rf
  obtain ⟨hx, hb, hml, hown, hts⟩ := id E
  have hl : lv_has ls 3 [(0, .ref g), (1, .int x1)] := hl
  unfold fx_word at hf
  refine lv_bipush (v := nI 24) hx hb dX0_word_0 rfl ?_
  refine lv_istore_n (lv' := [(2, .int (nI 24)), (0, .ref g), (1, .int x1)]) hx hb dX0_word_2 rfl hl (by decide) rfl (fun ls hl => ?_)
  obtain ⟨x4, hx4, hf⟩ := ob hf
  refine fx_word_L3_w E hK hE x1 hx4 (fun ls H locs hl hP hS => ?_) _ _ _ (lv_sub hl [1, 2, 0] rfl) hP hS
  cases hf
  exact g_vret (Pic := fun H => PX D dT g _ H) E hr hlk hP hS dX0_word_36
set_option maxHeartbeats 4000000 in
noncomputable def fx_feed (x1 : Int32) (x2 : Int32) (x3 : Int32) (x4 : Int32) (x5 : Int32) (μ : nwX) : Option (Int32 × nwX) := (if ((μ.1 1 0) + (nI 20)) ≤ (nI 400) then (fx_word x1 μ).bind fun χ3 => (fx_word x2 χ3).bind fun χ5 => (fx_word x3 χ5).bind fun χ7 => (fx_word x4 χ7).bind fun χ9 => (fx_word x5 χ9).bind fun χ11 => some (χ11.1 1 0, χ11) else some ((-1), μ))
set_option maxHeartbeats 4000000 in
theorem dx_feed : yX0_feed.cls = RX0 ∧ yX0_feed.cls ≠ "java/lang/invoke/MethodHandle" ∧ yX0_feed.cls ≠ "java/lang/invoke/VarHandle" ∧ (parseMethodDescriptor yX0_feed.desc).map (fun d => d.parameters.length) = some 5 := ⟨rfl, by decide +kernel, by decide +kernel, by decide +kernel⟩
set_option maxHeartbeats 4000000 in
theorem tx_feed (l : Launch) (D : va_G) (dT : Nat → ClassId) (g : Nat) (x1 : Int32) (x2 : Int32) (x3 : Int32) (x4 : Int32) (x5 : Int32) (μ : nwX) (res : Int32 × nwX) (hf : fx_feed x1 x2 x3 x4 x5 μ = some res) : Met l yX0_feed (ws_ yX0_feed cX0_feed 6 (some .int)) (rmd 1) (va_Pc [.ref g, .int x1, .int x2, .int x3, .int x4, .int x5] (fun U => PX D dT g μ U.heap ∧ EV D dT U)) (va_Qi (fun r' (_ : Unit) => r' = res.1) (fun _ t => PX D dT g res.2 t.heap) (xA g)) 0 0 (xA g) := by
  refine g_met (D := D) (dT := dT) (A := xA g) (own := RX0) (Pic := fun H => PX D dT g μ H) (by decide) rfl (Nat.le_of_ble_eq_true rfl) ?_
  intro p e s m below meth c ls E hE hr hlk hl hP
  have hK := hE.1
  have hS : va_S (xA g) s.heap s.heap [] := va_S.rf
  obtain ⟨hx, hb, hml, hown, hts⟩ := id E
  have hl : lv_has ls 6 [(0, .ref g), (1, .int x1), (2, .int x2), (3, .int x3), (4, .int x4), (5, .int x5)] := hl
  unfold fx_feed at hf
  refine lv_aload_n hx hb dX0_feed_0 rfl (lv_at hl 0 rfl) ?_
  refine gp_get (C := RX0) (T := TX0) E hK hP.1 (shO_g g) rfl in_X0 1 (by decide) (hts _ q334) (fun _ z => z) (vO_i (by decide)) dX0_feed_1 ?_
  refine lv_bipush (v := nI 20) hx hb dX0_feed_4 rfl ?_
  refine lv_iadd hx hb dX0_feed_6 ?_
  refine lv_sipush (v := nI 400) hx hb dX0_feed_7 rfl ?_
  refine lv_icmp_le (tgt := 15) hx hb dX0_feed_10 (by decide) (fun kc1 => ?_) (fun kc1 => ?_)
  · have hf := ite_t kc1 hf
    refine lv_aload_n hx hb dX0_feed_15 rfl (lv_at hl 0 rfl) ?_
    refine lv_iload_n hx hb dX0_feed_16 rfl (lv_at hl 1 rfl) ?_
    obtain ⟨χ3, hc2, hf⟩ := ob hf
    refine gx_callv E hE (Pic := fun H => PX D dT g μ H) (Pic1 := fun H => PX D dT g χ3 H) hP hS (fun _ z => z) (As := [.int x1]) (tx_word l D dT g x1 μ _ hc2) (g_recv hK hP.1 (shO_g g) rfl) (lw_V q378 q380 qs0 q161 q381) dx_word rfl (by decide) (by decide) hl rfl (Nat.le_of_ble_eq_true rfl) dX0_feed_17 (fun H locs hP _ _ hS => ?_)
    refine lv_aload_n hx hb dX0_feed_20 rfl (lv_at hl 0 rfl) ?_
    refine lv_iload_n hx hb dX0_feed_21 rfl (lv_at hl 2 rfl) ?_
    obtain ⟨χ5, hc4, hf⟩ := ob hf
    refine gx_callv E hE (Pic := fun H => PX D dT g χ3 H) (Pic1 := fun H => PX D dT g χ5 H) hP hS (fun _ z => z) (As := [.int x2]) (tx_word l D dT g x2 χ3 _ hc4) (g_recv hK hP.1 (shO_g g) rfl) (lw_V q378 q380 qs0 q161 q381) dx_word rfl (by decide) (by decide) hl rfl (Nat.le_of_ble_eq_true rfl) dX0_feed_22 (fun H locs hP _ _ hS => ?_)
    refine lv_aload_n hx hb dX0_feed_25 rfl (lv_at hl 0 rfl) ?_
    refine lv_iload_n hx hb dX0_feed_26 rfl (lv_at hl 3 rfl) ?_
    obtain ⟨χ7, hc6, hf⟩ := ob hf
    refine gx_callv E hE (Pic := fun H => PX D dT g χ5 H) (Pic1 := fun H => PX D dT g χ7 H) hP hS (fun _ z => z) (As := [.int x3]) (tx_word l D dT g x3 χ5 _ hc6) (g_recv hK hP.1 (shO_g g) rfl) (lw_V q378 q380 qs0 q161 q381) dx_word rfl (by decide) (by decide) hl rfl (Nat.le_of_ble_eq_true rfl) dX0_feed_27 (fun H locs hP _ _ hS => ?_)
    refine lv_aload_n hx hb dX0_feed_30 rfl (lv_at hl 0 rfl) ?_
    refine lv_iload hx hb dX0_feed_31 (lv_at hl 4 rfl) ?_
    obtain ⟨χ9, hc8, hf⟩ := ob hf
    refine gx_callv E hE (Pic := fun H => PX D dT g χ7 H) (Pic1 := fun H => PX D dT g χ9 H) hP hS (fun _ z => z) (As := [.int x4]) (tx_word l D dT g x4 χ7 _ hc8) (g_recv hK hP.1 (shO_g g) rfl) (lw_V q378 q380 qs0 q161 q381) dx_word rfl (by decide) (by decide) hl rfl (Nat.le_of_ble_eq_true rfl) dX0_feed_33 (fun H locs hP _ _ hS => ?_)
    refine lv_aload_n hx hb dX0_feed_36 rfl (lv_at hl 0 rfl) ?_
    refine lv_iload hx hb dX0_feed_37 (lv_at hl 5 rfl) ?_
    obtain ⟨χ11, hc10, hf⟩ := ob hf
    refine gx_callv E hE (Pic := fun H => PX D dT g χ9 H) (Pic1 := fun H => PX D dT g χ11 H) hP hS (fun _ z => z) (As := [.int x5]) (tx_word l D dT g x5 χ9 _ hc10) (g_recv hK hP.1 (shO_g g) rfl) (lw_V q378 q380 qs0 q161 q381) dx_word rfl (by decide) (by decide) hl rfl (Nat.le_of_ble_eq_true rfl) dX0_feed_39 (fun H locs hP _ _ hS => ?_)
    refine lv_aload_n hx hb dX0_feed_42 rfl (lv_at hl 0 rfl) ?_
    refine gp_get (C := RX0) (T := TX0) E hK hP.1 (shO_g g) rfl in_X0 1 (by decide) (hts _ q334) (fun _ z => z) (vO_i (by decide)) dX0_feed_43 ?_
    cases hf
    exact g_iret (Pic := fun H => PX D dT g _ H) E hr hlk hP hS rfl dX0_feed_46
  · have hf := ite_f kc1 hf
    refine lv_iconst (v := (-1)) hx hb dX0_feed_13 rfl ?_
    cases hf
    exact g_iret (Pic := fun H => PX D dT g _ H) E hr hlk hP hS rfl dX0_feed_14
set_option maxHeartbeats 4000000 in
def fx_end (x1 : Int32) (μ : nwX) : Option (Int32 × nwX) := (fi_isIn x1 (nI 0) (μ.1 1 0) ()).bind fun v1 => (if v1 = 0 then some (nI 0, μ) else (xo_ μ (wf_ μ.1 1 x1)).bind fun χ3 => some (nI 1, χ3))
set_option maxHeartbeats 4000000 in
theorem dx_end : yX0_end.cls = RX0 ∧ yX0_end.cls ≠ "java/lang/invoke/MethodHandle" ∧ yX0_end.cls ≠ "java/lang/invoke/VarHandle" ∧ (parseMethodDescriptor yX0_end.desc).map (fun d => d.parameters.length) = some 1 := ⟨rfl, by decide +kernel, by decide +kernel, by decide +kernel⟩
set_option maxHeartbeats 4000000 in
theorem tx_end (l : Launch) (D : va_G) (dT : Nat → ClassId) (g : Nat) (x1 : Int32) (μ : nwX) (res : Int32 × nwX) (hf : fx_end x1 μ = some res) : Met l yX0_end (ws_ yX0_end cX0_end 2 (some .boolean)) (rmd 3) (va_Pc [.ref g, .int x1] (fun U => PX D dT g μ U.heap ∧ EV D dT U)) (va_Qi (fun r' (_ : Unit) => r' = res.1) (fun _ t => PX D dT g res.2 t.heap) (xA g)) 0 0 (xA g) := by
  refine g_met (D := D) (dT := dT) (A := xA g) (own := RX0) (Pic := fun H => PX D dT g μ H) (by decide) rfl (Nat.le_of_ble_eq_true rfl) ?_
  intro p e s m below meth c ls E hE hr hlk hl hP
  have hK := hE.1
  have hS : va_S (xA g) s.heap s.heap [] := va_S.rf
  obtain ⟨hx, hb, hml, hown, hts⟩ := id E
  have hl : lv_has ls 2 [(0, .ref g), (1, .int x1)] := hl
  unfold fx_end at hf
  refine lv_iload_n hx hb dX0_end_0 rfl (lv_at hl 1 rfl) ?_
  refine lv_iconst (v := nI 0) hx hb dX0_end_1 rfl ?_
  refine lv_aload_n hx hb dX0_end_2 rfl (lv_at hl 0 rfl) ?_
  refine gp_get (C := RX0) (T := TX0) E hK hP.1 (shO_g g) rfl in_X0 1 (by decide) (hts _ q334) (fun _ z => z) (vO_i (by decide)) dX0_end_3 ?_
  obtain ⟨v1, hv1, hf⟩ := ob hf
  refine p_calli E hS (As := [.int x1, .int (nI 0), .int (μ.1 1 0)]) (ti_isIn l x1 (nI 0) (μ.1 1 0) _ hv1) (lw_S q386 q387 q161 q388) di_isIn rfl (by decide) (by decide) hl rfl (Nat.le_of_ble_eq_true rfl) dX0_end_6 (fun H1 locs1 hq1 hS => ?_)
  have hP := PX_same hP (hz_all hq1) hq1
  refine lv_if_ne (tgt := 14) hx hb dX0_end_9 (by decide) (fun kc2 => ?_) (fun kc2 => ?_)
  · have hf := ite_f kc2 hf
    refine lv_aload_n hx hb dX0_end_14 rfl (lv_at hl 0 rfl) ?_
    refine lv_iload_n hx hb dX0_end_15 rfl (lv_at hl 1 rfl) ?_
    obtain ⟨χ3, hχ3, hf⟩ := ob hf
    refine gp_put (C := RX0) (T := TX0) (ty := .int) E hK hP.1 hS (xA_o (Or.inl rfl)) (shO_g g) rfl in_X0 tyX0 tyX0_ok nmX0 1 (by decide) (hts _ q334) (fun _ z => z) rfl rfl rfl rfl dX0_end_16 (fun H locs hG oq hS => ?_)
    have hP := PX_put hP (by decide) (xo_wf hχ3) hG oq (hz_put hG (by rw [shO_g]; exact fun z => by cases z) oq)
    refine lv_iconst (v := nI 1) hx hb dX0_end_19 rfl ?_
    cases hf
    exact g_zret (Pic := fun H => PX D dT g _ H) E hr hlk hP hS rfl dX0_end_20
  · have hf := ite_t kc2 hf
    refine lv_iconst (v := nI 0) hx hb dX0_end_12 rfl ?_
    cases hf
    exact g_zret (Pic := fun H => PX D dT g _ H) E hr hlk hP hS rfl dX0_end_13
set_option maxHeartbeats 4000000 in
def fx_forgets (μ : nwX) : Option (nwX) := (xo_ μ (wf_ μ.1 8 (nI 0))).bind fun χ1 => some χ1
set_option maxHeartbeats 4000000 in
theorem dx_forgets : yX0_forgets.cls = RX0 ∧ yX0_forgets.cls ≠ "java/lang/invoke/MethodHandle" ∧ yX0_forgets.cls ≠ "java/lang/invoke/VarHandle" ∧ (parseMethodDescriptor yX0_forgets.desc).map (fun d => d.parameters.length) = some 0 := ⟨rfl, by decide +kernel, by decide +kernel, by decide +kernel⟩
set_option maxHeartbeats 4000000 in
theorem tx_forgets (l : Launch) (D : va_G) (dT : Nat → ClassId) (g : Nat) (μ : nwX) (res : nwX) (hf : fx_forgets μ = some res) : Met l yX0_forgets (ws_ yX0_forgets cX0_forgets 1 none) (rmd 0) (va_Pc [.ref g] (fun U => PX D dT g μ U.heap ∧ EV D dT U)) (va_Qv (fun (_ : Unit) => True) (fun _ t => PX D dT g res t.heap) (xA g)) 0 0 (xA g) := by
  refine g_met (D := D) (dT := dT) (A := xA g) (own := RX0) (Pic := fun H => PX D dT g μ H) (by decide) rfl (Nat.le_of_ble_eq_true rfl) ?_
  intro p e s m below meth c ls E hE hr hlk hl hP
  have hK := hE.1
  have hS : va_S (xA g) s.heap s.heap [] := va_S.rf
  obtain ⟨hx, hb, hml, hown, hts⟩ := id E
  have hl : lv_has ls 1 [(0, .ref g)] := hl
  unfold fx_forgets at hf
  refine lv_aload_n hx hb dX0_forgets_0 rfl (lv_at hl 0 rfl) ?_
  refine lv_iconst (v := nI 0) hx hb dX0_forgets_1 rfl ?_
  obtain ⟨χ1, hχ1, hf⟩ := ob hf
  refine gp_put (C := RX0) (T := TX0) (ty := .int) E hK hP.1 hS (xA_o (Or.inl rfl)) (shO_g g) rfl in_X0 tyX0 tyX0_ok nmX0 8 (by decide) (hts _ q342) (fun _ z => z) rfl rfl rfl rfl dX0_forgets_2 (fun H locs hG oq hS => ?_)
  have hP := PX_put hP (by decide) (xo_wf hχ1) hG oq (hz_put hG (by rw [shO_g]; exact fun z => by cases z) oq)
  cases hf
  exact g_vret (Pic := fun H => PX D dT g _ H) E hr hlk hP hS dX0_forgets_5
set_option maxHeartbeats 4000000 in
def fx_fault (x1 : Int32) (μ : nwX) : Option (Int32) := (if x1 = 0 then some (μ.1 2 0) else (if x1 = (nI 1) then some (μ.1 3 0) else some (-1)))
set_option maxHeartbeats 4000000 in
theorem dx_fault : yX0_fault.cls = RX0 ∧ yX0_fault.cls ≠ "java/lang/invoke/MethodHandle" ∧ yX0_fault.cls ≠ "java/lang/invoke/VarHandle" ∧ (parseMethodDescriptor yX0_fault.desc).map (fun d => d.parameters.length) = some 1 := ⟨rfl, by decide +kernel, by decide +kernel, by decide +kernel⟩
set_option maxHeartbeats 4000000 in
theorem tx_fault (l : Launch) (D : va_G) (dT : Nat → ClassId) (g : Nat) (x1 : Int32) (μ : nwX) (res : Int32) (hf : fx_fault x1 μ = some res) : Met l yX0_fault (ws_ yX0_fault cX0_fault 2 (some .int)) (rmd 0) (va_Pc [.ref g, .int x1] (fun U => PX D dT g μ U.heap ∧ EV D dT U)) (va_Qi (fun r' (_ : Unit) => r' = res) (fun _ t => PX D dT g μ t.heap) (fun _ => False)) 0 0 (fun _ => False) := by
  refine g_met (D := D) (dT := dT) (A := fun _ => False) (own := RX0) (Pic := fun H => PX D dT g μ H) (by decide) rfl (Nat.le_of_ble_eq_true rfl) ?_
  intro p e s m below meth c ls E hE hr hlk hl hP
  have hK := hE.1
  have hS : va_S (fun _ => False) s.heap s.heap [] := va_S.rf
  obtain ⟨hx, hb, hml, hown, hts⟩ := id E
  have hl : lv_has ls 2 [(0, .ref g), (1, .int x1)] := hl
  unfold fx_fault at hf
  refine lv_iload_n hx hb dX0_fault_0 rfl (lv_at hl 1 rfl) ?_
  refine lv_if_ne (tgt := 11) hx hb dX0_fault_1 (by decide) (fun kc1 => ?_) (fun kc1 => ?_)
  · have hf := ite_f kc1 hf
    refine lv_iload_n hx hb dX0_fault_11 rfl (lv_at hl 1 rfl) ?_
    refine lv_iconst (v := nI 1) hx hb dX0_fault_12 rfl ?_
    refine lv_icmp_ne (tgt := 23) hx hb dX0_fault_13 (by decide) (fun kc2 => ?_) (fun kc2 => ?_)
    · have hf := ite_f kc2 hf
      refine lv_iconst (v := (-1)) hx hb dX0_fault_23 rfl ?_
      cases hf
      exact g_iret (Pic := fun H => PX D dT g _ H) E hr hlk hP hS rfl dX0_fault_24
    · have hf := ite_t kc2 hf
      refine lv_aload_n hx hb dX0_fault_16 rfl (lv_at hl 0 rfl) ?_
      refine gp_get (C := RX0) (T := TX0) E hK hP.1 (shO_g g) rfl in_X0 3 (by decide) (hts _ q336) (fun _ z => z) (vO_i (by decide)) dX0_fault_17 ?_
      refine lv_goto (tgt := 24) hx hb dX0_fault_20 (by decide) ?_
      cases hf
      exact g_iret (Pic := fun H => PX D dT g _ H) E hr hlk hP hS rfl dX0_fault_24
  · have hf := ite_t kc1 hf
    refine lv_aload_n hx hb dX0_fault_4 rfl (lv_at hl 0 rfl) ?_
    refine gp_get (C := RX0) (T := TX0) E hK hP.1 (shO_g g) rfl in_X0 2 (by decide) (hts _ q335) (fun _ z => z) (vO_i (by decide)) dX0_fault_5 ?_
    refine lv_goto (tgt := 24) hx hb dX0_fault_8 (by decide) ?_
    cases hf
    exact g_iret (Pic := fun H => PX D dT g _ H) E hr hlk hP hS rfl dX0_fault_24
set_option maxHeartbeats 4000000 in
def fx_keeps_L18 : (Int32 × nwX) → Option ((Int32 × nwX) ⊕ (nwX)) := fun st => (if (nI 6) ≤ st.1 then some (.inr st.2) else (rb_ st.2 st.1).bind fun r8 => (wb_ st.2 (st.1 - (nI 1)) r8).bind fun χ9 => some (.inl (st.1 + nI 1, χ9)))
set_option maxHeartbeats 4000000 in
noncomputable def fx_keeps (μ : nwX) : Option (nwX) := (if (μ.1 8 0) = (nI 6) then (rb_ μ (nI 0)).bind fun r6 => (wh_ (fx_keeps_L18) (nI 1, μ)).bind fun x10 => (wb_ x10 (nI 5) r6).bind fun χ11 => (xo_ χ11 (wf_ χ11.1 8 ((χ11.1 8 0) - (nI 1)))).bind fun χ12 => (rb_ χ12 (χ12.1 8 0)).bind fun r13 => (xs_ χ12 r13 (fs_moves (χ12.2.1 0) (χ12.2.1 r13))).bind fun χ15 => (xo_ χ15 (wf_ χ15.1 8 ((χ15.1 8 0) + (nI 1)))).bind fun χ16 => some χ16 else (rb_ μ (μ.1 8 0)).bind fun r2 => (xs_ μ r2 (fs_moves (μ.2.1 0) (μ.2.1 r2))).bind fun χ4 => (xo_ χ4 (wf_ χ4.1 8 ((χ4.1 8 0) + (nI 1)))).bind fun χ5 => some χ5)
set_option maxHeartbeats 4000000 in
theorem fx_keeps_L18_w {p : Program} {l : Launch} {e : Env} {s : State} {m : MethodId} {args : Array Value} {below : List Frame} {meth : Method} {c : Code} {D : va_G} {dT : Nat → ClassId} {Q : State → Prop} {g : Nat} (E : CallFix p m c cX0_keeps 3 s args lw_all RX0) (hK : va_K D nwCl (nwT dT) s) (hE : EV D dT s) (j1 : Nat) (hj1 : 3 ≤ j1 ∧ j1 < 9) {st : Int32 × nwX} {x : nwX} (hw : wh_ (fx_keeps_L18) st = some x) (hk : (fun x : nwX => ∀ (ls : Array Slot) (H : Heap) (locs : List Loc), lv_has ls 3 [(0, .ref g), (1, .ref (skA g j1))] → PX D dT g x H → va_S (xA g) s.heap H locs → W p l e (rmd 1) s m args below meth c H locs 0 0 Q (F0 m 44 ls [])) x) : (fun st : Int32 × nwX => ∀ (ls : Array Slot) (H : Heap) (locs : List Loc), lv_has ls 3 [(0, .ref g), (1, .ref (skA g j1)), (2, .int st.1)] → PX D dT g st.2 H → va_S (xA g) s.heap H locs → W p l e (rmd 1) s m args below meth c H locs 0 0 Q (F0 m 18 ls [])) st := by
  obtain ⟨hx, hb, hml, hown, hts⟩ := id E
  refine wh_run (P := (fun st : Int32 × nwX => ∀ (ls : Array Slot) (H : Heap) (locs : List Loc), lv_has ls 3 [(0, .ref g), (1, .ref (skA g j1)), (2, .int st.1)] → PX D dT g st.2 H → va_S (xA g) s.heap H locs → W p l e (rmd 1) s m args below meth c H locs 0 0 Q (F0 m 18 ls []))) (PE := (fun x : nwX => ∀ (ls : Array Slot) (H : Heap) (locs : List Loc), lv_has ls 3 [(0, .ref g), (1, .ref (skA g j1))] → PX D dT g x H → va_S (xA g) s.heap H locs → W p l e (rmd 1) s m args below meth c H locs 0 0 Q (F0 m 44 ls []))) ?_ hw hk
  clear hw hk
  intro st x hf hk ls H locs hl hP hS
  refine lv_iload_n hx hb dX0_keeps_18 rfl (lv_at hl 2 rfl) ?_
  refine lv_bipush (v := nI 6) hx hb dX0_keeps_19 rfl ?_
  refine lv_icmp_ge (tgt := 44) hx hb dX0_keeps_21 (by decide) (fun kc7 => ?_) (fun kc7 => ?_)
  · have hf := ite_t kc7 hf
    cases hf
    exact hk _ _ _ (lv_sub hl [0, 1] rfl) hP hS
  · have hf := ite_f kc7 hf
    refine lv_aload_n hx hb dX0_keeps_24 rfl (lv_at hl 0 rfl) ?_
    refine gp_get (C := RX0) (T := TX0) E hK hP.1 (shO_g g) rfl in_X0 7 (by decide) (hts _ q341) (fun _ z => z) vO_7 dX0_keeps_25 ?_
    refine lv_iload_n hx hb dX0_keeps_28 rfl (lv_at hl 2 rfl) ?_
    refine lv_iconst (v := nI 1) hx hb dX0_keeps_29 rfl ?_
    refine lv_isub hx hb dX0_keeps_30 ?_
    refine lv_aload_n hx hb dX0_keeps_31 rfl (lv_at hl 0 rfl) ?_
    refine gp_get (C := RX0) (T := TX0) E hK hP.1 (shO_g g) rfl in_X0 7 (by decide) (hts _ q341) (fun _ z => z) vO_7 dX0_keeps_32 ?_
    refine lv_iload_n hx hb dX0_keeps_35 rfl (lv_at hl 2 rfl) ?_
    obtain ⟨r8, hr8, hf⟩ := ob hf
    have gr8 := PX_rb hP hr8
    refine gp_aald (t := 3) (ty := .object "NamesWeather$Skies") E hK hP.1 rfl rfl (shO_b g) (rb_in hr8).1 (by rw [vO_be, (rb_in hr8).2]) dX0_keeps_36 ?_
    obtain ⟨χ9, hχ9, hf⟩ := ob hf
    refine gp_aast (t := 3) E hK hP.1 hS (xA_o (Or.inr (Or.inr (Or.inl rfl)))) rfl (shO_b g) (hP.2.1 r8 gr8.2).1 (shS_h _) rfl (wb_in hχ9).1 dX0_keeps_37 (fun H locs hG oq hS => ?_)
    have hP := PX_wb hP gr8 hχ9 hG oq (hz_put hG (by rw [shO_b]; exact fun z => by cases z) oq)
    refine lv_iinc (v := st.1 + nI 1) (lv' := [(2, .int (st.1 + nI 1)), (0, .ref g), (1, .ref (skA g j1))]) hx hb dX0_keeps_38 hl (k := 2) rfl rfl (by decide) rfl (fun ls hl => ?_)
    refine lv_goto (tgt := 18) hx hb dX0_keeps_41 (by decide) ?_
    cases hf
    exact hk _ _ _ (lv_sub hl [1, 2, 0] rfl) hP hS
set_option maxHeartbeats 4000000 in
theorem dx_keeps : yX0_keeps.cls = RX0 ∧ yX0_keeps.cls ≠ "java/lang/invoke/MethodHandle" ∧ yX0_keeps.cls ≠ "java/lang/invoke/VarHandle" ∧ (parseMethodDescriptor yX0_keeps.desc).map (fun d => d.parameters.length) = some 0 := ⟨rfl, by decide +kernel, by decide +kernel, by decide +kernel⟩
set_option maxHeartbeats 4000000 in
theorem tx_keeps (l : Launch) (D : va_G) (dT : Nat → ClassId) (g : Nat) (μ : nwX) (res : nwX) (hf : fx_keeps μ = some res) : Met l yX0_keeps (ws_ yX0_keeps cX0_keeps 3 none) (rmd 1) (va_Pc [.ref g] (fun U => PX D dT g μ U.heap ∧ EV D dT U)) (va_Qv (fun (_ : Unit) => True) (fun _ t => PX D dT g res t.heap) (xA g)) 0 0 (xA g) := by
  refine g_met (D := D) (dT := dT) (A := xA g) (own := RX0) (Pic := fun H => PX D dT g μ H) (by decide) rfl (Nat.le_of_ble_eq_true rfl) ?_
  intro p e s m below meth c ls E hE hr hlk hl hP
  have hK := hE.1
  have hS : va_S (xA g) s.heap s.heap [] := va_S.rf
  obtain ⟨hx, hb, hml, hown, hts⟩ := id E
  have hl : lv_has ls 3 [(0, .ref g)] := hl
  unfold fx_keeps at hf
  refine lv_aload_n hx hb dX0_keeps_0 rfl (lv_at hl 0 rfl) ?_
  refine gp_get (C := RX0) (T := TX0) E hK hP.1 (shO_g g) rfl in_X0 8 (by decide) (hts _ q342) (fun _ z => z) (vO_i (by decide)) dX0_keeps_1 ?_
  refine lv_bipush (v := nI 6) hx hb dX0_keeps_4 rfl ?_
  refine lv_icmp_ne (tgt := 61) hx hb dX0_keeps_6 (by decide) (fun kc1 => ?_) (fun kc1 => ?_)
  · have hf := ite_f kc1 hf
    refine lv_aload_n hx hb dX0_keeps_61 rfl (lv_at hl 0 rfl) ?_
    refine gp_get (C := RX0) (T := TX0) E hK hP.1 (shO_g g) rfl in_X0 7 (by decide) (hts _ q341) (fun _ z => z) vO_7 dX0_keeps_62 ?_
    refine lv_aload_n hx hb dX0_keeps_65 rfl (lv_at hl 0 rfl) ?_
    refine gp_get (C := RX0) (T := TX0) E hK hP.1 (shO_g g) rfl in_X0 8 (by decide) (hts _ q342) (fun _ z => z) (vO_i (by decide)) dX0_keeps_66 ?_
    obtain ⟨r2, hr2, hf⟩ := ob hf
    have gr2 := PX_rb hP hr2
    refine gp_aald (t := 3) (ty := .object "NamesWeather$Skies") E hK hP.1 rfl rfl (shO_b g) (rb_in hr2).1 (by rw [vO_be, (rb_in hr2).2]) dX0_keeps_69 ?_
    refine lv_aload_n hx hb dX0_keeps_70 rfl (lv_at hl 0 rfl) ?_
    refine gp_get (C := RX0) (T := TX0) E hK hP.1 (shO_g g) rfl in_X0 4 (by decide) (hts _ q337) (fun _ z => z) vO_4 dX0_keeps_71 ?_
    obtain ⟨χ4, hc3, hf⟩ := ob hf
    obtain ⟨sχ4, hc3, eχ4⟩ := xs_in hc3
    refine gx_callv E hE (Pic := fun H => PS D dT (skA g r2) (μ.2.1 r2) (μ.2.2.2.1 r2) H ∧ (PS D dT (skA g 0) (μ.2.1 0) (μ.2.2.2.1 0) H ∧ ∀ q, shS (skA g 0) q ≠ none → ¬ sA (skA g r2) q)) (Pic1 := fun H => PS D dT (skA g r2) sχ4 (μ.2.2.2.1 r2) H) ⟨(hP.2.1 r2 gr2.2).1, (hP.2.1 0 (by decide)).1, fun q hq1 hq2 => absurd (skA_ap (by decide) gr2.2 (shS_in hq1) hq2) (by omega)⟩ hS (fun _ z => xA_s gr2.2 z) (As := [.ref (skA g 0)]) (ts_moves l D dT (skA g r2) (μ.2.2.2.1 r2) (skA g 0) (μ.2.1 0) (μ.2.2.2.1 0) (μ.2.1 r2) _ hc3) (g_recv hK (hP.2.1 r2 gr2.2).1 (shS_h _) rfl) (lw_V q942 q943 q944 q162 q945) ds_moves rfl (by decide) (by decide) hl rfl (Nat.le_of_ble_eq_true rfl) dX0_keeps_74 (fun H1 locs1 hG hz1 hq1 hS => ?_)
    have hP := PX_set hP gr2.2 hG hz1 hq1
    rw [← eχ4] at hP
    refine lv_aload_n hx hb dX0_keeps_77 rfl (lv_at hl 0 rfl) ?_
    refine lv_dup hx hb dX0_keeps_78 rfl ?_
    refine gp_get (C := RX0) (T := TX0) E hK hP.1 (shO_g g) rfl in_X0 8 (by decide) (hts _ q342) (fun _ z => z) (vO_i (by decide)) dX0_keeps_79 ?_
    refine lv_iconst (v := nI 1) hx hb dX0_keeps_82 rfl ?_
    refine lv_iadd hx hb dX0_keeps_83 ?_
    obtain ⟨χ5, hχ5, hf⟩ := ob hf
    refine gp_put (C := RX0) (T := TX0) (ty := .int) E hK hP.1 hS (xA_o (Or.inl rfl)) (shO_g g) rfl in_X0 tyX0 tyX0_ok nmX0 8 (by decide) (hts _ q342) (fun _ z => z) rfl rfl rfl rfl dX0_keeps_84 (fun H locs hG oq hS => ?_)
    have hP := PX_put hP (by decide) (xo_wf hχ5) hG oq (hz_put hG (by rw [shO_g]; exact fun z => by cases z) oq)
    cases hf
    exact g_vret (Pic := fun H => PX D dT g _ H) E hr hlk hP hS dX0_keeps_87
  · have hf := ite_t kc1 hf
    refine lv_aload_n hx hb dX0_keeps_9 rfl (lv_at hl 0 rfl) ?_
    refine gp_get (C := RX0) (T := TX0) E hK hP.1 (shO_g g) rfl in_X0 7 (by decide) (hts _ q341) (fun _ z => z) vO_7 dX0_keeps_10 ?_
    refine lv_iconst (v := nI 0) hx hb dX0_keeps_13 rfl ?_
    obtain ⟨r6, hr6, hf⟩ := ob hf
    have gr6 := PX_rb hP hr6
    refine gp_aald (t := 3) (ty := .object "NamesWeather$Skies") E hK hP.1 rfl rfl (shO_b g) (rb_in hr6).1 (by rw [vO_be, (rb_in hr6).2]) dX0_keeps_14 ?_
    refine lv_astore_n (lv' := [(1, .ref (skA g r6)), (0, .ref g)]) hx hb dX0_keeps_15 rfl hl (by decide) rfl (fun ls hl => ?_)
    refine lv_iconst (v := nI 1) hx hb dX0_keeps_16 rfl ?_
    refine lv_istore_n (lv' := [(2, .int (nI 1)), (1, .ref (skA g r6)), (0, .ref g)]) hx hb dX0_keeps_17 rfl hl (by decide) rfl (fun ls hl => ?_)
    obtain ⟨x10, hx10, hf⟩ := ob hf
    refine fx_keeps_L18_w E hK hE r6 gr6 hx10 (fun ls H locs hl hP hS => ?_) _ _ _ (lv_sub hl [2, 1, 0] rfl) hP hS
    refine lv_aload_n hx hb dX0_keeps_44 rfl (lv_at hl 0 rfl) ?_
    refine gp_get (C := RX0) (T := TX0) E hK hP.1 (shO_g g) rfl in_X0 7 (by decide) (hts _ q341) (fun _ z => z) vO_7 dX0_keeps_45 ?_
    refine lv_iconst (v := nI 5) hx hb dX0_keeps_48 rfl ?_
    refine lv_aload_n hx hb dX0_keeps_49 rfl (lv_at hl 1 rfl) ?_
    obtain ⟨χ11, hχ11, hf⟩ := ob hf
    refine gp_aast (t := 3) E hK hP.1 hS (xA_o (Or.inr (Or.inr (Or.inl rfl)))) rfl (shO_b g) (hP.2.1 r6 gr6.2).1 (shS_h _) rfl (wb_in hχ11).1 dX0_keeps_50 (fun H locs hG oq hS => ?_)
    have hP := PX_wb hP gr6 hχ11 hG oq (hz_put hG (by rw [shO_b]; exact fun z => by cases z) oq)
    refine lv_aload_n hx hb dX0_keeps_51 rfl (lv_at hl 0 rfl) ?_
    refine lv_dup hx hb dX0_keeps_52 rfl ?_
    refine gp_get (C := RX0) (T := TX0) E hK hP.1 (shO_g g) rfl in_X0 8 (by decide) (hts _ q342) (fun _ z => z) (vO_i (by decide)) dX0_keeps_53 ?_
    refine lv_iconst (v := nI 1) hx hb dX0_keeps_56 rfl ?_
    refine lv_isub hx hb dX0_keeps_57 ?_
    obtain ⟨χ12, hχ12, hf⟩ := ob hf
    refine gp_put (C := RX0) (T := TX0) (ty := .int) E hK hP.1 hS (xA_o (Or.inl rfl)) (shO_g g) rfl in_X0 tyX0 tyX0_ok nmX0 8 (by decide) (hts _ q342) (fun _ z => z) rfl rfl rfl rfl dX0_keeps_58 (fun H locs hG oq hS => ?_)
    have hP := PX_put hP (by decide) (xo_wf hχ12) hG oq (hz_put hG (by rw [shO_g]; exact fun z => by cases z) oq)
    refine lv_aload_n hx hb dX0_keeps_61 rfl (lv_at hl 0 rfl) ?_
    refine gp_get (C := RX0) (T := TX0) E hK hP.1 (shO_g g) rfl in_X0 7 (by decide) (hts _ q341) (fun _ z => z) vO_7 dX0_keeps_62 ?_
    refine lv_aload_n hx hb dX0_keeps_65 rfl (lv_at hl 0 rfl) ?_
    refine gp_get (C := RX0) (T := TX0) E hK hP.1 (shO_g g) rfl in_X0 8 (by decide) (hts _ q342) (fun _ z => z) (vO_i (by decide)) dX0_keeps_66 ?_
    obtain ⟨r13, hr13, hf⟩ := ob hf
    have gr13 := PX_rb hP hr13
    refine gp_aald (t := 3) (ty := .object "NamesWeather$Skies") E hK hP.1 rfl rfl (shO_b g) (rb_in hr13).1 (by rw [vO_be, (rb_in hr13).2]) dX0_keeps_69 ?_
    refine lv_aload_n hx hb dX0_keeps_70 rfl (lv_at hl 0 rfl) ?_
    refine gp_get (C := RX0) (T := TX0) E hK hP.1 (shO_g g) rfl in_X0 4 (by decide) (hts _ q337) (fun _ z => z) vO_4 dX0_keeps_71 ?_
    obtain ⟨χ15, hc14, hf⟩ := ob hf
    obtain ⟨sχ15, hc14, eχ15⟩ := xs_in hc14
    refine gx_callv E hE (Pic := fun H => PS D dT (skA g r13) (χ12.2.1 r13) (χ12.2.2.2.1 r13) H ∧ (PS D dT (skA g 0) (χ12.2.1 0) (χ12.2.2.2.1 0) H ∧ ∀ q, shS (skA g 0) q ≠ none → ¬ sA (skA g r13) q)) (Pic1 := fun H => PS D dT (skA g r13) sχ15 (χ12.2.2.2.1 r13) H) ⟨(hP.2.1 r13 gr13.2).1, (hP.2.1 0 (by decide)).1, fun q hq1 hq2 => absurd (skA_ap (by decide) gr13.2 (shS_in hq1) hq2) (by omega)⟩ hS (fun _ z => xA_s gr13.2 z) (As := [.ref (skA g 0)]) (ts_moves l D dT (skA g r13) (χ12.2.2.2.1 r13) (skA g 0) (χ12.2.1 0) (χ12.2.2.2.1 0) (χ12.2.1 r13) _ hc14) (g_recv hK (hP.2.1 r13 gr13.2).1 (shS_h _) rfl) (lw_V q942 q943 q944 q162 q945) ds_moves rfl (by decide) (by decide) hl rfl (Nat.le_of_ble_eq_true rfl) dX0_keeps_74 (fun H1 locs1 hG hz1 hq1 hS => ?_)
    have hP := PX_set hP gr13.2 hG hz1 hq1
    rw [← eχ15] at hP
    refine lv_aload_n hx hb dX0_keeps_77 rfl (lv_at hl 0 rfl) ?_
    refine lv_dup hx hb dX0_keeps_78 rfl ?_
    refine gp_get (C := RX0) (T := TX0) E hK hP.1 (shO_g g) rfl in_X0 8 (by decide) (hts _ q342) (fun _ z => z) (vO_i (by decide)) dX0_keeps_79 ?_
    refine lv_iconst (v := nI 1) hx hb dX0_keeps_82 rfl ?_
    refine lv_iadd hx hb dX0_keeps_83 ?_
    obtain ⟨χ16, hχ16, hf⟩ := ob hf
    refine gp_put (C := RX0) (T := TX0) (ty := .int) E hK hP.1 hS (xA_o (Or.inl rfl)) (shO_g g) rfl in_X0 tyX0 tyX0_ok nmX0 8 (by decide) (hts _ q342) (fun _ z => z) rfl rfl rfl rfl dX0_keeps_84 (fun H locs hG oq hS => ?_)
    have hP := PX_put hP (by decide) (xo_wf hχ16) hG oq (hz_put hG (by rw [shO_g]; exact fun z => by cases z) oq)
    cases hf
    exact g_vret (Pic := fun H => PX D dT g _ H) E hr hlk hP hS dX0_keeps_87
set_option maxHeartbeats 4000000 in
noncomputable def fx_undo (μ : nwX) : Option (Int32 × nwX) := (if (μ.1 8 0) = 0 then some (nI 0, μ) else (xo_ μ (wf_ μ.1 8 ((μ.1 8 0) - (nI 1)))).bind fun χ2 => (rb_ χ2 (χ2.1 8 0)).bind fun r3 => (xs_ χ2 0 (fs_moves (χ2.2.1 r3) (χ2.2.1 0))).bind fun χ5 => some (nI 1, χ5))
set_option maxHeartbeats 4000000 in
theorem dx_undo : yX0_undo.cls = RX0 ∧ yX0_undo.cls ≠ "java/lang/invoke/MethodHandle" ∧ yX0_undo.cls ≠ "java/lang/invoke/VarHandle" ∧ (parseMethodDescriptor yX0_undo.desc).map (fun d => d.parameters.length) = some 0 := ⟨rfl, by decide +kernel, by decide +kernel, by decide +kernel⟩
set_option maxHeartbeats 4000000 in
theorem tx_undo (l : Launch) (D : va_G) (dT : Nat → ClassId) (g : Nat) (μ : nwX) (res : Int32 × nwX) (hf : fx_undo μ = some res) : Met l yX0_undo (ws_ yX0_undo cX0_undo 1 (some .boolean)) (rmd 1) (va_Pc [.ref g] (fun U => PX D dT g μ U.heap ∧ EV D dT U)) (va_Qi (fun r' (_ : Unit) => r' = res.1) (fun _ t => PX D dT g res.2 t.heap) (xA g)) 0 0 (xA g) := by
  refine g_met (D := D) (dT := dT) (A := xA g) (own := RX0) (Pic := fun H => PX D dT g μ H) (by decide) rfl (Nat.le_of_ble_eq_true rfl) ?_
  intro p e s m below meth c ls E hE hr hlk hl hP
  have hK := hE.1
  have hS : va_S (xA g) s.heap s.heap [] := va_S.rf
  obtain ⟨hx, hb, hml, hown, hts⟩ := id E
  have hl : lv_has ls 1 [(0, .ref g)] := hl
  unfold fx_undo at hf
  refine lv_aload_n hx hb dX0_undo_0 rfl (lv_at hl 0 rfl) ?_
  refine gp_get (C := RX0) (T := TX0) E hK hP.1 (shO_g g) rfl in_X0 8 (by decide) (hts _ q342) (fun _ z => z) (vO_i (by decide)) dX0_undo_1 ?_
  refine lv_if_ne (tgt := 9) hx hb dX0_undo_4 (by decide) (fun kc1 => ?_) (fun kc1 => ?_)
  · have hf := ite_f kc1 hf
    refine lv_aload_n hx hb dX0_undo_9 rfl (lv_at hl 0 rfl) ?_
    refine lv_dup hx hb dX0_undo_10 rfl ?_
    refine gp_get (C := RX0) (T := TX0) E hK hP.1 (shO_g g) rfl in_X0 8 (by decide) (hts _ q342) (fun _ z => z) (vO_i (by decide)) dX0_undo_11 ?_
    refine lv_iconst (v := nI 1) hx hb dX0_undo_14 rfl ?_
    refine lv_isub hx hb dX0_undo_15 ?_
    obtain ⟨χ2, hχ2, hf⟩ := ob hf
    refine gp_put (C := RX0) (T := TX0) (ty := .int) E hK hP.1 hS (xA_o (Or.inl rfl)) (shO_g g) rfl in_X0 tyX0 tyX0_ok nmX0 8 (by decide) (hts _ q342) (fun _ z => z) rfl rfl rfl rfl dX0_undo_16 (fun H locs hG oq hS => ?_)
    have hP := PX_put hP (by decide) (xo_wf hχ2) hG oq (hz_put hG (by rw [shO_g]; exact fun z => by cases z) oq)
    refine lv_aload_n hx hb dX0_undo_19 rfl (lv_at hl 0 rfl) ?_
    refine gp_get (C := RX0) (T := TX0) E hK hP.1 (shO_g g) rfl in_X0 4 (by decide) (hts _ q337) (fun _ z => z) vO_4 dX0_undo_20 ?_
    refine lv_aload_n hx hb dX0_undo_23 rfl (lv_at hl 0 rfl) ?_
    refine gp_get (C := RX0) (T := TX0) E hK hP.1 (shO_g g) rfl in_X0 7 (by decide) (hts _ q341) (fun _ z => z) vO_7 dX0_undo_24 ?_
    refine lv_aload_n hx hb dX0_undo_27 rfl (lv_at hl 0 rfl) ?_
    refine gp_get (C := RX0) (T := TX0) E hK hP.1 (shO_g g) rfl in_X0 8 (by decide) (hts _ q342) (fun _ z => z) (vO_i (by decide)) dX0_undo_28 ?_
    obtain ⟨r3, hr3, hf⟩ := ob hf
    have gr3 := PX_rb hP hr3
    refine gp_aald (t := 3) (ty := .object "NamesWeather$Skies") E hK hP.1 rfl rfl (shO_b g) (rb_in hr3).1 (by rw [vO_be, (rb_in hr3).2]) dX0_undo_31 ?_
    obtain ⟨χ5, hc4, hf⟩ := ob hf
    obtain ⟨sχ5, hc4, eχ5⟩ := xs_in hc4
    refine gx_callv E hE (Pic := fun H => PS D dT (skA g 0) (χ2.2.1 0) (χ2.2.2.2.1 0) H ∧ (PS D dT (skA g r3) (χ2.2.1 r3) (χ2.2.2.2.1 r3) H ∧ ∀ q, shS (skA g r3) q ≠ none → ¬ sA (skA g 0) q)) (Pic1 := fun H => PS D dT (skA g 0) sχ5 (χ2.2.2.2.1 0) H) ⟨(hP.2.1 0 (by decide)).1, (hP.2.1 r3 gr3.2).1, fun q hq1 hq2 => absurd (skA_ap gr3.2 (by decide) (shS_in hq1) hq2) (by omega)⟩ hS (fun _ z => xA_s (by decide) z) (As := [.ref (skA g r3)]) (ts_moves l D dT (skA g 0) (χ2.2.2.2.1 0) (skA g r3) (χ2.2.1 r3) (χ2.2.2.2.1 r3) (χ2.2.1 0) _ hc4) (g_recv hK (hP.2.1 0 (by decide)).1 (shS_h _) rfl) (lw_V q942 q943 q944 q162 q945) ds_moves rfl (by decide) (by decide) hl rfl (Nat.le_of_ble_eq_true rfl) dX0_undo_32 (fun H1 locs1 hG hz1 hq1 hS => ?_)
    have hP := PX_set hP (by decide) hG hz1 hq1
    rw [← eχ5] at hP
    refine lv_iconst (v := nI 1) hx hb dX0_undo_35 rfl ?_
    cases hf
    exact g_zret (Pic := fun H => PX D dT g _ H) E hr hlk hP hS rfl dX0_undo_36
  · have hf := ite_t kc1 hf
    refine lv_iconst (v := nI 0) hx hb dX0_undo_7 rfl ?_
    cases hf
    exact g_zret (Pic := fun H => PX D dT g _ H) E hr hlk hP hS rfl dX0_undo_8
set_option maxHeartbeats 4000000 in
def fx_state (x1 : Int32) (μ : nwX) : Option (Int32 × nwX) := (xs_ μ 0 (wf_ (μ.2.1 0) 17 x1)).bind fun χ1 => (fx_forgets χ1).bind fun χ3 => some ((μ.2.1 0) 17 0, χ3)
set_option maxHeartbeats 4000000 in
theorem dx_state : yX0_state.cls = RX0 ∧ yX0_state.cls ≠ "java/lang/invoke/MethodHandle" ∧ yX0_state.cls ≠ "java/lang/invoke/VarHandle" ∧ (parseMethodDescriptor yX0_state.desc).map (fun d => d.parameters.length) = some 1 := ⟨rfl, by decide +kernel, by decide +kernel, by decide +kernel⟩
set_option maxHeartbeats 4000000 in
theorem tx_state (l : Launch) (D : va_G) (dT : Nat → ClassId) (g : Nat) (x1 : Int32) (μ : nwX) (res : Int32 × nwX) (hf : fx_state x1 μ = some res) : Met l yX0_state (ws_ yX0_state cX0_state 3 (some .int)) (rmd 1) (va_Pc [.ref g, .int x1] (fun U => PX D dT g μ U.heap ∧ EV D dT U)) (va_Qi (fun r' (_ : Unit) => r' = res.1) (fun _ t => PX D dT g res.2 t.heap) (xA g)) 0 0 (xA g) := by
  refine g_met (D := D) (dT := dT) (A := xA g) (own := RX0) (Pic := fun H => PX D dT g μ H) (by decide) rfl (Nat.le_of_ble_eq_true rfl) ?_
  intro p e s m below meth c ls E hE hr hlk hl hP
  have hK := hE.1
  have hS : va_S (xA g) s.heap s.heap [] := va_S.rf
  obtain ⟨hx, hb, hml, hown, hts⟩ := id E
  have hl : lv_has ls 3 [(0, .ref g), (1, .int x1)] := hl
  unfold fx_state at hf
  refine lv_aload_n hx hb dX0_state_0 rfl (lv_at hl 0 rfl) ?_
  refine gp_get (C := RX0) (T := TX0) E hK hP.1 (shO_g g) rfl in_X0 4 (by decide) (hts _ q337) (fun _ z => z) vO_4 dX0_state_1 ?_
  refine gp_getN (C := RX1) (T := TX1) E hK (hP.2.1 0 (by decide)).1 (shS_h _) rfl in_X1 17 (by decide) (nfw_16 hE.2) (fun _ z => z) (vS_i (by decide)) dX0_state_4 ?_
  refine lv_istore_n (lv' := [(2, .int ((μ.2.1 0) 17 0)), (0, .ref g), (1, .int x1)]) hx hb dX0_state_7 rfl hl (by decide) rfl (fun ls hl => ?_)
  refine lv_aload_n hx hb dX0_state_8 rfl (lv_at hl 1 rfl) ?_
  refine gp_get (C := RX0) (T := TX0) E hK hP.1 (shO_g g) rfl in_X0 4 (by decide) (hts _ q337) (fun _ z => z) vO_4 dX0_state_9 ?_
  refine lv_iload_n hx hb dX0_state_12 rfl (lv_at hl 2 rfl) ?_
  obtain ⟨χ1, hχ1, hf⟩ := ob hf
  obtain ⟨sχ1, hχ1, eχ1⟩ := xs_in hχ1
  refine gp_putN (C := RX1) (T := TX1) (ty := .int) E hK (hP.2.1 0 (by decide)).1 hS (xA_s (by decide) (sA_h _)) (shS_h _) rfl in_X1 tyX1 tyX1_ok nmX1 17 (by decide) (nfw_16 hE.2) (fun _ z => z) rfl rfl rfl rfl dX0_state_13 (fun H locs hG oq hS => ?_)
  have hP := PX_set hP (by decide) (PS_put (by decide) hχ1 hG) (hz_put hG (by rw [shS_h]; exact fun z => by cases z) oq) (fun q _ z => oq q (fun e => z (by rw [e]; exact sA_h _)))
  rw [← eχ1] at hP
  refine lv_aload_n hx hb dX0_state_16 rfl (lv_at hl 1 rfl) ?_
  obtain ⟨χ3, hc2, hf⟩ := ob hf
  refine gx_callv E hE (Pic := fun H => PX D dT g χ1 H) (Pic1 := fun H => PX D dT g χ3 H) hP hS (fun _ z => z) (As := []) (tx_forgets l D dT g χ1 _ hc2) (g_recv hK hP.1 (shO_g g) rfl) (lw_V q930 q932 qs33 q161 q933) dx_forgets rfl (by decide) (by decide) hl rfl (Nat.le_of_ble_eq_true rfl) dX0_state_17 (fun H locs hP _ _ hS => ?_)
  refine lv_iload_n hx hb dX0_state_20 rfl (lv_at hl 0 rfl) ?_
  cases hf
  exact g_iret (Pic := fun H => PX D dT g _ H) E hr hlk hP hS rfl dX0_state_21
set_option maxHeartbeats 4000000 in
def fx_person (x1 : Int32) (x2 : Int32) (x3 : Int32) (μ : nwX) : Option (Int32 × nwX) := (fi_isKind x1 ()).bind fun v1 => (if v1 = 0 then some ((-1), μ) else (fi_isIn x2 (nI 1) (nI 9) ()).bind fun v3 => (if v3 = 0 then some ((-1), μ) else (fi_isIsland x3 ()).bind fun v5 => (if v5 = 0 then some ((-1), μ) else (if ((μ.2.1 0) 13 0) = (nI 12) then some ((-1), μ) else (xs_ μ 0 (fs_comes x1 x2 x3 (μ.2.1 0))).bind fun χ9 => (fx_forgets χ9).bind fun χ11 => some (((χ11.2.1 0) 13 0) - (nI 1), χ11)))))
set_option maxHeartbeats 4000000 in
theorem dx_person : yX0_person.cls = RX0 ∧ yX0_person.cls ≠ "java/lang/invoke/MethodHandle" ∧ yX0_person.cls ≠ "java/lang/invoke/VarHandle" ∧ (parseMethodDescriptor yX0_person.desc).map (fun d => d.parameters.length) = some 3 := ⟨rfl, by decide +kernel, by decide +kernel, by decide +kernel⟩
set_option maxHeartbeats 4000000 in
theorem tx_person (l : Launch) (D : va_G) (dT : Nat → ClassId) (g : Nat) (x1 : Int32) (x2 : Int32) (x3 : Int32) (μ : nwX) (res : Int32 × nwX) (hf : fx_person x1 x2 x3 μ = some res) : Met l yX0_person (ws_ yX0_person cX0_person 4 (some .int)) (rmd 3) (va_Pc [.ref g, .int x1, .int x2, .int x3] (fun U => PX D dT g μ U.heap ∧ EV D dT U)) (va_Qi (fun r' (_ : Unit) => r' = res.1) (fun _ t => PX D dT g res.2 t.heap) (xA g)) 0 0 (xA g) := by
  refine g_met (D := D) (dT := dT) (A := xA g) (own := RX0) (Pic := fun H => PX D dT g μ H) (by decide) rfl (Nat.le_of_ble_eq_true rfl) ?_
  intro p e s m below meth c ls E hE hr hlk hl hP
  have hK := hE.1
  have hS : va_S (xA g) s.heap s.heap [] := va_S.rf
  obtain ⟨hx, hb, hml, hown, hts⟩ := id E
  have hl : lv_has ls 4 [(0, .ref g), (1, .int x1), (2, .int x2), (3, .int x3)] := hl
  unfold fx_person at hf
  refine lv_iload_n hx hb dX0_person_0 rfl (lv_at hl 1 rfl) ?_
  obtain ⟨v1, hv1, hf⟩ := ob hf
  refine p_calli E hS (As := [.int x1]) (ti_isKind l x1 _ hv1) (lw_S q954 q955 q161 q956) di_isKind rfl (by decide) (by decide) hl rfl (Nat.le_of_ble_eq_true rfl) dX0_person_1 (fun H1 locs1 hq1 hS => ?_)
  have hP := PX_same hP (hz_all hq1) hq1
  refine lv_if_eq (tgt := 36) hx hb dX0_person_4 (by decide) (fun kc2 => ?_) (fun kc2 => ?_)
  · have hf := ite_t kc2 hf
    refine lv_iconst (v := (-1)) hx hb dX0_person_36 rfl ?_
    cases hf
    exact g_iret (Pic := fun H => PX D dT g _ H) E hr hlk hP hS rfl dX0_person_37
  · have hf := ite_f kc2 hf
    refine lv_iload_n hx hb dX0_person_7 rfl (lv_at hl 2 rfl) ?_
    refine lv_iconst (v := nI 1) hx hb dX0_person_8 rfl ?_
    refine lv_bipush (v := nI 9) hx hb dX0_person_9 rfl ?_
    obtain ⟨v3, hv3, hf⟩ := ob hf
    refine p_calli E hS (As := [.int x2, .int (nI 1), .int (nI 9)]) (ti_isIn l x2 (nI 1) (nI 9) _ hv3) (lw_S q386 q387 q161 q388) di_isIn rfl (by decide) (by decide) hl rfl (Nat.le_of_ble_eq_true rfl) dX0_person_11 (fun H1 locs1 hq1 hS => ?_)
    have hP := PX_same hP (hz_all hq1) hq1
    refine lv_if_eq (tgt := 36) hx hb dX0_person_14 (by decide) (fun kc4 => ?_) (fun kc4 => ?_)
    · have hf := ite_t kc4 hf
      refine lv_iconst (v := (-1)) hx hb dX0_person_36 rfl ?_
      cases hf
      exact g_iret (Pic := fun H => PX D dT g _ H) E hr hlk hP hS rfl dX0_person_37
    · have hf := ite_f kc4 hf
      refine lv_iload_n hx hb dX0_person_17 rfl (lv_at hl 3 rfl) ?_
      obtain ⟨v5, hv5, hf⟩ := ob hf
      refine p_calli E hS (As := [.int x3]) (ti_isIsland l x3 _ hv5) (lw_S q957 q958 q161 q959) di_isIsland rfl (by decide) (by decide) hl rfl (Nat.le_of_ble_eq_true rfl) dX0_person_18 (fun H1 locs1 hq1 hS => ?_)
      have hP := PX_same hP (hz_all hq1) hq1
      refine lv_if_eq (tgt := 36) hx hb dX0_person_21 (by decide) (fun kc6 => ?_) (fun kc6 => ?_)
      · have hf := ite_t kc6 hf
        refine lv_iconst (v := (-1)) hx hb dX0_person_36 rfl ?_
        cases hf
        exact g_iret (Pic := fun H => PX D dT g _ H) E hr hlk hP hS rfl dX0_person_37
      · have hf := ite_f kc6 hf
        refine lv_aload_n hx hb dX0_person_24 rfl (lv_at hl 0 rfl) ?_
        refine gp_get (C := RX0) (T := TX0) E hK hP.1 (shO_g g) rfl in_X0 4 (by decide) (hts _ q337) (fun _ z => z) vO_4 dX0_person_25 ?_
        refine gp_getN (C := RX1) (T := TX1) E hK (hP.2.1 0 (by decide)).1 (shS_h _) rfl in_X1 13 (by decide) (nfw_12 hE.2) (fun _ z => z) (vS_i (by decide)) dX0_person_28 ?_
        refine lv_bipush (v := nI 12) hx hb dX0_person_31 rfl ?_
        refine lv_icmp_ne (tgt := 38) hx hb dX0_person_33 (by decide) (fun kc7 => ?_) (fun kc7 => ?_)
        · have hf := ite_f kc7 hf
          refine lv_aload_n hx hb dX0_person_38 rfl (lv_at hl 0 rfl) ?_
          refine gp_get (C := RX0) (T := TX0) E hK hP.1 (shO_g g) rfl in_X0 4 (by decide) (hts _ q337) (fun _ z => z) vO_4 dX0_person_39 ?_
          refine lv_iload_n hx hb dX0_person_42 rfl (lv_at hl 1 rfl) ?_
          refine lv_iload_n hx hb dX0_person_43 rfl (lv_at hl 2 rfl) ?_
          refine lv_iload_n hx hb dX0_person_44 rfl (lv_at hl 3 rfl) ?_
          obtain ⟨χ9, hc8, hf⟩ := ob hf
          obtain ⟨sχ9, hc8, eχ9⟩ := xs_in hc8
          refine gx_callv E hE (Pic := fun H => PS D dT (skA g 0) (μ.2.1 0) (μ.2.2.2.1 0) H) (Pic1 := fun H => PS D dT (skA g 0) sχ9 (μ.2.2.2.1 0) H) (hP.2.1 0 (by decide)).1 hS (fun _ z => xA_s (by decide) z) (As := [.int x1, .int x2, .int x3]) (ts_comes l D dT (skA g 0) (μ.2.2.2.1 0) x1 x2 x3 (μ.2.1 0) _ hc8) (g_recv hK (hP.2.1 0 (by decide)).1 (shS_h _) rfl) (lw_V q960 q961 q962 q162 q963) ds_comes rfl (by decide) (by decide) hl rfl (Nat.le_of_ble_eq_true rfl) dX0_person_45 (fun H1 locs1 hG hz1 hq1 hS => ?_)
          have hP := PX_set hP (by decide) hG hz1 hq1
          rw [← eχ9] at hP
          refine lv_aload_n hx hb dX0_person_48 rfl (lv_at hl 0 rfl) ?_
          obtain ⟨χ11, hc10, hf⟩ := ob hf
          refine gx_callv E hE (Pic := fun H => PX D dT g χ9 H) (Pic1 := fun H => PX D dT g χ11 H) hP hS (fun _ z => z) (As := []) (tx_forgets l D dT g χ9 _ hc10) (g_recv hK hP.1 (shO_g g) rfl) (lw_V q930 q932 qs33 q161 q933) dx_forgets rfl (by decide) (by decide) hl rfl (Nat.le_of_ble_eq_true rfl) dX0_person_49 (fun H locs hP _ _ hS => ?_)
          refine lv_aload_n hx hb dX0_person_52 rfl (lv_at hl 0 rfl) ?_
          refine gp_get (C := RX0) (T := TX0) E hK hP.1 (shO_g g) rfl in_X0 4 (by decide) (hts _ q337) (fun _ z => z) vO_4 dX0_person_53 ?_
          refine gp_getN (C := RX1) (T := TX1) E hK (hP.2.1 0 (by decide)).1 (shS_h _) rfl in_X1 13 (by decide) (nfw_12 hE.2) (fun _ z => z) (vS_i (by decide)) dX0_person_56 ?_
          refine lv_iconst (v := nI 1) hx hb dX0_person_59 rfl ?_
          refine lv_isub hx hb dX0_person_60 ?_
          cases hf
          exact g_iret (Pic := fun H => PX D dT g _ H) E hr hlk hP hS rfl dX0_person_61
        · have hf := ite_t kc7 hf
          refine lv_iconst (v := (-1)) hx hb dX0_person_36 rfl ?_
          cases hf
          exact g_iret (Pic := fun H => PX D dT g _ H) E hr hlk hP hS rfl dX0_person_37
set_option maxHeartbeats 4000000 in
def fx_sky (x1 : Int32) (x2 : Int32) (x3 : Int32) (μ : nwX) : Option (Int32 × nwX) := (fi_isIsland x1 ()).bind fun v1 => (if v1 = 0 then some (nI 0, μ) else (fi_isKind x2 ()).bind fun v3 => (if v3 = 0 then some (nI 0, μ) else (fi_isIn x3 (nI 0) (nI 99) ()).bind fun v5 => (if v5 = 0 then some (nI 0, μ) else (rw_ 8 x1).bind fun r7 => (xs_ μ 0 (ww_ (μ.2.1 0) 0 r7 x2 x3)).bind fun χ8 => (fx_forgets χ8).bind fun χ10 => some (nI 1, χ10))))
set_option maxHeartbeats 4000000 in
theorem dx_sky : yX0_sky.cls = RX0 ∧ yX0_sky.cls ≠ "java/lang/invoke/MethodHandle" ∧ yX0_sky.cls ≠ "java/lang/invoke/VarHandle" ∧ (parseMethodDescriptor yX0_sky.desc).map (fun d => d.parameters.length) = some 3 := ⟨rfl, by decide +kernel, by decide +kernel, by decide +kernel⟩
set_option maxHeartbeats 4000000 in
theorem tx_sky (l : Launch) (D : va_G) (dT : Nat → ClassId) (g : Nat) (x1 : Int32) (x2 : Int32) (x3 : Int32) (μ : nwX) (res : Int32 × nwX) (hf : fx_sky x1 x2 x3 μ = some res) : Met l yX0_sky (ws_ yX0_sky cX0_sky 4 (some .boolean)) (rmd 3) (va_Pc [.ref g, .int x1, .int x2, .int x3] (fun U => PX D dT g μ U.heap ∧ EV D dT U)) (va_Qi (fun r' (_ : Unit) => r' = res.1) (fun _ t => PX D dT g res.2 t.heap) (xA g)) 0 0 (xA g) := by
  refine g_met (D := D) (dT := dT) (A := xA g) (own := RX0) (Pic := fun H => PX D dT g μ H) (by decide) rfl (Nat.le_of_ble_eq_true rfl) ?_
  intro p e s m below meth c ls E hE hr hlk hl hP
  have hK := hE.1
  have hS : va_S (xA g) s.heap s.heap [] := va_S.rf
  obtain ⟨hx, hb, hml, hown, hts⟩ := id E
  have hl : lv_has ls 4 [(0, .ref g), (1, .int x1), (2, .int x2), (3, .int x3)] := hl
  unfold fx_sky at hf
  refine lv_iload_n hx hb dX0_sky_0 rfl (lv_at hl 1 rfl) ?_
  obtain ⟨v1, hv1, hf⟩ := ob hf
  refine p_calli E hS (As := [.int x1]) (ti_isIsland l x1 _ hv1) (lw_S q957 q958 q161 q959) di_isIsland rfl (by decide) (by decide) hl rfl (Nat.le_of_ble_eq_true rfl) dX0_sky_1 (fun H1 locs1 hq1 hS => ?_)
  have hP := PX_same hP (hz_all hq1) hq1
  refine lv_if_eq (tgt := 24) hx hb dX0_sky_4 (by decide) (fun kc2 => ?_) (fun kc2 => ?_)
  · have hf := ite_t kc2 hf
    refine lv_iconst (v := nI 0) hx hb dX0_sky_24 rfl ?_
    cases hf
    exact g_zret (Pic := fun H => PX D dT g _ H) E hr hlk hP hS rfl dX0_sky_25
  · have hf := ite_f kc2 hf
    refine lv_iload_n hx hb dX0_sky_7 rfl (lv_at hl 2 rfl) ?_
    obtain ⟨v3, hv3, hf⟩ := ob hf
    refine p_calli E hS (As := [.int x2]) (ti_isKind l x2 _ hv3) (lw_S q954 q955 q161 q956) di_isKind rfl (by decide) (by decide) hl rfl (Nat.le_of_ble_eq_true rfl) dX0_sky_8 (fun H1 locs1 hq1 hS => ?_)
    have hP := PX_same hP (hz_all hq1) hq1
    refine lv_if_eq (tgt := 24) hx hb dX0_sky_11 (by decide) (fun kc4 => ?_) (fun kc4 => ?_)
    · have hf := ite_t kc4 hf
      refine lv_iconst (v := nI 0) hx hb dX0_sky_24 rfl ?_
      cases hf
      exact g_zret (Pic := fun H => PX D dT g _ H) E hr hlk hP hS rfl dX0_sky_25
    · have hf := ite_f kc4 hf
      refine lv_iload_n hx hb dX0_sky_14 rfl (lv_at hl 3 rfl) ?_
      refine lv_iconst (v := nI 0) hx hb dX0_sky_15 rfl ?_
      refine lv_bipush (v := nI 99) hx hb dX0_sky_16 rfl ?_
      obtain ⟨v5, hv5, hf⟩ := ob hf
      refine p_calli E hS (As := [.int x3, .int (nI 0), .int (nI 99)]) (ti_isIn l x3 (nI 0) (nI 99) _ hv5) (lw_S q386 q387 q161 q388) di_isIn rfl (by decide) (by decide) hl rfl (Nat.le_of_ble_eq_true rfl) dX0_sky_18 (fun H1 locs1 hq1 hS => ?_)
      have hP := PX_same hP (hz_all hq1) hq1
      refine lv_if_ne (tgt := 26) hx hb dX0_sky_21 (by decide) (fun kc6 => ?_) (fun kc6 => ?_)
      · have hf := ite_f kc6 hf
        refine lv_aload_n hx hb dX0_sky_26 rfl (lv_at hl 0 rfl) ?_
        refine gp_get (C := RX0) (T := TX0) E hK hP.1 (shO_g g) rfl in_X0 4 (by decide) (hts _ q337) (fun _ z => z) vO_4 dX0_sky_27 ?_
        refine gp_getN (C := RX1) (T := TX1) E hK (hP.2.1 0 (by decide)).1 (shS_h _) rfl in_X1 0 (by decide) (nfw_0 hE.2) (fun _ z => z) (vS_2 (by decide)) dX0_sky_30 ?_
        refine lv_iload_n hx hb dX0_sky_33 rfl (lv_at hl 1 rfl) ?_
        obtain ⟨r7, hr7, hf⟩ := ob hf
        refine gp_aald (t := 2) (ty := .array .int) E hK (hP.2.1 0 (by decide)).1 rfl rfl (shS_2 (by decide)) (rw_in hr7).1 (by rw [vS_o (by decide), (rw_in hr7).2.1]) dX0_sky_34 ?_
        refine lv_iload_n hx hb dX0_sky_35 rfl (lv_at hl 2 rfl) ?_
        refine lv_iload_n hx hb dX0_sky_36 rfl (lv_at hl 3 rfl) ?_
        obtain ⟨χ8, hχ8, hf⟩ := ob hf
        obtain ⟨sχ8, hχ8, eχ8⟩ := xs_in hχ8
        refine gp_iast E hK (hP.2.1 0 (by decide)).1 hS (xA_s (by decide) (sA_r (by decide) (rw_in hr7).2.2)) (shS_r (by decide) (rw_in hr7).2.2) (ww_in hχ8).1 dX0_sky_37 (fun H locs hG oq hS => ?_)
        have hP := PX_set hP (by decide) (PS_rast (by decide) (rw_in hr7).2.2 hχ8 hG) (hz_put hG (by rw [shS_r (by decide) (rw_in hr7).2.2]; exact fun z => by cases z) oq) (fun q _ z => oq q (fun e => z (by rw [e]; exact sA_r (by decide) (rw_in hr7).2.2)))
        rw [← eχ8] at hP
        refine lv_aload_n hx hb dX0_sky_38 rfl (lv_at hl 0 rfl) ?_
        obtain ⟨χ10, hc9, hf⟩ := ob hf
        refine gx_callv E hE (Pic := fun H => PX D dT g χ8 H) (Pic1 := fun H => PX D dT g χ10 H) hP hS (fun _ z => z) (As := []) (tx_forgets l D dT g χ8 _ hc9) (g_recv hK hP.1 (shO_g g) rfl) (lw_V q930 q932 qs33 q161 q933) dx_forgets rfl (by decide) (by decide) hl rfl (Nat.le_of_ble_eq_true rfl) dX0_sky_39 (fun H locs hP _ _ hS => ?_)
        refine lv_iconst (v := nI 1) hx hb dX0_sky_42 rfl ?_
        cases hf
        exact g_zret (Pic := fun H => PX D dT g _ H) E hr hlk hP hS rfl dX0_sky_43
      · have hf := ite_t kc6 hf
        refine lv_iconst (v := nI 0) hx hb dX0_sky_24 rfl ?_
        cases hf
        exact g_zret (Pic := fun H => PX D dT g _ H) E hr hlk hP hS rfl dX0_sky_25
set_option maxHeartbeats 4000000 in
def fx_cry (x1 : Int32) (μ : nwX) : Option (Int32 × nwX) := (fi_isIn x1 (nI 0) (nI 1000) ()).bind fun v1 => (if v1 = 0 then some (nI 0, μ) else (xs_ μ 0 (wf_ (μ.2.1 0) 14 x1)).bind fun χ3 => (fx_forgets χ3).bind fun χ5 => some (nI 1, χ5))
set_option maxHeartbeats 4000000 in
theorem dx_cry : yX0_cry.cls = RX0 ∧ yX0_cry.cls ≠ "java/lang/invoke/MethodHandle" ∧ yX0_cry.cls ≠ "java/lang/invoke/VarHandle" ∧ (parseMethodDescriptor yX0_cry.desc).map (fun d => d.parameters.length) = some 1 := ⟨rfl, by decide +kernel, by decide +kernel, by decide +kernel⟩
set_option maxHeartbeats 4000000 in
theorem tx_cry (l : Launch) (D : va_G) (dT : Nat → ClassId) (g : Nat) (x1 : Int32) (μ : nwX) (res : Int32 × nwX) (hf : fx_cry x1 μ = some res) : Met l yX0_cry (ws_ yX0_cry cX0_cry 2 (some .boolean)) (rmd 3) (va_Pc [.ref g, .int x1] (fun U => PX D dT g μ U.heap ∧ EV D dT U)) (va_Qi (fun r' (_ : Unit) => r' = res.1) (fun _ t => PX D dT g res.2 t.heap) (xA g)) 0 0 (xA g) := by
  refine g_met (D := D) (dT := dT) (A := xA g) (own := RX0) (Pic := fun H => PX D dT g μ H) (by decide) rfl (Nat.le_of_ble_eq_true rfl) ?_
  intro p e s m below meth c ls E hE hr hlk hl hP
  have hK := hE.1
  have hS : va_S (xA g) s.heap s.heap [] := va_S.rf
  obtain ⟨hx, hb, hml, hown, hts⟩ := id E
  have hl : lv_has ls 2 [(0, .ref g), (1, .int x1)] := hl
  unfold fx_cry at hf
  refine lv_iload_n hx hb dX0_cry_0 rfl (lv_at hl 1 rfl) ?_
  refine lv_iconst (v := nI 0) hx hb dX0_cry_1 rfl ?_
  refine lv_sipush (v := nI 1000) hx hb dX0_cry_2 rfl ?_
  obtain ⟨v1, hv1, hf⟩ := ob hf
  refine p_calli E hS (As := [.int x1, .int (nI 0), .int (nI 1000)]) (ti_isIn l x1 (nI 0) (nI 1000) _ hv1) (lw_S q386 q387 q161 q388) di_isIn rfl (by decide) (by decide) hl rfl (Nat.le_of_ble_eq_true rfl) dX0_cry_5 (fun H1 locs1 hq1 hS => ?_)
  have hP := PX_same hP (hz_all hq1) hq1
  refine lv_if_ne (tgt := 13) hx hb dX0_cry_8 (by decide) (fun kc2 => ?_) (fun kc2 => ?_)
  · have hf := ite_f kc2 hf
    refine lv_aload_n hx hb dX0_cry_13 rfl (lv_at hl 0 rfl) ?_
    refine gp_get (C := RX0) (T := TX0) E hK hP.1 (shO_g g) rfl in_X0 4 (by decide) (hts _ q337) (fun _ z => z) vO_4 dX0_cry_14 ?_
    refine lv_iload_n hx hb dX0_cry_17 rfl (lv_at hl 1 rfl) ?_
    obtain ⟨χ3, hχ3, hf⟩ := ob hf
    obtain ⟨sχ3, hχ3, eχ3⟩ := xs_in hχ3
    refine gp_putN (C := RX1) (T := TX1) (ty := .int) E hK (hP.2.1 0 (by decide)).1 hS (xA_s (by decide) (sA_h _)) (shS_h _) rfl in_X1 tyX1 tyX1_ok nmX1 14 (by decide) (nfw_13 hE.2) (fun _ z => z) rfl rfl rfl rfl dX0_cry_18 (fun H locs hG oq hS => ?_)
    have hP := PX_set hP (by decide) (PS_put (by decide) hχ3 hG) (hz_put hG (by rw [shS_h]; exact fun z => by cases z) oq) (fun q _ z => oq q (fun e => z (by rw [e]; exact sA_h _)))
    rw [← eχ3] at hP
    refine lv_aload_n hx hb dX0_cry_21 rfl (lv_at hl 0 rfl) ?_
    obtain ⟨χ5, hc4, hf⟩ := ob hf
    refine gx_callv E hE (Pic := fun H => PX D dT g χ3 H) (Pic1 := fun H => PX D dT g χ5 H) hP hS (fun _ z => z) (As := []) (tx_forgets l D dT g χ3 _ hc4) (g_recv hK hP.1 (shO_g g) rfl) (lw_V q930 q932 qs33 q161 q933) dx_forgets rfl (by decide) (by decide) hl rfl (Nat.le_of_ble_eq_true rfl) dX0_cry_22 (fun H locs hP _ _ hS => ?_)
    refine lv_iconst (v := nI 1) hx hb dX0_cry_25 rfl ?_
    cases hf
    exact g_zret (Pic := fun H => PX D dT g _ H) E hr hlk hP hS rfl dX0_cry_26
  · have hf := ite_t kc2 hf
    refine lv_iconst (v := nI 0) hx hb dX0_cry_11 rfl ?_
    cases hf
    exact g_zret (Pic := fun H => PX D dT g _ H) E hr hlk hP hS rfl dX0_cry_12
set_option maxHeartbeats 4000000 in
def fx_route (x1 : Int32) (x2 : Int32) (μ : nwX) : Option (Int32 × nwX) := (fi_isIsland x1 ()).bind fun v1 => (if v1 = 0 then some (nI 0, μ) else (fi_isIn x2 (-1) (nI 7) ()).bind fun v3 => (if v3 = 0 then some (nI 0, μ) else (if x1 = x2 then some (nI 0, μ) else (xs_ μ 0 (wr_ (μ.2.1 0) 8 8 x1 x2)).bind fun χ6 => (fx_forgets χ6).bind fun χ8 => some (nI 1, χ8))))
set_option maxHeartbeats 4000000 in
theorem dx_route : yX0_route.cls = RX0 ∧ yX0_route.cls ≠ "java/lang/invoke/MethodHandle" ∧ yX0_route.cls ≠ "java/lang/invoke/VarHandle" ∧ (parseMethodDescriptor yX0_route.desc).map (fun d => d.parameters.length) = some 2 := ⟨rfl, by decide +kernel, by decide +kernel, by decide +kernel⟩
set_option maxHeartbeats 4000000 in
theorem tx_route (l : Launch) (D : va_G) (dT : Nat → ClassId) (g : Nat) (x1 : Int32) (x2 : Int32) (μ : nwX) (res : Int32 × nwX) (hf : fx_route x1 x2 μ = some res) : Met l yX0_route (ws_ yX0_route cX0_route 3 (some .boolean)) (rmd 3) (va_Pc [.ref g, .int x1, .int x2] (fun U => PX D dT g μ U.heap ∧ EV D dT U)) (va_Qi (fun r' (_ : Unit) => r' = res.1) (fun _ t => PX D dT g res.2 t.heap) (xA g)) 0 0 (xA g) := by
  refine g_met (D := D) (dT := dT) (A := xA g) (own := RX0) (Pic := fun H => PX D dT g μ H) (by decide) rfl (Nat.le_of_ble_eq_true rfl) ?_
  intro p e s m below meth c ls E hE hr hlk hl hP
  have hK := hE.1
  have hS : va_S (xA g) s.heap s.heap [] := va_S.rf
  obtain ⟨hx, hb, hml, hown, hts⟩ := id E
  have hl : lv_has ls 3 [(0, .ref g), (1, .int x1), (2, .int x2)] := hl
  unfold fx_route at hf
  refine lv_iload_n hx hb dX0_route_0 rfl (lv_at hl 1 rfl) ?_
  obtain ⟨v1, hv1, hf⟩ := ob hf
  refine p_calli E hS (As := [.int x1]) (ti_isIsland l x1 _ hv1) (lw_S q957 q958 q161 q959) di_isIsland rfl (by decide) (by decide) hl rfl (Nat.le_of_ble_eq_true rfl) dX0_route_1 (fun H1 locs1 hq1 hS => ?_)
  have hP := PX_same hP (hz_all hq1) hq1
  refine lv_if_eq (tgt := 22) hx hb dX0_route_4 (by decide) (fun kc2 => ?_) (fun kc2 => ?_)
  · have hf := ite_t kc2 hf
    refine lv_iconst (v := nI 0) hx hb dX0_route_22 rfl ?_
    cases hf
    exact g_zret (Pic := fun H => PX D dT g _ H) E hr hlk hP hS rfl dX0_route_23
  · have hf := ite_f kc2 hf
    refine lv_iload_n hx hb dX0_route_7 rfl (lv_at hl 2 rfl) ?_
    refine lv_iconst (v := (-1)) hx hb dX0_route_8 rfl ?_
    refine lv_bipush (v := nI 7) hx hb dX0_route_9 rfl ?_
    obtain ⟨v3, hv3, hf⟩ := ob hf
    refine p_calli E hS (As := [.int x2, .int (-1), .int (nI 7)]) (ti_isIn l x2 (-1) (nI 7) _ hv3) (lw_S q386 q387 q161 q388) di_isIn rfl (by decide) (by decide) hl rfl (Nat.le_of_ble_eq_true rfl) dX0_route_11 (fun H1 locs1 hq1 hS => ?_)
    have hP := PX_same hP (hz_all hq1) hq1
    refine lv_if_eq (tgt := 22) hx hb dX0_route_14 (by decide) (fun kc4 => ?_) (fun kc4 => ?_)
    · have hf := ite_t kc4 hf
      refine lv_iconst (v := nI 0) hx hb dX0_route_22 rfl ?_
      cases hf
      exact g_zret (Pic := fun H => PX D dT g _ H) E hr hlk hP hS rfl dX0_route_23
    · have hf := ite_f kc4 hf
      refine lv_iload_n hx hb dX0_route_17 rfl (lv_at hl 1 rfl) ?_
      refine lv_iload_n hx hb dX0_route_18 rfl (lv_at hl 2 rfl) ?_
      refine lv_icmp_ne (tgt := 24) hx hb dX0_route_19 (by decide) (fun kc5 => ?_) (fun kc5 => ?_)
      · have hf := ite_f kc5 hf
        refine lv_aload_n hx hb dX0_route_24 rfl (lv_at hl 0 rfl) ?_
        refine gp_get (C := RX0) (T := TX0) E hK hP.1 (shO_g g) rfl in_X0 4 (by decide) (hts _ q337) (fun _ z => z) vO_4 dX0_route_25 ?_
        refine gp_getN (C := RX1) (T := TX1) E hK (hP.2.1 0 (by decide)).1 (shS_h _) rfl in_X1 8 (by decide) (nfw_7 hE.2) (fun _ z => z) (vS_a (by decide) (by decide)) dX0_route_28 ?_
        refine lv_iload_n hx hb dX0_route_31 rfl (lv_at hl 1 rfl) ?_
        refine lv_iload_n hx hb dX0_route_32 rfl (lv_at hl 2 rfl) ?_
        obtain ⟨χ6, hχ6, hf⟩ := ob hf
        obtain ⟨sχ6, hχ6, eχ6⟩ := xs_in hχ6
        refine gp_iast E hK (hP.2.1 0 (by decide)).1 hS (xA_s (by decide) (sA_a (by decide) (by decide))) (shS_a (by decide) (by decide)) (wr_in hχ6).1 dX0_route_33 (fun H locs hG oq hS => ?_)
        have hP := PX_set hP (by decide) (PS_ast (by decide) (by decide) hχ6 hG) (hz_put hG (by rw [shS_a (by decide) (by decide)]; exact fun z => by cases z) oq) (fun q _ z => oq q (fun e => z (by rw [e]; exact sA_a (by decide) (by decide))))
        rw [← eχ6] at hP
        refine lv_aload_n hx hb dX0_route_34 rfl (lv_at hl 0 rfl) ?_
        obtain ⟨χ8, hc7, hf⟩ := ob hf
        refine gx_callv E hE (Pic := fun H => PX D dT g χ6 H) (Pic1 := fun H => PX D dT g χ8 H) hP hS (fun _ z => z) (As := []) (tx_forgets l D dT g χ6 _ hc7) (g_recv hK hP.1 (shO_g g) rfl) (lw_V q930 q932 qs33 q161 q933) dx_forgets rfl (by decide) (by decide) hl rfl (Nat.le_of_ble_eq_true rfl) dX0_route_35 (fun H locs hP _ _ hS => ?_)
        refine lv_iconst (v := nI 1) hx hb dX0_route_38 rfl ?_
        cases hf
        exact g_zret (Pic := fun H => PX D dT g _ H) E hr hlk hP hS rfl dX0_route_39
      · have hf := ite_t kc5 hf
        refine lv_iconst (v := nI 0) hx hb dX0_route_22 rfl ?_
        cases hf
        exact g_zret (Pic := fun H => PX D dT g _ H) E hr hlk hP hS rfl dX0_route_23
