/-! walks, written by my programs -/
set_option maxRecDepth 100000
set_option maxHeartbeats 4000000 in
def fx_sumOfC_L5 (x1 : Int32) (μ : nwX) : (Int32 × Int32) → Option ((Int32 × Int32) ⊕ (Int32)) := fun st => (if ((μ.2.1 0) 13 0) ≤ st.2 then some (.inr st.1) else (if ((x1 >>> (st.2 &&& 31)) &&& (nI 1)) = (nI 1) then (rd_ μ.1 12 12 st.2).bind fun v3 => some (.inl (st.1 + v3, st.2 + nI 1)) else some (.inl (st.1 + (nI 0), st.2 + nI 1))))
set_option maxHeartbeats 4000000 in
noncomputable def fx_sumOfC (x1 : Int32) (μ : nwX) : Option (Int32) := (wh_ (fx_sumOfC_L5 x1 μ) (nI 0, nI 0)).bind fun x4 => some x4
set_option maxHeartbeats 4000000 in
theorem fx_sumOfC_L5_w {p : Program} {l : Launch} {e : Env} {s : State} {m : MethodId} {args : Array Value} {below : List Frame} {meth : Method} {c : Code} {D : va_G} {dT : Nat → ClassId} {Q : State → Prop} {g : Nat} (E : CallFix p m c cX0_sumOf 5 s args lw_all RX0) (hK : va_K D nwCl (nwT dT) s) (hE : EV D dT s) (x1 : Int32) (μ : nwX) {st : Int32 × Int32} {x : Int32} (hw : wh_ (fx_sumOfC_L5 x1 μ) st = some x) (hk : (fun x : Int32 => ∀ (ls : Array Slot) (H : Heap) (locs : List Loc), lv_has ls 5 [(3, .int x)] → PX D dT g μ H → va_S (fun _ => False) s.heap H locs → W p l e (rmd 0) s m args below meth c H locs 0 0 Q (F0 m 44 ls [])) x) : (fun st : Int32 × Int32 => ∀ (ls : Array Slot) (H : Heap) (locs : List Loc), lv_has ls 5 [(0, .ref g), (1, .int x1), (2, .ref (g + 1613 + 12)), (3, .int st.1), (4, .int st.2)] → PX D dT g μ H → va_S (fun _ => False) s.heap H locs → W p l e (rmd 0) s m args below meth c H locs 0 0 Q (F0 m 5 ls [])) st := by
  obtain ⟨hx, hb, hml, hown, hts⟩ := id E
  refine wh_run (P := (fun st : Int32 × Int32 => ∀ (ls : Array Slot) (H : Heap) (locs : List Loc), lv_has ls 5 [(0, .ref g), (1, .int x1), (2, .ref (g + 1613 + 12)), (3, .int st.1), (4, .int st.2)] → PX D dT g μ H → va_S (fun _ => False) s.heap H locs → W p l e (rmd 0) s m args below meth c H locs 0 0 Q (F0 m 5 ls []))) (PE := (fun x : Int32 => ∀ (ls : Array Slot) (H : Heap) (locs : List Loc), lv_has ls 5 [(3, .int x)] → PX D dT g μ H → va_S (fun _ => False) s.heap H locs → W p l e (rmd 0) s m args below meth c H locs 0 0 Q (F0 m 44 ls []))) ?_ hw hk
  clear hw hk
  intro st x hf hk ls H locs hl hP hS
  refine lv_iload hx hb dX0_sumOf_5 (lv_at hl 4 rfl) ?_
  refine lv_aload_n hx hb dX0_sumOf_7 rfl (lv_at hl 0 rfl) ?_
  refine gp_get (C := RX0) (T := TX0) E hK hP.1 (shO_g g) rfl in_X0 4 (by decide) (hts _ q337) (fun _ z => z) vO_4 dX0_sumOf_8 ?_
  refine gp_getN (C := RX1) (T := TX1) E hK (hP.2.1 0 (by decide)).1 (shS_h _) rfl in_X1 13 (by decide) (nfw_12 hE.2) (fun _ z => z) (vS_i (by decide)) dX0_sumOf_11 ?_
  refine lv_icmp_ge (tgt := 44) hx hb dX0_sumOf_14 (by decide) (fun kc1 => ?_) (fun kc1 => ?_)
  · have hf := ite_t kc1 hf
    cases hf
    exact hk _ _ _ (lv_sub hl [3] rfl) hP hS
  · have hf := ite_f kc1 hf
    refine lv_iload_n hx hb dX0_sumOf_17 rfl (lv_at hl 3 rfl) ?_
    refine lv_iload_n hx hb dX0_sumOf_18 rfl (lv_at hl 1 rfl) ?_
    refine lv_iload hx hb dX0_sumOf_19 (lv_at hl 4 rfl) ?_
    refine lv_ishr hx hb dX0_sumOf_21 ?_
    refine lv_iconst (v := nI 1) hx hb dX0_sumOf_22 rfl ?_
    refine lv_iand hx hb dX0_sumOf_23 ?_
    refine lv_iconst (v := nI 1) hx hb dX0_sumOf_24 rfl ?_
    refine lv_icmp_ne (tgt := 35) hx hb dX0_sumOf_25 (by decide) (fun kc2 => ?_) (fun kc2 => ?_)
    · have hf := ite_f kc2 hf
      refine lv_iconst (v := nI 0) hx hb dX0_sumOf_35 rfl ?_
      refine lv_iadd hx hb dX0_sumOf_36 ?_
      refine lv_istore_n (lv' := [(3, .int (st.1 + (nI 0))), (0, .ref g), (1, .int x1), (2, .ref (g + 1613 + 12)), (4, .int st.2)]) hx hb dX0_sumOf_37 rfl hl (by decide) rfl (fun ls hl => ?_)
      refine lv_iinc (v := st.2 + nI 1) (lv' := [(4, .int (st.2 + nI 1)), (3, .int (st.1 + (nI 0))), (0, .ref g), (1, .int x1), (2, .ref (g + 1613 + 12))]) hx hb dX0_sumOf_38 hl (k := 4) rfl rfl (by decide) rfl (fun ls hl => ?_)
      refine lv_goto (tgt := 5) hx hb dX0_sumOf_41 (by decide) ?_
      cases hf
      exact hk _ _ _ (lv_sub hl [2, 3, 4, 1, 0] rfl) hP hS
    · have hf := ite_t kc2 hf
      refine lv_aload_n hx hb dX0_sumOf_28 rfl (lv_at hl 2 rfl) ?_
      refine lv_iload hx hb dX0_sumOf_29 (lv_at hl 4 rfl) ?_
      obtain ⟨v3, hv3, hf⟩ := ob hf
      refine gp_iald E hK hP.1 (shO_a (by decide) (by decide)) (rd_in hv3).1 (by rw [vO_ae (by decide) (by decide), ← (rd_in hv3).2]) dX0_sumOf_31 ?_
      refine lv_goto (tgt := 36) hx hb dX0_sumOf_32 (by decide) ?_
      refine lv_iadd hx hb dX0_sumOf_36 ?_
      refine lv_istore_n (lv' := [(3, .int (st.1 + v3)), (0, .ref g), (1, .int x1), (2, .ref (g + 1613 + 12)), (4, .int st.2)]) hx hb dX0_sumOf_37 rfl hl (by decide) rfl (fun ls hl => ?_)
      refine lv_iinc (v := st.2 + nI 1) (lv' := [(4, .int (st.2 + nI 1)), (3, .int (st.1 + v3)), (0, .ref g), (1, .int x1), (2, .ref (g + 1613 + 12))]) hx hb dX0_sumOf_38 hl (k := 4) rfl rfl (by decide) rfl (fun ls hl => ?_)
      refine lv_goto (tgt := 5) hx hb dX0_sumOf_41 (by decide) ?_
      cases hf
      exact hk _ _ _ (lv_sub hl [2, 3, 4, 1, 0] rfl) hP hS
set_option maxHeartbeats 4000000 in
theorem dx_sumOfC : yX0_sumOf.cls = RX0 ∧ yX0_sumOf.cls ≠ "java/lang/invoke/MethodHandle" ∧ yX0_sumOf.cls ≠ "java/lang/invoke/VarHandle" ∧ (parseMethodDescriptor yX0_sumOf.desc).map (fun d => d.parameters.length) = some 2 := ⟨rfl, by decide +kernel, by decide +kernel, by decide +kernel⟩
set_option maxHeartbeats 4000000 in
theorem tx_sumOfC (l : Launch) (D : va_G) (dT : Nat → ClassId) (g : Nat) (x1 : Int32) (μ : nwX) (res : Int32) (hf : fx_sumOfC x1 μ = some res) : Met l yX0_sumOf (ws_ yX0_sumOf cX0_sumOf 5 (some .int)) (rmd 0) (va_Pc [.ref g, .int x1, .ref (g + 1613 + 12)] (fun U => PX D dT g μ U.heap ∧ EV D dT U)) (va_Qi (fun r' (_ : Unit) => r' = res) (fun _ t => PX D dT g μ t.heap) (fun _ => False)) 0 0 (fun _ => False) := by
  refine g_met (D := D) (dT := dT) (A := fun _ => False) (own := RX0) (Pic := fun H => PX D dT g μ H) (by decide) rfl (Nat.le_of_ble_eq_true rfl) ?_
  intro p e s m below meth c ls E hE hr hlk hl hP
  have hK := hE.1
  have hS : va_S (fun _ => False) s.heap s.heap [] := va_S.rf
  obtain ⟨hx, hb, hml, hown, hts⟩ := id E
  have hl : lv_has ls 5 [(0, .ref g), (1, .int x1), (2, .ref (g + 1613 + 12))] := hl
  unfold fx_sumOfC at hf
  refine lv_iconst (v := nI 0) hx hb dX0_sumOf_0 rfl ?_
  refine lv_istore_n (lv' := [(3, .int (nI 0)), (0, .ref g), (1, .int x1), (2, .ref (g + 1613 + 12))]) hx hb dX0_sumOf_1 rfl hl (by decide) rfl (fun ls hl => ?_)
  refine lv_iconst (v := nI 0) hx hb dX0_sumOf_2 rfl ?_
  refine lv_istore (lv' := [(4, .int (nI 0)), (3, .int (nI 0)), (0, .ref g), (1, .int x1), (2, .ref (g + 1613 + 12))]) hx hb dX0_sumOf_3 hl (by decide) rfl (fun ls hl => ?_)
  obtain ⟨x4, hx4, hf⟩ := ob hf
  refine fx_sumOfC_L5_w E hK hE x1 μ hx4 (fun ls H locs hl hP hS => ?_) _ _ _ (lv_sub hl [2, 3, 4, 1, 0] rfl) hP hS
  refine lv_iload_n hx hb dX0_sumOf_44 rfl (lv_at hl 0 rfl) ?_
  cases hf
  exact g_iret (Pic := fun H => PX D dT g _ H) E hr hlk hP hS rfl dX0_sumOf_45
set_option maxHeartbeats 4000000 in
def fx_sumOfS_L5 (x1 : Int32) (μ : nwX) : (Int32 × Int32) → Option ((Int32 × Int32) ⊕ (Int32)) := fun st => (if ((μ.2.1 0) 13 0) ≤ st.2 then some (.inr st.1) else (if ((x1 >>> (st.2 &&& 31)) &&& (nI 1)) = (nI 1) then (rd_ (μ.2.1 0) 4 12 st.2).bind fun v3 => some (.inl (st.1 + v3, st.2 + nI 1)) else some (.inl (st.1 + (nI 0), st.2 + nI 1))))
set_option maxHeartbeats 4000000 in
noncomputable def fx_sumOfS (x1 : Int32) (μ : nwX) : Option (Int32) := (wh_ (fx_sumOfS_L5 x1 μ) (nI 0, nI 0)).bind fun x4 => some x4
set_option maxHeartbeats 4000000 in
theorem fx_sumOfS_L5_w {p : Program} {l : Launch} {e : Env} {s : State} {m : MethodId} {args : Array Value} {below : List Frame} {meth : Method} {c : Code} {D : va_G} {dT : Nat → ClassId} {Q : State → Prop} {g : Nat} (E : CallFix p m c cX0_sumOf 5 s args lw_all RX0) (hK : va_K D nwCl (nwT dT) s) (hE : EV D dT s) (x1 : Int32) (μ : nwX) {st : Int32 × Int32} {x : Int32} (hw : wh_ (fx_sumOfS_L5 x1 μ) st = some x) (hk : (fun x : Int32 => ∀ (ls : Array Slot) (H : Heap) (locs : List Loc), lv_has ls 5 [(3, .int x)] → PX D dT g μ H → va_S (fun _ => False) s.heap H locs → W p l e (rmd 0) s m args below meth c H locs 0 0 Q (F0 m 44 ls [])) x) : (fun st : Int32 × Int32 => ∀ (ls : Array Slot) (H : Heap) (locs : List Loc), lv_has ls 5 [(0, .ref g), (1, .int x1), (2, .ref (skA g 0 + 167 + 4)), (3, .int st.1), (4, .int st.2)] → PX D dT g μ H → va_S (fun _ => False) s.heap H locs → W p l e (rmd 0) s m args below meth c H locs 0 0 Q (F0 m 5 ls [])) st := by
  obtain ⟨hx, hb, hml, hown, hts⟩ := id E
  refine wh_run (P := (fun st : Int32 × Int32 => ∀ (ls : Array Slot) (H : Heap) (locs : List Loc), lv_has ls 5 [(0, .ref g), (1, .int x1), (2, .ref (skA g 0 + 167 + 4)), (3, .int st.1), (4, .int st.2)] → PX D dT g μ H → va_S (fun _ => False) s.heap H locs → W p l e (rmd 0) s m args below meth c H locs 0 0 Q (F0 m 5 ls []))) (PE := (fun x : Int32 => ∀ (ls : Array Slot) (H : Heap) (locs : List Loc), lv_has ls 5 [(3, .int x)] → PX D dT g μ H → va_S (fun _ => False) s.heap H locs → W p l e (rmd 0) s m args below meth c H locs 0 0 Q (F0 m 44 ls []))) ?_ hw hk
  clear hw hk
  intro st x hf hk ls H locs hl hP hS
  refine lv_iload hx hb dX0_sumOf_5 (lv_at hl 4 rfl) ?_
  refine lv_aload_n hx hb dX0_sumOf_7 rfl (lv_at hl 0 rfl) ?_
  refine gp_get (C := RX0) (T := TX0) E hK hP.1 (shO_g g) rfl in_X0 4 (by decide) (hts _ q337) (fun _ z => z) vO_4 dX0_sumOf_8 ?_
  refine gp_getN (C := RX1) (T := TX1) E hK (hP.2.1 0 (by decide)).1 (shS_h _) rfl in_X1 13 (by decide) (nfw_12 hE.2) (fun _ z => z) (vS_i (by decide)) dX0_sumOf_11 ?_
  refine lv_icmp_ge (tgt := 44) hx hb dX0_sumOf_14 (by decide) (fun kc1 => ?_) (fun kc1 => ?_)
  · have hf := ite_t kc1 hf
    cases hf
    exact hk _ _ _ (lv_sub hl [3] rfl) hP hS
  · have hf := ite_f kc1 hf
    refine lv_iload_n hx hb dX0_sumOf_17 rfl (lv_at hl 3 rfl) ?_
    refine lv_iload_n hx hb dX0_sumOf_18 rfl (lv_at hl 1 rfl) ?_
    refine lv_iload hx hb dX0_sumOf_19 (lv_at hl 4 rfl) ?_
    refine lv_ishr hx hb dX0_sumOf_21 ?_
    refine lv_iconst (v := nI 1) hx hb dX0_sumOf_22 rfl ?_
    refine lv_iand hx hb dX0_sumOf_23 ?_
    refine lv_iconst (v := nI 1) hx hb dX0_sumOf_24 rfl ?_
    refine lv_icmp_ne (tgt := 35) hx hb dX0_sumOf_25 (by decide) (fun kc2 => ?_) (fun kc2 => ?_)
    · have hf := ite_f kc2 hf
      refine lv_iconst (v := nI 0) hx hb dX0_sumOf_35 rfl ?_
      refine lv_iadd hx hb dX0_sumOf_36 ?_
      refine lv_istore_n (lv' := [(3, .int (st.1 + (nI 0))), (0, .ref g), (1, .int x1), (2, .ref (skA g 0 + 167 + 4)), (4, .int st.2)]) hx hb dX0_sumOf_37 rfl hl (by decide) rfl (fun ls hl => ?_)
      refine lv_iinc (v := st.2 + nI 1) (lv' := [(4, .int (st.2 + nI 1)), (3, .int (st.1 + (nI 0))), (0, .ref g), (1, .int x1), (2, .ref (skA g 0 + 167 + 4))]) hx hb dX0_sumOf_38 hl (k := 4) rfl rfl (by decide) rfl (fun ls hl => ?_)
      refine lv_goto (tgt := 5) hx hb dX0_sumOf_41 (by decide) ?_
      cases hf
      exact hk _ _ _ (lv_sub hl [2, 3, 4, 1, 0] rfl) hP hS
    · have hf := ite_t kc2 hf
      refine lv_aload_n hx hb dX0_sumOf_28 rfl (lv_at hl 2 rfl) ?_
      refine lv_iload hx hb dX0_sumOf_29 (lv_at hl 4 rfl) ?_
      obtain ⟨v3, hv3, hf⟩ := ob hf
      refine gp_iald E hK (hP.2.1 0 (by decide)).1 (shS_a (by decide) (by decide)) (rd_in hv3).1 (by rw [vS_e (by decide) (by decide), ← (rd_in hv3).2]) dX0_sumOf_31 ?_
      refine lv_goto (tgt := 36) hx hb dX0_sumOf_32 (by decide) ?_
      refine lv_iadd hx hb dX0_sumOf_36 ?_
      refine lv_istore_n (lv' := [(3, .int (st.1 + v3)), (0, .ref g), (1, .int x1), (2, .ref (skA g 0 + 167 + 4)), (4, .int st.2)]) hx hb dX0_sumOf_37 rfl hl (by decide) rfl (fun ls hl => ?_)
      refine lv_iinc (v := st.2 + nI 1) (lv' := [(4, .int (st.2 + nI 1)), (3, .int (st.1 + v3)), (0, .ref g), (1, .int x1), (2, .ref (skA g 0 + 167 + 4))]) hx hb dX0_sumOf_38 hl (k := 4) rfl rfl (by decide) rfl (fun ls hl => ?_)
      refine lv_goto (tgt := 5) hx hb dX0_sumOf_41 (by decide) ?_
      cases hf
      exact hk _ _ _ (lv_sub hl [2, 3, 4, 1, 0] rfl) hP hS
set_option maxHeartbeats 4000000 in
theorem dx_sumOfS : yX0_sumOf.cls = RX0 ∧ yX0_sumOf.cls ≠ "java/lang/invoke/MethodHandle" ∧ yX0_sumOf.cls ≠ "java/lang/invoke/VarHandle" ∧ (parseMethodDescriptor yX0_sumOf.desc).map (fun d => d.parameters.length) = some 2 := ⟨rfl, by decide +kernel, by decide +kernel, by decide +kernel⟩
set_option maxHeartbeats 4000000 in
theorem tx_sumOfS (l : Launch) (D : va_G) (dT : Nat → ClassId) (g : Nat) (x1 : Int32) (μ : nwX) (res : Int32) (hf : fx_sumOfS x1 μ = some res) : Met l yX0_sumOf (ws_ yX0_sumOf cX0_sumOf 5 (some .int)) (rmd 0) (va_Pc [.ref g, .int x1, .ref (skA g 0 + 167 + 4)] (fun U => PX D dT g μ U.heap ∧ EV D dT U)) (va_Qi (fun r' (_ : Unit) => r' = res) (fun _ t => PX D dT g μ t.heap) (fun _ => False)) 0 0 (fun _ => False) := by
  refine g_met (D := D) (dT := dT) (A := fun _ => False) (own := RX0) (Pic := fun H => PX D dT g μ H) (by decide) rfl (Nat.le_of_ble_eq_true rfl) ?_
  intro p e s m below meth c ls E hE hr hlk hl hP
  have hK := hE.1
  have hS : va_S (fun _ => False) s.heap s.heap [] := va_S.rf
  obtain ⟨hx, hb, hml, hown, hts⟩ := id E
  have hl : lv_has ls 5 [(0, .ref g), (1, .int x1), (2, .ref (skA g 0 + 167 + 4))] := hl
  unfold fx_sumOfS at hf
  refine lv_iconst (v := nI 0) hx hb dX0_sumOf_0 rfl ?_
  refine lv_istore_n (lv' := [(3, .int (nI 0)), (0, .ref g), (1, .int x1), (2, .ref (skA g 0 + 167 + 4))]) hx hb dX0_sumOf_1 rfl hl (by decide) rfl (fun ls hl => ?_)
  refine lv_iconst (v := nI 0) hx hb dX0_sumOf_2 rfl ?_
  refine lv_istore (lv' := [(4, .int (nI 0)), (3, .int (nI 0)), (0, .ref g), (1, .int x1), (2, .ref (skA g 0 + 167 + 4))]) hx hb dX0_sumOf_3 hl (by decide) rfl (fun ls hl => ?_)
  obtain ⟨x4, hx4, hf⟩ := ob hf
  refine fx_sumOfS_L5_w E hK hE x1 μ hx4 (fun ls H locs hl hP hS => ?_) _ _ _ (lv_sub hl [2, 3, 4, 1, 0] rfl) hP hS
  refine lv_iload_n hx hb dX0_sumOf_44 rfl (lv_at hl 0 rfl) ?_
  cases hf
  exact g_iret (Pic := fun H => PX D dT g _ H) E hr hlk hP hS rfl dX0_sumOf_45
set_option maxHeartbeats 4000000 in
noncomputable def fx_buys_L24 (x1 : Int32) (x2 : Int32) : (Int32 × nwX) → Option ((Int32 × nwX) ⊕ (nwX)) := fun st => (if ((st.2.2.1 0) 13 0) ≤ st.1 then some (.inr st.2) else bd2 (xc_ st.2 0 (fs_cost st.1 (st.2.2.2.2.2 0) (st.2.2.1 0))) fun v7 χ8 => (xo_ χ8 (wr_ χ8.1 12 12 st.1 v7)).bind fun χ9 => some (.inl (st.1 + nI 1, χ9)))
set_option maxHeartbeats 4000000 in
noncomputable def fx_buys_L60 (x1 : Int32) (x2 : Int32) (μ : nwX) : (Int32 × Int32) → Option ((Int32 × Int32) ⊕ (Int32)) := fun st => (if ((nI 1) <<< (((μ.2.1 0) 13 0) &&& 31)) ≤ st.2 then some (.inr st.1) else (fx_areAlive st.2 μ).bind fun v13 => (if v13 = 0 then some (.inl (st.1, st.2 + nI 1)) else (fx_sumOfC st.2 μ).bind fun v15 => (if v15 ≤ x1 then (fx_sumOfS st.2 μ).bind fun v18 => (fx_sumOfS st.1 μ).bind fun v20 => (if 0 < (v18 - v20) then some (.inl (st.2, st.2 + nI 1)) else (if (v18 - v20) = 0 then (fx_sumOfC st.2 μ).bind fun v24 => (fx_sumOfC st.1 μ).bind fun v26 => (if v26 ≤ v24 then some (.inl (st.1, st.2 + nI 1)) else some (.inl (st.2, st.2 + nI 1))) else some (.inl (st.1, st.2 + nI 1)))) else some (.inl (st.1, st.2 + nI 1)))))
set_option maxHeartbeats 4000000 in
noncomputable def fx_buys (x1 : Int32) (x2 : Int32) (μ : nwX) : Option (Int32 × nwX) := (fi_isIn x1 (nI 0) (nI 9999) ()).bind fun v1 => (if v1 = 0 then some ((-1), μ) else (fi_isIn x2 (nI 0) (nI 1) ()).bind fun v3 => (if v3 = 0 then some ((-1), μ) else (wh_ (fx_buys_L24 x1 x2) (nI 0, μ)).bind fun x10 => (wh_ (fx_buys_L60 x1 x2 x10) (nI 0, nI 1)).bind fun x29 => (if x2 = 0 then (fx_sumOfS x29 x10).bind fun v31 => some (v31, x10) else some (x29, x10))))
set_option maxHeartbeats 4000000 in
theorem fx_buys_L24_w {p : Program} {l : Launch} {e : Env} {s : State} {m : MethodId} {args : Array Value} {below : List Frame} {meth : Method} {c : Code} {D : va_G} {dT : Nat → ClassId} {Q : State → Prop} {g : Nat} (E : CallFix p m c cX0_buys 6 s args lw_all RX0) (hK : va_K D nwCl (nwT dT) s) (hE : EV D dT s) (x1 : Int32) (x2 : Int32) {st : Int32 × nwX} {x : nwX} (hw : wh_ (fx_buys_L24 x1 x2) st = some x) (hk : (fun x : nwX => ∀ (ls : Array Slot) (H : Heap) (locs : List Loc), lv_has ls 6 [(0, .ref g), (1, .int x1), (2, .int x2)] → PX D dT g x H → va_S (xA g) s.heap H locs → W p l e (rmd 406) s m args below meth c H locs 0 0 Q (F0 m 55 ls [])) x) : (fun st : Int32 × nwX => ∀ (ls : Array Slot) (H : Heap) (locs : List Loc), lv_has ls 6 [(0, .ref g), (1, .int x1), (2, .int x2), (3, .int st.1)] → PX D dT g st.2 H → va_S (xA g) s.heap H locs → W p l e (rmd 406) s m args below meth c H locs 0 0 Q (F0 m 24 ls [])) st := by
  obtain ⟨hx, hb, hml, hown, hts⟩ := id E
  refine wh_run (P := (fun st : Int32 × nwX => ∀ (ls : Array Slot) (H : Heap) (locs : List Loc), lv_has ls 6 [(0, .ref g), (1, .int x1), (2, .int x2), (3, .int st.1)] → PX D dT g st.2 H → va_S (xA g) s.heap H locs → W p l e (rmd 406) s m args below meth c H locs 0 0 Q (F0 m 24 ls []))) (PE := (fun x : nwX => ∀ (ls : Array Slot) (H : Heap) (locs : List Loc), lv_has ls 6 [(0, .ref g), (1, .int x1), (2, .int x2)] → PX D dT g x H → va_S (xA g) s.heap H locs → W p l e (rmd 406) s m args below meth c H locs 0 0 Q (F0 m 55 ls []))) ?_ hw hk
  clear hw hk
  intro st x hf hk ls H locs hl hP hS
  refine lv_iload_n hx hb dX0_buys_24 rfl (lv_at hl 3 rfl) ?_
  refine lv_aload_n hx hb dX0_buys_25 rfl (lv_at hl 0 rfl) ?_
  refine gp_get (C := RX0) (T := TX0) E hK hP.1 (shO_g g) rfl in_X0 4 (by decide) (hts _ q337) (fun _ z => z) vO_4 dX0_buys_26 ?_
  refine gp_getN (C := RX1) (T := TX1) E hK (hP.2.1 0 (by decide)).1 (shS_h _) rfl in_X1 13 (by decide) (nfw_12 hE.2) (fun _ z => z) (vS_i (by decide)) dX0_buys_29 ?_
  refine lv_icmp_ge (tgt := 55) hx hb dX0_buys_32 (by decide) (fun kc5 => ?_) (fun kc5 => ?_)
  · have hf := ite_t kc5 hf
    cases hf
    exact hk _ _ _ (lv_sub hl [0, 1, 2] rfl) hP hS
  · have hf := ite_f kc5 hf
    refine lv_aload_n hx hb dX0_buys_35 rfl (lv_at hl 0 rfl) ?_
    refine gp_get (C := RX0) (T := TX0) E hK hP.1 (shO_g g) rfl in_X0 12 (by decide) (hts _ q346) (fun _ z => z) (vO_a (by decide)) dX0_buys_36 ?_
    refine lv_iload_n hx hb dX0_buys_39 rfl (lv_at hl 3 rfl) ?_
    refine lv_aload_n hx hb dX0_buys_40 rfl (lv_at hl 0 rfl) ?_
    refine gp_get (C := RX0) (T := TX0) E hK hP.1 (shO_g g) rfl in_X0 4 (by decide) (hts _ q337) (fun _ z => z) vO_4 dX0_buys_41 ?_
    refine lv_iload_n hx hb dX0_buys_44 rfl (lv_at hl 3 rfl) ?_
    obtain ⟨v7, χ8, hc6, hf⟩ := ob2 hf
    obtain ⟨sχ8, hc6, eχ8⟩ := xc_in hc6
    refine gx_calli E hE (Pic := fun H => PS D dT (skA g 0) (st.2.2.1 0) (st.2.2.2.2.1 0) H ∧ LR D dT (sA (skA g 0)) (st.2.2.2.2.1 0) (st.2.2.2.2.2 0) H) (Pic1 := fun H => PS D dT (skA g 0) sχ8 (st.2.2.2.2.1 0) H) ⟨(hP.2.1 0 (by decide)).1, (hP.2.1 0 (by decide)).2.weak (fun _ z => xA_s (by decide) z)⟩ hS (fun _ z => xA_s (by decide) z) (As := [.int st.1]) (ts_cost l D dT (skA g 0) (st.2.2.2.2.1 0) st.1 (st.2.2.2.2.2 0) (st.2.2.1 0) _ hc6) (g_recv hK (hP.2.1 0 (by decide)).1 (shS_h _) rfl) (lw_V q1199 q1200 q1201 q162 q1202) ds_cost rfl (by decide) (by decide) hl rfl (Nat.le_of_ble_eq_true rfl) dX0_buys_45 (fun H1 locs1 hG hz1 hq1 hS => ?_)
    have hP := PX_set hP (by decide) hG hz1 hq1
    rw [← eχ8] at hP
    obtain ⟨χ9, hχ9, hf⟩ := ob hf
    obtain ⟨sχ9, hχ9, eχ9⟩ := xo_in hχ9
    refine gp_iast E hK hP.1 hS (xA_o (shO_in (by rw [shO_a (by decide) (by decide)]; exact fun z => by cases z))) (shO_a (by decide) (by decide)) (wr_in hχ9).1 dX0_buys_48 (fun H locs hG oq hS => ?_)
    have hP := PX_ast hP (by decide) (by decide) hχ9 hG oq (hz_put hG (by rw [shO_a (by decide) (by decide)]; exact fun z => by cases z) oq)
    rw [← eχ9] at hP
    refine lv_iinc (v := st.1 + nI 1) (lv' := [(3, .int (st.1 + nI 1)), (0, .ref g), (1, .int x1), (2, .int x2)]) hx hb dX0_buys_49 hl (k := 3) rfl rfl (by decide) rfl (fun ls hl => ?_)
    refine lv_goto (tgt := 24) hx hb dX0_buys_52 (by decide) ?_
    cases hf
    exact hk _ _ _ (lv_sub hl [1, 2, 3, 0] rfl) hP hS
set_option maxHeartbeats 4000000 in
theorem fx_buys_L60_w {p : Program} {l : Launch} {e : Env} {s : State} {m : MethodId} {args : Array Value} {below : List Frame} {meth : Method} {c : Code} {D : va_G} {dT : Nat → ClassId} {Q : State → Prop} {g : Nat} (E : CallFix p m c cX0_buys 6 s args lw_all RX0) (hK : va_K D nwCl (nwT dT) s) (hE : EV D dT s) (x1 : Int32) (x2 : Int32) (μ : nwX) {st : Int32 × Int32} {x : Int32} (hw : wh_ (fx_buys_L60 x1 x2 μ) st = some x) (hk : (fun x : Int32 => ∀ (ls : Array Slot) (H : Heap) (locs : List Loc), lv_has ls 6 [(0, .ref g), (2, .int x2), (3, .int x)] → PX D dT g μ H → va_S (xA g) s.heap H locs → W p l e (rmd 406) s m args below meth c H locs 0 0 Q (F0 m 169 ls [])) x) : (fun st : Int32 × Int32 => ∀ (ls : Array Slot) (H : Heap) (locs : List Loc), lv_has ls 6 [(0, .ref g), (1, .int x1), (2, .int x2), (3, .int st.1), (4, .int st.2)] → PX D dT g μ H → va_S (xA g) s.heap H locs → W p l e (rmd 406) s m args below meth c H locs 0 0 Q (F0 m 60 ls [])) st := by
  obtain ⟨hx, hb, hml, hown, hts⟩ := id E
  refine wh_run (P := (fun st : Int32 × Int32 => ∀ (ls : Array Slot) (H : Heap) (locs : List Loc), lv_has ls 6 [(0, .ref g), (1, .int x1), (2, .int x2), (3, .int st.1), (4, .int st.2)] → PX D dT g μ H → va_S (xA g) s.heap H locs → W p l e (rmd 406) s m args below meth c H locs 0 0 Q (F0 m 60 ls []))) (PE := (fun x : Int32 => ∀ (ls : Array Slot) (H : Heap) (locs : List Loc), lv_has ls 6 [(0, .ref g), (2, .int x2), (3, .int x)] → PX D dT g μ H → va_S (xA g) s.heap H locs → W p l e (rmd 406) s m args below meth c H locs 0 0 Q (F0 m 169 ls []))) ?_ hw hk
  clear hw hk
  intro st x hf hk ls H locs hl hP hS
  refine lv_iload hx hb dX0_buys_60 (lv_at hl 4 rfl) ?_
  refine lv_iconst (v := nI 1) hx hb dX0_buys_62 rfl ?_
  refine lv_aload_n hx hb dX0_buys_63 rfl (lv_at hl 0 rfl) ?_
  refine gp_get (C := RX0) (T := TX0) E hK hP.1 (shO_g g) rfl in_X0 4 (by decide) (hts _ q337) (fun _ z => z) vO_4 dX0_buys_64 ?_
  refine gp_getN (C := RX1) (T := TX1) E hK (hP.2.1 0 (by decide)).1 (shS_h _) rfl in_X1 13 (by decide) (nfw_12 hE.2) (fun _ z => z) (vS_i (by decide)) dX0_buys_67 ?_
  refine lv_ishl hx hb dX0_buys_70 ?_
  refine lv_icmp_ge (tgt := 169) hx hb dX0_buys_71 (by decide) (fun kc11 => ?_) (fun kc11 => ?_)
  · have hf := ite_t kc11 hf
    cases hf
    exact hk _ _ _ (lv_sub hl [0, 2, 3] rfl) hP hS
  · have hf := ite_f kc11 hf
    refine lv_aload_n hx hb dX0_buys_74 rfl (lv_at hl 0 rfl) ?_
    refine lv_iload hx hb dX0_buys_75 (lv_at hl 4 rfl) ?_
    obtain ⟨v13, hc12, hf⟩ := ob hf
    refine gx_calli E hE (Pic := fun H => PX D dT g μ H) (Pic1 := fun H => PX D dT g μ H) hP hS (fun _ z => z.elim) (As := [.int st.2]) (tx_areAlive l D dT g st.2 μ _ hc12) (g_recv hK hP.1 (shO_g g) rfl) (lw_V q1365 q1367 qs55 q161 q1368) dx_areAlive rfl (by decide) (by decide) hl rfl (Nat.le_of_ble_eq_true rfl) dX0_buys_77 (fun H locs hP _ _ hS => ?_)
    refine lv_if_eq (tgt := 163) hx hb dX0_buys_80 (by decide) (fun kc14 => ?_) (fun kc14 => ?_)
    · have hf := ite_t kc14 hf
      refine lv_iinc (v := st.2 + nI 1) (lv' := [(4, .int (st.2 + nI 1)), (0, .ref g), (1, .int x1), (2, .int x2), (3, .int st.1)]) hx hb dX0_buys_163 hl (k := 4) rfl rfl (by decide) rfl (fun ls hl => ?_)
      refine lv_goto (tgt := 60) hx hb dX0_buys_166 (by decide) ?_
      cases hf
      exact hk _ _ _ (lv_sub hl [1, 2, 3, 4, 0] rfl) hP hS
    · have hf := ite_f kc14 hf
      refine lv_aload_n hx hb dX0_buys_83 rfl (lv_at hl 0 rfl) ?_
      refine lv_iload hx hb dX0_buys_84 (lv_at hl 4 rfl) ?_
      refine lv_aload_n hx hb dX0_buys_86 rfl (lv_at hl 0 rfl) ?_
      refine gp_get (C := RX0) (T := TX0) E hK hP.1 (shO_g g) rfl in_X0 12 (by decide) (hts _ q346) (fun _ z => z) (vO_a (by decide)) dX0_buys_87 ?_
      obtain ⟨v15, hc16, hf⟩ := ob hf
      refine gx_calli E hE (Pic := fun H => PX D dT g μ H) (Pic1 := fun H => PX D dT g μ H) hP hS (fun _ z => z.elim) (As := [.int st.2, .ref (g + 1613 + 12)]) (tx_sumOfC l D dT g st.2 μ _ hc16) (g_recv hK hP.1 (shO_g g) rfl) (lw_V q1369 q1371 qs56 q161 q1372) dx_sumOfC rfl (by decide) (by decide) hl rfl (Nat.le_of_ble_eq_true rfl) dX0_buys_90 (fun H locs hP _ _ hS => ?_)
      refine lv_iload_n hx hb dX0_buys_93 rfl (lv_at hl 1 rfl) ?_
      refine lv_icmp_le (tgt := 100) hx hb dX0_buys_94 (by decide) (fun kc17 => ?_) (fun kc17 => ?_)
      · have hf := ite_t kc17 hf
        refine lv_aload_n hx hb dX0_buys_100 rfl (lv_at hl 0 rfl) ?_
        refine lv_iload hx hb dX0_buys_101 (lv_at hl 4 rfl) ?_
        refine lv_aload_n hx hb dX0_buys_103 rfl (lv_at hl 0 rfl) ?_
        refine gp_get (C := RX0) (T := TX0) E hK hP.1 (shO_g g) rfl in_X0 4 (by decide) (hts _ q337) (fun _ z => z) vO_4 dX0_buys_104 ?_
        refine gp_getN (C := RX1) (T := TX1) E hK (hP.2.1 0 (by decide)).1 (shS_h _) rfl in_X1 4 (by decide) (nfw_3 hE.2) (fun _ z => z) (vS_a (by decide) (by decide)) dX0_buys_107 ?_
        obtain ⟨v18, hc19, hf⟩ := ob hf
        refine gx_calli E hE (Pic := fun H => PX D dT g μ H) (Pic1 := fun H => PX D dT g μ H) hP hS (fun _ z => z.elim) (As := [.int st.2, .ref (skA g 0 + 167 + 4)]) (tx_sumOfS l D dT g st.2 μ _ hc19) (g_recv hK hP.1 (shO_g g) rfl) (lw_V q1369 q1371 qs56 q161 q1372) dx_sumOfS rfl (by decide) (by decide) hl rfl (Nat.le_of_ble_eq_true rfl) dX0_buys_110 (fun H locs hP _ _ hS => ?_)
        refine lv_aload_n hx hb dX0_buys_113 rfl (lv_at hl 0 rfl) ?_
        refine lv_iload_n hx hb dX0_buys_114 rfl (lv_at hl 3 rfl) ?_
        refine lv_aload_n hx hb dX0_buys_115 rfl (lv_at hl 0 rfl) ?_
        refine gp_get (C := RX0) (T := TX0) E hK hP.1 (shO_g g) rfl in_X0 4 (by decide) (hts _ q337) (fun _ z => z) vO_4 dX0_buys_116 ?_
        refine gp_getN (C := RX1) (T := TX1) E hK (hP.2.1 0 (by decide)).1 (shS_h _) rfl in_X1 4 (by decide) (nfw_3 hE.2) (fun _ z => z) (vS_a (by decide) (by decide)) dX0_buys_119 ?_
        obtain ⟨v20, hc21, hf⟩ := ob hf
        refine gx_calli E hE (Pic := fun H => PX D dT g μ H) (Pic1 := fun H => PX D dT g μ H) hP hS (fun _ z => z.elim) (As := [.int st.1, .ref (skA g 0 + 167 + 4)]) (tx_sumOfS l D dT g st.1 μ _ hc21) (g_recv hK hP.1 (shO_g g) rfl) (lw_V q1369 q1371 qs56 q161 q1372) dx_sumOfS rfl (by decide) (by decide) hl rfl (Nat.le_of_ble_eq_true rfl) dX0_buys_122 (fun H locs hP _ _ hS => ?_)
        refine lv_isub hx hb dX0_buys_125 ?_
        refine lv_istore (lv' := [(5, .int (v18 - v20)), (0, .ref g), (1, .int x1), (2, .int x2), (3, .int st.1), (4, .int st.2)]) hx hb dX0_buys_126 hl (by decide) rfl (fun ls hl => ?_)
        refine lv_iload hx hb dX0_buys_128 (lv_at hl 0 rfl) ?_
        refine lv_if_gt (tgt := 160) hx hb dX0_buys_130 (by decide) (fun kc22 => ?_) (fun kc22 => ?_)
        · have hf := ite_t kc22 hf
          refine lv_iload hx hb dX0_buys_160 (lv_at hl 5 rfl) ?_
          refine lv_istore_n (lv' := [(3, .int st.2), (5, .int (v18 - v20)), (0, .ref g), (1, .int x1), (2, .int x2), (4, .int st.2)]) hx hb dX0_buys_162 rfl hl (by decide) rfl (fun ls hl => ?_)
          refine lv_iinc (v := st.2 + nI 1) (lv' := [(4, .int (st.2 + nI 1)), (3, .int st.2), (5, .int (v18 - v20)), (0, .ref g), (1, .int x1), (2, .int x2)]) hx hb dX0_buys_163 hl (k := 5) rfl rfl (by decide) rfl (fun ls hl => ?_)
          refine lv_goto (tgt := 60) hx hb dX0_buys_166 (by decide) ?_
          cases hf
          exact hk _ _ _ (lv_sub hl [3, 4, 5, 1, 0] rfl) hP hS
        · have hf := ite_f kc22 hf
          refine lv_iload hx hb dX0_buys_133 (lv_at hl 0 rfl) ?_
          refine lv_if_ne (tgt := 163) hx hb dX0_buys_135 (by decide) (fun kc23 => ?_) (fun kc23 => ?_)
          · have hf := ite_f kc23 hf
            refine lv_iinc (v := st.2 + nI 1) (lv' := [(4, .int (st.2 + nI 1)), (5, .int (v18 - v20)), (0, .ref g), (1, .int x1), (2, .int x2), (3, .int st.1)]) hx hb dX0_buys_163 hl (k := 5) rfl rfl (by decide) rfl (fun ls hl => ?_)
            refine lv_goto (tgt := 60) hx hb dX0_buys_166 (by decide) ?_
            cases hf
            exact hk _ _ _ (lv_sub hl [2, 3, 4, 5, 0] rfl) hP hS
          · have hf := ite_t kc23 hf
            refine lv_aload_n hx hb dX0_buys_138 rfl (lv_at hl 1 rfl) ?_
            refine lv_iload hx hb dX0_buys_139 (lv_at hl 5 rfl) ?_
            refine lv_aload_n hx hb dX0_buys_141 rfl (lv_at hl 1 rfl) ?_
            refine gp_get (C := RX0) (T := TX0) E hK hP.1 (shO_g g) rfl in_X0 12 (by decide) (hts _ q346) (fun _ z => z) (vO_a (by decide)) dX0_buys_142 ?_
            obtain ⟨v24, hc25, hf⟩ := ob hf
            refine gx_calli E hE (Pic := fun H => PX D dT g μ H) (Pic1 := fun H => PX D dT g μ H) hP hS (fun _ z => z.elim) (As := [.int st.2, .ref (g + 1613 + 12)]) (tx_sumOfC l D dT g st.2 μ _ hc25) (g_recv hK hP.1 (shO_g g) rfl) (lw_V q1369 q1371 qs56 q161 q1372) dx_sumOfC rfl (by decide) (by decide) hl rfl (Nat.le_of_ble_eq_true rfl) dX0_buys_145 (fun H locs hP _ _ hS => ?_)
            refine lv_aload_n hx hb dX0_buys_148 rfl (lv_at hl 1 rfl) ?_
            refine lv_iload_n hx hb dX0_buys_149 rfl (lv_at hl 4 rfl) ?_
            refine lv_aload_n hx hb dX0_buys_150 rfl (lv_at hl 1 rfl) ?_
            refine gp_get (C := RX0) (T := TX0) E hK hP.1 (shO_g g) rfl in_X0 12 (by decide) (hts _ q346) (fun _ z => z) (vO_a (by decide)) dX0_buys_151 ?_
            obtain ⟨v26, hc27, hf⟩ := ob hf
            refine gx_calli E hE (Pic := fun H => PX D dT g μ H) (Pic1 := fun H => PX D dT g μ H) hP hS (fun _ z => z.elim) (As := [.int st.1, .ref (g + 1613 + 12)]) (tx_sumOfC l D dT g st.1 μ _ hc27) (g_recv hK hP.1 (shO_g g) rfl) (lw_V q1369 q1371 qs56 q161 q1372) dx_sumOfC rfl (by decide) (by decide) hl rfl (Nat.le_of_ble_eq_true rfl) dX0_buys_154 (fun H locs hP _ _ hS => ?_)
            refine lv_icmp_ge (tgt := 163) hx hb dX0_buys_157 (by decide) (fun kc28 => ?_) (fun kc28 => ?_)
            · have hf := ite_t kc28 hf
              refine lv_iinc (v := st.2 + nI 1) (lv' := [(4, .int (st.2 + nI 1)), (5, .int (v18 - v20)), (0, .ref g), (1, .int x1), (2, .int x2), (3, .int st.1)]) hx hb dX0_buys_163 hl (k := 5) rfl rfl (by decide) rfl (fun ls hl => ?_)
              refine lv_goto (tgt := 60) hx hb dX0_buys_166 (by decide) ?_
              cases hf
              exact hk _ _ _ (lv_sub hl [2, 3, 4, 5, 0] rfl) hP hS
            · have hf := ite_f kc28 hf
              refine lv_iload hx hb dX0_buys_160 (lv_at hl 5 rfl) ?_
              refine lv_istore_n (lv' := [(3, .int st.2), (5, .int (v18 - v20)), (0, .ref g), (1, .int x1), (2, .int x2), (4, .int st.2)]) hx hb dX0_buys_162 rfl hl (by decide) rfl (fun ls hl => ?_)
              refine lv_iinc (v := st.2 + nI 1) (lv' := [(4, .int (st.2 + nI 1)), (3, .int st.2), (5, .int (v18 - v20)), (0, .ref g), (1, .int x1), (2, .int x2)]) hx hb dX0_buys_163 hl (k := 5) rfl rfl (by decide) rfl (fun ls hl => ?_)
              refine lv_goto (tgt := 60) hx hb dX0_buys_166 (by decide) ?_
              cases hf
              exact hk _ _ _ (lv_sub hl [3, 4, 5, 1, 0] rfl) hP hS
      · have hf := ite_f kc17 hf
        refine lv_goto (tgt := 163) hx hb dX0_buys_97 (by decide) ?_
        refine lv_iinc (v := st.2 + nI 1) (lv' := [(4, .int (st.2 + nI 1)), (0, .ref g), (1, .int x1), (2, .int x2), (3, .int st.1)]) hx hb dX0_buys_163 hl (k := 4) rfl rfl (by decide) rfl (fun ls hl => ?_)
        refine lv_goto (tgt := 60) hx hb dX0_buys_166 (by decide) ?_
        cases hf
        exact hk _ _ _ (lv_sub hl [1, 2, 3, 4, 0] rfl) hP hS
set_option maxHeartbeats 4000000 in
theorem dx_buys : yX0_buys.cls = RX0 ∧ yX0_buys.cls ≠ "java/lang/invoke/MethodHandle" ∧ yX0_buys.cls ≠ "java/lang/invoke/VarHandle" ∧ (parseMethodDescriptor yX0_buys.desc).map (fun d => d.parameters.length) = some 2 := ⟨rfl, by decide +kernel, by decide +kernel, by decide +kernel⟩
set_option maxHeartbeats 4000000 in
theorem tx_buys (l : Launch) (D : va_G) (dT : Nat → ClassId) (g : Nat) (x1 : Int32) (x2 : Int32) (μ : nwX) (res : Int32 × nwX) (hf : fx_buys x1 x2 μ = some res) : Met l yX0_buys (ws_ yX0_buys cX0_buys 6 (some .int)) (rmd 406) (va_Pc [.ref g, .int x1, .int x2] (fun U => PX D dT g μ U.heap ∧ EV D dT U)) (va_Qi (fun r' (_ : Unit) => r' = res.1) (fun _ t => PX D dT g res.2 t.heap) (xA g)) 0 0 (xA g) := by
  refine g_met (D := D) (dT := dT) (A := xA g) (own := RX0) (Pic := fun H => PX D dT g μ H) (by decide) rfl (Nat.le_of_ble_eq_true rfl) ?_
  intro p e s m below meth c ls E hE hr hlk hl hP
  have hK := hE.1
  have hS : va_S (xA g) s.heap s.heap [] := va_S.rf
  obtain ⟨hx, hb, hml, hown, hts⟩ := id E
  have hl : lv_has ls 6 [(0, .ref g), (1, .int x1), (2, .int x2)] := hl
  unfold fx_buys at hf
  refine lv_iload_n hx hb dX0_buys_0 rfl (lv_at hl 1 rfl) ?_
  refine lv_iconst (v := nI 0) hx hb dX0_buys_1 rfl ?_
  refine lv_sipush (v := nI 9999) hx hb dX0_buys_2 rfl ?_
  obtain ⟨v1, hv1, hf⟩ := ob hf
  refine p_calli E hS (As := [.int x1, .int (nI 0), .int (nI 9999)]) (ti_isIn l x1 (nI 0) (nI 9999) _ hv1) (lw_S q386 q387 q161 q388) di_isIn rfl (by decide) (by decide) hl rfl (Nat.le_of_ble_eq_true rfl) dX0_buys_5 (fun H1 locs1 hq1 hS => ?_)
  have hP := PX_same hP (hz_all hq1) hq1
  refine lv_if_eq (tgt := 20) hx hb dX0_buys_8 (by decide) (fun kc2 => ?_) (fun kc2 => ?_)
  · have hf := ite_t kc2 hf
    refine lv_iconst (v := (-1)) hx hb dX0_buys_20 rfl ?_
    cases hf
    exact g_iret (Pic := fun H => PX D dT g _ H) E hr hlk hP hS rfl dX0_buys_21
  · have hf := ite_f kc2 hf
    refine lv_iload_n hx hb dX0_buys_11 rfl (lv_at hl 2 rfl) ?_
    refine lv_iconst (v := nI 0) hx hb dX0_buys_12 rfl ?_
    refine lv_iconst (v := nI 1) hx hb dX0_buys_13 rfl ?_
    obtain ⟨v3, hv3, hf⟩ := ob hf
    refine p_calli E hS (As := [.int x2, .int (nI 0), .int (nI 1)]) (ti_isIn l x2 (nI 0) (nI 1) _ hv3) (lw_S q386 q387 q161 q388) di_isIn rfl (by decide) (by decide) hl rfl (Nat.le_of_ble_eq_true rfl) dX0_buys_14 (fun H1 locs1 hq1 hS => ?_)
    have hP := PX_same hP (hz_all hq1) hq1
    refine lv_if_ne (tgt := 22) hx hb dX0_buys_17 (by decide) (fun kc4 => ?_) (fun kc4 => ?_)
    · have hf := ite_f kc4 hf
      refine lv_iconst (v := nI 0) hx hb dX0_buys_22 rfl ?_
      refine lv_istore_n (lv' := [(3, .int (nI 0)), (0, .ref g), (1, .int x1), (2, .int x2)]) hx hb dX0_buys_23 rfl hl (by decide) rfl (fun ls hl => ?_)
      obtain ⟨x10, hx10, hf⟩ := ob hf
      refine fx_buys_L24_w E hK hE x1 x2 hx10 (fun ls H locs hl hP hS => ?_) _ _ _ (lv_sub hl [1, 2, 3, 0] rfl) hP hS
      refine lv_iconst (v := nI 0) hx hb dX0_buys_55 rfl ?_
      refine lv_istore_n (lv' := [(3, .int (nI 0)), (0, .ref g), (1, .int x1), (2, .int x2)]) hx hb dX0_buys_56 rfl hl (by decide) rfl (fun ls hl => ?_)
      refine lv_iconst (v := nI 1) hx hb dX0_buys_57 rfl ?_
      refine lv_istore (lv' := [(4, .int (nI 1)), (3, .int (nI 0)), (0, .ref g), (1, .int x1), (2, .int x2)]) hx hb dX0_buys_58 hl (by decide) rfl (fun ls hl => ?_)
      obtain ⟨x29, hx29, hf⟩ := ob hf
      refine fx_buys_L60_w E hK hE x1 x2 x10 hx29 (fun ls H locs hl hP hS => ?_) _ _ _ (lv_sub hl [2, 3, 4, 1, 0] rfl) hP hS
      refine lv_iload_n hx hb dX0_buys_169 rfl (lv_at hl 1 rfl) ?_
      refine lv_if_ne (tgt := 188) hx hb dX0_buys_170 (by decide) (fun kc30 => ?_) (fun kc30 => ?_)
      · have hf := ite_f kc30 hf
        refine lv_iload_n hx hb dX0_buys_188 rfl (lv_at hl 2 rfl) ?_
        cases hf
        exact g_iret (Pic := fun H => PX D dT g _ H) E hr hlk hP hS rfl dX0_buys_189
      · have hf := ite_t kc30 hf
        refine lv_aload_n hx hb dX0_buys_173 rfl (lv_at hl 0 rfl) ?_
        refine lv_iload_n hx hb dX0_buys_174 rfl (lv_at hl 2 rfl) ?_
        refine lv_aload_n hx hb dX0_buys_175 rfl (lv_at hl 0 rfl) ?_
        refine gp_get (C := RX0) (T := TX0) E hK hP.1 (shO_g g) rfl in_X0 4 (by decide) (hts _ q337) (fun _ z => z) vO_4 dX0_buys_176 ?_
        refine gp_getN (C := RX1) (T := TX1) E hK (hP.2.1 0 (by decide)).1 (shS_h _) rfl in_X1 4 (by decide) (nfw_3 hE.2) (fun _ z => z) (vS_a (by decide) (by decide)) dX0_buys_179 ?_
        obtain ⟨v31, hc32, hf⟩ := ob hf
        refine gx_calli E hE (Pic := fun H => PX D dT g x10 H) (Pic1 := fun H => PX D dT g x10 H) hP hS (fun _ z => z.elim) (As := [.int x29, .ref (skA g 0 + 167 + 4)]) (tx_sumOfS l D dT g x29 x10 _ hc32) (g_recv hK hP.1 (shO_g g) rfl) (lw_V q1369 q1371 qs56 q161 q1372) dx_sumOfS rfl (by decide) (by decide) hl rfl (Nat.le_of_ble_eq_true rfl) dX0_buys_182 (fun H locs hP _ _ hS => ?_)
        refine lv_goto (tgt := 189) hx hb dX0_buys_185 (by decide) ?_
        cases hf
        exact g_iret (Pic := fun H => PX D dT g _ H) E hr hlk hP hS rfl dX0_buys_189
    · have hf := ite_t kc4 hf
      refine lv_iconst (v := (-1)) hx hb dX0_buys_20 rfl ?_
      cases hf
      exact g_iret (Pic := fun H => PX D dT g _ H) E hr hlk hP hS rfl dX0_buys_21
set_option maxHeartbeats 4000000 in
def fx_lastWanted_L4 (μ : nwX) : (Int32 × Int32) → Option ((Int32 × Int32) ⊕ (Int32)) := fun st => (if (nI (μ.2.2.2.2 0).2.2.1.length) ≤ st.2 then some (.inr st.1) else (lg_ (μ.2.2.2.2 0).2.2.1 st.2).bind fun e2 => some (.inl (mx_ st.1 e2.2.2.2.1, st.2 + nI 1)))
set_option maxHeartbeats 4000000 in
noncomputable def fx_lastWanted (μ : nwX) : Option (Int32) := (wh_ (fx_lastWanted_L4 μ) ((-1), nI 0)).bind fun x3 => some x3
set_option maxHeartbeats 4000000 in
theorem fx_lastWanted_L4_w {p : Program} {l : Launch} {e : Env} {s : State} {m : MethodId} {args : Array Value} {below : List Frame} {meth : Method} {c : Code} {D : va_G} {dT : Nat → ClassId} {Q : State → Prop} {g : Nat} (E : CallFix p m c cX0_lastWanted 3 s args lw_all RX0) (hK : va_K D nwCl (nwT dT) s) (hE : EV D dT s) (μ : nwX) {st : Int32 × Int32} {x : Int32} (hw : wh_ (fx_lastWanted_L4 μ) st = some x) (hk : (fun x : Int32 => ∀ (ls : Array Slot) (H : Heap) (locs : List Loc), lv_has ls 3 [(1, .int x)] → PX D dT g μ H → va_S (fun _ => False) s.heap H locs → W p l e (rmd 3) s m args below meth c H locs 0 0 Q (F0 m 46 ls [])) x) : (fun st : Int32 × Int32 => ∀ (ls : Array Slot) (H : Heap) (locs : List Loc), lv_has ls 3 [(0, .ref g), (1, .int st.1), (2, .int st.2)] → PX D dT g μ H → va_S (fun _ => False) s.heap H locs → W p l e (rmd 3) s m args below meth c H locs 0 0 Q (F0 m 4 ls [])) st := by
  obtain ⟨hx, hb, hml, hown, hts⟩ := id E
  refine wh_run (P := (fun st : Int32 × Int32 => ∀ (ls : Array Slot) (H : Heap) (locs : List Loc), lv_has ls 3 [(0, .ref g), (1, .int st.1), (2, .int st.2)] → PX D dT g μ H → va_S (fun _ => False) s.heap H locs → W p l e (rmd 3) s m args below meth c H locs 0 0 Q (F0 m 4 ls []))) (PE := (fun x : Int32 => ∀ (ls : Array Slot) (H : Heap) (locs : List Loc), lv_has ls 3 [(1, .int x)] → PX D dT g μ H → va_S (fun _ => False) s.heap H locs → W p l e (rmd 3) s m args below meth c H locs 0 0 Q (F0 m 46 ls []))) ?_ hw hk
  clear hw hk
  intro st x hf hk ls H locs hl hP hS
  refine lv_iload_n hx hb dX0_lastWanted_4 rfl (lv_at hl 2 rfl) ?_
  refine lv_aload_n hx hb dX0_lastWanted_5 rfl (lv_at hl 0 rfl) ?_
  refine gp_get (C := RX0) (T := TX0) E hK hP.1 (shO_g g) rfl in_X0 4 (by decide) (hts _ q337) (fun _ z => z) vO_4 dX0_lastWanted_6 ?_
  refine gp_getN (C := RX1) (T := TX1) E hK (hP.2.1 0 (by decide)).1 (shS_h _) rfl in_X1 11 (by decide) (nfw_10 hE.2) (fun _ z => z) (vS_l (by decide) (by decide)) dX0_lastWanted_9 ?_
  refine lx_size E hE ((hP.2.1 0 (by decide)).2.2.2.1) hS (lw_V q801 q630 q631 q165 q632) (by decide) hl (Nat.le_of_ble_eq_true rfl) dX0_lastWanted_12 (fun H1 locs1 hq1 hS => ?_)
  have hP := PX_same hP (hz_all hq1) hq1
  refine lv_icmp_ge (tgt := 46) hx hb dX0_lastWanted_15 (by decide) (fun kc1 => ?_) (fun kc1 => ?_)
  · have hf := ite_t kc1 hf
    cases hf
    exact hk _ _ _ (lv_sub hl [1] rfl) hP hS
  · have hf := ite_f kc1 hf
    refine lv_iload_n hx hb dX0_lastWanted_18 rfl (lv_at hl 1 rfl) ?_
    refine lv_aload_n hx hb dX0_lastWanted_19 rfl (lv_at hl 0 rfl) ?_
    refine gp_get (C := RX0) (T := TX0) E hK hP.1 (shO_g g) rfl in_X0 4 (by decide) (hts _ q337) (fun _ z => z) vO_4 dX0_lastWanted_20 ?_
    refine gp_getN (C := RX1) (T := TX1) E hK (hP.2.1 0 (by decide)).1 (shS_h _) rfl in_X1 11 (by decide) (nfw_10 hE.2) (fun _ z => z) (vS_l (by decide) (by decide)) dX0_lastWanted_23 ?_
    refine lv_iload_n hx hb dX0_lastWanted_26 rfl (lv_at hl 2 rfl) ?_
    obtain ⟨e2, he2, hf⟩ := ob hf
    refine lx_get E hE ((hP.2.1 0 (by decide)).2.2.2.1) he2 hS (lw_V q1251 q1011 q1012 q165 q1013) (by decide) hl (Nat.le_of_ble_eq_true rfl) dX0_lastWanted_27 (fun be2 H1 locs1 ge2 hq1 hS => ?_)
    have hP := PX_same hP (hz_all hq1) hq1
    have ge2 := (gK_W D).1 _ _ _ _ _ (fun q z _ => hq1 q z) ge2
    refine wa_cast E hE ge2 q1252 dX0_lastWanted_30 ?_
    refine wa_day E hE ge2 dX0_lastWanted_33 ?_
    refine mx_calli E (by decide) hl q1253 q757 q182 q758 (Nat.le_of_ble_eq_true rfl) dX0_lastWanted_36 ?_
    refine lv_nm (y := mx_ st.1 e2.2.2.2.1) rfl ?_
    refine lv_istore_n (lv' := [(1, .int (mx_ st.1 e2.2.2.2.1)), (0, .ref g), (2, .int st.2)]) hx hb dX0_lastWanted_39 rfl hl (by decide) rfl (fun ls hl => ?_)
    refine lv_iinc (v := st.2 + nI 1) (lv' := [(2, .int (st.2 + nI 1)), (1, .int (mx_ st.1 e2.2.2.2.1)), (0, .ref g)]) hx hb dX0_lastWanted_40 hl (k := 2) rfl rfl (by decide) rfl (fun ls hl => ?_)
    refine lv_goto (tgt := 4) hx hb dX0_lastWanted_43 (by decide) ?_
    cases hf
    exact hk _ _ _ (lv_sub hl [2, 1, 0] rfl) hP hS
set_option maxHeartbeats 4000000 in
theorem dx_lastWanted : yX0_lastWanted.cls = RX0 ∧ yX0_lastWanted.cls ≠ "java/lang/invoke/MethodHandle" ∧ yX0_lastWanted.cls ≠ "java/lang/invoke/VarHandle" ∧ (parseMethodDescriptor yX0_lastWanted.desc).map (fun d => d.parameters.length) = some 0 := ⟨rfl, by decide +kernel, by decide +kernel, by decide +kernel⟩
set_option maxHeartbeats 4000000 in
theorem tx_lastWanted (l : Launch) (D : va_G) (dT : Nat → ClassId) (g : Nat) (μ : nwX) (res : Int32) (hf : fx_lastWanted μ = some res) : Met l yX0_lastWanted (ws_ yX0_lastWanted cX0_lastWanted 3 (some .int)) (rmd 3) (va_Pc [.ref g] (fun U => PX D dT g μ U.heap ∧ EV D dT U)) (va_Qi (fun r' (_ : Unit) => r' = res) (fun _ t => PX D dT g μ t.heap) (fun _ => False)) 0 0 (fun _ => False) := by
  refine g_met (D := D) (dT := dT) (A := fun _ => False) (own := RX0) (Pic := fun H => PX D dT g μ H) (by decide) rfl (Nat.le_of_ble_eq_true rfl) ?_
  intro p e s m below meth c ls E hE hr hlk hl hP
  have hK := hE.1
  have hS : va_S (fun _ => False) s.heap s.heap [] := va_S.rf
  obtain ⟨hx, hb, hml, hown, hts⟩ := id E
  have hl : lv_has ls 3 [(0, .ref g)] := hl
  unfold fx_lastWanted at hf
  refine lv_iconst (v := (-1)) hx hb dX0_lastWanted_0 rfl ?_
  refine lv_istore_n (lv' := [(1, .int (-1)), (0, .ref g)]) hx hb dX0_lastWanted_1 rfl hl (by decide) rfl (fun ls hl => ?_)
  refine lv_iconst (v := nI 0) hx hb dX0_lastWanted_2 rfl ?_
  refine lv_istore_n (lv' := [(2, .int (nI 0)), (1, .int (-1)), (0, .ref g)]) hx hb dX0_lastWanted_3 rfl hl (by decide) rfl (fun ls hl => ?_)
  obtain ⟨x3, hx3, hf⟩ := ob hf
  refine fx_lastWanted_L4_w E hK hE μ hx3 (fun ls H locs hl hP hS => ?_) _ _ _ (lv_sub hl [2, 1, 0] rfl) hP hS
  refine lv_iload_n hx hb dX0_lastWanted_46 rfl (lv_at hl 0 rfl) ?_
  cases hf
  exact g_iret (Pic := fun H => PX D dT g _ H) E hr hlk hP hS rfl dX0_lastWanted_47
set_option maxHeartbeats 4000000 in
noncomputable def fx_meets_L67 (x1 : Int32) (x4 : Int32) (μ : nwX) : (Int32 × Int32 × Int32) → Option ((Int32 × Int32 × Int32) ⊕ (Int32 × Int32)) := fun st => (if (nI (μ.2.2.2.2 0).2.2.1.length) ≤ st.2.2 then some (.inr (st.1, st.2.1)) else (lg_ (μ.2.2.2.2 0).2.2.1 st.2.2).bind fun e11 => (if e11.2.2.2.1 = ((μ.2.1 2) 15 0) then (fw_isMet e11 (μ.2.1 2)).bind fun v13 => (if v13 = 0 then (if v13 = 0 then (if st.2.1 = (-1) then some (.inl (st.1 + (nI 0), st.2.2, st.2.2 + nI 1)) else some (.inl (st.1 + (nI 0), st.2.1, st.2.2 + nI 1))) else some (.inl (st.1 + (nI 0), st.2.1, st.2.2 + nI 1))) else (if v13 = 0 then (if st.2.1 = (-1) then some (.inl (st.1 + e11.2.2.2.2, st.2.2, st.2.2 + nI 1)) else some (.inl (st.1 + e11.2.2.2.2, st.2.1, st.2.2 + nI 1))) else some (.inl (st.1 + e11.2.2.2.2, st.2.1, st.2.2 + nI 1)))) else some (.inl (st.1, st.2.1, st.2.2 + nI 1))))
set_option maxHeartbeats 4000000 in
noncomputable def fx_meets_L45 (x1 : Int32) (x4 : Int32) : (Int32 × Int32 × nwX) → Option ((Int32 × Int32 × nwX) ⊕ (Int32 × Int32 × nwX)) := fun st => (if x4 < ((st.2.2.2.1 2) 15 0) then some (.inr (st.1, st.2.1, st.2.2)) else (xs_ st.2.2 2 (fs_morning (st.2.2.2.2.2.2 2) (st.2.2.2.1 2))).bind fun χ9 => (wh_ (fx_meets_L67 x1 x4 χ9) (st.1, st.2.1, nI 0)).bind fun x19 => (xs_ χ9 2 (fs_evening (nI 0) (χ9.2.2.2.2 2) (χ9.2.1 2))).bind fun χ21 => some (.inl (x19.1, x19.2, χ21)))
set_option maxHeartbeats 4000000 in
noncomputable def fx_meets (x1 : Int32) (μ : nwX) : Option (Int32 × nwX) := (fi_isIn x1 (nI 0) (nI 1) ()).bind fun v1 => (if v1 = 0 then some ((-1), μ) else (fx_lastWanted μ).bind fun v4 => (xt_ μ 2 0 (fs_thinks (μ.2.1 0) (μ.2.1 2))).bind fun χ6 => (wh_ (fx_meets_L45 x1 (mn_ (((μ.2.1 0) 15 0) + (nI 99)) v4)) (nI 0, (-1), χ6)).bind fun x22 => (if x1 = 0 then some (x22.1, x22.2.2) else some (x22.2.1, x22.2.2)))
set_option maxHeartbeats 4000000 in
theorem fx_meets_L67_w {p : Program} {l : Launch} {e : Env} {s : State} {m : MethodId} {args : Array Value} {below : List Frame} {meth : Method} {c : Code} {D : va_G} {dT : Nat → ClassId} {Q : State → Prop} {g : Nat} (E : CallFix p m c cX0_meets 8 s args lw_all RX0) (hK : va_K D nwCl (nwT dT) s) (hE : EV D dT s) (x1 : Int32) (x4 : Int32) (μ : nwX) {st : Int32 × Int32 × Int32} {x : Int32 × Int32} (hw : wh_ (fx_meets_L67 x1 x4 μ) st = some x) (hk : (fun x : Int32 × Int32 => ∀ (ls : Array Slot) (H : Heap) (locs : List Loc), lv_has ls 8 [(0, .ref g), (1, .int x1), (2, .int x.1), (3, .int x.2), (4, .int x4)] → PX D dT g μ H → va_S (xA g) s.heap H locs → W p l e (rmd 409) s m args below meth c H locs 0 0 Q (F0 m 168 ls [])) x) : (fun st : Int32 × Int32 × Int32 => ∀ (ls : Array Slot) (H : Heap) (locs : List Loc), lv_has ls 8 [(0, .ref g), (1, .int x1), (2, .int st.1), (3, .int st.2.1), (4, .int x4), (5, .int st.2.2)] → PX D dT g μ H → va_S (xA g) s.heap H locs → W p l e (rmd 409) s m args below meth c H locs 0 0 Q (F0 m 67 ls [])) st := by
  obtain ⟨hx, hb, hml, hown, hts⟩ := id E
  refine wh_run (P := (fun st : Int32 × Int32 × Int32 => ∀ (ls : Array Slot) (H : Heap) (locs : List Loc), lv_has ls 8 [(0, .ref g), (1, .int x1), (2, .int st.1), (3, .int st.2.1), (4, .int x4), (5, .int st.2.2)] → PX D dT g μ H → va_S (xA g) s.heap H locs → W p l e (rmd 409) s m args below meth c H locs 0 0 Q (F0 m 67 ls []))) (PE := (fun x : Int32 × Int32 => ∀ (ls : Array Slot) (H : Heap) (locs : List Loc), lv_has ls 8 [(0, .ref g), (1, .int x1), (2, .int x.1), (3, .int x.2), (4, .int x4)] → PX D dT g μ H → va_S (xA g) s.heap H locs → W p l e (rmd 409) s m args below meth c H locs 0 0 Q (F0 m 168 ls []))) ?_ hw hk
  clear hw hk
  intro st x hf hk ls H locs hl hP hS
  refine lv_iload hx hb dX0_meets_67 (lv_at hl 5 rfl) ?_
  refine lv_aload_n hx hb dX0_meets_69 rfl (lv_at hl 0 rfl) ?_
  refine gp_get (C := RX0) (T := TX0) E hK hP.1 (shO_g g) rfl in_X0 4 (by decide) (hts _ q337) (fun _ z => z) vO_4 dX0_meets_70 ?_
  refine gp_getN (C := RX1) (T := TX1) E hK (hP.2.1 0 (by decide)).1 (shS_h _) rfl in_X1 11 (by decide) (nfw_10 hE.2) (fun _ z => z) (vS_l (by decide) (by decide)) dX0_meets_73 ?_
  refine lx_size E hE ((hP.2.1 0 (by decide)).2.2.2.1) hS (lw_V q801 q630 q631 q165 q632) (by decide) hl (Nat.le_of_ble_eq_true rfl) dX0_meets_76 (fun H1 locs1 hq1 hS => ?_)
  have hP := PX_same hP (hz_all hq1) hq1
  refine lv_icmp_ge (tgt := 168) hx hb dX0_meets_79 (by decide) (fun kc10 => ?_) (fun kc10 => ?_)
  · have hf := ite_t kc10 hf
    cases hf
    exact hk _ _ _ (lv_sub hl [0, 1, 2, 3, 4] rfl) hP hS
  · have hf := ite_f kc10 hf
    refine lv_aload_n hx hb dX0_meets_82 rfl (lv_at hl 0 rfl) ?_
    refine gp_get (C := RX0) (T := TX0) E hK hP.1 (shO_g g) rfl in_X0 4 (by decide) (hts _ q337) (fun _ z => z) vO_4 dX0_meets_83 ?_
    refine gp_getN (C := RX1) (T := TX1) E hK (hP.2.1 0 (by decide)).1 (shS_h _) rfl in_X1 11 (by decide) (nfw_10 hE.2) (fun _ z => z) (vS_l (by decide) (by decide)) dX0_meets_86 ?_
    refine lv_iload hx hb dX0_meets_89 (lv_at hl 5 rfl) ?_
    obtain ⟨e11, he11, hf⟩ := ob hf
    refine lx_get E hE ((hP.2.1 0 (by decide)).2.2.2.1) he11 hS (lw_V q1251 q1011 q1012 q165 q1013) (by decide) hl (Nat.le_of_ble_eq_true rfl) dX0_meets_91 (fun be11 H1 locs1 ge11 hq1 hS => ?_)
    have hP := PX_same hP (hz_all hq1) hq1
    have ge11 := (gK_W D).1 _ _ _ _ _ (fun q z _ => hq1 q z) ge11
    refine wa_cast E hE ge11 q1252 dX0_meets_94 ?_
    refine lv_astore (lv' := [(6, .ref be11), (0, .ref g), (1, .int x1), (2, .int st.1), (3, .int st.2.1), (4, .int x4), (5, .int st.2.2)]) hx hb dX0_meets_97 hl (by decide) rfl (fun ls hl => ?_)
    refine lv_aload hx hb dX0_meets_99 (lv_at hl 0 rfl) ?_
    refine wa_day E hE ge11 dX0_meets_101 ?_
    refine lv_aload_n hx hb dX0_meets_104 rfl (lv_at hl 1 rfl) ?_
    refine gp_get (C := RX0) (T := TX0) E hK hP.1 (shO_g g) rfl in_X0 6 (by decide) (hts _ q340) (fun _ z => z) vO_6 dX0_meets_105 ?_
    refine gp_getN (C := RX1) (T := TX1) E hK (hP.2.1 2 (by decide)).1 (shS_h _) rfl in_X1 15 (by decide) (nfw_14 hE.2) (fun _ z => z) (vS_i (by decide)) dX0_meets_108 ?_
    refine lv_icmp_eq (tgt := 117) hx hb dX0_meets_111 (by decide) (fun kc12 => ?_) (fun kc12 => ?_)
    · have hf := ite_t kc12 hf
      refine lv_aload hx hb dX0_meets_117 (lv_at hl 0 rfl) ?_
      refine lv_aload_n hx hb dX0_meets_119 rfl (lv_at hl 1 rfl) ?_
      refine gp_get (C := RX0) (T := TX0) E hK hP.1 (shO_g g) rfl in_X0 6 (by decide) (hts _ q340) (fun _ z => z) vO_6 dX0_meets_120 ?_
      obtain ⟨v13, hv13, hf⟩ := ob hf
      refine wa_isMet E hE ge11 (hP.2.1 2 (by decide)).1 hv13 hS (by decide) hl (Nat.le_of_ble_eq_true rfl) dX0_meets_123 (fun H1 locs1 hq1 hS => ?_)
      have hP := PX_same hP (hz_all hq1) hq1
      have ge11 := (gK_W D).1 _ _ _ _ _ (fun q z _ => hq1 q z) ge11
      refine lv_istore (lv' := [(7, .int v13), (6, .ref be11), (0, .ref g), (1, .int x1), (2, .int st.1), (3, .int st.2.1), (4, .int x4), (5, .int st.2.2)]) hx hb dX0_meets_126 hl (by decide) rfl (fun ls hl => ?_)
      refine lv_iload_n hx hb dX0_meets_128 rfl (lv_at hl 4 rfl) ?_
      refine lv_iload hx hb dX0_meets_129 (lv_at hl 0 rfl) ?_
      refine lv_if_eq (tgt := 142) hx hb dX0_meets_131 (by decide) (fun kc14 => ?_) (fun kc14 => ?_)
      · have hf := ite_t kc14 hf
        refine lv_iconst (v := nI 0) hx hb dX0_meets_142 rfl ?_
        refine lv_iadd hx hb dX0_meets_143 ?_
        refine lv_istore_n (lv' := [(2, .int (st.1 + (nI 0))), (7, .int v13), (6, .ref be11), (0, .ref g), (1, .int x1), (3, .int st.2.1), (4, .int x4), (5, .int st.2.2)]) hx hb dX0_meets_144 rfl hl (by decide) rfl (fun ls hl => ?_)
        refine lv_iload hx hb dX0_meets_145 (lv_at hl 1 rfl) ?_
        refine lv_if_ne (tgt := 155) hx hb dX0_meets_147 (by decide) (fun kc15 => ?_) (fun kc15 => ?_)
        · have hf := ite_f kc15 hf
          refine lv_iload_n hx hb dX0_meets_155 rfl (lv_at hl 5 rfl) ?_
          refine lv_goto (tgt := 161) hx hb dX0_meets_156 (by decide) ?_
          refine lv_istore_n (lv' := [(3, .int st.2.1), (2, .int (st.1 + (nI 0))), (7, .int v13), (6, .ref be11), (0, .ref g), (1, .int x1), (4, .int x4), (5, .int st.2.2)]) hx hb dX0_meets_161 rfl hl (by decide) rfl (fun ls hl => ?_)
          refine lv_iinc (v := st.2.2 + nI 1) (lv' := [(5, .int (st.2.2 + nI 1)), (3, .int st.2.1), (2, .int (st.1 + (nI 0))), (7, .int v13), (6, .ref be11), (0, .ref g), (1, .int x1), (4, .int x4)]) hx hb dX0_meets_162 hl (k := 7) rfl rfl (by decide) rfl (fun ls hl => ?_)
          refine lv_goto (tgt := 67) hx hb dX0_meets_165 (by decide) ?_
          cases hf
          exact hk _ _ _ (lv_sub hl [5, 6, 2, 1, 7, 0] rfl) hP hS
        · have hf := ite_t kc15 hf
          refine lv_iload_n hx hb dX0_meets_150 rfl (lv_at hl 5 rfl) ?_
          refine lv_iconst (v := (-1)) hx hb dX0_meets_151 rfl ?_
          refine lv_icmp_eq (tgt := 159) hx hb dX0_meets_152 (by decide) (fun kc16 => ?_) (fun kc16 => ?_)
          · have hf := ite_t kc16 hf
            refine lv_iload hx hb dX0_meets_159 (lv_at hl 7 rfl) ?_
            refine lv_istore_n (lv' := [(3, .int st.2.2), (2, .int (st.1 + (nI 0))), (7, .int v13), (6, .ref be11), (0, .ref g), (1, .int x1), (4, .int x4), (5, .int st.2.2)]) hx hb dX0_meets_161 rfl hl (by decide) rfl (fun ls hl => ?_)
            refine lv_iinc (v := st.2.2 + nI 1) (lv' := [(5, .int (st.2.2 + nI 1)), (3, .int st.2.2), (2, .int (st.1 + (nI 0))), (7, .int v13), (6, .ref be11), (0, .ref g), (1, .int x1), (4, .int x4)]) hx hb dX0_meets_162 hl (k := 7) rfl rfl (by decide) rfl (fun ls hl => ?_)
            refine lv_goto (tgt := 67) hx hb dX0_meets_165 (by decide) ?_
            cases hf
            exact hk _ _ _ (lv_sub hl [5, 6, 2, 1, 7, 0] rfl) hP hS
          · have hf := ite_f kc16 hf
            refine lv_iload_n hx hb dX0_meets_155 rfl (lv_at hl 5 rfl) ?_
            refine lv_goto (tgt := 161) hx hb dX0_meets_156 (by decide) ?_
            refine lv_istore_n (lv' := [(3, .int st.2.1), (2, .int (st.1 + (nI 0))), (7, .int v13), (6, .ref be11), (0, .ref g), (1, .int x1), (4, .int x4), (5, .int st.2.2)]) hx hb dX0_meets_161 rfl hl (by decide) rfl (fun ls hl => ?_)
            refine lv_iinc (v := st.2.2 + nI 1) (lv' := [(5, .int (st.2.2 + nI 1)), (3, .int st.2.1), (2, .int (st.1 + (nI 0))), (7, .int v13), (6, .ref be11), (0, .ref g), (1, .int x1), (4, .int x4)]) hx hb dX0_meets_162 hl (k := 7) rfl rfl (by decide) rfl (fun ls hl => ?_)
            refine lv_goto (tgt := 67) hx hb dX0_meets_165 (by decide) ?_
            cases hf
            exact hk _ _ _ (lv_sub hl [5, 6, 2, 1, 7, 0] rfl) hP hS
      · have hf := ite_f kc14 hf
        refine lv_aload hx hb dX0_meets_134 (lv_at hl 1 rfl) ?_
        refine wa_worth E hE ge11 dX0_meets_136 ?_
        refine lv_goto (tgt := 143) hx hb dX0_meets_139 (by decide) ?_
        refine lv_iadd hx hb dX0_meets_143 ?_
        refine lv_istore_n (lv' := [(2, .int (st.1 + e11.2.2.2.2)), (7, .int v13), (6, .ref be11), (0, .ref g), (1, .int x1), (3, .int st.2.1), (4, .int x4), (5, .int st.2.2)]) hx hb dX0_meets_144 rfl hl (by decide) rfl (fun ls hl => ?_)
        refine lv_iload hx hb dX0_meets_145 (lv_at hl 1 rfl) ?_
        refine lv_if_ne (tgt := 155) hx hb dX0_meets_147 (by decide) (fun kc17 => ?_) (fun kc17 => ?_)
        · have hf := ite_f kc17 hf
          refine lv_iload_n hx hb dX0_meets_155 rfl (lv_at hl 5 rfl) ?_
          refine lv_goto (tgt := 161) hx hb dX0_meets_156 (by decide) ?_
          refine lv_istore_n (lv' := [(3, .int st.2.1), (2, .int (st.1 + e11.2.2.2.2)), (7, .int v13), (6, .ref be11), (0, .ref g), (1, .int x1), (4, .int x4), (5, .int st.2.2)]) hx hb dX0_meets_161 rfl hl (by decide) rfl (fun ls hl => ?_)
          refine lv_iinc (v := st.2.2 + nI 1) (lv' := [(5, .int (st.2.2 + nI 1)), (3, .int st.2.1), (2, .int (st.1 + e11.2.2.2.2)), (7, .int v13), (6, .ref be11), (0, .ref g), (1, .int x1), (4, .int x4)]) hx hb dX0_meets_162 hl (k := 7) rfl rfl (by decide) rfl (fun ls hl => ?_)
          refine lv_goto (tgt := 67) hx hb dX0_meets_165 (by decide) ?_
          cases hf
          exact hk _ _ _ (lv_sub hl [5, 6, 2, 1, 7, 0] rfl) hP hS
        · have hf := ite_t kc17 hf
          refine lv_iload_n hx hb dX0_meets_150 rfl (lv_at hl 5 rfl) ?_
          refine lv_iconst (v := (-1)) hx hb dX0_meets_151 rfl ?_
          refine lv_icmp_eq (tgt := 159) hx hb dX0_meets_152 (by decide) (fun kc18 => ?_) (fun kc18 => ?_)
          · have hf := ite_t kc18 hf
            refine lv_iload hx hb dX0_meets_159 (lv_at hl 7 rfl) ?_
            refine lv_istore_n (lv' := [(3, .int st.2.2), (2, .int (st.1 + e11.2.2.2.2)), (7, .int v13), (6, .ref be11), (0, .ref g), (1, .int x1), (4, .int x4), (5, .int st.2.2)]) hx hb dX0_meets_161 rfl hl (by decide) rfl (fun ls hl => ?_)
            refine lv_iinc (v := st.2.2 + nI 1) (lv' := [(5, .int (st.2.2 + nI 1)), (3, .int st.2.2), (2, .int (st.1 + e11.2.2.2.2)), (7, .int v13), (6, .ref be11), (0, .ref g), (1, .int x1), (4, .int x4)]) hx hb dX0_meets_162 hl (k := 7) rfl rfl (by decide) rfl (fun ls hl => ?_)
            refine lv_goto (tgt := 67) hx hb dX0_meets_165 (by decide) ?_
            cases hf
            exact hk _ _ _ (lv_sub hl [5, 6, 2, 1, 7, 0] rfl) hP hS
          · have hf := ite_f kc18 hf
            refine lv_iload_n hx hb dX0_meets_155 rfl (lv_at hl 5 rfl) ?_
            refine lv_goto (tgt := 161) hx hb dX0_meets_156 (by decide) ?_
            refine lv_istore_n (lv' := [(3, .int st.2.1), (2, .int (st.1 + e11.2.2.2.2)), (7, .int v13), (6, .ref be11), (0, .ref g), (1, .int x1), (4, .int x4), (5, .int st.2.2)]) hx hb dX0_meets_161 rfl hl (by decide) rfl (fun ls hl => ?_)
            refine lv_iinc (v := st.2.2 + nI 1) (lv' := [(5, .int (st.2.2 + nI 1)), (3, .int st.2.1), (2, .int (st.1 + e11.2.2.2.2)), (7, .int v13), (6, .ref be11), (0, .ref g), (1, .int x1), (4, .int x4)]) hx hb dX0_meets_162 hl (k := 7) rfl rfl (by decide) rfl (fun ls hl => ?_)
            refine lv_goto (tgt := 67) hx hb dX0_meets_165 (by decide) ?_
            cases hf
            exact hk _ _ _ (lv_sub hl [5, 6, 2, 1, 7, 0] rfl) hP hS
    · have hf := ite_f kc12 hf
      refine lv_goto (tgt := 162) hx hb dX0_meets_114 (by decide) ?_
      refine lv_iinc (v := st.2.2 + nI 1) (lv' := [(5, .int (st.2.2 + nI 1)), (6, .ref be11), (0, .ref g), (1, .int x1), (2, .int st.1), (3, .int st.2.1), (4, .int x4)]) hx hb dX0_meets_162 hl (k := 6) rfl rfl (by decide) rfl (fun ls hl => ?_)
      refine lv_goto (tgt := 67) hx hb dX0_meets_165 (by decide) ?_
      cases hf
      exact hk _ _ _ (lv_sub hl [2, 3, 4, 5, 6, 0] rfl) hP hS
set_option maxHeartbeats 4000000 in
theorem fx_meets_L45_w {p : Program} {l : Launch} {e : Env} {s : State} {m : MethodId} {args : Array Value} {below : List Frame} {meth : Method} {c : Code} {D : va_G} {dT : Nat → ClassId} {Q : State → Prop} {g : Nat} (E : CallFix p m c cX0_meets 8 s args lw_all RX0) (hK : va_K D nwCl (nwT dT) s) (hE : EV D dT s) (x1 : Int32) (x4 : Int32) {st : Int32 × Int32 × nwX} {x : Int32 × Int32 × nwX} (hw : wh_ (fx_meets_L45 x1 x4) st = some x) (hk : (fun x : Int32 × Int32 × nwX => ∀ (ls : Array Slot) (H : Heap) (locs : List Loc), lv_has ls 8 [(1, .int x1), (2, .int x.1), (3, .int x.2.1)] → PX D dT g x.2.2 H → va_S (xA g) s.heap H locs → W p l e (rmd 409) s m args below meth c H locs 0 0 Q (F0 m 179 ls [])) x) : (fun st : Int32 × Int32 × nwX => ∀ (ls : Array Slot) (H : Heap) (locs : List Loc), lv_has ls 8 [(0, .ref g), (1, .int x1), (2, .int st.1), (3, .int st.2.1), (4, .int x4)] → PX D dT g st.2.2 H → va_S (xA g) s.heap H locs → W p l e (rmd 409) s m args below meth c H locs 0 0 Q (F0 m 45 ls [])) st := by
  obtain ⟨hx, hb, hml, hown, hts⟩ := id E
  refine wh_run (P := (fun st : Int32 × Int32 × nwX => ∀ (ls : Array Slot) (H : Heap) (locs : List Loc), lv_has ls 8 [(0, .ref g), (1, .int x1), (2, .int st.1), (3, .int st.2.1), (4, .int x4)] → PX D dT g st.2.2 H → va_S (xA g) s.heap H locs → W p l e (rmd 409) s m args below meth c H locs 0 0 Q (F0 m 45 ls []))) (PE := (fun x : Int32 × Int32 × nwX => ∀ (ls : Array Slot) (H : Heap) (locs : List Loc), lv_has ls 8 [(1, .int x1), (2, .int x.1), (3, .int x.2.1)] → PX D dT g x.2.2 H → va_S (xA g) s.heap H locs → W p l e (rmd 409) s m args below meth c H locs 0 0 Q (F0 m 179 ls []))) ?_ hw hk
  clear hw hk
  intro st x hf hk ls H locs hl hP hS
  refine lv_aload_n hx hb dX0_meets_45 rfl (lv_at hl 0 rfl) ?_
  refine gp_get (C := RX0) (T := TX0) E hK hP.1 (shO_g g) rfl in_X0 6 (by decide) (hts _ q340) (fun _ z => z) vO_6 dX0_meets_46 ?_
  refine gp_getN (C := RX1) (T := TX1) E hK (hP.2.1 2 (by decide)).1 (shS_h _) rfl in_X1 15 (by decide) (nfw_14 hE.2) (fun _ z => z) (vS_i (by decide)) dX0_meets_49 ?_
  refine lv_iload hx hb dX0_meets_52 (lv_at hl 4 rfl) ?_
  refine lv_icmp_gt (tgt := 179) hx hb dX0_meets_54 (by decide) (fun kc7 => ?_) (fun kc7 => ?_)
  · have hf := ite_t kc7 hf
    cases hf
    exact hk _ _ _ (lv_sub hl [1, 2, 3] rfl) hP hS
  · have hf := ite_f kc7 hf
    refine lv_aload_n hx hb dX0_meets_57 rfl (lv_at hl 0 rfl) ?_
    refine gp_get (C := RX0) (T := TX0) E hK hP.1 (shO_g g) rfl in_X0 6 (by decide) (hts _ q340) (fun _ z => z) vO_6 dX0_meets_58 ?_
    obtain ⟨χ9, hc8, hf⟩ := ob hf
    obtain ⟨sχ9, hc8, eχ9⟩ := xs_in hc8
    refine gx_callv E hE (Pic := fun H => PS D dT (skA g 2) (st.2.2.2.1 2) (st.2.2.2.2.2.1 2) H ∧ LR D dT (sA (skA g 2)) (st.2.2.2.2.2.1 2) (st.2.2.2.2.2.2 2) H) (Pic1 := fun H => PS D dT (skA g 2) sχ9 (st.2.2.2.2.2.1 2) H) ⟨(hP.2.1 2 (by decide)).1, (hP.2.1 2 (by decide)).2.weak (fun _ z => xA_s (by decide) z)⟩ hS (fun _ z => xA_s (by decide) z) (As := []) (ts_morning l D dT (skA g 2) (st.2.2.2.2.2.1 2) (st.2.2.2.2.2.2 2) (st.2.2.2.1 2) _ hc8) (g_recv hK (hP.2.1 2 (by decide)).1 (shS_h _) rfl) (lw_V q1111 q1112 q1113 q162 q1114) ds_morning rfl (by decide) (by decide) hl rfl (Nat.le_of_ble_eq_true rfl) dX0_meets_61 (fun H1 locs1 hG hz1 hq1 hS => ?_)
    have hP := PX_set hP (by decide) hG hz1 hq1
    rw [← eχ9] at hP
    refine lv_iconst (v := nI 0) hx hb dX0_meets_64 rfl ?_
    refine lv_istore (lv' := [(5, .int (nI 0)), (0, .ref g), (1, .int x1), (2, .int st.1), (3, .int st.2.1), (4, .int x4)]) hx hb dX0_meets_65 hl (by decide) rfl (fun ls hl => ?_)
    obtain ⟨x19, hx19, hf⟩ := ob hf
    refine fx_meets_L67_w E hK hE x1 x4 χ9 hx19 (fun ls H locs hl hP hS => ?_) _ _ _ (lv_sub hl [1, 2, 3, 4, 5, 0] rfl) hP hS
    refine lv_aload_n hx hb dX0_meets_168 rfl (lv_at hl 0 rfl) ?_
    refine gp_get (C := RX0) (T := TX0) E hK hP.1 (shO_g g) rfl in_X0 6 (by decide) (hts _ q340) (fun _ z => z) vO_6 dX0_meets_169 ?_
    refine lv_iconst (v := nI 0) hx hb dX0_meets_172 rfl ?_
    obtain ⟨χ21, hc20, hf⟩ := ob hf
    obtain ⟨sχ21, hc20, eχ21⟩ := xs_in hc20
    refine gx_callv E hE (Pic := fun H => PS D dT (skA g 2) (χ9.2.1 2) (χ9.2.2.2.1 2) H ∧ LR D dT (sA (skA g 2)) (χ9.2.2.2.1 2) (χ9.2.2.2.2 2) H) (Pic1 := fun H => PS D dT (skA g 2) sχ21 (χ9.2.2.2.1 2) H) ⟨(hP.2.1 2 (by decide)).1, (hP.2.1 2 (by decide)).2.weak (fun _ z => xA_s (by decide) z)⟩ hS (fun _ z => xA_s (by decide) z) (As := [.int (nI 0)]) (ts_evening l D dT (skA g 2) (χ9.2.2.2.1 2) (nI 0) (χ9.2.2.2.2 2) (χ9.2.1 2) _ hc20) (g_recv hK (hP.2.1 2 (by decide)).1 (shS_h _) rfl) (lw_V q1158 q1159 q1160 q162 q1161) ds_evening rfl (by decide) (by decide) hl rfl (Nat.le_of_ble_eq_true rfl) dX0_meets_173 (fun H1 locs1 hG hz1 hq1 hS => ?_)
    have hP := PX_set hP (by decide) hG hz1 hq1
    rw [← eχ21] at hP
    refine lv_goto (tgt := 45) hx hb dX0_meets_176 (by decide) ?_
    cases hf
    exact hk _ _ _ (lv_sub hl [0, 1, 2, 3, 4] rfl) hP hS
set_option maxHeartbeats 4000000 in
theorem dx_meets : yX0_meets.cls = RX0 ∧ yX0_meets.cls ≠ "java/lang/invoke/MethodHandle" ∧ yX0_meets.cls ≠ "java/lang/invoke/VarHandle" ∧ (parseMethodDescriptor yX0_meets.desc).map (fun d => d.parameters.length) = some 1 := ⟨rfl, by decide +kernel, by decide +kernel, by decide +kernel⟩
set_option maxHeartbeats 4000000 in
theorem tx_meets (l : Launch) (D : va_G) (dT : Nat → ClassId) (g : Nat) (x1 : Int32) (μ : nwX) (res : Int32 × nwX) (hf : fx_meets x1 μ = some res) : Met l yX0_meets (ws_ yX0_meets cX0_meets 8 (some .int)) (rmd 409) (va_Pc [.ref g, .int x1] (fun U => PX D dT g μ U.heap ∧ EV D dT U)) (va_Qi (fun r' (_ : Unit) => r' = res.1) (fun _ t => PX D dT g res.2 t.heap) (xA g)) 0 0 (xA g) := by
  refine g_met (D := D) (dT := dT) (A := xA g) (own := RX0) (Pic := fun H => PX D dT g μ H) (by decide) rfl (Nat.le_of_ble_eq_true rfl) ?_
  intro p e s m below meth c ls E hE hr hlk hl hP
  have hK := hE.1
  have hS : va_S (xA g) s.heap s.heap [] := va_S.rf
  obtain ⟨hx, hb, hml, hown, hts⟩ := id E
  have hl : lv_has ls 8 [(0, .ref g), (1, .int x1)] := hl
  unfold fx_meets at hf
  refine lv_iload_n hx hb dX0_meets_0 rfl (lv_at hl 1 rfl) ?_
  refine lv_iconst (v := nI 0) hx hb dX0_meets_1 rfl ?_
  refine lv_iconst (v := nI 1) hx hb dX0_meets_2 rfl ?_
  obtain ⟨v1, hv1, hf⟩ := ob hf
  refine p_calli E hS (As := [.int x1, .int (nI 0), .int (nI 1)]) (ti_isIn l x1 (nI 0) (nI 1) _ hv1) (lw_S q386 q387 q161 q388) di_isIn rfl (by decide) (by decide) hl rfl (Nat.le_of_ble_eq_true rfl) dX0_meets_3 (fun H1 locs1 hq1 hS => ?_)
  have hP := PX_same hP (hz_all hq1) hq1
  refine lv_if_ne (tgt := 11) hx hb dX0_meets_6 (by decide) (fun kc2 => ?_) (fun kc2 => ?_)
  · have hf := ite_f kc2 hf
    refine lv_iconst (v := nI 0) hx hb dX0_meets_11 rfl ?_
    refine lv_istore_n (lv' := [(2, .int (nI 0)), (0, .ref g), (1, .int x1)]) hx hb dX0_meets_12 rfl hl (by decide) rfl (fun ls hl => ?_)
    refine lv_iconst (v := (-1)) hx hb dX0_meets_13 rfl ?_
    refine lv_istore_n (lv' := [(3, .int (-1)), (2, .int (nI 0)), (0, .ref g), (1, .int x1)]) hx hb dX0_meets_14 rfl hl (by decide) rfl (fun ls hl => ?_)
    refine lv_aload_n hx hb dX0_meets_15 rfl (lv_at hl 2 rfl) ?_
    refine gp_get (C := RX0) (T := TX0) E hK hP.1 (shO_g g) rfl in_X0 4 (by decide) (hts _ q337) (fun _ z => z) vO_4 dX0_meets_16 ?_
    refine gp_getN (C := RX1) (T := TX1) E hK (hP.2.1 0 (by decide)).1 (shS_h _) rfl in_X1 15 (by decide) (nfw_14 hE.2) (fun _ z => z) (vS_i (by decide)) dX0_meets_19 ?_
    refine lv_bipush (v := nI 99) hx hb dX0_meets_22 rfl ?_
    refine lv_iadd hx hb dX0_meets_24 ?_
    refine lv_aload_n hx hb dX0_meets_25 rfl (lv_at hl 2 rfl) ?_
    obtain ⟨v4, hc3, hf⟩ := ob hf
    refine gx_calli E hE (Pic := fun H => PX D dT g μ H) (Pic1 := fun H => PX D dT g μ H) hP hS (fun _ z => z.elim) (As := []) (tx_lastWanted l D dT g μ _ hc3) (g_recv hK hP.1 (shO_g g) rfl) (lw_V q1247 q1249 qs46 q161 q1250) dx_lastWanted rfl (by decide) (by decide) hl rfl (Nat.le_of_ble_eq_true rfl) dX0_meets_26 (fun H locs hP _ _ hS => ?_)
    refine mn_calli E (by decide) hl q1254 q794 q182 q795 (Nat.le_of_ble_eq_true rfl) dX0_meets_29 ?_
    refine lv_nm (y := mn_ (((μ.2.1 0) 15 0) + (nI 99)) v4) rfl ?_
    refine lv_istore (lv' := [(4, .int (mn_ (((μ.2.1 0) 15 0) + (nI 99)) v4)), (3, .int (-1)), (2, .int (nI 0)), (0, .ref g), (1, .int x1)]) hx hb dX0_meets_32 hl (by decide) rfl (fun ls hl => ?_)
    refine lv_aload_n hx hb dX0_meets_34 rfl (lv_at hl 3 rfl) ?_
    refine gp_get (C := RX0) (T := TX0) E hK hP.1 (shO_g g) rfl in_X0 6 (by decide) (hts _ q340) (fun _ z => z) vO_6 dX0_meets_35 ?_
    refine lv_aload_n hx hb dX0_meets_38 rfl (lv_at hl 3 rfl) ?_
    refine gp_get (C := RX0) (T := TX0) E hK hP.1 (shO_g g) rfl in_X0 4 (by decide) (hts _ q337) (fun _ z => z) vO_4 dX0_meets_39 ?_
    obtain ⟨χ6, hc5, hf⟩ := ob hf
    obtain ⟨sχ6, hc5, eχ6⟩ := xt_in hc5
    refine gx_callv E hE (Pic := fun H => PS D dT (skA g 2) (μ.2.1 2) (μ.2.2.2.1 2) H ∧ (PS D dT (skA g 0) (μ.2.1 0) (μ.2.2.2.1 0) H ∧ ∀ q, shS (skA g 0) q ≠ none → ¬ sA (skA g 2) q)) (Pic1 := fun H => PS D dT (skA g 2) sχ6 (μ.2.2.2.1 0) H) ⟨(hP.2.1 2 (by decide)).1, (hP.2.1 0 (by decide)).1, fun q hq1 hq2 => absurd (skA_ap (by decide) (by decide) (shS_in hq1) hq2) (by omega)⟩ hS (fun _ z => xA_s (by decide) z) (As := [.ref (skA g 0)]) (ts_thinks l D dT (skA g 2) (μ.2.2.2.1 2) (skA g 0) (μ.2.1 0) (μ.2.2.2.1 0) (μ.2.1 2) _ hc5) (g_recv hK (hP.2.1 2 (by decide)).1 (shS_h _) rfl) (lw_V q1212 q1213 q1214 q162 q1215) ds_thinks rfl (by decide) (by decide) hl rfl (Nat.le_of_ble_eq_true rfl) dX0_meets_42 (fun H1 locs1 hG hz1 hq1 hS => ?_)
    have hP := PX_think hP (by decide) (by decide) hG hz1 hq1
    rw [← eχ6] at hP
    obtain ⟨x22, hx22, hf⟩ := ob hf
    refine fx_meets_L45_w E hK hE x1 (mn_ (((μ.2.1 0) 15 0) + (nI 99)) v4) hx22 (fun ls H locs hl hP hS => ?_) _ _ _ (lv_sub hl [3, 4, 2, 1, 0] rfl) hP hS
    refine lv_iload_n hx hb dX0_meets_179 rfl (lv_at hl 0 rfl) ?_
    refine lv_if_ne (tgt := 187) hx hb dX0_meets_180 (by decide) (fun kc23 => ?_) (fun kc23 => ?_)
    · have hf := ite_f kc23 hf
      refine lv_iload_n hx hb dX0_meets_187 rfl (lv_at hl 2 rfl) ?_
      cases hf
      exact g_iret (Pic := fun H => PX D dT g _ H) E hr hlk hP hS rfl dX0_meets_188
    · have hf := ite_t kc23 hf
      refine lv_iload_n hx hb dX0_meets_183 rfl (lv_at hl 1 rfl) ?_
      refine lv_goto (tgt := 188) hx hb dX0_meets_184 (by decide) ?_
      cases hf
      exact g_iret (Pic := fun H => PX D dT g _ H) E hr hlk hP hS rfl dX0_meets_188
  · have hf := ite_t kc2 hf
    refine lv_iconst (v := (-1)) hx hb dX0_meets_9 rfl ?_
    cases hf
    exact g_iret (Pic := fun H => PX D dT g _ H) E hr hlk hP hS rfl dX0_meets_10
