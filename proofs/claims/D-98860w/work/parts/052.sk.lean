/-! walks, written by my programs -/
set_option maxRecDepth 100000
set_option maxHeartbeats 4000000 in
def fs_graves_L2 : (Int32 × nwM) → Option ((Int32 × nwM) ⊕ (nwM)) := fun st => (if (st.2 13 0) ≤ st.1 then some (.inr st.2) else (rd_ st.2 6 12 st.1).bind fun v2 => (if v2 = (nI 1) then (rd_ st.2 5 12 st.1).bind fun v4 => (rw_ 8 v4).bind fun r5 => (rd_ st.2 3 12 st.1).bind fun v6 => (rd_ st.2 5 12 st.1).bind fun v7 => (rw_ 8 v7).bind fun r8 => (rd_ st.2 3 12 st.1).bind fun v9 => (rr_ st.2 0 r8 v9).bind fun v10 => (rd_ st.2 4 12 st.1).bind fun v11 => (ww_ st.2 0 r5 v6 (mn_ (nI 99) (v10 + ((v11 + (nI 1)) / (nI 2))))).bind fun μ12 => some (.inl (st.1 + nI 1, μ12)) else some (.inl (st.1 + nI 1, st.2))))
set_option maxHeartbeats 4000000 in
noncomputable def fs_graves (μ : nwM) : Option (nwM) := (wh_ (fs_graves_L2) (nI 0, μ)).bind fun x13 => some x13
set_option maxHeartbeats 4000000 in
theorem fs_graves_L2_w {p : Program} {l : Launch} {e : Env} {s : State} {m : MethodId} {args : Array Value} {below : List Frame} {meth : Method} {c : Code} {D : va_G} {dT : Nat → ClassId} {Q : State → Prop} {h : Nat} {ρ : Nat → Nat} (E : CallFix p m c cX1_graves 2 s args lw_all RX1) (hK : va_K D nwCl (nwT dT) s) (hE : EV D dT s) {st : Int32 × nwM} {x : nwM} (hw : wh_ (fs_graves_L2) st = some x) (hk : (fun x : nwM => ∀ (ls : Array Slot) (H : Heap) (locs : List Loc), lv_has ls 2 [] → PS D dT h x ρ H → va_S (sA h) s.heap H locs → W p l e (rmd 1) s m args below meth c H locs 0 0 Q (F0 m 78 ls [])) x) : (fun st : Int32 × nwM => ∀ (ls : Array Slot) (H : Heap) (locs : List Loc), lv_has ls 2 [(0, .ref h), (1, .int st.1)] → PS D dT h st.2 ρ H → va_S (sA h) s.heap H locs → W p l e (rmd 1) s m args below meth c H locs 0 0 Q (F0 m 2 ls [])) st := by
  obtain ⟨hx, hb, hml, hown, hts⟩ := id E
  refine wh_run (P := (fun st : Int32 × nwM => ∀ (ls : Array Slot) (H : Heap) (locs : List Loc), lv_has ls 2 [(0, .ref h), (1, .int st.1)] → PS D dT h st.2 ρ H → va_S (sA h) s.heap H locs → W p l e (rmd 1) s m args below meth c H locs 0 0 Q (F0 m 2 ls []))) (PE := (fun x : nwM => ∀ (ls : Array Slot) (H : Heap) (locs : List Loc), lv_has ls 2 [] → PS D dT h x ρ H → va_S (sA h) s.heap H locs → W p l e (rmd 1) s m args below meth c H locs 0 0 Q (F0 m 78 ls []))) ?_ hw hk
  clear hw hk
  intro st x hf hk ls H locs hl hP hS
  refine lv_iload_n hx hb dX1_graves_2 rfl (lv_at hl 1 rfl) ?_
  refine lv_aload_n hx hb dX1_graves_3 rfl (lv_at hl 0 rfl) ?_
  refine gp_get (C := RX1) (T := TX1) E hK hP (shS_h h) rfl in_X1 13 (by decide) (hts _ q265) (fun _ z => z) (vS_i (by decide)) dX1_graves_4 ?_
  refine lv_icmp_ge (tgt := 78) hx hb dX1_graves_7 (by decide) (fun kc1 => ?_) (fun kc1 => ?_)
  · have hf := ite_t kc1 hf
    cases hf
    exact hk _ _ _ (lv_sub hl [] rfl) hP hS
  · have hf := ite_f kc1 hf
    refine lv_aload_n hx hb dX1_graves_10 rfl (lv_at hl 0 rfl) ?_
    refine gp_get (C := RX1) (T := TX1) E hK hP (shS_h h) rfl in_X1 6 (by decide) (hts _ q251) (fun _ z => z) (vS_a (by decide) (by decide)) dX1_graves_11 ?_
    refine lv_iload_n hx hb dX1_graves_14 rfl (lv_at hl 1 rfl) ?_
    obtain ⟨v2, hv2, hf⟩ := ob hf
    refine gp_iald E hK hP (shS_a (by decide) (by decide)) (rd_in hv2).1 (by rw [vS_e (by decide) (by decide), ← (rd_in hv2).2]) dX1_graves_15 ?_
    refine lv_iconst (v := nI 1) hx hb dX1_graves_16 rfl ?_
    refine lv_icmp_ne (tgt := 72) hx hb dX1_graves_17 (by decide) (fun kc3 => ?_) (fun kc3 => ?_)
    · have hf := ite_f kc3 hf
      refine lv_iinc (v := st.1 + nI 1) (lv' := [(1, .int (st.1 + nI 1)), (0, .ref h)]) hx hb dX1_graves_72 hl (k := 1) rfl rfl (by decide) rfl (fun ls hl => ?_)
      refine lv_goto (tgt := 2) hx hb dX1_graves_75 (by decide) ?_
      cases hf
      exact hk _ _ _ (lv_sub hl [1, 0] rfl) hP hS
    · have hf := ite_t kc3 hf
      refine lv_aload_n hx hb dX1_graves_20 rfl (lv_at hl 0 rfl) ?_
      refine gp_get (C := RX1) (T := TX1) E hK hP (shS_h h) rfl in_X1 0 (by decide) (hts _ q239) (fun _ z => z) (vS_2 (by decide)) dX1_graves_21 ?_
      refine lv_aload_n hx hb dX1_graves_24 rfl (lv_at hl 0 rfl) ?_
      refine gp_get (C := RX1) (T := TX1) E hK hP (shS_h h) rfl in_X1 5 (by decide) (hts _ q249) (fun _ z => z) (vS_a (by decide) (by decide)) dX1_graves_25 ?_
      refine lv_iload_n hx hb dX1_graves_28 rfl (lv_at hl 1 rfl) ?_
      obtain ⟨v4, hv4, hf⟩ := ob hf
      refine gp_iald E hK hP (shS_a (by decide) (by decide)) (rd_in hv4).1 (by rw [vS_e (by decide) (by decide), ← (rd_in hv4).2]) dX1_graves_29 ?_
      obtain ⟨r5, hr5, hf⟩ := ob hf
      refine gp_aald (t := 2) (ty := .array .int) E hK hP rfl rfl (shS_2 (by decide)) (rw_in hr5).1 (by rw [vS_o (by decide), (rw_in hr5).2.1]) dX1_graves_30 ?_
      refine lv_aload_n hx hb dX1_graves_31 rfl (lv_at hl 0 rfl) ?_
      refine gp_get (C := RX1) (T := TX1) E hK hP (shS_h h) rfl in_X1 3 (by decide) (hts _ q245) (fun _ z => z) (vS_a (by decide) (by decide)) dX1_graves_32 ?_
      refine lv_iload_n hx hb dX1_graves_35 rfl (lv_at hl 1 rfl) ?_
      obtain ⟨v6, hv6, hf⟩ := ob hf
      refine gp_iald E hK hP (shS_a (by decide) (by decide)) (rd_in hv6).1 (by rw [vS_e (by decide) (by decide), ← (rd_in hv6).2]) dX1_graves_36 ?_
      refine lv_bipush (v := nI 99) hx hb dX1_graves_37 rfl ?_
      refine lv_aload_n hx hb dX1_graves_39 rfl (lv_at hl 0 rfl) ?_
      refine gp_get (C := RX1) (T := TX1) E hK hP (shS_h h) rfl in_X1 0 (by decide) (hts _ q239) (fun _ z => z) (vS_2 (by decide)) dX1_graves_40 ?_
      refine lv_aload_n hx hb dX1_graves_43 rfl (lv_at hl 0 rfl) ?_
      refine gp_get (C := RX1) (T := TX1) E hK hP (shS_h h) rfl in_X1 5 (by decide) (hts _ q249) (fun _ z => z) (vS_a (by decide) (by decide)) dX1_graves_44 ?_
      refine lv_iload_n hx hb dX1_graves_47 rfl (lv_at hl 1 rfl) ?_
      obtain ⟨v7, hv7, hf⟩ := ob hf
      refine gp_iald E hK hP (shS_a (by decide) (by decide)) (rd_in hv7).1 (by rw [vS_e (by decide) (by decide), ← (rd_in hv7).2]) dX1_graves_48 ?_
      obtain ⟨r8, hr8, hf⟩ := ob hf
      refine gp_aald (t := 2) (ty := .array .int) E hK hP rfl rfl (shS_2 (by decide)) (rw_in hr8).1 (by rw [vS_o (by decide), (rw_in hr8).2.1]) dX1_graves_49 ?_
      refine lv_aload_n hx hb dX1_graves_50 rfl (lv_at hl 0 rfl) ?_
      refine gp_get (C := RX1) (T := TX1) E hK hP (shS_h h) rfl in_X1 3 (by decide) (hts _ q245) (fun _ z => z) (vS_a (by decide) (by decide)) dX1_graves_51 ?_
      refine lv_iload_n hx hb dX1_graves_54 rfl (lv_at hl 1 rfl) ?_
      obtain ⟨v9, hv9, hf⟩ := ob hf
      refine gp_iald E hK hP (shS_a (by decide) (by decide)) (rd_in hv9).1 (by rw [vS_e (by decide) (by decide), ← (rd_in hv9).2]) dX1_graves_55 ?_
      obtain ⟨v10, hv10, hf⟩ := ob hf
      refine gp_iald E hK hP (shS_r (by decide) (rw_in hr8).2.2) (rr_in hv10).1 (by rw [vS_r (by decide) (rw_in hr8).2.2, ← (rr_in hv10).2]) dX1_graves_56 ?_
      refine lv_aload_n hx hb dX1_graves_57 rfl (lv_at hl 0 rfl) ?_
      refine gp_get (C := RX1) (T := TX1) E hK hP (shS_h h) rfl in_X1 4 (by decide) (hts _ q247) (fun _ z => z) (vS_a (by decide) (by decide)) dX1_graves_58 ?_
      refine lv_iload_n hx hb dX1_graves_61 rfl (lv_at hl 1 rfl) ?_
      obtain ⟨v11, hv11, hf⟩ := ob hf
      refine gp_iald E hK hP (shS_a (by decide) (by decide)) (rd_in hv11).1 (by rw [vS_e (by decide) (by decide), ← (rd_in hv11).2]) dX1_graves_62 ?_
      refine lv_iconst (v := nI 1) hx hb dX1_graves_63 rfl ?_
      refine lv_iadd hx hb dX1_graves_64 ?_
      refine lv_iconst (v := nI 2) hx hb dX1_graves_65 rfl ?_
      refine lv_idiv hx hb dX1_graves_66 (by decide) ?_
      refine lv_iadd hx hb dX1_graves_67 ?_
      refine mn_calli E (by decide) hl q1058 q794 q182 q795 (Nat.le_of_ble_eq_true rfl) dX1_graves_68 ?_
      refine lv_nm (y := mn_ (nI 99) (v10 + ((v11 + (nI 1)) / (nI 2)))) rfl ?_
      obtain ⟨μ12, hμ12, hf⟩ := ob hf
      refine gp_iast E hK hP hS (sA_r (by decide) (rw_in hr5).2.2) (shS_r (by decide) (rw_in hr5).2.2) (ww_in hμ12).1 dX1_graves_71 (fun H locs hP _ hS => ?_)
      have hP := PS_rast (by decide) (rw_in hr5).2.2 hμ12 hP
      refine lv_iinc (v := st.1 + nI 1) (lv' := [(1, .int (st.1 + nI 1)), (0, .ref h)]) hx hb dX1_graves_72 hl (k := 1) rfl rfl (by decide) rfl (fun ls hl => ?_)
      refine lv_goto (tgt := 2) hx hb dX1_graves_75 (by decide) ?_
      cases hf
      exact hk _ _ _ (lv_sub hl [1, 0] rfl) hP hS
set_option maxHeartbeats 4000000 in
theorem ds_graves : yX1_graves.cls = RX1 ∧ yX1_graves.cls ≠ "java/lang/invoke/MethodHandle" ∧ yX1_graves.cls ≠ "java/lang/invoke/VarHandle" ∧ (parseMethodDescriptor yX1_graves.desc).map (fun d => d.parameters.length) = some 0 := ⟨rfl, by decide +kernel, by decide +kernel, by decide +kernel⟩
set_option maxHeartbeats 4000000 in
theorem ts_graves (l : Launch) (D : va_G) (dT : Nat → ClassId) (h : Nat) (ρ : Nat → Nat) (μ : nwM) (res : nwM) (hf : fs_graves μ = some res) : Met l yX1_graves (ws_ yX1_graves cX1_graves 2 none) (rmd 1) (sPc D dT h μ ρ [.ref h]) (va_Qv (fun (_ : Unit) => True) (fun _ t => PS D dT h res ρ t.heap) (sA h)) 0 0 (sA h) := by
  refine g_met (D := D) (dT := dT) (A := sA h) (own := RX1) (Pic := fun H => PS D dT h μ ρ H) (by decide) rfl (Nat.le_of_ble_eq_true rfl) ?_
  intro p e s m below meth c ls E hE hr hlk hl hP
  have hK := hE.1
  have hS : va_S (sA h) s.heap s.heap [] := va_S.rf
  obtain ⟨hx, hb, hml, hown, hts⟩ := id E
  have hl : lv_has ls 2 [(0, .ref h)] := hl
  unfold fs_graves at hf
  refine lv_iconst (v := nI 0) hx hb dX1_graves_0 rfl ?_
  refine lv_istore_n (lv' := [(1, .int (nI 0)), (0, .ref h)]) hx hb dX1_graves_1 rfl hl (by decide) rfl (fun ls hl => ?_)
  obtain ⟨x13, hx13, hf⟩ := ob hf
  refine fs_graves_L2_w E hK hE hx13 (fun ls H locs hl hP hS => ?_) _ _ _ (lv_sub hl [1, 0] rfl) hP hS
  cases hf
  exact g_vret (Pic := fun H => PS D dT h _ ρ H) E hr hlk hP hS dX1_graves_78
