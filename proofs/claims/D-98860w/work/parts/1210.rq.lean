/-! walks, written by my programs -/
set_option maxRecDepth 100000
set_option maxHeartbeats 4000000 in
theorem dr_quench : yX3_quench.cls = RX3 ∧ yX3_quench.cls ≠ "java/lang/invoke/MethodHandle" ∧ yX3_quench.cls ≠ "java/lang/invoke/VarHandle" ∧ (parseMethodDescriptor yX3_quench.desc).map (fun d => d.parameters.length) = some 0 := ⟨rfl, by decide +kernel, by decide +kernel, by decide +kernel⟩
set_option maxHeartbeats 4000000 in
theorem dr_want : yX3_want.cls = RX3 ∧ yX3_want.cls ≠ "java/lang/invoke/MethodHandle" ∧ yX3_want.cls ≠ "java/lang/invoke/VarHandle" ∧ (parseMethodDescriptor yX3_want.desc).map (fun d => d.parameters.length) = some 0 := ⟨rfl, by decide +kernel, by decide +kernel, by decide +kernel⟩
set_option maxHeartbeats 4000000 in
theorem dr_deed : yX3_deed.cls = RX3 ∧ yX3_deed.cls ≠ "java/lang/invoke/MethodHandle" ∧ yX3_deed.cls ≠ "java/lang/invoke/VarHandle" ∧ (parseMethodDescriptor yX3_deed.desc).map (fun d => d.parameters.length) = some 1 := ⟨rfl, by decide +kernel, by decide +kernel, by decide +kernel⟩
set_option maxHeartbeats 4000000 in
theorem dr_law : yX3_law.cls = RX3 ∧ yX3_law.cls ≠ "java/lang/invoke/MethodHandle" ∧ yX3_law.cls ≠ "java/lang/invoke/VarHandle" ∧ (parseMethodDescriptor yX3_law.desc).map (fun d => d.parameters.length) = some 0 := ⟨rfl, by decide +kernel, by decide +kernel, by decide +kernel⟩
set_option maxHeartbeats 4000000 in
theorem dr_quenching : yX3_quenching.cls = RX3 ∧ yX3_quenching.cls ≠ "java/lang/invoke/MethodHandle" ∧ yX3_quenching.cls ≠ "java/lang/invoke/VarHandle" ∧ (parseMethodDescriptor yX3_quenching.desc).map (fun d => d.parameters.length) = some 0 := ⟨rfl, by decide +kernel, by decide +kernel, by decide +kernel⟩
set_option maxHeartbeats 4000000 in
theorem dr_wants : yX3_wants.cls = RX3 ∧ yX3_wants.cls ≠ "java/lang/invoke/MethodHandle" ∧ yX3_wants.cls ≠ "java/lang/invoke/VarHandle" ∧ (parseMethodDescriptor yX3_wants.desc).map (fun d => d.parameters.length) = some 0 := ⟨rfl, by decide +kernel, by decide +kernel, by decide +kernel⟩
set_option maxHeartbeats 4000000 in
theorem dr_plan : yX3_plan.cls = RX3 ∧ yX3_plan.cls ≠ "java/lang/invoke/MethodHandle" ∧ yX3_plan.cls ≠ "java/lang/invoke/VarHandle" ∧ (parseMethodDescriptor yX3_plan.desc).map (fun d => d.parameters.length) = some 0 := ⟨rfl, by decide +kernel, by decide +kernel, by decide +kernel⟩
set_option maxHeartbeats 4000000 in
noncomputable def fr_quench (ξ : nwM) (μ : nwM) : nwR (nwQ × nwM) := xq_ (fr_kind ξ μ) fun r1 => xq_ (fr_must ξ (nI 10) r1.2) fun r7 => (if (r7 3 0) = ((nI 30) + r1.1) then some (1, .inl (nI 1, r7 2 0)) else xq_ (fr_kind ξ r7) fun r14 => xq_ (fr_behind ξ (nI 11) (nI 1) (nI 50) r14.2) fun r20 => xq_ (fr_must ξ (nI 59) r20.2) fun r26 => xn_ 1 (some (0, .inr ((r1.1, r14.1, r20.1), r26))))
set_option maxHeartbeats 4000000 in
theorem tr_quench (l : Launch) (hst : l.stackTraces = false) (D : va_G) (dT : Nat → ClassId) (a g : Nat) (ξ : nwM) (β : Nat → Nat) (σ : nwM) (ρ : Nat → Nat) (Z : nwZ) (sz : Nat) (μ : nwM) (res : Nat × (nwF ⊕ (nwQ × nwM))) (hf : fr_quench ξ μ = some res) : nx_Met l yX3_quench (ws_ yX3_quench cX3_quench 4 (some (.object "NamesWeather$Quench"))) (rmc (11) res.1) (va_Pc [.ref a] (RQ D dT a g ξ β σ ρ Z sz μ)) (QcR D a g (nA a sz) (pvG (oQu D) sz) res.2) (XcR D (nA a sz) res.2) res.1 (24 * res.1) (nA a sz) := by
  obtain ⟨N, out⟩ := res
  refine x_met (own := RX3) (by decide) rfl (Nat.le_of_ble_eq_true rfl) ?_
  intro p e s m below meth c ls E hP hr hlk ht hl
  obtain ⟨⟨hP, hB⟩, hsz⟩ := hP
  have hE := hB.2.1
  have hK := hE.1
  have hasz : a < sz := by rw [← hsz]; exact RD_lt hP
  have hA : ∀ q, nA a sz q → q = a ∨ s.heap.size ≤ q := fun q z => by rw [hsz]; exact z
  have hZa := hB.2.2.2.2.1
  skip
  have hS : va_S (nA a sz) s.heap s.heap [] := va_S.rf
  have hzs := hS.1
  obtain ⟨hx, hb, hml, hown, hts⟩ := id E
  have hl : lv_has ls 4 [(0, .ref a)] := hl
  obtain ⟨H, hH⟩ : ∃ z, z = s.heap := ⟨_, rfl⟩
  rw [← hH] at hP
  have hS : va_S (nA a sz) s.heap H [] := by rw [hH]; exact va_S.rf
  show W p l e (rmc (11) N) s m _ below meth c s.heap [] 0 0 (nx_MQ below (QcR D a g (nA a sz) (pvG (oQu D) sz) out) (XcR D (nA a sz) out) _ s N (24 * N) (nA a sz)) (F0 m 0 ls [])
  rw [← hH]
  have hzs := hS.1
  have hf : (xq_ (fr_kind ξ μ) fun r1 => xq_ (fr_must ξ (nI 10) r1.2) fun r7 => (if (r7 3 0) = ((nI 30) + r1.1) then some (1, .inl (nI 1, r7 2 0)) else xq_ (fr_kind ξ r7) fun r14 => xq_ (fr_behind ξ (nI 11) (nI 1) (nI 50) r14.2) fun r20 => xq_ (fr_must ξ (nI 59) r20.2) fun r26 => xn_ 1 (some (0, .inr ((r1.1, r14.1, r20.1), r26))))) = some (N, out) := hf
  refine lv_aload_n hx hb dX3_quench_0 rfl (lv_at hl 0 rfl) ?_
  rcases xq_in hf with ⟨f5, hc4, hx1⟩ | ⟨m2, r1, n3, hc4, hf, en3⟩
  · subst hx1
    exact x_thrV (A1 := nA a H.size) E hS (fun _ _ z => nA_le hsz hzs z) (fun _ z => nA_le hsz hzs z) (As := []) (tr_kind l hst D dT a g ξ β σ ρ Z H.size μ (_, .inl f5) hc4) (fun _ _ _ _ z => z) RQ_bl (RQ_pre hB hP hS hA) (RD_recv hK hP) (lw_V q810 q812 qs29 q167 q813) dr_kind rfl (by omega) (by decide) (by omega) (by omega) ht hlk hl rfl (Nat.le_of_ble_eq_true rfl) dX3_quench_1
  · skip
    refine k_vi (Pic := RQ D dT a g ξ β σ ρ Z H.size μ) (Pic1 := fun H => RD D a g r1.2 H) (A1 := nA a H.size) E hS (fun _ _ z => nA_le hsz hzs z) (fun _ z => nA_le hsz hzs z) (As := []) (nx_met (tr_kind l hst D dT a g ξ β σ ρ Z H.size μ (_, .inr r1) hc4)) RQ_bl (RQ_pre hB hP hS hA) (RD_recv hK hP) (lw_V q810 q812 qs29 q167 q813) dr_kind rfl ⟨rfl, rfl⟩ (rmc_ok (by omega) (by decide)) ⟨show _ ≤ N by omega, show _ ≤ 24 * N by omega⟩ hl rfl (Nat.le_of_ble_eq_true rfl) dX3_quench_1 (fun H locs hP hz1 hq1 hS => ?_)
    have hkp := kp_call hq1
    have hzs := hS.1
    refine lv_istore_n (lv' := [(1, .int r1.1), (0, .ref a)]) hx hb dX3_quench_4 rfl hl (by decide) rfl (fun ls hl => ?_)
    refine lv_aload_n hx hb dX3_quench_5 rfl (lv_at hl 1 rfl) ?_
    refine lv_bipush (v := nI 10) hx hb dX3_quench_6 rfl ?_
    rcases xq_in hf with ⟨f11, hc10, hx1⟩ | ⟨m8, r7, n9, hc10, hf, en9⟩
    · subst hx1
      exact x_thrV (A1 := nA a H.size) E hS (fun _ _ z => nA_le hsz hzs z) (fun _ z => nA_le hsz hzs z) (As := [.int (nI 10)]) (tr_must l hst D dT a g ξ β σ ρ Z H.size (nI 10) r1.2 (_, .inl f11) hc10) (fun _ _ _ _ z => z) RQ_bl (RQ_pre hB hP hS hA) (RD_recv hK hP) (lw_V q714 q716 qs24 q167 q717) dr_must rfl (by omega) (by decide) (by omega) (by omega) ht hlk hl rfl (Nat.le_of_ble_eq_true rfl) dX3_quench_8
    · skip
      refine k_vv (Pic := RQ D dT a g ξ β σ ρ Z H.size r1.2) (Pic1 := fun H => RD D a g r7 H) (A1 := nA a H.size) E hS (fun _ _ z => nA_le hsz hzs z) (fun _ z => nA_le hsz hzs z) (As := [.int (nI 10)]) (nx_met (tr_must l hst D dT a g ξ β σ ρ Z H.size (nI 10) r1.2 (_, .inr r7) hc10)) RQ_bl (RQ_pre hB hP hS hA) (RD_recv hK hP) (lw_V q714 q716 qs24 q167 q717) dr_must rfl ⟨rfl, rfl⟩ (rmc_ok (by omega) (by decide)) ⟨show _ ≤ N by omega, show _ ≤ 24 * N by omega⟩ hl rfl (Nat.le_of_ble_eq_true rfl) dX3_quench_8 (fun H locs hP hz1 hq1 hS => ?_)
      have hkp := kp_call hq1
      have hzs := hS.1
      refine lv_aload_n hx hb dX3_quench_11 rfl (lv_at hl 1 rfl) ?_
      refine gp_get (C := RX3) (T := TX3) E hK (oneO (dT := dT) hP) (if_pos rfl) rfl in_X3 3 (by decide) (hts _ q407) (fun _ z => z) (v := .int (r7 3 0)) rfl dX3_quench_12 ?_
      refine lv_bipush (v := nI 30) hx hb dX3_quench_15 rfl ?_
      refine lv_iload_n hx hb dX3_quench_17 rfl (lv_at hl 0 rfl) ?_
      refine lv_iadd hx hb dX3_quench_18 ?_
      refine lv_icmp_ne (tgt := 35) hx hb dX3_quench_19 (by decide) (fun kc13 => ?_) (fun kc13 => ?_)
      · have hf := ite_f kc13 hf
        refine lv_aload_n hx hb dX3_quench_35 rfl (lv_at hl 1 rfl) ?_
        rcases xq_in hf with ⟨f18, hc17, hx1⟩ | ⟨m15, r14, n16, hc17, hf, en16⟩
        · subst hx1
          exact x_thrV (A1 := nA a H.size) E hS (fun _ _ z => nA_le hsz hzs z) (fun _ z => nA_le hsz hzs z) (As := []) (tr_kind l hst D dT a g ξ β σ ρ Z H.size r7 (_, .inl f18) hc17) (fun _ _ _ _ z => z) RQ_bl (RQ_pre hB hP hS hA) (RD_recv hK hP) (lw_V q810 q812 qs29 q167 q813) dr_kind rfl (by omega) (by decide) (by omega) (by omega) ht hlk hl rfl (Nat.le_of_ble_eq_true rfl) dX3_quench_36
        · skip
          refine k_vi (Pic := RQ D dT a g ξ β σ ρ Z H.size r7) (Pic1 := fun H => RD D a g r14.2 H) (A1 := nA a H.size) E hS (fun _ _ z => nA_le hsz hzs z) (fun _ z => nA_le hsz hzs z) (As := []) (nx_met (tr_kind l hst D dT a g ξ β σ ρ Z H.size r7 (_, .inr r14) hc17)) RQ_bl (RQ_pre hB hP hS hA) (RD_recv hK hP) (lw_V q810 q812 qs29 q167 q813) dr_kind rfl ⟨rfl, rfl⟩ (rmc_ok (by omega) (by decide)) ⟨show _ ≤ N by omega, show _ ≤ 24 * N by omega⟩ hl rfl (Nat.le_of_ble_eq_true rfl) dX3_quench_36 (fun H locs hP hz1 hq1 hS => ?_)
          have hkp := kp_call hq1
          have hzs := hS.1
          refine lv_istore_n (lv' := [(2, .int r14.1), (1, .int r1.1), (0, .ref a)]) hx hb dX3_quench_39 rfl hl (by decide) rfl (fun ls hl => ?_)
          refine lv_aload_n hx hb dX3_quench_40 rfl (lv_at hl 2 rfl) ?_
          refine lv_bipush (v := nI 11) hx hb dX3_quench_41 rfl ?_
          refine lv_iconst (v := nI 1) hx hb dX3_quench_43 rfl ?_
          refine lv_bipush (v := nI 50) hx hb dX3_quench_44 rfl ?_
          rcases xq_in hf with ⟨f24, hc23, hx1⟩ | ⟨m21, r20, n22, hc23, hf, en22⟩
          · subst hx1
            exact x_thrV (A1 := nA a H.size) E hS (fun _ _ z => nA_le hsz hzs z) (fun _ z => nA_le hsz hzs z) (As := [.int (nI 11), .int (nI 1), .int (nI 50)]) (tr_behind l hst D dT a g ξ β σ ρ Z H.size (nI 11) (nI 1) (nI 50) r14.2 (_, .inl f24) hc23) (fun _ _ _ _ z => z) RQ_bl (RQ_pre hB hP hS hA) (RD_recv hK hP) (lw_V q814 q816 qs30 q167 q817) dr_behind rfl (by omega) (by decide) (by omega) (by omega) ht hlk hl rfl (Nat.le_of_ble_eq_true rfl) dX3_quench_46
          · skip
            refine k_vi (Pic := RQ D dT a g ξ β σ ρ Z H.size r14.2) (Pic1 := fun H => RD D a g r20.2 H) (A1 := nA a H.size) E hS (fun _ _ z => nA_le hsz hzs z) (fun _ z => nA_le hsz hzs z) (As := [.int (nI 11), .int (nI 1), .int (nI 50)]) (nx_met (tr_behind l hst D dT a g ξ β σ ρ Z H.size (nI 11) (nI 1) (nI 50) r14.2 (_, .inr r20) hc23)) RQ_bl (RQ_pre hB hP hS hA) (RD_recv hK hP) (lw_V q814 q816 qs30 q167 q817) dr_behind rfl ⟨rfl, rfl⟩ (rmc_ok (by omega) (by decide)) ⟨show _ ≤ N by omega, show _ ≤ 24 * N by omega⟩ hl rfl (Nat.le_of_ble_eq_true rfl) dX3_quench_46 (fun H locs hP hz1 hq1 hS => ?_)
            have hkp := kp_call hq1
            have hzs := hS.1
            refine lv_istore_n (lv' := [(3, .int r20.1), (2, .int r14.1), (1, .int r1.1), (0, .ref a)]) hx hb dX3_quench_49 rfl hl (by decide) rfl (fun ls hl => ?_)
            refine lv_aload_n hx hb dX3_quench_50 rfl (lv_at hl 3 rfl) ?_
            refine lv_bipush (v := nI 59) hx hb dX3_quench_51 rfl ?_
            rcases xq_in hf with ⟨f30, hc29, hx1⟩ | ⟨m27, r26, n28, hc29, hf, en28⟩
            · subst hx1
              exact x_thrV (A1 := nA a H.size) E hS (fun _ _ z => nA_le hsz hzs z) (fun _ z => nA_le hsz hzs z) (As := [.int (nI 59)]) (tr_must l hst D dT a g ξ β σ ρ Z H.size (nI 59) r20.2 (_, .inl f30) hc29) (fun _ _ _ _ z => z) RQ_bl (RQ_pre hB hP hS hA) (RD_recv hK hP) (lw_V q714 q716 qs24 q167 q717) dr_must rfl (by omega) (by decide) (by omega) (by omega) ht hlk hl rfl (Nat.le_of_ble_eq_true rfl) dX3_quench_53
            · skip
              refine k_vv (Pic := RQ D dT a g ξ β σ ρ Z H.size r20.2) (Pic1 := fun H => RD D a g r26 H) (A1 := nA a H.size) E hS (fun _ _ z => nA_le hsz hzs z) (fun _ z => nA_le hsz hzs z) (As := [.int (nI 59)]) (nx_met (tr_must l hst D dT a g ξ β σ ρ Z H.size (nI 59) r20.2 (_, .inr r26) hc29)) RQ_bl (RQ_pre hB hP hS hA) (RD_recv hK hP) (lw_V q714 q716 qs24 q167 q717) dr_must rfl ⟨rfl, rfl⟩ (rmc_ok (by omega) (by decide)) ⟨show _ ≤ N by omega, show _ ≤ 24 * N by omega⟩ hl rfl (Nat.le_of_ble_eq_true rfl) dX3_quench_53 (fun H locs hP hz1 hq1 hS => ?_)
              have hkp := kp_call hq1
              have hzs := hS.1
              obtain ⟨n33, hf, en33⟩ := xn_in hf
              obtain ⟨q32, hqq32⟩ : ∃ z, z = H.size := ⟨_, rfl⟩
              refine x_new (B := 24) (C := RX11) (T := TX11) E hK (ci := 10) rfl in_X11 tyX11 tyX11_ok q818 q819 q185 [.int 0, .int 0, .int 0] (by decide) (by decide) (show _ ≤ N by omega) (show _ ≤ 24 * N by omega) dX3_quench_56 (fun H hO32 z1 o1 => ?_)
              have hkp := kp_pure (a := a) o1
              have hP := RD_same hP o1
              have hzs := hS.1
              have hsq32 : sz ≤ q32 := by omega
              have hS := S_new hS z1 o1
              rw [← hqq32] at hO32 ⊢
              have hlq32 : q32 < H.size := by omega
              clear hkp z1 o1
              have hzs := hS.1
              refine lv_dup hx hb dX3_quench_59 rfl ?_
              refine lv_iload_n hx hb dX3_quench_60 rfl (lv_at hl 2 rfl) ?_
              refine lv_iload_n hx hb dX3_quench_61 rfl (lv_at hl 1 rfl) ?_
              refine lv_iload_n hx hb dX3_quench_62 rfl (lv_at hl 0 rfl) ?_
              refine k_iv (Pic := oFP D dT 10 3 [.int 0, .int 0, .int 0] q32) (Pic1 := fun H => oF D 10 3 [.int r1.1, .int r14.1, .int r20.1] q32 H) (A1 := eqA q32) E hS (fun z _ ez => Or.inr (by rw [show z = q32 from ez]; omega)) (fun z ez => Or.inr (by rw [show z = q32 from ez]; omega)) (As := [.int r1.1, .int r14.1, .int r20.1]) (tc_Quench l D dT q32 r1.1 r14.1 r20.1) oFP_bl (oFP_pre hO32 hE) q820 q821 q185 q822 rfl dc_Quench rfl ⟨rfl, rfl⟩ (rmcd_ok (by decide) (by decide)) ⟨show _ ≤ N by omega, show _ ≤ 24 * N by omega⟩ hl rfl (Nat.le_of_ble_eq_true rfl) dX3_quench_63 (fun H locs hO32 hz1 hq1 hS => ?_)
              have hkp := kp_init hq1
              have hP := RD_kp hP hkp (by omega)
              have hzs := hS.1
              have hT34 : oQu D (r1.1, r14.1, r20.1) (fz sz []) q32 H := ⟨(not_fz (L := []) (by omega) (fun h => nomatch h)), hO32⟩
              cases hf
              exact x_aret (PV := pvG (oQu D) sz) E hr hlk hT34 hP hS (by omega) (by omega) dX3_quench_66
      · have hf := ite_t kc13 hf
        cases hf
        exact r_throw hst E hB ht hlk hP hS hsz hl (lv_at hl 1 rfl) (by omega) (by omega) (by omega) dX3_quench_22 dX3_quench_25 dX3_quench_26 rfl dX3_quench_27 dX3_quench_28 dX3_quench_31 dX3_quench_34
set_option maxHeartbeats 4000000 in
noncomputable def fr_want (ξ : nwM) (μ : nwM) : nwR (nwW × nwM) := (fr_next ξ μ).bind fun μ1 => (if (μ1 3 0) = (nI 13) then (fr_next ξ μ1).bind fun μ46 => xq_ (fr_behind ξ (nI 14) (nI 0) (nI 7) μ46) fun r48 => xq_ (fr_behind ξ (nI 15) (nI 0) (nI 999) r48.2) fun r54 => xq_ (fr_behind ξ (nI 16) (nI 1) (nI 99) r54.2) fun r60 => xq_ (fr_must ξ (nI 59) r60.2) fun r66 => xn_ 1 (some (0, .inr (((-1), nI 0, r48.1, r54.1, r60.1), r66))) else xq_ (fr_kind ξ μ1) fun r5 => xq_ (fr_number ξ (nI 1) (nI 99) r5.2) fun r11 => xq_ (fr_behind ξ (nI 14) (nI 0) (nI 7) r11.2) fun r17 => xq_ (fr_behind ξ (nI 15) (nI 0) (nI 999) r17.2) fun r23 => xq_ (fr_behind ξ (nI 16) (nI 1) (nI 99) r23.2) fun r29 => xq_ (fr_must ξ (nI 59) r29.2) fun r35 => xn_ 1 ((if r5.1 = (-1) then none else some (0, .inr ((r5.1, r11.1, r17.1, r23.1, r29.1), r35)))))
set_option maxHeartbeats 4000000 in
theorem tr_want (l : Launch) (hst : l.stackTraces = false) (D : va_G) (dT : Nat → ClassId) (a g : Nat) (ξ : nwM) (β : Nat → Nat) (σ : nwM) (ρ : Nat → Nat) (Z : nwZ) (sz : Nat) (μ : nwM) (res : Nat × (nwF ⊕ (nwW × nwM))) (hf : fr_want ξ μ = some res) : nx_Met l yX3_want (ws_ yX3_want cX3_want 7 (some (.object "NamesWeather$Want"))) (rmc (11) res.1) (va_Pc [.ref a] (RQ D dT a g ξ β σ ρ Z sz μ)) (QcR D a g (nA a sz) (pvG (oWa D) sz) res.2) (XcR D (nA a sz) res.2) res.1 (24 * res.1) (nA a sz) := by
  obtain ⟨N, out⟩ := res
  refine x_met (own := RX3) (by decide) rfl (Nat.le_of_ble_eq_true rfl) ?_
  intro p e s m below meth c ls E hP hr hlk ht hl
  obtain ⟨⟨hP, hB⟩, hsz⟩ := hP
  have hE := hB.2.1
  have hK := hE.1
  have hasz : a < sz := by rw [← hsz]; exact RD_lt hP
  have hA : ∀ q, nA a sz q → q = a ∨ s.heap.size ≤ q := fun q z => by rw [hsz]; exact z
  have hZa := hB.2.2.2.2.1
  skip
  have hS : va_S (nA a sz) s.heap s.heap [] := va_S.rf
  have hzs := hS.1
  obtain ⟨hx, hb, hml, hown, hts⟩ := id E
  have hl : lv_has ls 7 [(0, .ref a)] := hl
  obtain ⟨H, hH⟩ : ∃ z, z = s.heap := ⟨_, rfl⟩
  rw [← hH] at hP
  have hS : va_S (nA a sz) s.heap H [] := by rw [hH]; exact va_S.rf
  show W p l e (rmc (11) N) s m _ below meth c s.heap [] 0 0 (nx_MQ below (QcR D a g (nA a sz) (pvG (oWa D) sz) out) (XcR D (nA a sz) out) _ s N (24 * N) (nA a sz)) (F0 m 0 ls [])
  rw [← hH]
  have hzs := hS.1
  have hf : ((fr_next ξ μ).bind fun μ1 => (if (μ1 3 0) = (nI 13) then (fr_next ξ μ1).bind fun μ46 => xq_ (fr_behind ξ (nI 14) (nI 0) (nI 7) μ46) fun r48 => xq_ (fr_behind ξ (nI 15) (nI 0) (nI 999) r48.2) fun r54 => xq_ (fr_behind ξ (nI 16) (nI 1) (nI 99) r54.2) fun r60 => xq_ (fr_must ξ (nI 59) r60.2) fun r66 => xn_ 1 (some (0, .inr (((-1), nI 0, r48.1, r54.1, r60.1), r66))) else xq_ (fr_kind ξ μ1) fun r5 => xq_ (fr_number ξ (nI 1) (nI 99) r5.2) fun r11 => xq_ (fr_behind ξ (nI 14) (nI 0) (nI 7) r11.2) fun r17 => xq_ (fr_behind ξ (nI 15) (nI 0) (nI 999) r17.2) fun r23 => xq_ (fr_behind ξ (nI 16) (nI 1) (nI 99) r23.2) fun r29 => xq_ (fr_must ξ (nI 59) r29.2) fun r35 => xn_ 1 ((if r5.1 = (-1) then none else some (0, .inr ((r5.1, r11.1, r17.1, r23.1, r29.1), r35)))))) = some (N, out) := hf
  refine lv_aload_n hx hb dX3_want_0 rfl (lv_at hl 0 rfl) ?_
  obtain ⟨μ1, hc2, hf⟩ := ob hf
  refine k_vv (Pic := RP D dT a g ξ β σ ρ Z μ) (Pic1 := fun H => RD D a g μ1 H) (A1 := rA a) E hS (fun _ _ z => Or.inl z) (fun _ z => Or.inl z) (As := []) (tr_next l D dT a g ξ β σ ρ Z μ _ hc2) RP_bl (RP_pre hB hP hS hA) (RD_recv hK hP) (lw_V q432 q434 qs2 q167 q435) dr_next rfl ⟨rfl, rfl⟩ (rmcd_ok (by decide) (by decide)) ⟨show _ ≤ N by omega, show _ ≤ 24 * N by omega⟩ hl rfl (Nat.le_of_ble_eq_true rfl) dX3_want_1 (fun H locs hP _ hq1 hS => ?_)
  have hkp := kp_call0 hq1
  have hzs := hS.1
  refine lv_aload_n hx hb dX3_want_4 rfl (lv_at hl 0 rfl) ?_
  refine gp_get (C := RX3) (T := TX3) E hK (oneO (dT := dT) hP) (if_pos rfl) rfl in_X3 3 (by decide) (hts _ q407) (fun _ z => z) (v := .int (μ1 3 0)) rfl dX3_want_5 ?_
  refine lv_bipush (v := nI 13) hx hb dX3_want_8 rfl ?_
  refine lv_icmp_ne (tgt := 17) hx hb dX3_want_10 (by decide) (fun kc3 => ?_) (fun kc3 => ?_)
  · have hf := ite_f kc3 hf
    refine lv_iconst (v := nI 0) hx hb dX3_want_17 rfl ?_
    refine lv_istore_n (lv' := [(1, .int (nI 0)), (0, .ref a)]) hx hb dX3_want_18 rfl hl (by decide) rfl (fun ls hl => ?_)
    refine lv_iconst (v := (-1)) hx hb dX3_want_19 rfl ?_
    refine lv_istore_n (lv' := [(2, .int (-1)), (1, .int (nI 0)), (0, .ref a)]) hx hb dX3_want_20 rfl hl (by decide) rfl (fun ls hl => ?_)
    refine lv_iconst (v := nI 0) hx hb dX3_want_21 rfl ?_
    refine lv_istore_n (lv' := [(3, .int (nI 0)), (2, .int (-1)), (1, .int (nI 0)), (0, .ref a)]) hx hb dX3_want_22 rfl hl (by decide) rfl (fun ls hl => ?_)
    refine lv_iload_n hx hb dX3_want_23 rfl (lv_at hl 2 rfl) ?_
    refine lv_if_eq (tgt := 34) hx hb dX3_want_24 (by decide) (fun kc4 => ?_) (fun kc4 => ?_)
    · skip
      refine lv_aload_n hx hb dX3_want_34 rfl (lv_at hl 3 rfl) ?_
      rcases xq_in hf with ⟨f9, hc8, hx1⟩ | ⟨m6, r5, n7, hc8, hf, en7⟩
      · subst hx1
        exact x_thrV (A1 := nA a H.size) E hS (fun _ _ z => nA_le hsz hzs z) (fun _ z => nA_le hsz hzs z) (As := []) (tr_kind l hst D dT a g ξ β σ ρ Z H.size μ1 (_, .inl f9) hc8) (fun _ _ _ _ z => z) RQ_bl (RQ_pre hB hP hS hA) (RD_recv hK hP) (lw_V q810 q812 qs29 q167 q813) dr_kind rfl (by omega) (by decide) (by omega) (by omega) ht hlk hl rfl (Nat.le_of_ble_eq_true rfl) dX3_want_35
      · skip
        refine k_vi (Pic := RQ D dT a g ξ β σ ρ Z H.size μ1) (Pic1 := fun H => RD D a g r5.2 H) (A1 := nA a H.size) E hS (fun _ _ z => nA_le hsz hzs z) (fun _ z => nA_le hsz hzs z) (As := []) (nx_met (tr_kind l hst D dT a g ξ β σ ρ Z H.size μ1 (_, .inr r5) hc8)) RQ_bl (RQ_pre hB hP hS hA) (RD_recv hK hP) (lw_V q810 q812 qs29 q167 q813) dr_kind rfl ⟨rfl, rfl⟩ (rmc_ok (by omega) (by decide)) ⟨show _ ≤ N by omega, show _ ≤ 24 * N by omega⟩ hl rfl (Nat.le_of_ble_eq_true rfl) dX3_want_35 (fun H locs hP hz1 hq1 hS => ?_)
        have hkp := kp_call hq1
        have hzs := hS.1
        refine lv_istore_n (lv' := [(2, .int r5.1), (3, .int (nI 0)), (1, .int (nI 0)), (0, .ref a)]) hx hb dX3_want_38 rfl hl (by decide) rfl (fun ls hl => ?_)
        refine lv_aload_n hx hb dX3_want_39 rfl (lv_at hl 3 rfl) ?_
        refine lv_iconst (v := nI 1) hx hb dX3_want_40 rfl ?_
        refine lv_bipush (v := nI 99) hx hb dX3_want_41 rfl ?_
        rcases xq_in hf with ⟨f15, hc14, hx1⟩ | ⟨m12, r11, n13, hc14, hf, en13⟩
        · subst hx1
          exact x_thrV (A1 := nA a H.size) E hS (fun _ _ z => nA_le hsz hzs z) (fun _ z => nA_le hsz hzs z) (As := [.int (nI 1), .int (nI 99)]) (tr_number l hst D dT a g ξ β σ ρ Z H.size (nI 1) (nI 99) r5.2 (_, .inl f15) hc14) (fun _ _ _ _ z => z) RQ_bl (RQ_pre hB hP hS hA) (RD_recv hK hP) (lw_V q647 q649 qs19 q167 q650) dr_number rfl (by omega) (by decide) (by omega) (by omega) ht hlk hl rfl (Nat.le_of_ble_eq_true rfl) dX3_want_43
        · skip
          refine k_vi (Pic := RQ D dT a g ξ β σ ρ Z H.size r5.2) (Pic1 := fun H => RD D a g r11.2 H) (A1 := nA a H.size) E hS (fun _ _ z => nA_le hsz hzs z) (fun _ z => nA_le hsz hzs z) (As := [.int (nI 1), .int (nI 99)]) (nx_met (tr_number l hst D dT a g ξ β σ ρ Z H.size (nI 1) (nI 99) r5.2 (_, .inr r11) hc14)) RQ_bl (RQ_pre hB hP hS hA) (RD_recv hK hP) (lw_V q647 q649 qs19 q167 q650) dr_number rfl ⟨rfl, rfl⟩ (rmc_ok (by omega) (by decide)) ⟨show _ ≤ N by omega, show _ ≤ 24 * N by omega⟩ hl rfl (Nat.le_of_ble_eq_true rfl) dX3_want_43 (fun H locs hP hz1 hq1 hS => ?_)
          have hkp := kp_call hq1
          have hzs := hS.1
          refine lv_istore_n (lv' := [(3, .int r11.1), (2, .int r5.1), (1, .int (nI 0)), (0, .ref a)]) hx hb dX3_want_46 rfl hl (by decide) rfl (fun ls hl => ?_)
          refine lv_aload_n hx hb dX3_want_47 rfl (lv_at hl 3 rfl) ?_
          refine lv_bipush (v := nI 14) hx hb dX3_want_48 rfl ?_
          refine lv_iconst (v := nI 0) hx hb dX3_want_50 rfl ?_
          refine lv_bipush (v := nI 7) hx hb dX3_want_51 rfl ?_
          rcases xq_in hf with ⟨f21, hc20, hx1⟩ | ⟨m18, r17, n19, hc20, hf, en19⟩
          · subst hx1
            exact x_thrV (A1 := nA a H.size) E hS (fun _ _ z => nA_le hsz hzs z) (fun _ z => nA_le hsz hzs z) (As := [.int (nI 14), .int (nI 0), .int (nI 7)]) (tr_behind l hst D dT a g ξ β σ ρ Z H.size (nI 14) (nI 0) (nI 7) r11.2 (_, .inl f21) hc20) (fun _ _ _ _ z => z) RQ_bl (RQ_pre hB hP hS hA) (RD_recv hK hP) (lw_V q814 q816 qs30 q167 q817) dr_behind rfl (by omega) (by decide) (by omega) (by omega) ht hlk hl rfl (Nat.le_of_ble_eq_true rfl) dX3_want_53
          · skip
            refine k_vi (Pic := RQ D dT a g ξ β σ ρ Z H.size r11.2) (Pic1 := fun H => RD D a g r17.2 H) (A1 := nA a H.size) E hS (fun _ _ z => nA_le hsz hzs z) (fun _ z => nA_le hsz hzs z) (As := [.int (nI 14), .int (nI 0), .int (nI 7)]) (nx_met (tr_behind l hst D dT a g ξ β σ ρ Z H.size (nI 14) (nI 0) (nI 7) r11.2 (_, .inr r17) hc20)) RQ_bl (RQ_pre hB hP hS hA) (RD_recv hK hP) (lw_V q814 q816 qs30 q167 q817) dr_behind rfl ⟨rfl, rfl⟩ (rmc_ok (by omega) (by decide)) ⟨show _ ≤ N by omega, show _ ≤ 24 * N by omega⟩ hl rfl (Nat.le_of_ble_eq_true rfl) dX3_want_53 (fun H locs hP hz1 hq1 hS => ?_)
            have hkp := kp_call hq1
            have hzs := hS.1
            refine lv_istore (lv' := [(4, .int r17.1), (3, .int r11.1), (2, .int r5.1), (1, .int (nI 0)), (0, .ref a)]) hx hb dX3_want_56 hl (by decide) rfl (fun ls hl => ?_)
            refine lv_aload_n hx hb dX3_want_58 rfl (lv_at hl 4 rfl) ?_
            refine lv_bipush (v := nI 15) hx hb dX3_want_59 rfl ?_
            refine lv_iconst (v := nI 0) hx hb dX3_want_61 rfl ?_
            refine lv_sipush (v := nI 999) hx hb dX3_want_62 rfl ?_
            rcases xq_in hf with ⟨f27, hc26, hx1⟩ | ⟨m24, r23, n25, hc26, hf, en25⟩
            · subst hx1
              exact x_thrV (A1 := nA a H.size) E hS (fun _ _ z => nA_le hsz hzs z) (fun _ z => nA_le hsz hzs z) (As := [.int (nI 15), .int (nI 0), .int (nI 999)]) (tr_behind l hst D dT a g ξ β σ ρ Z H.size (nI 15) (nI 0) (nI 999) r17.2 (_, .inl f27) hc26) (fun _ _ _ _ z => z) RQ_bl (RQ_pre hB hP hS hA) (RD_recv hK hP) (lw_V q814 q816 qs30 q167 q817) dr_behind rfl (by omega) (by decide) (by omega) (by omega) ht hlk hl rfl (Nat.le_of_ble_eq_true rfl) dX3_want_65
            · skip
              refine k_vi (Pic := RQ D dT a g ξ β σ ρ Z H.size r17.2) (Pic1 := fun H => RD D a g r23.2 H) (A1 := nA a H.size) E hS (fun _ _ z => nA_le hsz hzs z) (fun _ z => nA_le hsz hzs z) (As := [.int (nI 15), .int (nI 0), .int (nI 999)]) (nx_met (tr_behind l hst D dT a g ξ β σ ρ Z H.size (nI 15) (nI 0) (nI 999) r17.2 (_, .inr r23) hc26)) RQ_bl (RQ_pre hB hP hS hA) (RD_recv hK hP) (lw_V q814 q816 qs30 q167 q817) dr_behind rfl ⟨rfl, rfl⟩ (rmc_ok (by omega) (by decide)) ⟨show _ ≤ N by omega, show _ ≤ 24 * N by omega⟩ hl rfl (Nat.le_of_ble_eq_true rfl) dX3_want_65 (fun H locs hP hz1 hq1 hS => ?_)
              have hkp := kp_call hq1
              have hzs := hS.1
              refine lv_istore (lv' := [(5, .int r23.1), (4, .int r17.1), (3, .int r11.1), (2, .int r5.1), (1, .int (nI 0)), (0, .ref a)]) hx hb dX3_want_68 hl (by decide) rfl (fun ls hl => ?_)
              refine lv_aload_n hx hb dX3_want_70 rfl (lv_at hl 5 rfl) ?_
              refine lv_bipush (v := nI 16) hx hb dX3_want_71 rfl ?_
              refine lv_iconst (v := nI 1) hx hb dX3_want_73 rfl ?_
              refine lv_bipush (v := nI 99) hx hb dX3_want_74 rfl ?_
              rcases xq_in hf with ⟨f33, hc32, hx1⟩ | ⟨m30, r29, n31, hc32, hf, en31⟩
              · subst hx1
                exact x_thrV (A1 := nA a H.size) E hS (fun _ _ z => nA_le hsz hzs z) (fun _ z => nA_le hsz hzs z) (As := [.int (nI 16), .int (nI 1), .int (nI 99)]) (tr_behind l hst D dT a g ξ β σ ρ Z H.size (nI 16) (nI 1) (nI 99) r23.2 (_, .inl f33) hc32) (fun _ _ _ _ z => z) RQ_bl (RQ_pre hB hP hS hA) (RD_recv hK hP) (lw_V q814 q816 qs30 q167 q817) dr_behind rfl (by omega) (by decide) (by omega) (by omega) ht hlk hl rfl (Nat.le_of_ble_eq_true rfl) dX3_want_76
              · skip
                refine k_vi (Pic := RQ D dT a g ξ β σ ρ Z H.size r23.2) (Pic1 := fun H => RD D a g r29.2 H) (A1 := nA a H.size) E hS (fun _ _ z => nA_le hsz hzs z) (fun _ z => nA_le hsz hzs z) (As := [.int (nI 16), .int (nI 1), .int (nI 99)]) (nx_met (tr_behind l hst D dT a g ξ β σ ρ Z H.size (nI 16) (nI 1) (nI 99) r23.2 (_, .inr r29) hc32)) RQ_bl (RQ_pre hB hP hS hA) (RD_recv hK hP) (lw_V q814 q816 qs30 q167 q817) dr_behind rfl ⟨rfl, rfl⟩ (rmc_ok (by omega) (by decide)) ⟨show _ ≤ N by omega, show _ ≤ 24 * N by omega⟩ hl rfl (Nat.le_of_ble_eq_true rfl) dX3_want_76 (fun H locs hP hz1 hq1 hS => ?_)
                have hkp := kp_call hq1
                have hzs := hS.1
                refine lv_istore (lv' := [(6, .int r29.1), (5, .int r23.1), (4, .int r17.1), (3, .int r11.1), (2, .int r5.1), (1, .int (nI 0)), (0, .ref a)]) hx hb dX3_want_79 hl (by decide) rfl (fun ls hl => ?_)
                refine lv_aload_n hx hb dX3_want_81 rfl (lv_at hl 6 rfl) ?_
                refine lv_bipush (v := nI 59) hx hb dX3_want_82 rfl ?_
                rcases xq_in hf with ⟨f39, hc38, hx1⟩ | ⟨m36, r35, n37, hc38, hf, en37⟩
                · subst hx1
                  exact x_thrV (A1 := nA a H.size) E hS (fun _ _ z => nA_le hsz hzs z) (fun _ z => nA_le hsz hzs z) (As := [.int (nI 59)]) (tr_must l hst D dT a g ξ β σ ρ Z H.size (nI 59) r29.2 (_, .inl f39) hc38) (fun _ _ _ _ z => z) RQ_bl (RQ_pre hB hP hS hA) (RD_recv hK hP) (lw_V q714 q716 qs24 q167 q717) dr_must rfl (by omega) (by decide) (by omega) (by omega) ht hlk hl rfl (Nat.le_of_ble_eq_true rfl) dX3_want_84
                · skip
                  refine k_vv (Pic := RQ D dT a g ξ β σ ρ Z H.size r29.2) (Pic1 := fun H => RD D a g r35 H) (A1 := nA a H.size) E hS (fun _ _ z => nA_le hsz hzs z) (fun _ z => nA_le hsz hzs z) (As := [.int (nI 59)]) (nx_met (tr_must l hst D dT a g ξ β σ ρ Z H.size (nI 59) r29.2 (_, .inr r35) hc38)) RQ_bl (RQ_pre hB hP hS hA) (RD_recv hK hP) (lw_V q714 q716 qs24 q167 q717) dr_must rfl ⟨rfl, rfl⟩ (rmc_ok (by omega) (by decide)) ⟨show _ ≤ N by omega, show _ ≤ 24 * N by omega⟩ hl rfl (Nat.le_of_ble_eq_true rfl) dX3_want_84 (fun H locs hP hz1 hq1 hS => ?_)
                  have hkp := kp_call hq1
                  have hzs := hS.1
                  refine lv_iload_n hx hb dX3_want_87 rfl (lv_at hl 5 rfl) ?_
                  refine lv_if_eq (tgt := 107) hx hb dX3_want_88 (by decide) (fun kc41 => ?_) (fun kc41 => ?_)
                  · skip
                    obtain ⟨n43, hf, en43⟩ := xn_in hf
                    obtain ⟨q42, hqq42⟩ : ∃ z, z = H.size := ⟨_, rfl⟩
                    refine x_new (B := 24) (C := RX14) (T := TX14) E hK (ci := 12) rfl in_X14 tyX14 tyX14_ok q866 q867 q188 [.int 0, .int 0, .int 0, .int 0, .int 0] (by decide) (by decide) (show _ ≤ N by omega) (show _ ≤ 24 * N by omega) dX3_want_107 (fun H hO42 z1 o1 => ?_)
                    have hkp := kp_pure (a := a) o1
                    have hP := RD_same hP o1
                    have hzs := hS.1
                    have hsq42 : sz ≤ q42 := by omega
                    have hS := S_new hS z1 o1
                    rw [← hqq42] at hO42 ⊢
                    have hlq42 : q42 < H.size := by omega
                    clear hkp z1 o1
                    have hzs := hS.1
                    refine lv_dup hx hb dX3_want_110 rfl ?_
                    refine lv_iload_n hx hb dX3_want_111 rfl (lv_at hl 4 rfl) ?_
                    refine lv_iload_n hx hb dX3_want_112 rfl (lv_at hl 3 rfl) ?_
                    refine lv_iload hx hb dX3_want_113 (lv_at hl 2 rfl) ?_
                    refine lv_iload hx hb dX3_want_115 (lv_at hl 1 rfl) ?_
                    refine lv_iload hx hb dX3_want_117 (lv_at hl 0 rfl) ?_
                    refine k_iv (Pic := oFP D dT 12 5 [.int 0, .int 0, .int 0, .int 0, .int 0] q42) (Pic1 := fun H => oF D 12 5 [.int r17.1, .int r23.1, .int r29.1, .int r5.1, .int r11.1] q42 H) (A1 := eqA q42) E hS (fun z _ ez => Or.inr (by rw [show z = q42 from ez]; omega)) (fun z ez => Or.inr (by rw [show z = q42 from ez]; omega)) (As := [.int r5.1, .int r11.1, .int r17.1, .int r23.1, .int r29.1]) (tc_SkyWant l D dT q42 r5.1 r11.1 r17.1 r23.1 r29.1) oFP_bl (oFP_pre hO42 hE) q868 q869 q188 q870 rfl dc_SkyWant rfl ⟨rfl, rfl⟩ (rmcd_ok (by decide) (by decide)) ⟨show _ ≤ N by omega, show _ ≤ 24 * N by omega⟩ hl rfl (Nat.le_of_ble_eq_true rfl) dX3_want_119 (fun H locs hO42 hz1 hq1 hS => ?_)
                    have hkp := kp_init hq1
                    have hP := RD_kp hP hkp (by omega)
                    have hzs := hS.1
                    obtain ⟨hkd, hf⟩ := ite_n hf
                    have hT44 : oWa D (r5.1, r11.1, r17.1, r23.1, r29.1) (fz sz []) q42 H := Or.inr ⟨hkd, (not_fz (L := []) (by omega) (fun h => nomatch h)), hO42⟩
                    cases hf
                    exact x_aret (PV := pvG (oWa D) sz) E hr hlk hT44 hP hS (by omega) (by omega) dX3_want_122
                  · exact absurd (by decide) kc41
    · exact absurd (by decide) kc4
  · have hf := ite_t kc3 hf
    refine lv_iconst (v := nI 1) hx hb dX3_want_13 rfl ?_
    refine lv_goto (tgt := 18) hx hb dX3_want_14 (by decide) ?_
    refine lv_istore_n (lv' := [(1, .int (nI 1)), (0, .ref a)]) hx hb dX3_want_18 rfl hl (by decide) rfl (fun ls hl => ?_)
    refine lv_iconst (v := (-1)) hx hb dX3_want_19 rfl ?_
    refine lv_istore_n (lv' := [(2, .int (-1)), (1, .int (nI 1)), (0, .ref a)]) hx hb dX3_want_20 rfl hl (by decide) rfl (fun ls hl => ?_)
    refine lv_iconst (v := nI 0) hx hb dX3_want_21 rfl ?_
    refine lv_istore_n (lv' := [(3, .int (nI 0)), (2, .int (-1)), (1, .int (nI 1)), (0, .ref a)]) hx hb dX3_want_22 rfl hl (by decide) rfl (fun ls hl => ?_)
    refine lv_iload_n hx hb dX3_want_23 rfl (lv_at hl 2 rfl) ?_
    refine lv_if_eq (tgt := 34) hx hb dX3_want_24 (by decide) (fun kc45 => ?_) (fun kc45 => ?_)
    · exact absurd kc45 (by decide)
    · skip
      refine lv_aload_n hx hb dX3_want_27 rfl (lv_at hl 3 rfl) ?_
      obtain ⟨μ46, hc47, hf⟩ := ob hf
      refine k_vv (Pic := RP D dT a g ξ β σ ρ Z μ1) (Pic1 := fun H => RD D a g μ46 H) (A1 := rA a) E hS (fun _ _ z => Or.inl z) (fun _ z => Or.inl z) (As := []) (tr_next l D dT a g ξ β σ ρ Z μ1 _ hc47) RP_bl (RP_pre hB hP hS hA) (RD_recv hK hP) (lw_V q432 q434 qs2 q167 q435) dr_next rfl ⟨rfl, rfl⟩ (rmcd_ok (by decide) (by decide)) ⟨show _ ≤ N by omega, show _ ≤ 24 * N by omega⟩ hl rfl (Nat.le_of_ble_eq_true rfl) dX3_want_28 (fun H locs hP _ hq1 hS => ?_)
      have hkp := kp_call0 hq1
      have hzs := hS.1
      refine lv_goto (tgt := 47) hx hb dX3_want_31 (by decide) ?_
      refine lv_aload_n hx hb dX3_want_47 rfl (lv_at hl 3 rfl) ?_
      refine lv_bipush (v := nI 14) hx hb dX3_want_48 rfl ?_
      refine lv_iconst (v := nI 0) hx hb dX3_want_50 rfl ?_
      refine lv_bipush (v := nI 7) hx hb dX3_want_51 rfl ?_
      rcases xq_in hf with ⟨f52, hc51, hx1⟩ | ⟨m49, r48, n50, hc51, hf, en50⟩
      · subst hx1
        exact x_thrV (A1 := nA a H.size) E hS (fun _ _ z => nA_le hsz hzs z) (fun _ z => nA_le hsz hzs z) (As := [.int (nI 14), .int (nI 0), .int (nI 7)]) (tr_behind l hst D dT a g ξ β σ ρ Z H.size (nI 14) (nI 0) (nI 7) μ46 (_, .inl f52) hc51) (fun _ _ _ _ z => z) RQ_bl (RQ_pre hB hP hS hA) (RD_recv hK hP) (lw_V q814 q816 qs30 q167 q817) dr_behind rfl (by omega) (by decide) (by omega) (by omega) ht hlk hl rfl (Nat.le_of_ble_eq_true rfl) dX3_want_53
      · skip
        refine k_vi (Pic := RQ D dT a g ξ β σ ρ Z H.size μ46) (Pic1 := fun H => RD D a g r48.2 H) (A1 := nA a H.size) E hS (fun _ _ z => nA_le hsz hzs z) (fun _ z => nA_le hsz hzs z) (As := [.int (nI 14), .int (nI 0), .int (nI 7)]) (nx_met (tr_behind l hst D dT a g ξ β σ ρ Z H.size (nI 14) (nI 0) (nI 7) μ46 (_, .inr r48) hc51)) RQ_bl (RQ_pre hB hP hS hA) (RD_recv hK hP) (lw_V q814 q816 qs30 q167 q817) dr_behind rfl ⟨rfl, rfl⟩ (rmc_ok (by omega) (by decide)) ⟨show _ ≤ N by omega, show _ ≤ 24 * N by omega⟩ hl rfl (Nat.le_of_ble_eq_true rfl) dX3_want_53 (fun H locs hP hz1 hq1 hS => ?_)
        have hkp := kp_call hq1
        have hzs := hS.1
        refine lv_istore (lv' := [(4, .int r48.1), (3, .int (nI 0)), (2, .int (-1)), (1, .int (nI 1)), (0, .ref a)]) hx hb dX3_want_56 hl (by decide) rfl (fun ls hl => ?_)
        refine lv_aload_n hx hb dX3_want_58 rfl (lv_at hl 4 rfl) ?_
        refine lv_bipush (v := nI 15) hx hb dX3_want_59 rfl ?_
        refine lv_iconst (v := nI 0) hx hb dX3_want_61 rfl ?_
        refine lv_sipush (v := nI 999) hx hb dX3_want_62 rfl ?_
        rcases xq_in hf with ⟨f58, hc57, hx1⟩ | ⟨m55, r54, n56, hc57, hf, en56⟩
        · subst hx1
          exact x_thrV (A1 := nA a H.size) E hS (fun _ _ z => nA_le hsz hzs z) (fun _ z => nA_le hsz hzs z) (As := [.int (nI 15), .int (nI 0), .int (nI 999)]) (tr_behind l hst D dT a g ξ β σ ρ Z H.size (nI 15) (nI 0) (nI 999) r48.2 (_, .inl f58) hc57) (fun _ _ _ _ z => z) RQ_bl (RQ_pre hB hP hS hA) (RD_recv hK hP) (lw_V q814 q816 qs30 q167 q817) dr_behind rfl (by omega) (by decide) (by omega) (by omega) ht hlk hl rfl (Nat.le_of_ble_eq_true rfl) dX3_want_65
        · skip
          refine k_vi (Pic := RQ D dT a g ξ β σ ρ Z H.size r48.2) (Pic1 := fun H => RD D a g r54.2 H) (A1 := nA a H.size) E hS (fun _ _ z => nA_le hsz hzs z) (fun _ z => nA_le hsz hzs z) (As := [.int (nI 15), .int (nI 0), .int (nI 999)]) (nx_met (tr_behind l hst D dT a g ξ β σ ρ Z H.size (nI 15) (nI 0) (nI 999) r48.2 (_, .inr r54) hc57)) RQ_bl (RQ_pre hB hP hS hA) (RD_recv hK hP) (lw_V q814 q816 qs30 q167 q817) dr_behind rfl ⟨rfl, rfl⟩ (rmc_ok (by omega) (by decide)) ⟨show _ ≤ N by omega, show _ ≤ 24 * N by omega⟩ hl rfl (Nat.le_of_ble_eq_true rfl) dX3_want_65 (fun H locs hP hz1 hq1 hS => ?_)
          have hkp := kp_call hq1
          have hzs := hS.1
          refine lv_istore (lv' := [(5, .int r54.1), (4, .int r48.1), (3, .int (nI 0)), (2, .int (-1)), (1, .int (nI 1)), (0, .ref a)]) hx hb dX3_want_68 hl (by decide) rfl (fun ls hl => ?_)
          refine lv_aload_n hx hb dX3_want_70 rfl (lv_at hl 5 rfl) ?_
          refine lv_bipush (v := nI 16) hx hb dX3_want_71 rfl ?_
          refine lv_iconst (v := nI 1) hx hb dX3_want_73 rfl ?_
          refine lv_bipush (v := nI 99) hx hb dX3_want_74 rfl ?_
          rcases xq_in hf with ⟨f64, hc63, hx1⟩ | ⟨m61, r60, n62, hc63, hf, en62⟩
          · subst hx1
            exact x_thrV (A1 := nA a H.size) E hS (fun _ _ z => nA_le hsz hzs z) (fun _ z => nA_le hsz hzs z) (As := [.int (nI 16), .int (nI 1), .int (nI 99)]) (tr_behind l hst D dT a g ξ β σ ρ Z H.size (nI 16) (nI 1) (nI 99) r54.2 (_, .inl f64) hc63) (fun _ _ _ _ z => z) RQ_bl (RQ_pre hB hP hS hA) (RD_recv hK hP) (lw_V q814 q816 qs30 q167 q817) dr_behind rfl (by omega) (by decide) (by omega) (by omega) ht hlk hl rfl (Nat.le_of_ble_eq_true rfl) dX3_want_76
          · skip
            refine k_vi (Pic := RQ D dT a g ξ β σ ρ Z H.size r54.2) (Pic1 := fun H => RD D a g r60.2 H) (A1 := nA a H.size) E hS (fun _ _ z => nA_le hsz hzs z) (fun _ z => nA_le hsz hzs z) (As := [.int (nI 16), .int (nI 1), .int (nI 99)]) (nx_met (tr_behind l hst D dT a g ξ β σ ρ Z H.size (nI 16) (nI 1) (nI 99) r54.2 (_, .inr r60) hc63)) RQ_bl (RQ_pre hB hP hS hA) (RD_recv hK hP) (lw_V q814 q816 qs30 q167 q817) dr_behind rfl ⟨rfl, rfl⟩ (rmc_ok (by omega) (by decide)) ⟨show _ ≤ N by omega, show _ ≤ 24 * N by omega⟩ hl rfl (Nat.le_of_ble_eq_true rfl) dX3_want_76 (fun H locs hP hz1 hq1 hS => ?_)
            have hkp := kp_call hq1
            have hzs := hS.1
            refine lv_istore (lv' := [(6, .int r60.1), (5, .int r54.1), (4, .int r48.1), (3, .int (nI 0)), (2, .int (-1)), (1, .int (nI 1)), (0, .ref a)]) hx hb dX3_want_79 hl (by decide) rfl (fun ls hl => ?_)
            refine lv_aload_n hx hb dX3_want_81 rfl (lv_at hl 6 rfl) ?_
            refine lv_bipush (v := nI 59) hx hb dX3_want_82 rfl ?_
            rcases xq_in hf with ⟨f70, hc69, hx1⟩ | ⟨m67, r66, n68, hc69, hf, en68⟩
            · subst hx1
              exact x_thrV (A1 := nA a H.size) E hS (fun _ _ z => nA_le hsz hzs z) (fun _ z => nA_le hsz hzs z) (As := [.int (nI 59)]) (tr_must l hst D dT a g ξ β σ ρ Z H.size (nI 59) r60.2 (_, .inl f70) hc69) (fun _ _ _ _ z => z) RQ_bl (RQ_pre hB hP hS hA) (RD_recv hK hP) (lw_V q714 q716 qs24 q167 q717) dr_must rfl (by omega) (by decide) (by omega) (by omega) ht hlk hl rfl (Nat.le_of_ble_eq_true rfl) dX3_want_84
            · skip
              refine k_vv (Pic := RQ D dT a g ξ β σ ρ Z H.size r60.2) (Pic1 := fun H => RD D a g r66 H) (A1 := nA a H.size) E hS (fun _ _ z => nA_le hsz hzs z) (fun _ z => nA_le hsz hzs z) (As := [.int (nI 59)]) (nx_met (tr_must l hst D dT a g ξ β σ ρ Z H.size (nI 59) r60.2 (_, .inr r66) hc69)) RQ_bl (RQ_pre hB hP hS hA) (RD_recv hK hP) (lw_V q714 q716 qs24 q167 q717) dr_must rfl ⟨rfl, rfl⟩ (rmc_ok (by omega) (by decide)) ⟨show _ ≤ N by omega, show _ ≤ 24 * N by omega⟩ hl rfl (Nat.le_of_ble_eq_true rfl) dX3_want_84 (fun H locs hP hz1 hq1 hS => ?_)
              have hkp := kp_call hq1
              have hzs := hS.1
              refine lv_iload_n hx hb dX3_want_87 rfl (lv_at hl 5 rfl) ?_
              refine lv_if_eq (tgt := 107) hx hb dX3_want_88 (by decide) (fun kc72 => ?_) (fun kc72 => ?_)
              · exact absurd kc72 (by decide)
              · skip
                obtain ⟨n74, hf, en74⟩ := xn_in hf
                obtain ⟨q73, hqq73⟩ : ∃ z, z = H.size := ⟨_, rfl⟩
                refine x_new (B := 24) (C := RX13) (T := TX13) E hK (ci := 11) rfl in_X13 tyX13 tyX13_ok q845 q846 q187 [.int 0, .int 0, .int 0] (by decide) (by decide) (show _ ≤ N by omega) (show _ ≤ 24 * N by omega) dX3_want_91 (fun H hO73 z1 o1 => ?_)
                have hkp := kp_pure (a := a) o1
                have hP := RD_same hP o1
                have hzs := hS.1
                have hsq73 : sz ≤ q73 := by omega
                have hS := S_new hS z1 o1
                rw [← hqq73] at hO73 ⊢
                have hlq73 : q73 < H.size := by omega
                clear hkp z1 o1
                have hzs := hS.1
                refine lv_dup hx hb dX3_want_94 rfl ?_
                refine lv_iload hx hb dX3_want_95 (lv_at hl 2 rfl) ?_
                refine lv_iload hx hb dX3_want_97 (lv_at hl 1 rfl) ?_
                refine lv_iload hx hb dX3_want_99 (lv_at hl 0 rfl) ?_
                refine k_iv (Pic := oFP D dT 11 3 [.int 0, .int 0, .int 0] q73) (Pic1 := fun H => oF D 11 3 [.int r48.1, .int r54.1, .int r60.1] q73 H) (A1 := eqA q73) E hS (fun z _ ez => Or.inr (by rw [show z = q73 from ez]; omega)) (fun z ez => Or.inr (by rw [show z = q73 from ez]; omega)) (As := [.int r48.1, .int r54.1, .int r60.1]) (tc_ClearWant l D dT q73 r48.1 r54.1 r60.1) oFP_bl (oFP_pre hO73 hE) q847 q848 q187 q849 rfl dc_ClearWant rfl ⟨rfl, rfl⟩ (rmcd_ok (by decide) (by decide)) ⟨show _ ≤ N by omega, show _ ≤ 24 * N by omega⟩ hl rfl (Nat.le_of_ble_eq_true rfl) dX3_want_101 (fun H locs hO73 hz1 hq1 hS => ?_)
                have hkp := kp_init hq1
                have hP := RD_kp hP hkp (by omega)
                have hzs := hS.1
                have hT75 : oWa D ((-1), nI 0, r48.1, r54.1, r60.1) (fz sz []) q73 H := Or.inl ⟨rfl, rfl, (not_fz (L := []) (by omega) (fun h => nomatch h)), hO73⟩
                refine lv_goto (tgt := 122) hx hb dX3_want_104 (by decide) ?_
                cases hf
                exact x_aret (PV := pvG (oWa D) sz) E hr hlk hT75 hP hS (by omega) (by omega) dX3_want_122
set_option maxHeartbeats 4000000 in
noncomputable def fr_deed (ξ : nwM) (nm : Int32) (x1 : Int32) (μ : nwM) : nwR (nwD × nwM) := (fi_isIn (μ 3 0) (nI 17) (nI 19) ()).bind fun v1 => (if v1 = 0 then some (1, .inl (nI 1, μ 2 0)) else (fr_next ξ μ).bind fun μ3 => xq_ (fr_number ξ (nI 0) (nm - (nI 1)) μ3) fun r5 => (if (μ 3 0) = (nI 19) then xn_ 1 (some (0, .inr ((2, x1, r5.1, nI 0), r5.2))) else (if (μ 3 0) = (nI 17) then xq_ (fr_behind ξ (nI 14) (nI 0) (nI 7) r5.2) fun r26 => (if (μ 3 0) = (nI 17) then xn_ 1 (some (0, .inr ((0, x1, r5.1, r26.1), r26.2))) else xn_ 1 (some (0, .inr ((1, x1, r5.1, r26.1), r26.2)))) else xq_ (fr_behind ξ (nI 20) (nI 0) (nI 7) r5.2) fun r13 => (if (μ 3 0) = (nI 17) then xn_ 1 (some (0, .inr ((0, x1, r5.1, r13.1), r13.2))) else xn_ 1 (some (0, .inr ((1, x1, r5.1, r13.1), r13.2)))))))
set_option maxHeartbeats 4000000 in
theorem tr_deed (l : Launch) (hst : l.stackTraces = false) (D : va_G) (dT : Nat → ClassId) (a g : Nat) (ξ : nwM) (β : Nat → Nat) (σ : nwM) (ρ : Nat → Nat) (Z : nwZ) (sz : Nat) {nm : Int32} (hnm : σ 13 0 = nm) (x1 : Int32) (μ : nwM) (res : Nat × (nwF ⊕ (nwD × nwM))) (hf : fr_deed ξ nm x1 μ = some res) : nx_Met l yX3_deed (ws_ yX3_deed cX3_deed 5 (some (.object "NamesWeather$Deed"))) (rmc (11) res.1) (va_Pc [.ref a, .int x1] (RQ D dT a g ξ β σ ρ Z sz μ)) (QcR D a g (nA a sz) (pvG (oDe D) sz) res.2) (XcR D (nA a sz) res.2) res.1 (24 * res.1) (nA a sz) := by
  obtain ⟨N, out⟩ := res
  refine x_met (own := RX3) (by decide) rfl (Nat.le_of_ble_eq_true rfl) ?_
  intro p e s m below meth c ls E hP hr hlk ht hl
  obtain ⟨⟨hP, hB⟩, hsz⟩ := hP
  have hE := hB.2.1
  have hK := hE.1
  have hasz : a < sz := by rw [← hsz]; exact RD_lt hP
  have hA : ∀ q, nA a sz q → q = a ∨ s.heap.size ≤ q := fun q z => by rw [hsz]; exact z
  have hZa := hB.2.2.2.2.1
  skip
  have hS : va_S (nA a sz) s.heap s.heap [] := va_S.rf
  have hzs := hS.1
  obtain ⟨hx, hb, hml, hown, hts⟩ := id E
  have hl : lv_has ls 5 [(0, .ref a), (1, .int x1)] := hl
  obtain ⟨H, hH⟩ : ∃ z, z = s.heap := ⟨_, rfl⟩
  rw [← hH] at hP
  have hS : va_S (nA a sz) s.heap H [] := by rw [hH]; exact va_S.rf
  show W p l e (rmc (11) N) s m _ below meth c s.heap [] 0 0 (nx_MQ below (QcR D a g (nA a sz) (pvG (oDe D) sz) out) (XcR D (nA a sz) out) _ s N (24 * N) (nA a sz)) (F0 m 0 ls [])
  rw [← hH]
  have hzs := hS.1
  have hf : ((fi_isIn (μ 3 0) (nI 17) (nI 19) ()).bind fun v1 => (if v1 = 0 then some (1, .inl (nI 1, μ 2 0)) else (fr_next ξ μ).bind fun μ3 => xq_ (fr_number ξ (nI 0) (nm - (nI 1)) μ3) fun r5 => (if (μ 3 0) = (nI 19) then xn_ 1 (some (0, .inr ((2, x1, r5.1, nI 0), r5.2))) else (if (μ 3 0) = (nI 17) then xq_ (fr_behind ξ (nI 14) (nI 0) (nI 7) r5.2) fun r26 => (if (μ 3 0) = (nI 17) then xn_ 1 (some (0, .inr ((0, x1, r5.1, r26.1), r26.2))) else xn_ 1 (some (0, .inr ((1, x1, r5.1, r26.1), r26.2)))) else xq_ (fr_behind ξ (nI 20) (nI 0) (nI 7) r5.2) fun r13 => (if (μ 3 0) = (nI 17) then xn_ 1 (some (0, .inr ((0, x1, r5.1, r13.1), r13.2))) else xn_ 1 (some (0, .inr ((1, x1, r5.1, r13.1), r13.2)))))))) = some (N, out) := hf
  refine lv_aload_n hx hb dX3_deed_0 rfl (lv_at hl 0 rfl) ?_
  refine gp_get (C := RX3) (T := TX3) E hK (oneO (dT := dT) hP) (if_pos rfl) rfl in_X3 3 (by decide) (hts _ q407) (fun _ z => z) (v := .int (μ 3 0)) rfl dX3_deed_1 ?_
  refine lv_bipush (v := nI 17) hx hb dX3_deed_4 rfl ?_
  refine lv_bipush (v := nI 19) hx hb dX3_deed_6 rfl ?_
  obtain ⟨v1, hv1, hf⟩ := ob hf
  refine k_siN (Pic := fun _ => True) (Pic1 := fun _ => True) (A1 := fun _ => False) E hS (fun _ _ z => z.elim) (fun _ z => z.elim) (As := [.int (μ 3 0), .int (nI 17), .int (nI 19)]) (ti_isIn l (μ 3 0) (nI 17) (nI 19) _ hv1) (fun _ _ _ _ h => h) (fun _ _ _ => trivial) (nmw_1 hE.2) q161 q387 q388 di_isIn rfl ⟨rfl, rfl⟩ (rmcd_ok (by decide) (by decide)) ⟨show _ ≤ N by omega, show _ ≤ 24 * N by omega⟩ hl rfl (Nat.le_of_ble_eq_true rfl) dX3_deed_8 (fun H locs _ _ hq1 hS => ?_)
  have hkp := kp_pureF (a := a) hq1
  have hP := RD_same hP (fun q z => hq1 q z (fun y => y))
  have hzs := hS.1
  refine lv_if_ne (tgt := 27) hx hb dX3_deed_11 (by decide) (fun kc2 => ?_) (fun kc2 => ?_)
  · have hf := ite_f kc2 hf
    refine lv_aload_n hx hb dX3_deed_27 rfl (lv_at hl 0 rfl) ?_
    refine gp_get (C := RX3) (T := TX3) E hK (oneO (dT := dT) hP) (if_pos rfl) rfl in_X3 3 (by decide) (hts _ q407) (fun _ z => z) (v := .int (μ 3 0)) rfl dX3_deed_28 ?_
    refine lv_istore_n (lv' := [(2, .int (μ 3 0)), (0, .ref a), (1, .int x1)]) hx hb dX3_deed_31 rfl hl (by decide) rfl (fun ls hl => ?_)
    refine lv_aload_n hx hb dX3_deed_32 rfl (lv_at hl 1 rfl) ?_
    obtain ⟨μ3, hc4, hf⟩ := ob hf
    refine k_vv (Pic := RP D dT a g ξ β σ ρ Z μ) (Pic1 := fun H => RD D a g μ3 H) (A1 := rA a) E hS (fun _ _ z => Or.inl z) (fun _ z => Or.inl z) (As := []) (tr_next l D dT a g ξ β σ ρ Z μ _ hc4) RP_bl (RP_pre hB hP hS hA) (RD_recv hK hP) (lw_V q432 q434 qs2 q167 q435) dr_next rfl ⟨rfl, rfl⟩ (rmcd_ok (by decide) (by decide)) ⟨show _ ≤ N by omega, show _ ≤ 24 * N by omega⟩ hl rfl (Nat.le_of_ble_eq_true rfl) dX3_deed_33 (fun H locs hP _ hq1 hS => ?_)
    have hkp := kp_call0 hq1
    have hzs := hS.1
    refine lv_aload_n hx hb dX3_deed_36 rfl (lv_at hl 1 rfl) ?_
    refine lv_iconst (v := nI 0) hx hb dX3_deed_37 rfl ?_
    refine lv_aload_n hx hb dX3_deed_38 rfl (lv_at hl 1 rfl) ?_
    refine gp_get (C := RX3) (T := TX3) E hK (oneO (dT := dT) hP) (if_pos rfl) rfl in_X3 6 (by decide) (hts _ q410) (fun _ z => z) (v := .ref g) rfl dX3_deed_39 ?_
    refine gp_getN (C := RX0) (T := TX0) E hK (RB_at hB hS hA).1 (shO_g g) rfl in_X0 4 (by decide) (nfw_33 hE.2) (fun _ z => z) vO_4 dX3_deed_42 ?_
    refine gp_getN (C := RX1) (T := TX1) E hK (RB_at hB hS hA).2 (shS_h _) rfl in_X1 13 (by decide) (nfw_30 hE.2) (fun _ z => z) (vS_i (by decide)) dX3_deed_45 ?_
    refine lv_nm hnm ?_
    refine lv_iconst (v := nI 1) hx hb dX3_deed_48 rfl ?_
    refine lv_isub hx hb dX3_deed_49 ?_
    rcases xq_in hf with ⟨f9, hc8, hx1⟩ | ⟨m6, r5, n7, hc8, hf, en7⟩
    · subst hx1
      exact x_thrV (A1 := nA a H.size) E hS (fun _ _ z => nA_le hsz hzs z) (fun _ z => nA_le hsz hzs z) (As := [.int (nI 0), .int (nm - (nI 1))]) (tr_number l hst D dT a g ξ β σ ρ Z H.size (nI 0) (nm - (nI 1)) μ3 (_, .inl f9) hc8) (fun _ _ _ _ z => z) RQ_bl (RQ_pre hB hP hS hA) (RD_recv hK hP) (lw_V q647 q649 qs19 q167 q650) dr_number rfl (by omega) (by decide) (by omega) (by omega) ht hlk hl rfl (Nat.le_of_ble_eq_true rfl) dX3_deed_50
    · skip
      refine k_vi (Pic := RQ D dT a g ξ β σ ρ Z H.size μ3) (Pic1 := fun H => RD D a g r5.2 H) (A1 := nA a H.size) E hS (fun _ _ z => nA_le hsz hzs z) (fun _ z => nA_le hsz hzs z) (As := [.int (nI 0), .int (nm - (nI 1))]) (nx_met (tr_number l hst D dT a g ξ β σ ρ Z H.size (nI 0) (nm - (nI 1)) μ3 (_, .inr r5) hc8)) RQ_bl (RQ_pre hB hP hS hA) (RD_recv hK hP) (lw_V q647 q649 qs19 q167 q650) dr_number rfl ⟨rfl, rfl⟩ (rmc_ok (by omega) (by decide)) ⟨show _ ≤ N by omega, show _ ≤ 24 * N by omega⟩ hl rfl (Nat.le_of_ble_eq_true rfl) dX3_deed_50 (fun H locs hP hz1 hq1 hS => ?_)
      have hkp := kp_call hq1
      have hzs := hS.1
      refine lv_istore_n (lv' := [(3, .int r5.1), (2, .int (μ 3 0)), (0, .ref a), (1, .int x1)]) hx hb dX3_deed_53 rfl hl (by decide) rfl (fun ls hl => ?_)
      refine lv_iload_n hx hb dX3_deed_54 rfl (lv_at hl 1 rfl) ?_
      refine lv_bipush (v := nI 19) hx hb dX3_deed_55 rfl ?_
      refine lv_icmp_ne (tgt := 70) hx hb dX3_deed_57 (by decide) (fun kc11 => ?_) (fun kc11 => ?_)
      · have hf := ite_f kc11 hf
        refine lv_aload_n hx hb dX3_deed_70 rfl (lv_at hl 2 rfl) ?_
        refine lv_iload_n hx hb dX3_deed_71 rfl (lv_at hl 1 rfl) ?_
        refine lv_bipush (v := nI 17) hx hb dX3_deed_72 rfl ?_
        refine lv_icmp_ne (tgt := 82) hx hb dX3_deed_74 (by decide) (fun kc12 => ?_) (fun kc12 => ?_)
        · have hf := ite_f kc12 hf
          refine lv_bipush (v := nI 20) hx hb dX3_deed_82 rfl ?_
          refine lv_iconst (v := nI 0) hx hb dX3_deed_84 rfl ?_
          refine lv_bipush (v := nI 7) hx hb dX3_deed_85 rfl ?_
          rcases xq_in hf with ⟨f17, hc16, hx1⟩ | ⟨m14, r13, n15, hc16, hf, en15⟩
          · subst hx1
            exact x_thrV (A1 := nA a H.size) E hS (fun _ _ z => nA_le hsz hzs z) (fun _ z => nA_le hsz hzs z) (As := [.int (nI 20), .int (nI 0), .int (nI 7)]) (tr_behind l hst D dT a g ξ β σ ρ Z H.size (nI 20) (nI 0) (nI 7) r5.2 (_, .inl f17) hc16) (fun _ _ _ _ z => z) RQ_bl (RQ_pre hB hP hS hA) (RD_recv hK hP) (lw_V q814 q816 qs30 q167 q817) dr_behind rfl (by omega) (by decide) (by omega) (by omega) ht hlk hl rfl (Nat.le_of_ble_eq_true rfl) dX3_deed_87
          · skip
            refine k_vi (Pic := RQ D dT a g ξ β σ ρ Z H.size r5.2) (Pic1 := fun H => RD D a g r13.2 H) (A1 := nA a H.size) E hS (fun _ _ z => nA_le hsz hzs z) (fun _ z => nA_le hsz hzs z) (As := [.int (nI 20), .int (nI 0), .int (nI 7)]) (nx_met (tr_behind l hst D dT a g ξ β σ ρ Z H.size (nI 20) (nI 0) (nI 7) r5.2 (_, .inr r13) hc16)) RQ_bl (RQ_pre hB hP hS hA) (RD_recv hK hP) (lw_V q814 q816 qs30 q167 q817) dr_behind rfl ⟨rfl, rfl⟩ (rmc_ok (by omega) (by decide)) ⟨show _ ≤ N by omega, show _ ≤ 24 * N by omega⟩ hl rfl (Nat.le_of_ble_eq_true rfl) dX3_deed_87 (fun H locs hP hz1 hq1 hS => ?_)
            have hkp := kp_call hq1
            have hzs := hS.1
            refine lv_istore (lv' := [(4, .int r13.1), (3, .int r5.1), (2, .int (μ 3 0)), (0, .ref a), (1, .int x1)]) hx hb dX3_deed_90 hl (by decide) rfl (fun ls hl => ?_)
            refine lv_iload_n hx hb dX3_deed_92 rfl (lv_at hl 2 rfl) ?_
            refine lv_bipush (v := nI 17) hx hb dX3_deed_93 rfl ?_
            refine lv_icmp_ne (tgt := 112) hx hb dX3_deed_95 (by decide) (fun kc19 => ?_) (fun kc19 => ?_)
            · have hf := ite_f kc19 hf
              obtain ⟨n21, hf, en21⟩ := xn_in hf
              obtain ⟨q20, hqq20⟩ : ∃ z, z = H.size := ⟨_, rfl⟩
              refine x_new (B := 24) (C := RX18) (T := TX18) E hK (ci := 15) rfl in_X18 tyX18 tyX18_ok q918 q919 q192 [.int 0, .int 0, .int 0] (by decide) (by decide) (show _ ≤ N by omega) (show _ ≤ 24 * N by omega) dX3_deed_112 (fun H hO20 z1 o1 => ?_)
              have hkp := kp_pure (a := a) o1
              have hP := RD_same hP o1
              have hzs := hS.1
              have hsq20 : sz ≤ q20 := by omega
              have hS := S_new hS z1 o1
              rw [← hqq20] at hO20 ⊢
              have hlq20 : q20 < H.size := by omega
              clear hkp z1 o1
              have hzs := hS.1
              refine lv_dup hx hb dX3_deed_115 rfl ?_
              refine lv_iload_n hx hb dX3_deed_116 rfl (lv_at hl 4 rfl) ?_
              refine lv_iload_n hx hb dX3_deed_117 rfl (lv_at hl 1 rfl) ?_
              refine lv_iload hx hb dX3_deed_118 (lv_at hl 0 rfl) ?_
              refine k_iv (Pic := oFP D dT 15 3 [.int 0, .int 0, .int 0] q20) (Pic1 := fun H => oF D 15 3 [.int x1, .int r5.1, .int r13.1] q20 H) (A1 := eqA q20) E hS (fun z _ ez => Or.inr (by rw [show z = q20 from ez]; omega)) (fun z ez => Or.inr (by rw [show z = q20 from ez]; omega)) (As := [.int x1, .int r5.1, .int r13.1]) (tc_Move l D dT q20 x1 r5.1 r13.1) oFP_bl (oFP_pre hO20 hE) q920 q921 q192 q922 rfl dc_Move rfl ⟨rfl, rfl⟩ (rmcd_ok (by decide) (by decide)) ⟨show _ ≤ N by omega, show _ ≤ 24 * N by omega⟩ hl rfl (Nat.le_of_ble_eq_true rfl) dX3_deed_120 (fun H locs hO20 hz1 hq1 hS => ?_)
              have hkp := kp_init hq1
              have hP := RD_kp hP hkp (by omega)
              have hzs := hS.1
              have hT22 : oDe D (1, x1, r5.1, r13.1) (fz sz []) q20 H := Or.inr (Or.inl ⟨rfl, (not_fz (L := []) (by omega) (fun h => nomatch h)), hO20⟩)
              cases hf
              exact x_aret (PV := pvG (oDe D) sz) E hr hlk hT22 hP hS (by omega) (by omega) dX3_deed_123
            · have hf := ite_t kc19 hf
              obtain ⟨n24, hf, en24⟩ := xn_in hf
              obtain ⟨q23, hqq23⟩ : ∃ z, z = H.size := ⟨_, rfl⟩
              refine x_new (B := 24) (C := RX17) (T := TX17) E hK (ci := 14) rfl in_X17 tyX17 tyX17_ok q906 q907 q191 [.int 0, .int 0, .int 0] (by decide) (by decide) (show _ ≤ N by omega) (show _ ≤ 24 * N by omega) dX3_deed_98 (fun H hO23 z1 o1 => ?_)
              have hkp := kp_pure (a := a) o1
              have hP := RD_same hP o1
              have hzs := hS.1
              have hsq23 : sz ≤ q23 := by omega
              have hS := S_new hS z1 o1
              rw [← hqq23] at hO23 ⊢
              have hlq23 : q23 < H.size := by omega
              clear hkp z1 o1
              have hzs := hS.1
              refine lv_dup hx hb dX3_deed_101 rfl ?_
              refine lv_iload_n hx hb dX3_deed_102 rfl (lv_at hl 4 rfl) ?_
              refine lv_iload_n hx hb dX3_deed_103 rfl (lv_at hl 1 rfl) ?_
              refine lv_iload hx hb dX3_deed_104 (lv_at hl 0 rfl) ?_
              refine k_iv (Pic := oFP D dT 14 3 [.int 0, .int 0, .int 0] q23) (Pic1 := fun H => oF D 14 3 [.int x1, .int r5.1, .int r13.1] q23 H) (A1 := eqA q23) E hS (fun z _ ez => Or.inr (by rw [show z = q23 from ez]; omega)) (fun z ez => Or.inr (by rw [show z = q23 from ez]; omega)) (As := [.int x1, .int r5.1, .int r13.1]) (tc_Call l D dT q23 x1 r5.1 r13.1) oFP_bl (oFP_pre hO23 hE) q908 q909 q191 q910 rfl dc_Call rfl ⟨rfl, rfl⟩ (rmcd_ok (by decide) (by decide)) ⟨show _ ≤ N by omega, show _ ≤ 24 * N by omega⟩ hl rfl (Nat.le_of_ble_eq_true rfl) dX3_deed_106 (fun H locs hO23 hz1 hq1 hS => ?_)
              have hkp := kp_init hq1
              have hP := RD_kp hP hkp (by omega)
              have hzs := hS.1
              have hT25 : oDe D (0, x1, r5.1, r13.1) (fz sz []) q23 H := Or.inl ⟨rfl, (not_fz (L := []) (by omega) (fun h => nomatch h)), hO23⟩
              refine lv_goto (tgt := 123) hx hb dX3_deed_109 (by decide) ?_
              cases hf
              exact x_aret (PV := pvG (oDe D) sz) E hr hlk hT25 hP hS (by omega) (by omega) dX3_deed_123
        · have hf := ite_t kc12 hf
          refine lv_bipush (v := nI 14) hx hb dX3_deed_77 rfl ?_
          refine lv_goto (tgt := 84) hx hb dX3_deed_79 (by decide) ?_
          refine lv_iconst (v := nI 0) hx hb dX3_deed_84 rfl ?_
          refine lv_bipush (v := nI 7) hx hb dX3_deed_85 rfl ?_
          rcases xq_in hf with ⟨f30, hc29, hx1⟩ | ⟨m27, r26, n28, hc29, hf, en28⟩
          · subst hx1
            exact x_thrV (A1 := nA a H.size) E hS (fun _ _ z => nA_le hsz hzs z) (fun _ z => nA_le hsz hzs z) (As := [.int (nI 14), .int (nI 0), .int (nI 7)]) (tr_behind l hst D dT a g ξ β σ ρ Z H.size (nI 14) (nI 0) (nI 7) r5.2 (_, .inl f30) hc29) (fun _ _ _ _ z => z) RQ_bl (RQ_pre hB hP hS hA) (RD_recv hK hP) (lw_V q814 q816 qs30 q167 q817) dr_behind rfl (by omega) (by decide) (by omega) (by omega) ht hlk hl rfl (Nat.le_of_ble_eq_true rfl) dX3_deed_87
          · skip
            refine k_vi (Pic := RQ D dT a g ξ β σ ρ Z H.size r5.2) (Pic1 := fun H => RD D a g r26.2 H) (A1 := nA a H.size) E hS (fun _ _ z => nA_le hsz hzs z) (fun _ z => nA_le hsz hzs z) (As := [.int (nI 14), .int (nI 0), .int (nI 7)]) (nx_met (tr_behind l hst D dT a g ξ β σ ρ Z H.size (nI 14) (nI 0) (nI 7) r5.2 (_, .inr r26) hc29)) RQ_bl (RQ_pre hB hP hS hA) (RD_recv hK hP) (lw_V q814 q816 qs30 q167 q817) dr_behind rfl ⟨rfl, rfl⟩ (rmc_ok (by omega) (by decide)) ⟨show _ ≤ N by omega, show _ ≤ 24 * N by omega⟩ hl rfl (Nat.le_of_ble_eq_true rfl) dX3_deed_87 (fun H locs hP hz1 hq1 hS => ?_)
            have hkp := kp_call hq1
            have hzs := hS.1
            refine lv_istore (lv' := [(4, .int r26.1), (3, .int r5.1), (2, .int (μ 3 0)), (0, .ref a), (1, .int x1)]) hx hb dX3_deed_90 hl (by decide) rfl (fun ls hl => ?_)
            refine lv_iload_n hx hb dX3_deed_92 rfl (lv_at hl 2 rfl) ?_
            refine lv_bipush (v := nI 17) hx hb dX3_deed_93 rfl ?_
            refine lv_icmp_ne (tgt := 112) hx hb dX3_deed_95 (by decide) (fun kc32 => ?_) (fun kc32 => ?_)
            · have hf := ite_f kc32 hf
              obtain ⟨n34, hf, en34⟩ := xn_in hf
              obtain ⟨q33, hqq33⟩ : ∃ z, z = H.size := ⟨_, rfl⟩
              refine x_new (B := 24) (C := RX18) (T := TX18) E hK (ci := 15) rfl in_X18 tyX18 tyX18_ok q918 q919 q192 [.int 0, .int 0, .int 0] (by decide) (by decide) (show _ ≤ N by omega) (show _ ≤ 24 * N by omega) dX3_deed_112 (fun H hO33 z1 o1 => ?_)
              have hkp := kp_pure (a := a) o1
              have hP := RD_same hP o1
              have hzs := hS.1
              have hsq33 : sz ≤ q33 := by omega
              have hS := S_new hS z1 o1
              rw [← hqq33] at hO33 ⊢
              have hlq33 : q33 < H.size := by omega
              clear hkp z1 o1
              have hzs := hS.1
              refine lv_dup hx hb dX3_deed_115 rfl ?_
              refine lv_iload_n hx hb dX3_deed_116 rfl (lv_at hl 4 rfl) ?_
              refine lv_iload_n hx hb dX3_deed_117 rfl (lv_at hl 1 rfl) ?_
              refine lv_iload hx hb dX3_deed_118 (lv_at hl 0 rfl) ?_
              refine k_iv (Pic := oFP D dT 15 3 [.int 0, .int 0, .int 0] q33) (Pic1 := fun H => oF D 15 3 [.int x1, .int r5.1, .int r26.1] q33 H) (A1 := eqA q33) E hS (fun z _ ez => Or.inr (by rw [show z = q33 from ez]; omega)) (fun z ez => Or.inr (by rw [show z = q33 from ez]; omega)) (As := [.int x1, .int r5.1, .int r26.1]) (tc_Move l D dT q33 x1 r5.1 r26.1) oFP_bl (oFP_pre hO33 hE) q920 q921 q192 q922 rfl dc_Move rfl ⟨rfl, rfl⟩ (rmcd_ok (by decide) (by decide)) ⟨show _ ≤ N by omega, show _ ≤ 24 * N by omega⟩ hl rfl (Nat.le_of_ble_eq_true rfl) dX3_deed_120 (fun H locs hO33 hz1 hq1 hS => ?_)
              have hkp := kp_init hq1
              have hP := RD_kp hP hkp (by omega)
              have hzs := hS.1
              have hT35 : oDe D (1, x1, r5.1, r26.1) (fz sz []) q33 H := Or.inr (Or.inl ⟨rfl, (not_fz (L := []) (by omega) (fun h => nomatch h)), hO33⟩)
              cases hf
              exact x_aret (PV := pvG (oDe D) sz) E hr hlk hT35 hP hS (by omega) (by omega) dX3_deed_123
            · have hf := ite_t kc32 hf
              obtain ⟨n37, hf, en37⟩ := xn_in hf
              obtain ⟨q36, hqq36⟩ : ∃ z, z = H.size := ⟨_, rfl⟩
              refine x_new (B := 24) (C := RX17) (T := TX17) E hK (ci := 14) rfl in_X17 tyX17 tyX17_ok q906 q907 q191 [.int 0, .int 0, .int 0] (by decide) (by decide) (show _ ≤ N by omega) (show _ ≤ 24 * N by omega) dX3_deed_98 (fun H hO36 z1 o1 => ?_)
              have hkp := kp_pure (a := a) o1
              have hP := RD_same hP o1
              have hzs := hS.1
              have hsq36 : sz ≤ q36 := by omega
              have hS := S_new hS z1 o1
              rw [← hqq36] at hO36 ⊢
              have hlq36 : q36 < H.size := by omega
              clear hkp z1 o1
              have hzs := hS.1
              refine lv_dup hx hb dX3_deed_101 rfl ?_
              refine lv_iload_n hx hb dX3_deed_102 rfl (lv_at hl 4 rfl) ?_
              refine lv_iload_n hx hb dX3_deed_103 rfl (lv_at hl 1 rfl) ?_
              refine lv_iload hx hb dX3_deed_104 (lv_at hl 0 rfl) ?_
              refine k_iv (Pic := oFP D dT 14 3 [.int 0, .int 0, .int 0] q36) (Pic1 := fun H => oF D 14 3 [.int x1, .int r5.1, .int r26.1] q36 H) (A1 := eqA q36) E hS (fun z _ ez => Or.inr (by rw [show z = q36 from ez]; omega)) (fun z ez => Or.inr (by rw [show z = q36 from ez]; omega)) (As := [.int x1, .int r5.1, .int r26.1]) (tc_Call l D dT q36 x1 r5.1 r26.1) oFP_bl (oFP_pre hO36 hE) q908 q909 q191 q910 rfl dc_Call rfl ⟨rfl, rfl⟩ (rmcd_ok (by decide) (by decide)) ⟨show _ ≤ N by omega, show _ ≤ 24 * N by omega⟩ hl rfl (Nat.le_of_ble_eq_true rfl) dX3_deed_106 (fun H locs hO36 hz1 hq1 hS => ?_)
              have hkp := kp_init hq1
              have hP := RD_kp hP hkp (by omega)
              have hzs := hS.1
              have hT38 : oDe D (0, x1, r5.1, r26.1) (fz sz []) q36 H := Or.inl ⟨rfl, (not_fz (L := []) (by omega) (fun h => nomatch h)), hO36⟩
              refine lv_goto (tgt := 123) hx hb dX3_deed_109 (by decide) ?_
              cases hf
              exact x_aret (PV := pvG (oDe D) sz) E hr hlk hT38 hP hS (by omega) (by omega) dX3_deed_123
      · have hf := ite_t kc11 hf
        obtain ⟨n40, hf, en40⟩ := xn_in hf
        obtain ⟨q39, hqq39⟩ : ∃ z, z = H.size := ⟨_, rfl⟩
        refine x_new (B := 24) (C := RX16) (T := TX16) E hK (ci := 13) rfl in_X16 tyX16 tyX16_ok q890 q891 q190 [.int 0, .int 0] (by decide) (by decide) (show _ ≤ N by omega) (show _ ≤ 24 * N by omega) dX3_deed_60 (fun H hO39 z1 o1 => ?_)
        have hkp := kp_pure (a := a) o1
        have hP := RD_same hP o1
        have hzs := hS.1
        have hsq39 : sz ≤ q39 := by omega
        have hS := S_new hS z1 o1
        rw [← hqq39] at hO39 ⊢
        have hlq39 : q39 < H.size := by omega
        clear hkp z1 o1
        have hzs := hS.1
        refine lv_dup hx hb dX3_deed_63 rfl ?_
        refine lv_iload_n hx hb dX3_deed_64 rfl (lv_at hl 3 rfl) ?_
        refine lv_iload_n hx hb dX3_deed_65 rfl (lv_at hl 0 rfl) ?_
        refine k_iv (Pic := oFP D dT 13 2 [.int 0, .int 0] q39) (Pic1 := fun H => oF D 13 2 [.int x1, .int r5.1] q39 H) (A1 := eqA q39) E hS (fun z _ ez => Or.inr (by rw [show z = q39 from ez]; omega)) (fun z ez => Or.inr (by rw [show z = q39 from ez]; omega)) (As := [.int x1, .int r5.1]) (tc_Bury l D dT q39 x1 r5.1) oFP_bl (oFP_pre hO39 hE) q892 q893 q190 q894 rfl dc_Bury rfl ⟨rfl, rfl⟩ (rmcd_ok (by decide) (by decide)) ⟨show _ ≤ N by omega, show _ ≤ 24 * N by omega⟩ hl rfl (Nat.le_of_ble_eq_true rfl) dX3_deed_66 (fun H locs hO39 hz1 hq1 hS => ?_)
        have hkp := kp_init hq1
        have hP := RD_kp hP hkp (by omega)
        have hzs := hS.1
        have hT41 : oDe D (2, x1, r5.1, nI 0) (fz sz []) q39 H := Or.inr (Or.inr ⟨rfl, (not_fz (L := []) (by omega) (fun h => nomatch h)), hO39⟩)
        cases hf
        exact x_aret (PV := pvG (oDe D) sz) E hr hlk hT41 hP hS (by omega) (by omega) dX3_deed_69
  · have hf := ite_t kc2 hf
    cases hf
    exact r_throw hst E hB ht hlk hP hS hsz hl (lv_at hl 0 rfl) (by omega) (by omega) (by omega) dX3_deed_14 dX3_deed_17 dX3_deed_18 rfl dX3_deed_19 dX3_deed_20 dX3_deed_23 dX3_deed_26
set_option maxHeartbeats 4000000 in
noncomputable def fr_law_L12 (ξ : nwM) : (List nwL2 × nwM) → nwR ((List nwL2 × nwM) ⊕ (List nwL2 × nwM)) := fun st => (if (st.2 3 0) = 0 then some (0, .inr (.inr (st.1, st.2))) else (fi_isIn (st.2 3 0) (nI 7) (nI 9) ()).bind fun v7 => (if v7 = 0 then some (1, .inl (nI 1, st.2 2 0)) else (if (nI (st.1).length) = (nI 16) then some (1, .inl (nI 3, st.2 2 0)) else (wf_ st.2 5 (nI 0)).bind fun μ10 => (fr_next ξ μ10).bind fun μ11 => xq_ (fr_sum ξ μ11) fun r13 => (if (r13.2 3 0) = (nI 3) then (fr_next ξ r13.2).bind fun μ31 => xq_ (fr_cond ξ 30 0 μ31) fun r33 => xq_ (fr_must ξ (nI 59) r33.2) fun r39 => xn_ 1 ((if (st.1).length ≤ 15 then xn_ 1 (some (0, .inr (.inl (st.1 ++ [(st.2 3 0, r13.1, some r33.1)], r39)))) else none)) else xq_ (fr_must ξ (nI 59) r13.2) fun r20 => xn_ 1 ((if (st.1).length ≤ 15 then xn_ 1 (some (0, .inr (.inl (st.1 ++ [(st.2 3 0, r13.1, none)], r20)))) else none))))))
set_option maxHeartbeats 4000000 in
noncomputable def fr_law (ξ : nwM) (μ : nwM) : nwR (List nwL2 × nwM) := xn_ 1 ((fr_next ξ μ).bind fun μ4 => xq_ (wc_ (fr_law_L12 ξ) (([] : List nwL2), μ4)) fun x50 => some (0, .inr (x50.1, x50.2)))
set_option maxHeartbeats 4000000 in
theorem fr_law_L12_w {p : Program} {l : Launch} {e : Env} {s : State} {m : MethodId} {args : Array Value} {below : List Frame} {meth : Method} {c : Code} {D : va_G} {dT : Nat → ClassId} {a g : Nat} {ξ σ : nwM} {β ρ : Nat → Nat} {Z : nwZ} {sz N nr : Nat} {Qc : Array Value → State → Outcome → State → Prop} {γ : Type} {out : nwF ⊕ γ} (hst : l.stackTraces = false) (E : CallFix p m c cX3_law 5 s args lw_all RX3) (hE : EV D dT s) (hB : RB D dT a g ξ β σ ρ Z s) (hsz : s.heap.size = sz) (hasz : a < sz) (ht : ∀ x ∈ c.exceptionTable.toList, False) (hlk : meth.locks = false) {st : List nwL2 × nwM} {n : Nat} {x : nwF ⊕ (List nwL2 × nwM)} (hw : wc_ (fr_law_L12 ξ) st = some (n, x)) (hfin : (Sum.elim (fun fl => out = .inl fl) (fun (r : List nwL2 × nwM) => ∀ (b1_ : Nat) (ls : Array Slot) (H : Heap) (locs : List Loc) (cells slots : Nat), lv_has ls 5 [(1, .ref b1_)] → LF D dT Z (PL D) sz r.1 b1_ H → RD D a g r.2 H → va_S (nA a sz) s.heap H locs → cells + nr ≤ N → slots + 24 * nr ≤ 24 * N → W p l e (rmc 44 N) s m args below meth c H locs cells slots (nx_MQ below Qc (XcR D (nA a sz) out) args s N (24 * N) (nA a sz)) (F0 m 133 ls []))) x) : (fun (st : List nwL2 × nwM) (n : Nat) => ∀ (b1_ : Nat) (ls : Array Slot) (H : Heap) (locs : List Loc) (cells slots : Nat), lv_has ls 5 [(0, .ref a), (1, .ref b1_)] → LF D dT Z (PL D) sz st.1 b1_ H → RD D a g st.2 H → va_S (nA a sz) s.heap H locs → cells + (n + nr) ≤ N → slots + 24 * (n + nr) ≤ 24 * N → W p l e (rmc 44 N) s m args below meth c H locs cells slots (nx_MQ below Qc (XcR D (nA a sz) out) args s N (24 * N) (nA a sz)) (F0 m 12 ls [])) st n := by
  obtain ⟨hx, hb, hml, hown, hts⟩ := id E
  have hK := hE.1
  have hA : ∀ q, nA a sz q → q = a ∨ s.heap.size ≤ q := fun q z => by rw [hsz]; exact z
  have hZa := hB.2.2.2.2.1
  have hE0 : Z.2.2.1 < sz := SV_e0 hB.2.2.1 hsz
  refine wc_run (S := (fun (st : List nwL2 × nwM) (n : Nat) => ∀ (b1_ : Nat) (ls : Array Slot) (H : Heap) (locs : List Loc) (cells slots : Nat), lv_has ls 5 [(0, .ref a), (1, .ref b1_)] → LF D dT Z (PL D) sz st.1 b1_ H → RD D a g st.2 H → va_S (nA a sz) s.heap H locs → cells + (n + nr) ≤ N → slots + 24 * (n + nr) ≤ 24 * N → W p l e (rmc 44 N) s m args below meth c H locs cells slots (nx_MQ below Qc (XcR D (nA a sz) out) args s N (24 * N) (nA a sz)) (F0 m 12 ls []))) (fin := (Sum.elim (fun fl => out = .inl fl) (fun (r : List nwL2 × nwM) => ∀ (b1_ : Nat) (ls : Array Slot) (H : Heap) (locs : List Loc) (cells slots : Nat), lv_has ls 5 [(1, .ref b1_)] → LF D dT Z (PL D) sz r.1 b1_ H → RD D a g r.2 H → va_S (nA a sz) s.heap H locs → cells + nr ≤ N → slots + 24 * nr ≤ 24 * N → W p l e (rmc 44 N) s m args below meth c H locs cells slots (nx_MQ below Qc (XcR D (nA a sz) out) args s N (24 * N) (nA a sz)) (F0 m 133 ls [])))) ?_ hw hfin
  clear hw hfin
  intro st m1 y n1 hf hk b1_ ls H locs cells slots hl hT1_ hP hS hC1 hC2
  have hzs := hS.1
  have hf : ((if (st.2 3 0) = 0 then some (0, .inr (.inr (st.1, st.2))) else (fi_isIn (st.2 3 0) (nI 7) (nI 9) ()).bind fun v7 => (if v7 = 0 then some (1, .inl (nI 1, st.2 2 0)) else (if (nI (st.1).length) = (nI 16) then some (1, .inl (nI 3, st.2 2 0)) else (wf_ st.2 5 (nI 0)).bind fun μ10 => (fr_next ξ μ10).bind fun μ11 => xq_ (fr_sum ξ μ11) fun r13 => (if (r13.2 3 0) = (nI 3) then (fr_next ξ r13.2).bind fun μ31 => xq_ (fr_cond ξ 30 0 μ31) fun r33 => xq_ (fr_must ξ (nI 59) r33.2) fun r39 => xn_ 1 ((if (st.1).length ≤ 15 then xn_ 1 (some (0, .inr (.inl (st.1 ++ [(st.2 3 0, r13.1, some r33.1)], r39)))) else none)) else xq_ (fr_must ξ (nI 59) r13.2) fun r20 => xn_ 1 ((if (st.1).length ≤ 15 then xn_ 1 (some (0, .inr (.inl (st.1 ++ [(st.2 3 0, r13.1, none)], r20)))) else none))))))) = some (m1, y) := hf
  refine lv_aload_n hx hb dX3_law_12 rfl (lv_at hl 0 rfl) ?_
  refine gp_get (C := RX3) (T := TX3) E hK (oneO (dT := dT) hP) (if_pos rfl) rfl in_X3 3 (by decide) (hts _ q407) (fun _ z => z) (v := .int (st.2 3 0)) rfl dX3_law_13 ?_
  refine lv_if_eq (tgt := 133) hx hb dX3_law_16 (by decide) (fun kc6 => ?_) (fun kc6 => ?_)
  · have hf := ite_t kc6 hf
    cases hf
    obtain ⟨hn0, hk⟩ := hk
    exact hk _ _ _ _ _ _ (lv_sub hl [1] rfl) hT1_ hP hS (by omega) (by omega)
  · have hf := ite_f kc6 hf
    refine lv_aload_n hx hb dX3_law_19 rfl (lv_at hl 0 rfl) ?_
    refine gp_get (C := RX3) (T := TX3) E hK (oneO (dT := dT) hP) (if_pos rfl) rfl in_X3 3 (by decide) (hts _ q407) (fun _ z => z) (v := .int (st.2 3 0)) rfl dX3_law_20 ?_
    refine lv_bipush (v := nI 7) hx hb dX3_law_23 rfl ?_
    refine lv_bipush (v := nI 9) hx hb dX3_law_25 rfl ?_
    obtain ⟨v7, hv7, hf⟩ := ob hf
    refine k_siN (Pic := fun _ => True) (Pic1 := fun _ => True) (A1 := fun _ => False) E hS (fun _ _ z => z.elim) (fun _ z => z.elim) (As := [.int (st.2 3 0), .int (nI 7), .int (nI 9)]) (ti_isIn l (st.2 3 0) (nI 7) (nI 9) _ hv7) (fun _ _ _ _ h => h) (fun _ _ _ => trivial) (nmw_1 hE.2) q161 q387 q388 di_isIn rfl ⟨rfl, rfl⟩ (rmcd_ok (by decide) (by decide)) ⟨show _ ≤ N by omega, show _ ≤ 24 * N by omega⟩ hl rfl (Nat.le_of_ble_eq_true rfl) dX3_law_27 (fun H locs _ _ hq1 hS => ?_)
    have hkp := kp_pureF (a := a) hq1
    have hP := RD_same hP (fun q z => hq1 q z (fun y => y))
    have hT1_ := LF_kp (gK_L D) hasz hkp hT1_
    have hzs := hS.1
    refine lv_if_ne (tgt := 46) hx hb dX3_law_30 (by decide) (fun kc8 => ?_) (fun kc8 => ?_)
    · have hf := ite_f kc8 hf
      refine lv_aload_n hx hb dX3_law_46 rfl (lv_at hl 1 rfl) ?_
      obtain ⟨ed, els, hLB, hed, hal, hPE⟩ := hT1_
      refine k_vi (Pic := fun U => AL D dT nN b1_ els U.heap ∧ EV D dT U) (Pic1 := fun _ => True) (A1 := nN) E hS (fun _ _ z => z.elim) (fun _ z => z.elim) (As := []) (tj_size l D dT b1_ els) sz_bl (fun U hU hW => ⟨by rw [hU]; exact LB_AL hLB, hE.warm hW⟩) (LB_recv hK hLB) (lw_V q629 q630 q631 q165 q632) dj_size rfl ⟨rfl, rfl⟩ (rmcd_ok (by decide) (by decide)) ⟨show _ ≤ N by omega, show _ ≤ 24 * N by omega⟩ hl rfl (Nat.le_of_ble_eq_true rfl) dX3_law_47 (fun H locs _ _ hq1 hS => ?_)
      have hkp := kp_pureF (a := a) hq1
      have hP := RD_same hP (fun q z => hq1 q z (fun y => y))
      have hPE := kpG (gK_E (gK_L D)) (Or.inl hasz) hkp hPE
      have hLB := LB_kp hLB hkp (by omega) (fun _ => by omega)
      have hzs := hS.1
      refine lv_nm (congrArg nI hPE.1) ?_
      refine lv_bipush (v := nI 16) hx hb dX3_law_50 rfl ?_
      refine lv_icmp_ne (tgt := 68) hx hb dX3_law_52 (by decide) (fun kc9 => ?_) (fun kc9 => ?_)
      · have hf := ite_f kc9 hf
        refine lv_aload_n hx hb dX3_law_68 rfl (lv_at hl 0 rfl) ?_
        refine gp_get (C := RX3) (T := TX3) E hK (oneO (dT := dT) hP) (if_pos rfl) rfl in_X3 3 (by decide) (hts _ q407) (fun _ z => z) (v := .int (st.2 3 0)) rfl dX3_law_69 ?_
        refine lv_istore_n (lv' := [(2, .int (st.2 3 0)), (0, .ref a), (1, .ref b1_)]) hx hb dX3_law_72 rfl hl (by decide) rfl (fun ls hl => ?_)
        refine lv_aload_n hx hb dX3_law_73 rfl (lv_at hl 1 rfl) ?_
        refine lv_iconst (v := nI 0) hx hb dX3_law_74 rfl ?_
        obtain ⟨μ10, hμ10, hf⟩ := ob hf
        refine gp_put (C := RX3) (T := TX3) (ty := .int) E hK (oneO (dT := dT) hP) hS (Or.inl rfl : nA a sz a) (if_pos rfl) rfl in_X3 tyX3 tyX3_ok nmX3 5 (by decide) (hts _ q409) (fun _ z => z) rfl rfl rfl rfl dX3_law_75 (fun H locs hP oq hS => ?_)
        have hP := RD_put (by decide) hμ10 hP
        have hkp := kp_put oq
        have hPE := kpG (gK_E (gK_L D)) (Or.inl hasz) hkp hPE
        have hLB := LB_kp hLB hkp (by omega) (fun _ => by omega)
        have hzs := hS.1
        refine lv_aload_n hx hb dX3_law_78 rfl (lv_at hl 1 rfl) ?_
        obtain ⟨μ11, hc12, hf⟩ := ob hf
        refine k_vv (Pic := RP D dT a g ξ β σ ρ Z μ10) (Pic1 := fun H => RD D a g μ11 H) (A1 := rA a) E hS (fun _ _ z => Or.inl z) (fun _ z => Or.inl z) (As := []) (tr_next l D dT a g ξ β σ ρ Z μ10 _ hc12) RP_bl (RP_pre hB hP hS hA) (RD_recv hK hP) (lw_V q432 q434 qs2 q167 q435) dr_next rfl ⟨rfl, rfl⟩ (rmcd_ok (by decide) (by decide)) ⟨show _ ≤ N by omega, show _ ≤ 24 * N by omega⟩ hl rfl (Nat.le_of_ble_eq_true rfl) dX3_law_79 (fun H locs hP _ hq1 hS => ?_)
        have hkp := kp_call0 hq1
        have hPE := kpG (gK_E (gK_L D)) (Or.inl hasz) hkp hPE
        have hLB := LB_kp hLB hkp (by omega) (fun _ => by omega)
        have hzs := hS.1
        refine lv_aload_n hx hb dX3_law_82 rfl (lv_at hl 1 rfl) ?_
        rcases xq_in hf with ⟨f17, hc16, hx1⟩ | ⟨m14, r13, n15, hc16, hf, en15⟩
        · subst hx1
          obtain ⟨-, hk⟩ := hk
          have hk : out = .inl _ := hk
          subst hk
          exact x_thrV (A1 := nA a H.size) E hS (fun _ _ z => nA_le hsz hzs z) (fun _ z => nA_le hsz hzs z) (As := []) (tr_sum l hst D dT a g ξ β σ ρ Z H.size μ11 (_, .inl f17) hc16) (fun _ _ _ _ z => z) RQ_bl (RQ_pre hB hP hS hA) (RD_recv hK hP) (lw_V q633 q635 qs16 q167 q636) dr_sum rfl (by omega) (by decide) (by omega) (by omega) ht hlk hl rfl (Nat.le_of_ble_eq_true rfl) dX3_law_83
        · skip
          refine k_vr (Pic := RQ D dT a g ξ β σ ρ Z H.size μ11) (PicR := fun b H1 => (pvG (PT D) H.size) r13.1 b H1 ∧ RD D a g r13.2 H1) (A1 := nA a H.size) E hS (fun _ _ z => nA_le hsz hzs z) (fun _ z => nA_le hsz hzs z) (As := []) (nx_met (tr_sum l hst D dT a g ξ β σ ρ Z H.size μ11 (_, .inr r13) hc16)) RQ_bl (RQ_pre hB hP hS hA) (RD_recv hK hP) (lw_V q633 q635 qs16 q167 q636) dr_sum rfl ⟨rfl, rfl⟩ (rmc_ok (by omega) (by decide)) ⟨show _ ≤ N by omega, show _ ≤ 24 * N by omega⟩ hl rfl (Nat.le_of_ble_eq_true rfl) dX3_law_83 (fun b18 H locs hR hz1 hq1 hS => ?_)
          obtain ⟨hT18, hP⟩ := hR
          obtain ⟨hlal, hled⟩ := LB_lt hLB (by omega)
          have hT18 : PT D r13.1 (fz sz [ed, b1_]) b18 H := wkG (gK_T D) (by omega) (by intro z hz; simp only [List.mem_cons, List.not_mem_nil, or_false] at hz; rcases hz with rfl | rfl <;> assumption) hT18
          have hkp := kp_call hq1
          have hPE := kpG (gK_E (gK_L D)) (Or.inl hasz) hkp hPE
          have hLB := LB_kp hLB hkp (by omega) (fun _ => by omega)
          have hzs := hS.1
          refine lv_astore_n (lv' := [(3, .ref b18), (2, .int (st.2 3 0)), (0, .ref a), (1, .ref b1_)]) hx hb dX3_law_86 rfl hl (by decide) rfl (fun ls hl => ?_)
          refine lv_null hx hb dX3_law_87 ?_
          refine lv_astoreN (lv' := [(4, .null), (3, .ref b18), (2, .int (st.2 3 0)), (0, .ref a), (1, .ref b1_)]) hx hb dX3_law_88 hl (by decide) rfl (fun ls hl => ?_)
          refine lv_aload_n hx hb dX3_law_90 rfl (lv_at hl 3 rfl) ?_
          refine gp_get (C := RX3) (T := TX3) E hK (oneO (dT := dT) hP) (if_pos rfl) rfl in_X3 3 (by decide) (hts _ q407) (fun _ z => z) (v := .int (r13.2 3 0)) rfl dX3_law_91 ?_
          refine lv_iconst (v := nI 3) hx hb dX3_law_94 rfl ?_
          refine lv_icmp_ne (tgt := 108) hx hb dX3_law_95 (by decide) (fun kc19 => ?_) (fun kc19 => ?_)
          · have hf := ite_f kc19 hf
            refine lv_aload_n hx hb dX3_law_108 rfl (lv_at hl 3 rfl) ?_
            refine lv_bipush (v := nI 59) hx hb dX3_law_109 rfl ?_
            rcases xq_in hf with ⟨f24, hc23, hx1⟩ | ⟨m21, r20, n22, hc23, hf, en22⟩
            · subst hx1
              obtain ⟨-, hk⟩ := hk
              have hk : out = .inl _ := hk
              subst hk
              exact x_thrV (A1 := nA a H.size) E hS (fun _ _ z => nA_le hsz hzs z) (fun _ z => nA_le hsz hzs z) (As := [.int (nI 59)]) (tr_must l hst D dT a g ξ β σ ρ Z H.size (nI 59) r13.2 (_, .inl f24) hc23) (fun _ _ _ _ z => z) RQ_bl (RQ_pre hB hP hS hA) (RD_recv hK hP) (lw_V q714 q716 qs24 q167 q717) dr_must rfl (by omega) (by decide) (by omega) (by omega) ht hlk hl rfl (Nat.le_of_ble_eq_true rfl) dX3_law_111
            · skip
              refine k_vv (Pic := RQ D dT a g ξ β σ ρ Z H.size r13.2) (Pic1 := fun H => RD D a g r20 H) (A1 := nA a H.size) E hS (fun _ _ z => nA_le hsz hzs z) (fun _ z => nA_le hsz hzs z) (As := [.int (nI 59)]) (nx_met (tr_must l hst D dT a g ξ β σ ρ Z H.size (nI 59) r13.2 (_, .inr r20) hc23)) RQ_bl (RQ_pre hB hP hS hA) (RD_recv hK hP) (lw_V q714 q716 qs24 q167 q717) dr_must rfl ⟨rfl, rfl⟩ (rmc_ok (by omega) (by decide)) ⟨show _ ≤ N by omega, show _ ≤ 24 * N by omega⟩ hl rfl (Nat.le_of_ble_eq_true rfl) dX3_law_111 (fun H locs hP hz1 hq1 hS => ?_)
              have hkp := kp_call hq1
              have hPE := kpG (gK_E (gK_L D)) (Or.inl hasz) hkp hPE
              have hLB := LB_kp hLB hkp (by omega) (fun _ => by omega)
              have hT18 := kpG (gK_T D) (Or.inl hasz) hkp hT18
              have hzs := hS.1
              refine lv_aload_n hx hb dX3_law_114 rfl (lv_at hl 4 rfl) ?_
              obtain ⟨hlal, hled⟩ := LB_lt hLB (by omega)
              obtain ⟨n27, hf, en27⟩ := xn_in hf
              obtain ⟨q26, hqq26⟩ : ∃ z, z = H.size := ⟨_, rfl⟩
              refine x_new (B := 24) (C := RX10) (T := TX10) E hK (ci := 9) rfl in_X10 tyX10 tyX10_ok q718 q719 q180 [.int 0, .null, .null] (by decide) (by decide) (show _ ≤ N by omega) (show _ ≤ 24 * N by omega) dX3_law_115 (fun H hO26 z1 o1 => ?_)
              have hPE := frG (gK_E (gK_L D)) hqq26 hPE
              have hT18 := frG (gK_T D) hqq26 hT18
              have hal_q26 : b1_ < q26 := by omega
              have hed_q26 : ed < q26 := by omega
              have hkp := kp_pure (a := a) o1
              have hP := RD_same hP o1
              have hzs := hS.1
              have hsq26 : sz ≤ q26 := by omega
              have hS := S_new hS z1 o1
              have hPE := kpG (gK_E (gK_L D)) (Or.inl hasz) hkp hPE
              have hLB := LB_kp hLB hkp (by omega) (fun _ => by omega)
              have hT18 := kpG (gK_T D) (Or.inl hasz) hkp hT18
              rw [← hqq26] at hO26 ⊢
              have hlq26 : q26 < H.size := by omega
              clear hkp z1 o1
              have hzs := hS.1
              refine lv_dup hx hb dX3_law_118 rfl ?_
              refine lv_iload_n hx hb dX3_law_119 rfl (lv_at hl 2 rfl) ?_
              refine lv_aload_n hx hb dX3_law_120 rfl (lv_at hl 1 rfl) ?_
              refine lv_aloadN hx hb dX3_law_121 (lv_at hl 0 rfl) ?_
              refine k_iv (Pic := oFP D dT 9 3 [.int 0, .null, .null] q26) (Pic1 := fun H => oF D 9 3 [.int (st.2 3 0), .ref b18, .null] q26 H) (A1 := eqA q26) E hS (fun z _ ez => Or.inr (by rw [show z = q26 from ez]; omega)) (fun z ez => Or.inr (by rw [show z = q26 from ez]; omega)) (As := [.int (st.2 3 0), .ref b18, .null]) (tc_LineN l D dT q26 (st.2 3 0) b18) oFP_bl (oFP_pre hO26 hE) q720 q721 q180 q722 rfl dc_LineN rfl ⟨rfl, rfl⟩ (rmcd_ok (by decide) (by decide)) ⟨show _ ≤ N by omega, show _ ≤ 24 * N by omega⟩ hl rfl (Nat.le_of_ble_eq_true rfl) dX3_law_123 (fun H locs hO26 hz1 hq1 hS => ?_)
              have hkp := kp_init hq1
              have hP := RD_kp hP hkp (by omega)
              have hPE := kpG (gK_E (gK_L D)) (Or.inr (List.mem_cons_self)) hkp hPE
              have hLB := LB_kp hLB hkp (by omega) (fun _ => by omega)
              have hT18 := kpG (gK_T D) (Or.inr (List.mem_cons_self)) hkp hT18
              have hPE := dropG (gK_E (gK_L D)) hPE
              have hT18 := dropG (gK_T D) hT18
              have hzs := hS.1
              have hT28 : PL D (st.2 3 0, r13.1, none) (fz sz [ed, b1_]) q26 H := ⟨_, hT18, Or.inl ⟨rfl, (not_fz (L := [ed, b1_]) (by omega) (by simp only [List.mem_cons, List.not_mem_nil, or_false]; omega)), hO26⟩⟩
              obtain ⟨hl15, hf⟩ := ite_s hf
              obtain ⟨n29, hf, en29⟩ := xn_in hf
              refine k_vi (Pic := AU D dT Z b1_ ed els q26 H.size) (Pic1 := fun H1 => AR D dT Z b1_ ed els q26 H.size H1) (A1 := lA Z.2.2.1 b1_ ed H.size) E hS (fun _ _ z => lA_nA hal hed (by omega) z) (fun _ z => lA_nA hal hed (by omega) z) (As := [.ref q26]) (tl_ad l D dT Z b1_ ed els q26 H.size) AU_bl (AU_pre (gI_L D) hLB hPE hl15 hT28 hE (RB_sv hB hS hA) (by omega)) (LB_recv hK hLB) (lw_V q737 q738 q739 q165 q740) dl_ad rfl ⟨rfl, rfl⟩ (rmc_ok (by decide) (by decide)) ⟨show _ ≤ N by omega, show _ ≤ 24 * N by omega⟩ hl rfl (Nat.le_of_ble_eq_true rfl) dX3_law_126 (fun H locs hR _ hq1 hS => ?_)
              have hP := RD_q hP (hq1 a (RD_lt hP) (not_lA hasz hal hed (by omega)))
              have hT30 := LF_add (gK_L D) hPE hT28 hR hq1 hed hal (by omega)
              have hzs := hS.1
              refine lv_pop hx hb dX3_law_129 rfl ?_
              refine lv_goto (tgt := 12) hx hb dX3_law_130 (by decide) ?_
              cases hf
              exact hk _ _ _ _ _ _ (lv_sub hl [3, 4] rfl) hT30 hP hS (by omega) (by omega)
          · have hf := ite_t kc19 hf
            refine lv_aload_n hx hb dX3_law_98 rfl (lv_at hl 3 rfl) ?_
            obtain ⟨μ31, hc32, hf⟩ := ob hf
            refine k_vv (Pic := RP D dT a g ξ β σ ρ Z r13.2) (Pic1 := fun H => RD D a g μ31 H) (A1 := rA a) E hS (fun _ _ z => Or.inl z) (fun _ z => Or.inl z) (As := []) (tr_next l D dT a g ξ β σ ρ Z r13.2 _ hc32) RP_bl (RP_pre hB hP hS hA) (RD_recv hK hP) (lw_V q432 q434 qs2 q167 q435) dr_next rfl ⟨rfl, rfl⟩ (rmcd_ok (by decide) (by decide)) ⟨show _ ≤ N by omega, show _ ≤ 24 * N by omega⟩ hl rfl (Nat.le_of_ble_eq_true rfl) dX3_law_99 (fun H locs hP _ hq1 hS => ?_)
            have hkp := kp_call0 hq1
            have hPE := kpG (gK_E (gK_L D)) (Or.inl hasz) hkp hPE
            have hLB := LB_kp hLB hkp (by omega) (fun _ => by omega)
            have hT18 := kpG (gK_T D) (Or.inl hasz) hkp hT18
            have hzs := hS.1
            refine lv_aload_n hx hb dX3_law_102 rfl (lv_at hl 3 rfl) ?_
            rcases xq_in hf with ⟨f37, hc36, hx1⟩ | ⟨m34, r33, n35, hc36, hf, en35⟩
            · subst hx1
              obtain ⟨-, hk⟩ := hk
              have hk : out = .inl _ := hk
              subst hk
              exact x_thrV (A1 := nA a H.size) E hS (fun _ _ z => nA_le hsz hzs z) (fun _ z => nA_le hsz hzs z) (As := []) (tr_cond_any l hst D dT a g ξ β σ ρ Z H.size 30 μ31 (_, .inl f37) hc36) (fun _ _ _ _ z => z) RQ_bl (RQ_pre hB hP hS hA) (RD_recv hK hP) (lw_V q688 q690 qs20 q167 q691) dr_any rfl (by omega) (by decide) (by omega) (by omega) ht hlk hl rfl (Nat.le_of_ble_eq_true rfl) dX3_law_103
            · skip
              refine k_vr (Pic := RQ D dT a g ξ β σ ρ Z H.size μ31) (PicR := fun b H1 => (pvG (PT D) H.size) r33.1 b H1 ∧ RD D a g r33.2 H1) (A1 := nA a H.size) E hS (fun _ _ z => nA_le hsz hzs z) (fun _ z => nA_le hsz hzs z) (As := []) (nx_met (tr_cond_any l hst D dT a g ξ β σ ρ Z H.size 30 μ31 (_, .inr r33) hc36)) RQ_bl (RQ_pre hB hP hS hA) (RD_recv hK hP) (lw_V q688 q690 qs20 q167 q691) dr_any rfl ⟨rfl, rfl⟩ (rmc_ok (by omega) (by decide)) ⟨show _ ≤ N by omega, show _ ≤ 24 * N by omega⟩ hl rfl (Nat.le_of_ble_eq_true rfl) dX3_law_103 (fun b38 H locs hR hz1 hq1 hS => ?_)
              obtain ⟨hT38, hP⟩ := hR
              obtain ⟨hlal, hled⟩ := LB_lt hLB (by omega)
              have hT38 : PT D r33.1 (fz sz [ed, b1_]) b38 H := wkG (gK_T D) (by omega) (by intro z hz; simp only [List.mem_cons, List.not_mem_nil, or_false] at hz; rcases hz with rfl | rfl <;> assumption) hT38
              have hkp := kp_call hq1
              have hPE := kpG (gK_E (gK_L D)) (Or.inl hasz) hkp hPE
              have hLB := LB_kp hLB hkp (by omega) (fun _ => by omega)
              have hT18 := kpG (gK_T D) (Or.inl hasz) hkp hT18
              have hzs := hS.1
              refine lv_astore (lv' := [(4, .ref b38), (3, .ref b18), (2, .int (st.2 3 0)), (0, .ref a), (1, .ref b1_)]) hx hb dX3_law_106 hl (by decide) rfl (fun ls hl => ?_)
              refine lv_aload_n hx hb dX3_law_108 rfl (lv_at hl 3 rfl) ?_
              refine lv_bipush (v := nI 59) hx hb dX3_law_109 rfl ?_
              rcases xq_in hf with ⟨f43, hc42, hx1⟩ | ⟨m40, r39, n41, hc42, hf, en41⟩
              · subst hx1
                obtain ⟨-, hk⟩ := hk
                have hk : out = .inl _ := hk
                subst hk
                exact x_thrV (A1 := nA a H.size) E hS (fun _ _ z => nA_le hsz hzs z) (fun _ z => nA_le hsz hzs z) (As := [.int (nI 59)]) (tr_must l hst D dT a g ξ β σ ρ Z H.size (nI 59) r33.2 (_, .inl f43) hc42) (fun _ _ _ _ z => z) RQ_bl (RQ_pre hB hP hS hA) (RD_recv hK hP) (lw_V q714 q716 qs24 q167 q717) dr_must rfl (by omega) (by decide) (by omega) (by omega) ht hlk hl rfl (Nat.le_of_ble_eq_true rfl) dX3_law_111
              · skip
                refine k_vv (Pic := RQ D dT a g ξ β σ ρ Z H.size r33.2) (Pic1 := fun H => RD D a g r39 H) (A1 := nA a H.size) E hS (fun _ _ z => nA_le hsz hzs z) (fun _ z => nA_le hsz hzs z) (As := [.int (nI 59)]) (nx_met (tr_must l hst D dT a g ξ β σ ρ Z H.size (nI 59) r33.2 (_, .inr r39) hc42)) RQ_bl (RQ_pre hB hP hS hA) (RD_recv hK hP) (lw_V q714 q716 qs24 q167 q717) dr_must rfl ⟨rfl, rfl⟩ (rmc_ok (by omega) (by decide)) ⟨show _ ≤ N by omega, show _ ≤ 24 * N by omega⟩ hl rfl (Nat.le_of_ble_eq_true rfl) dX3_law_111 (fun H locs hP hz1 hq1 hS => ?_)
                have hkp := kp_call hq1
                have hPE := kpG (gK_E (gK_L D)) (Or.inl hasz) hkp hPE
                have hLB := LB_kp hLB hkp (by omega) (fun _ => by omega)
                have hT18 := kpG (gK_T D) (Or.inl hasz) hkp hT18
                have hT38 := kpG (gK_T D) (Or.inl hasz) hkp hT38
                have hzs := hS.1
                refine lv_aload_n hx hb dX3_law_114 rfl (lv_at hl 4 rfl) ?_
                obtain ⟨hlal, hled⟩ := LB_lt hLB (by omega)
                obtain ⟨n46, hf, en46⟩ := xn_in hf
                obtain ⟨q45, hqq45⟩ : ∃ z, z = H.size := ⟨_, rfl⟩
                refine x_new (B := 24) (C := RX10) (T := TX10) E hK (ci := 9) rfl in_X10 tyX10 tyX10_ok q718 q719 q180 [.int 0, .null, .null] (by decide) (by decide) (show _ ≤ N by omega) (show _ ≤ 24 * N by omega) dX3_law_115 (fun H hO45 z1 o1 => ?_)
                have hPE := frG (gK_E (gK_L D)) hqq45 hPE
                have hT18 := frG (gK_T D) hqq45 hT18
                have hT38 := frG (gK_T D) hqq45 hT38
                have hal_q45 : b1_ < q45 := by omega
                have hed_q45 : ed < q45 := by omega
                have hkp := kp_pure (a := a) o1
                have hP := RD_same hP o1
                have hzs := hS.1
                have hsq45 : sz ≤ q45 := by omega
                have hS := S_new hS z1 o1
                have hPE := kpG (gK_E (gK_L D)) (Or.inl hasz) hkp hPE
                have hLB := LB_kp hLB hkp (by omega) (fun _ => by omega)
                have hT18 := kpG (gK_T D) (Or.inl hasz) hkp hT18
                have hT38 := kpG (gK_T D) (Or.inl hasz) hkp hT38
                rw [← hqq45] at hO45 ⊢
                have hlq45 : q45 < H.size := by omega
                clear hkp z1 o1
                have hzs := hS.1
                refine lv_dup hx hb dX3_law_118 rfl ?_
                refine lv_iload_n hx hb dX3_law_119 rfl (lv_at hl 2 rfl) ?_
                refine lv_aload_n hx hb dX3_law_120 rfl (lv_at hl 1 rfl) ?_
                refine lv_aload hx hb dX3_law_121 (lv_at hl 0 rfl) ?_
                refine k_iv (Pic := oFP D dT 9 3 [.int 0, .null, .null] q45) (Pic1 := fun H => oF D 9 3 [.int (st.2 3 0), .ref b18, .ref b38] q45 H) (A1 := eqA q45) E hS (fun z _ ez => Or.inr (by rw [show z = q45 from ez]; omega)) (fun z ez => Or.inr (by rw [show z = q45 from ez]; omega)) (As := [.int (st.2 3 0), .ref b18, .ref b38]) (tc_Line l D dT q45 (st.2 3 0) b18 b38) oFP_bl (oFP_pre hO45 hE) q720 q721 q180 q722 rfl dc_Line rfl ⟨rfl, rfl⟩ (rmcd_ok (by decide) (by decide)) ⟨show _ ≤ N by omega, show _ ≤ 24 * N by omega⟩ hl rfl (Nat.le_of_ble_eq_true rfl) dX3_law_123 (fun H locs hO45 hz1 hq1 hS => ?_)
                have hkp := kp_init hq1
                have hP := RD_kp hP hkp (by omega)
                have hPE := kpG (gK_E (gK_L D)) (Or.inr (List.mem_cons_self)) hkp hPE
                have hLB := LB_kp hLB hkp (by omega) (fun _ => by omega)
                have hT18 := kpG (gK_T D) (Or.inr (List.mem_cons_self)) hkp hT18
                have hT38 := kpG (gK_T D) (Or.inr (List.mem_cons_self)) hkp hT38
                have hPE := dropG (gK_E (gK_L D)) hPE
                have hT18 := dropG (gK_T D) hT18
                have hT38 := dropG (gK_T D) hT38
                have hzs := hS.1
                have hT47 : PL D (st.2 3 0, r13.1, some r33.1) (fz sz [ed, b1_]) q45 H := ⟨_, hT18, Or.inr ⟨_, _, rfl, hT38, (not_fz (L := [ed, b1_]) (by omega) (by simp only [List.mem_cons, List.not_mem_nil, or_false]; omega)), hO45⟩⟩
                obtain ⟨hl15, hf⟩ := ite_s hf
                obtain ⟨n48, hf, en48⟩ := xn_in hf
                refine k_vi (Pic := AU D dT Z b1_ ed els q45 H.size) (Pic1 := fun H1 => AR D dT Z b1_ ed els q45 H.size H1) (A1 := lA Z.2.2.1 b1_ ed H.size) E hS (fun _ _ z => lA_nA hal hed (by omega) z) (fun _ z => lA_nA hal hed (by omega) z) (As := [.ref q45]) (tl_ad l D dT Z b1_ ed els q45 H.size) AU_bl (AU_pre (gI_L D) hLB hPE hl15 hT47 hE (RB_sv hB hS hA) (by omega)) (LB_recv hK hLB) (lw_V q737 q738 q739 q165 q740) dl_ad rfl ⟨rfl, rfl⟩ (rmc_ok (by decide) (by decide)) ⟨show _ ≤ N by omega, show _ ≤ 24 * N by omega⟩ hl rfl (Nat.le_of_ble_eq_true rfl) dX3_law_126 (fun H locs hR _ hq1 hS => ?_)
                have hP := RD_q hP (hq1 a (RD_lt hP) (not_lA hasz hal hed (by omega)))
                have hT49 := LF_add (gK_L D) hPE hT47 hR hq1 hed hal (by omega)
                have hzs := hS.1
                refine lv_pop hx hb dX3_law_129 rfl ?_
                refine lv_goto (tgt := 12) hx hb dX3_law_130 (by decide) ?_
                cases hf
                exact hk _ _ _ _ _ _ (lv_sub hl [3, 4] rfl) hT49 hP hS (by omega) (by omega)
      · have hf := ite_t kc9 hf
        cases hf
        obtain ⟨-, hk⟩ := hk
        have hk : out = .inl _ := hk
        subst hk
        exact r_throw hst E hB ht hlk hP hS hsz hl (lv_at hl 0 rfl) (by omega) (by omega) (by omega) dX3_law_55 dX3_law_58 dX3_law_59 rfl dX3_law_60 dX3_law_61 dX3_law_64 dX3_law_67
    · have hf := ite_t kc8 hf
      cases hf
      obtain ⟨-, hk⟩ := hk
      have hk : out = .inl _ := hk
      subst hk
      exact r_throw hst E hB ht hlk hP hS hsz hl (lv_at hl 0 rfl) (by omega) (by omega) (by omega) dX3_law_33 dX3_law_36 dX3_law_37 rfl dX3_law_38 dX3_law_39 dX3_law_42 dX3_law_45
set_option maxHeartbeats 4000000 in
theorem tr_law (l : Launch) (hst : l.stackTraces = false) (D : va_G) (dT : Nat → ClassId) (a g : Nat) (ξ : nwM) (β : Nat → Nat) (σ : nwM) (ρ : Nat → Nat) (Z : nwZ) (sz : Nat) (μ : nwM) (res : Nat × (nwF ⊕ (List nwL2 × nwM))) (hf : fr_law ξ μ = some res) : nx_Met l yX3_law (ws_ yX3_law cX3_law 5 (some (.object "java/util/ArrayList"))) (rmc (44) res.1) (va_Pc [.ref a] (RQ D dT a g ξ β σ ρ Z sz μ)) (QcR D a g (nA a sz) (pvL D dT Z (PL D) sz) res.2) (XcR D (nA a sz) res.2) res.1 (24 * res.1) (nA a sz) := by
  obtain ⟨N, out⟩ := res
  refine x_met (own := RX3) (by decide) rfl (Nat.le_of_ble_eq_true rfl) ?_
  intro p e s m below meth c ls E hP hr hlk ht hl
  obtain ⟨⟨hP, hB⟩, hsz⟩ := hP
  have hE := hB.2.1
  have hK := hE.1
  have hasz : a < sz := by rw [← hsz]; exact RD_lt hP
  have hA : ∀ q, nA a sz q → q = a ∨ s.heap.size ≤ q := fun q z => by rw [hsz]; exact z
  have hZa := hB.2.2.2.2.1
  have hE0 : Z.2.2.1 < sz := SV_e0 hB.2.2.1 hsz
  have hS : va_S (nA a sz) s.heap s.heap [] := va_S.rf
  have hzs := hS.1
  obtain ⟨hx, hb, hml, hown, hts⟩ := id E
  have hl : lv_has ls 5 [(0, .ref a)] := hl
  obtain ⟨H, hH⟩ : ∃ z, z = s.heap := ⟨_, rfl⟩
  rw [← hH] at hP
  have hS : va_S (nA a sz) s.heap H [] := by rw [hH]; exact va_S.rf
  show W p l e (rmc (44) N) s m _ below meth c s.heap [] 0 0 (nx_MQ below (QcR D a g (nA a sz) (pvL D dT Z (PL D) sz) out) (XcR D (nA a sz) out) _ s N (24 * N) (nA a sz)) (F0 m 0 ls [])
  rw [← hH]
  have hzs := hS.1
  have hf : (xn_ 1 ((fr_next ξ μ).bind fun μ4 => xq_ (wc_ (fr_law_L12 ξ) (([] : List nwL2), μ4)) fun x50 => some (0, .inr (x50.1, x50.2)))) = some (N, out) := hf
  obtain ⟨n2, hf, en2⟩ := xn_in hf
  obtain ⟨q1, hqq1⟩ : ∃ z, z = H.size := ⟨_, rfl⟩
  refine x_new (B := 24) (C := RJ2) (T := TJ2) E hK (ci := 16) rfl in_J2 tyJ2 tyJ2_ok q430 q212 q165 [.int 0, .null, .int 0] (by decide) (by decide) (show _ ≤ N by omega) (show _ ≤ 24 * N by omega) dX3_law_0 (fun H hO1 z1 o1 => ?_)
  have hkp := kp_pure (a := a) o1
  have hP := RD_same hP o1
  have hzs := hS.1
  have hsq1 : sz ≤ q1 := by omega
  have hS := S_new hS z1 o1
  rw [← hqq1] at hO1 ⊢
  have hlq1 : q1 < H.size := by omega
  clear hkp z1 o1
  have hzs := hS.1
  refine lv_dup hx hb dX3_law_3 rfl ?_
  refine k_iv (Pic := aLP D dT Z q1) (Pic1 := fun H => LB D dT Z.2.2.1 q1 Z.2.2.1 [] H) (A1 := eqA q1) E hS (fun z _ ez => Or.inr (by rw [show z = q1 from ez]; omega)) (fun z ez => Or.inr (by rw [show z = q1 from ez]; omega)) (As := []) (tl_init l D dT Z q1) aLP_bl (aLP_pre hO1 hE (RB_sv hB hS hA) (by omega)) q431 q214 q165 q215 rfl dl_init rfl ⟨rfl, rfl⟩ (rmcd_ok (by decide) (by decide)) ⟨show _ ≤ N by omega, show _ ≤ 24 * N by omega⟩ hl rfl (Nat.le_of_ble_eq_true rfl) dX3_law_4 (fun H locs hLB hz1 hq1 hS => ?_)
  have hkp := kp_init hq1
  have hP := RD_kp hP hkp (by omega)
  have hzs := hS.1
  have hT3 : LF D dT Z (PL D) sz ([] : List nwL2) q1 H := LF_nil hLB (by omega)
  refine lv_astore_n (lv' := [(1, .ref q1), (0, .ref a)]) hx hb dX3_law_7 rfl hl (by decide) rfl (fun ls hl => ?_)
  refine lv_aload_n hx hb dX3_law_8 rfl (lv_at hl 1 rfl) ?_
  obtain ⟨μ4, hc5, hf⟩ := ob hf
  refine k_vv (Pic := RP D dT a g ξ β σ ρ Z μ) (Pic1 := fun H => RD D a g μ4 H) (A1 := rA a) E hS (fun _ _ z => Or.inl z) (fun _ z => Or.inl z) (As := []) (tr_next l D dT a g ξ β σ ρ Z μ _ hc5) RP_bl (RP_pre hB hP hS hA) (RD_recv hK hP) (lw_V q432 q434 qs2 q167 q435) dr_next rfl ⟨rfl, rfl⟩ (rmcd_ok (by decide) (by decide)) ⟨show _ ≤ N by omega, show _ ≤ 24 * N by omega⟩ hl rfl (Nat.le_of_ble_eq_true rfl) dX3_law_9 (fun H locs hP _ hq1 hS => ?_)
  have hkp := kp_call0 hq1
  have hT3 := LF_kp (gK_L D) hasz hkp hT3
  have hzs := hS.1
  rcases xq_in hf with ⟨f54, hw53, hx1⟩ | ⟨m51, x50, n52, hw53, hf, en52⟩
  · subst hx1
    exact fr_law_L12_w (nr := 0) hst E hE hB hsz hasz ht hlk hw53 rfl _ _ _ _ _ _ (lv_sub hl [1, 0] rfl) hT3 hP hS (by omega) (by omega)
  · refine fr_law_L12_w (nr := n52) hst E hE hB hsz hasz ht hlk hw53 (fun b55 ls H locs cells slots hl hT55 hP hS hC1 hC2 => ?_) _ _ _ _ _ _ (lv_sub hl [1, 0] rfl) hT3 hP hS (by omega) (by omega)
    have hzs := hS.1
    refine lv_aload_n hx hb dX3_law_133 rfl (lv_at hl 0 rfl) ?_
    cases hf
    exact x_aret (PV := pvL D dT Z (PL D) sz) E hr hlk hT55 hP hS (by omega) (by omega) dX3_law_134
