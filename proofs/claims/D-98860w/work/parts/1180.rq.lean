/-! walks, written by my programs -/
set_option maxRecDepth 100000
set_option maxHeartbeats 4000000 in
theorem dr_number : yX3_number.cls = RX3 ∧ yX3_number.cls ≠ "java/lang/invoke/MethodHandle" ∧ yX3_number.cls ≠ "java/lang/invoke/VarHandle" ∧ (parseMethodDescriptor yX3_number.desc).map (fun d => d.parameters.length) = some 2 := ⟨rfl, by decide +kernel, by decide +kernel, by decide +kernel⟩
set_option maxHeartbeats 4000000 in
theorem dr_must : yX3_must.cls = RX3 ∧ yX3_must.cls ≠ "java/lang/invoke/MethodHandle" ∧ yX3_must.cls ≠ "java/lang/invoke/VarHandle" ∧ (parseMethodDescriptor yX3_must.desc).map (fun d => d.parameters.length) = some 1 := ⟨rfl, by decide +kernel, by decide +kernel, by decide +kernel⟩
set_option maxHeartbeats 4000000 in
theorem dr_behind : yX3_behind.cls = RX3 ∧ yX3_behind.cls ≠ "java/lang/invoke/MethodHandle" ∧ yX3_behind.cls ≠ "java/lang/invoke/VarHandle" ∧ (parseMethodDescriptor yX3_behind.desc).map (fun d => d.parameters.length) = some 3 := ⟨rfl, by decide +kernel, by decide +kernel, by decide +kernel⟩
set_option maxHeartbeats 4000000 in
theorem dr_kind : yX3_kind.cls = RX3 ∧ yX3_kind.cls ≠ "java/lang/invoke/MethodHandle" ∧ yX3_kind.cls ≠ "java/lang/invoke/VarHandle" ∧ (parseMethodDescriptor yX3_kind.desc).map (fun d => d.parameters.length) = some 0 := ⟨rfl, by decide +kernel, by decide +kernel, by decide +kernel⟩
set_option maxHeartbeats 4000000 in
theorem dr_opens : yX3_opens.cls = RX3 ∧ yX3_opens.cls ≠ "java/lang/invoke/MethodHandle" ∧ yX3_opens.cls ≠ "java/lang/invoke/VarHandle" ∧ (parseMethodDescriptor yX3_opens.desc).map (fun d => d.parameters.length) = some 0 := ⟨rfl, by decide +kernel, by decide +kernel, by decide +kernel⟩
set_option maxHeartbeats 4000000 in
theorem dr_unit : yX3_unit.cls = RX3 ∧ yX3_unit.cls ≠ "java/lang/invoke/MethodHandle" ∧ yX3_unit.cls ≠ "java/lang/invoke/VarHandle" ∧ (parseMethodDescriptor yX3_unit.desc).map (fun d => d.parameters.length) = some 0 := ⟨rfl, by decide +kernel, by decide +kernel, by decide +kernel⟩
set_option maxHeartbeats 4000000 in
theorem dr_product : yX3_product.cls = RX3 ∧ yX3_product.cls ≠ "java/lang/invoke/MethodHandle" ∧ yX3_product.cls ≠ "java/lang/invoke/VarHandle" ∧ (parseMethodDescriptor yX3_product.desc).map (fun d => d.parameters.length) = some 0 := ⟨rfl, by decide +kernel, by decide +kernel, by decide +kernel⟩
set_option maxHeartbeats 4000000 in
theorem dr_sum : yX3_sum.cls = RX3 ∧ yX3_sum.cls ≠ "java/lang/invoke/MethodHandle" ∧ yX3_sum.cls ≠ "java/lang/invoke/VarHandle" ∧ (parseMethodDescriptor yX3_sum.desc).map (fun d => d.parameters.length) = some 0 := ⟨rfl, by decide +kernel, by decide +kernel, by decide +kernel⟩
set_option maxHeartbeats 4000000 in
noncomputable def fr_number (ξ : nwM) (x1 : Int32) (x2 : Int32) (μ : nwM) : nwR (Int32 × nwM) := (if (μ 3 0) = (nI 2) then (fi_isIn (μ 4 0) x1 x2 ()).bind fun v2 => (if v2 = 0 then some (1, .inl (nI 2, μ 2 0)) else (fr_next ξ μ).bind fun μ4 => some (0, .inr (μ 4 0, μ4))) else some (1, .inl (nI 1, μ 2 0)))
set_option maxHeartbeats 4000000 in
theorem tr_number (l : Launch) (hst : l.stackTraces = false) (D : va_G) (dT : Nat → ClassId) (a g : Nat) (ξ : nwM) (β : Nat → Nat) (σ : nwM) (ρ : Nat → Nat) (Z : nwZ) (sz : Nat) (x1 : Int32) (x2 : Int32) (μ : nwM) (res : Nat × (nwF ⊕ (Int32 × nwM))) (hf : fr_number ξ x1 x2 μ = some res) : nx_Met l yX3_number (ws_ yX3_number cX3_number 4 (some .int)) (rmc (9) res.1) (va_Pc [.ref a, .int x1, .int x2] (RQ D dT a g ξ β σ ρ Z sz μ)) (QcI D a g (nA a sz) res.2) (XcR D (nA a sz) res.2) res.1 (24 * res.1) (nA a sz) := by
  obtain ⟨N, out⟩ := res
  refine x_met (own := RX3) (by decide) rfl (Nat.le_of_ble_eq_true rfl) ?_
  intro p e s m below meth c ls E hP hr hlk ht hl
  obtain ⟨⟨hP, hB⟩, hsz⟩ := hP
  have hE := hB.2.1
  have hK := hE.1
  have hasz : a < sz := by rw [← hsz]; exact RD_lt hP
  have hA : ∀ q, nA a sz q → q = a ∨ s.heap.size ≤ q := fun q z => by rw [hsz]; exact z
  have hZa := hB.2.2.2.2.1
  skip
  have hS : va_S (nA a sz) s.heap s.heap [] := va_S.rf
  have hzs := hS.1
  obtain ⟨hx, hb, hml, hown, hts⟩ := id E
  have hl : lv_has ls 4 [(0, .ref a), (1, .int x1), (2, .int x2)] := hl
  obtain ⟨H, hH⟩ : ∃ z, z = s.heap := ⟨_, rfl⟩
  rw [← hH] at hP
  have hS : va_S (nA a sz) s.heap H [] := by rw [hH]; exact va_S.rf
  show W p l e (rmc (9) N) s m _ below meth c s.heap [] 0 0 (nx_MQ below (QcI D a g (nA a sz) out) (XcR D (nA a sz) out) _ s N (24 * N) (nA a sz)) (F0 m 0 ls [])
  rw [← hH]
  have hzs := hS.1
  have hf : ((if (μ 3 0) = (nI 2) then (fi_isIn (μ 4 0) x1 x2 ()).bind fun v2 => (if v2 = 0 then some (1, .inl (nI 2, μ 2 0)) else (fr_next ξ μ).bind fun μ4 => some (0, .inr (μ 4 0, μ4))) else some (1, .inl (nI 1, μ 2 0)))) = some (N, out) := hf
  refine lv_aload_n hx hb dX3_number_0 rfl (lv_at hl 0 rfl) ?_
  refine gp_get (C := RX3) (T := TX3) E hK (oneO (dT := dT) hP) (if_pos rfl) rfl in_X3 3 (by decide) (hts _ q407) (fun _ z => z) (v := .int (μ 3 0)) rfl dX3_number_1 ?_
  refine lv_iconst (v := nI 2) hx hb dX3_number_4 rfl ?_
  refine lv_icmp_eq (tgt := 21) hx hb dX3_number_5 (by decide) (fun kc1 => ?_) (fun kc1 => ?_)
  · have hf := ite_t kc1 hf
    refine lv_aload_n hx hb dX3_number_21 rfl (lv_at hl 0 rfl) ?_
    refine gp_get (C := RX3) (T := TX3) E hK (oneO (dT := dT) hP) (if_pos rfl) rfl in_X3 4 (by decide) (hts _ q408) (fun _ z => z) (v := .int (μ 4 0)) rfl dX3_number_22 ?_
    refine lv_iload_n hx hb dX3_number_25 rfl (lv_at hl 1 rfl) ?_
    refine lv_iload_n hx hb dX3_number_26 rfl (lv_at hl 2 rfl) ?_
    obtain ⟨v2, hv2, hf⟩ := ob hf
    refine k_siN (Pic := fun _ => True) (Pic1 := fun _ => True) (A1 := fun _ => False) E hS (fun _ _ z => z.elim) (fun _ z => z.elim) (As := [.int (μ 4 0), .int x1, .int x2]) (ti_isIn l (μ 4 0) x1 x2 _ hv2) (fun _ _ _ _ h => h) (fun _ _ _ => trivial) (nmw_1 hE.2) q161 q387 q388 di_isIn rfl ⟨rfl, rfl⟩ (rmcd_ok (by decide) (by decide)) ⟨show _ ≤ N by omega, show _ ≤ 24 * N by omega⟩ hl rfl (Nat.le_of_ble_eq_true rfl) dX3_number_27 (fun H locs _ _ hq1 hS => ?_)
    have hkp := kp_pureF (a := a) hq1
    have hP := RD_same hP (fun q z => hq1 q z (fun y => y))
    have hzs := hS.1
    refine lv_if_ne (tgt := 46) hx hb dX3_number_30 (by decide) (fun kc3 => ?_) (fun kc3 => ?_)
    · have hf := ite_f kc3 hf
      refine lv_aload_n hx hb dX3_number_46 rfl (lv_at hl 0 rfl) ?_
      refine gp_get (C := RX3) (T := TX3) E hK (oneO (dT := dT) hP) (if_pos rfl) rfl in_X3 4 (by decide) (hts _ q408) (fun _ z => z) (v := .int (μ 4 0)) rfl dX3_number_47 ?_
      refine lv_istore_n (lv' := [(3, .int (μ 4 0)), (0, .ref a), (1, .int x1), (2, .int x2)]) hx hb dX3_number_50 rfl hl (by decide) rfl (fun ls hl => ?_)
      refine lv_aload_n hx hb dX3_number_51 rfl (lv_at hl 1 rfl) ?_
      obtain ⟨μ4, hc5, hf⟩ := ob hf
      refine k_vv (Pic := RP D dT a g ξ β σ ρ Z μ) (Pic1 := fun H => RD D a g μ4 H) (A1 := rA a) E hS (fun _ _ z => Or.inl z) (fun _ z => Or.inl z) (As := []) (tr_next l D dT a g ξ β σ ρ Z μ _ hc5) RP_bl (RP_pre hB hP hS hA) (RD_recv hK hP) (lw_V q432 q434 qs2 q167 q435) dr_next rfl ⟨rfl, rfl⟩ (rmcd_ok (by decide) (by decide)) ⟨show _ ≤ N by omega, show _ ≤ 24 * N by omega⟩ hl rfl (Nat.le_of_ble_eq_true rfl) dX3_number_52 (fun H locs hP _ hq1 hS => ?_)
      have hkp := kp_call0 hq1
      have hzs := hS.1
      refine lv_iload_n hx hb dX3_number_55 rfl (lv_at hl 0 rfl) ?_
      cases hf
      exact x_iret E hr hlk hP hS (by omega) (by omega) dX3_number_56
    · have hf := ite_t kc3 hf
      cases hf
      exact r_throw hst E hB ht hlk hP hS hsz hl (lv_at hl 0 rfl) (by omega) (by omega) (by omega) dX3_number_33 dX3_number_36 dX3_number_37 rfl dX3_number_38 dX3_number_39 dX3_number_42 dX3_number_45
  · have hf := ite_f kc1 hf
    cases hf
    exact r_throw hst E hB ht hlk hP hS hsz hl (lv_at hl 0 rfl) (by omega) (by omega) (by omega) dX3_number_8 dX3_number_11 dX3_number_12 rfl dX3_number_13 dX3_number_14 dX3_number_17 dX3_number_20
set_option maxHeartbeats 4000000 in
noncomputable def fr_must (ξ : nwM) (x1 : Int32) (μ : nwM) : nwR (nwM) := (if (μ 3 0) = x1 then (fr_next ξ μ).bind fun μ2 => some (0, .inr μ2) else some (1, .inl (nI 1, μ 2 0)))
set_option maxHeartbeats 4000000 in
theorem tr_must (l : Launch) (hst : l.stackTraces = false) (D : va_G) (dT : Nat → ClassId) (a g : Nat) (ξ : nwM) (β : Nat → Nat) (σ : nwM) (ρ : Nat → Nat) (Z : nwZ) (sz : Nat) (x1 : Int32) (μ : nwM) (res : Nat × (nwF ⊕ (nwM))) (hf : fr_must ξ x1 μ = some res) : nx_Met l yX3_must (ws_ yX3_must cX3_must 2 none) (rmc (9) res.1) (va_Pc [.ref a, .int x1] (RQ D dT a g ξ β σ ρ Z sz μ)) (QcV D a g (nA a sz) res.2) (XcR D (nA a sz) res.2) res.1 (24 * res.1) (nA a sz) := by
  obtain ⟨N, out⟩ := res
  refine x_met (own := RX3) (by decide) rfl (Nat.le_of_ble_eq_true rfl) ?_
  intro p e s m below meth c ls E hP hr hlk ht hl
  obtain ⟨⟨hP, hB⟩, hsz⟩ := hP
  have hE := hB.2.1
  have hK := hE.1
  have hasz : a < sz := by rw [← hsz]; exact RD_lt hP
  have hA : ∀ q, nA a sz q → q = a ∨ s.heap.size ≤ q := fun q z => by rw [hsz]; exact z
  have hZa := hB.2.2.2.2.1
  skip
  have hS : va_S (nA a sz) s.heap s.heap [] := va_S.rf
  have hzs := hS.1
  obtain ⟨hx, hb, hml, hown, hts⟩ := id E
  have hl : lv_has ls 2 [(0, .ref a), (1, .int x1)] := hl
  obtain ⟨H, hH⟩ : ∃ z, z = s.heap := ⟨_, rfl⟩
  rw [← hH] at hP
  have hS : va_S (nA a sz) s.heap H [] := by rw [hH]; exact va_S.rf
  show W p l e (rmc (9) N) s m _ below meth c s.heap [] 0 0 (nx_MQ below (QcV D a g (nA a sz) out) (XcR D (nA a sz) out) _ s N (24 * N) (nA a sz)) (F0 m 0 ls [])
  rw [← hH]
  have hzs := hS.1
  have hf : ((if (μ 3 0) = x1 then (fr_next ξ μ).bind fun μ2 => some (0, .inr μ2) else some (1, .inl (nI 1, μ 2 0)))) = some (N, out) := hf
  refine lv_aload_n hx hb dX3_must_0 rfl (lv_at hl 0 rfl) ?_
  refine gp_get (C := RX3) (T := TX3) E hK (oneO (dT := dT) hP) (if_pos rfl) rfl in_X3 3 (by decide) (hts _ q407) (fun _ z => z) (v := .int (μ 3 0)) rfl dX3_must_1 ?_
  refine lv_iload_n hx hb dX3_must_4 rfl (lv_at hl 1 rfl) ?_
  refine lv_icmp_eq (tgt := 21) hx hb dX3_must_5 (by decide) (fun kc1 => ?_) (fun kc1 => ?_)
  · have hf := ite_t kc1 hf
    refine lv_aload_n hx hb dX3_must_21 rfl (lv_at hl 0 rfl) ?_
    obtain ⟨μ2, hc3, hf⟩ := ob hf
    refine k_vv (Pic := RP D dT a g ξ β σ ρ Z μ) (Pic1 := fun H => RD D a g μ2 H) (A1 := rA a) E hS (fun _ _ z => Or.inl z) (fun _ z => Or.inl z) (As := []) (tr_next l D dT a g ξ β σ ρ Z μ _ hc3) RP_bl (RP_pre hB hP hS hA) (RD_recv hK hP) (lw_V q432 q434 qs2 q167 q435) dr_next rfl ⟨rfl, rfl⟩ (rmcd_ok (by decide) (by decide)) ⟨show _ ≤ N by omega, show _ ≤ 24 * N by omega⟩ hl rfl (Nat.le_of_ble_eq_true rfl) dX3_must_22 (fun H locs hP _ hq1 hS => ?_)
    have hkp := kp_call0 hq1
    have hzs := hS.1
    cases hf
    exact x_vret E hr hlk hP hS (by omega) (by omega) dX3_must_25
  · have hf := ite_f kc1 hf
    cases hf
    exact r_throw hst E hB ht hlk hP hS hsz hl (lv_at hl 0 rfl) (by omega) (by omega) (by omega) dX3_must_8 dX3_must_11 dX3_must_12 rfl dX3_must_13 dX3_must_14 dX3_must_17 dX3_must_20
set_option maxHeartbeats 4000000 in
noncomputable def fr_behind (ξ : nwM) (x1 : Int32) (x2 : Int32) (x3 : Int32) (μ : nwM) : nwR (Int32 × nwM) := xq_ (fr_must ξ x1 μ) fun r1 => xq_ (fr_number ξ x2 x3 r1) fun r7 => some (0, .inr (r7.1, r7.2))
set_option maxHeartbeats 4000000 in
theorem tr_behind (l : Launch) (hst : l.stackTraces = false) (D : va_G) (dT : Nat → ClassId) (a g : Nat) (ξ : nwM) (β : Nat → Nat) (σ : nwM) (ρ : Nat → Nat) (Z : nwZ) (sz : Nat) (x1 : Int32) (x2 : Int32) (x3 : Int32) (μ : nwM) (res : Nat × (nwF ⊕ (Int32 × nwM))) (hf : fr_behind ξ x1 x2 x3 μ = some res) : nx_Met l yX3_behind (ws_ yX3_behind cX3_behind 4 (some .int)) (rmc (10) res.1) (va_Pc [.ref a, .int x1, .int x2, .int x3] (RQ D dT a g ξ β σ ρ Z sz μ)) (QcI D a g (nA a sz) res.2) (XcR D (nA a sz) res.2) res.1 (24 * res.1) (nA a sz) := by
  obtain ⟨N, out⟩ := res
  refine x_met (own := RX3) (by decide) rfl (Nat.le_of_ble_eq_true rfl) ?_
  intro p e s m below meth c ls E hP hr hlk ht hl
  obtain ⟨⟨hP, hB⟩, hsz⟩ := hP
  have hE := hB.2.1
  have hK := hE.1
  have hasz : a < sz := by rw [← hsz]; exact RD_lt hP
  have hA : ∀ q, nA a sz q → q = a ∨ s.heap.size ≤ q := fun q z => by rw [hsz]; exact z
  have hZa := hB.2.2.2.2.1
  skip
  have hS : va_S (nA a sz) s.heap s.heap [] := va_S.rf
  have hzs := hS.1
  obtain ⟨hx, hb, hml, hown, hts⟩ := id E
  have hl : lv_has ls 4 [(0, .ref a), (1, .int x1), (2, .int x2), (3, .int x3)] := hl
  obtain ⟨H, hH⟩ : ∃ z, z = s.heap := ⟨_, rfl⟩
  rw [← hH] at hP
  have hS : va_S (nA a sz) s.heap H [] := by rw [hH]; exact va_S.rf
  show W p l e (rmc (10) N) s m _ below meth c s.heap [] 0 0 (nx_MQ below (QcI D a g (nA a sz) out) (XcR D (nA a sz) out) _ s N (24 * N) (nA a sz)) (F0 m 0 ls [])
  rw [← hH]
  have hzs := hS.1
  have hf : (xq_ (fr_must ξ x1 μ) fun r1 => xq_ (fr_number ξ x2 x3 r1) fun r7 => some (0, .inr (r7.1, r7.2))) = some (N, out) := hf
  refine lv_aload_n hx hb dX3_behind_0 rfl (lv_at hl 0 rfl) ?_
  refine lv_iload_n hx hb dX3_behind_1 rfl (lv_at hl 1 rfl) ?_
  rcases xq_in hf with ⟨f5, hc4, hx1⟩ | ⟨m2, r1, n3, hc4, hf, en3⟩
  · subst hx1
    exact x_thrV (A1 := nA a H.size) E hS (fun _ _ z => nA_le hsz hzs z) (fun _ z => nA_le hsz hzs z) (As := [.int x1]) (tr_must l hst D dT a g ξ β σ ρ Z H.size x1 μ (_, .inl f5) hc4) (fun _ _ _ _ z => z) RQ_bl (RQ_pre hB hP hS hA) (RD_recv hK hP) (lw_V q714 q716 qs24 q167 q717) dr_must rfl (by omega) (by decide) (by omega) (by omega) ht hlk hl rfl (Nat.le_of_ble_eq_true rfl) dX3_behind_2
  · skip
    refine k_vv (Pic := RQ D dT a g ξ β σ ρ Z H.size μ) (Pic1 := fun H => RD D a g r1 H) (A1 := nA a H.size) E hS (fun _ _ z => nA_le hsz hzs z) (fun _ z => nA_le hsz hzs z) (As := [.int x1]) (nx_met (tr_must l hst D dT a g ξ β σ ρ Z H.size x1 μ (_, .inr r1) hc4)) RQ_bl (RQ_pre hB hP hS hA) (RD_recv hK hP) (lw_V q714 q716 qs24 q167 q717) dr_must rfl ⟨rfl, rfl⟩ (rmc_ok (by omega) (by decide)) ⟨show _ ≤ N by omega, show _ ≤ 24 * N by omega⟩ hl rfl (Nat.le_of_ble_eq_true rfl) dX3_behind_2 (fun H locs hP hz1 hq1 hS => ?_)
    have hkp := kp_call hq1
    have hzs := hS.1
    refine lv_aload_n hx hb dX3_behind_5 rfl (lv_at hl 0 rfl) ?_
    refine lv_iload_n hx hb dX3_behind_6 rfl (lv_at hl 2 rfl) ?_
    refine lv_iload_n hx hb dX3_behind_7 rfl (lv_at hl 3 rfl) ?_
    rcases xq_in hf with ⟨f11, hc10, hx1⟩ | ⟨m8, r7, n9, hc10, hf, en9⟩
    · subst hx1
      exact x_thrV (A1 := nA a H.size) E hS (fun _ _ z => nA_le hsz hzs z) (fun _ z => nA_le hsz hzs z) (As := [.int x2, .int x3]) (tr_number l hst D dT a g ξ β σ ρ Z H.size x2 x3 r1 (_, .inl f11) hc10) (fun _ _ _ _ z => z) RQ_bl (RQ_pre hB hP hS hA) (RD_recv hK hP) (lw_V q647 q649 qs19 q167 q650) dr_number rfl (by omega) (by decide) (by omega) (by omega) ht hlk hl rfl (Nat.le_of_ble_eq_true rfl) dX3_behind_8
    · skip
      refine k_vi (Pic := RQ D dT a g ξ β σ ρ Z H.size r1) (Pic1 := fun H => RD D a g r7.2 H) (A1 := nA a H.size) E hS (fun _ _ z => nA_le hsz hzs z) (fun _ z => nA_le hsz hzs z) (As := [.int x2, .int x3]) (nx_met (tr_number l hst D dT a g ξ β σ ρ Z H.size x2 x3 r1 (_, .inr r7) hc10)) RQ_bl (RQ_pre hB hP hS hA) (RD_recv hK hP) (lw_V q647 q649 qs19 q167 q650) dr_number rfl ⟨rfl, rfl⟩ (rmc_ok (by omega) (by decide)) ⟨show _ ≤ N by omega, show _ ≤ 24 * N by omega⟩ hl rfl (Nat.le_of_ble_eq_true rfl) dX3_behind_8 (fun H locs hP hz1 hq1 hS => ?_)
      have hkp := kp_call hq1
      have hzs := hS.1
      cases hf
      exact x_iret E hr hlk hP hS (by omega) (by omega) dX3_behind_11
set_option maxHeartbeats 4000000 in
noncomputable def fr_kind (ξ : nwM) (μ : nwM) : nwR (Int32 × nwM) := (fi_isIn (μ 3 0) (nI 30) (nI 34) ()).bind fun v1 => (if v1 = 0 then some (1, .inl (nI 1, μ 2 0)) else (fr_next ξ μ).bind fun μ3 => some (0, .inr ((μ 3 0) - (nI 30), μ3)))
set_option maxHeartbeats 4000000 in
theorem tr_kind (l : Launch) (hst : l.stackTraces = false) (D : va_G) (dT : Nat → ClassId) (a g : Nat) (ξ : nwM) (β : Nat → Nat) (σ : nwM) (ρ : Nat → Nat) (Z : nwZ) (sz : Nat) (μ : nwM) (res : Nat × (nwF ⊕ (Int32 × nwM))) (hf : fr_kind ξ μ = some res) : nx_Met l yX3_kind (ws_ yX3_kind cX3_kind 2 (some .int)) (rmc (9) res.1) (va_Pc [.ref a] (RQ D dT a g ξ β σ ρ Z sz μ)) (QcI D a g (nA a sz) res.2) (XcR D (nA a sz) res.2) res.1 (24 * res.1) (nA a sz) := by
  obtain ⟨N, out⟩ := res
  refine x_met (own := RX3) (by decide) rfl (Nat.le_of_ble_eq_true rfl) ?_
  intro p e s m below meth c ls E hP hr hlk ht hl
  obtain ⟨⟨hP, hB⟩, hsz⟩ := hP
  have hE := hB.2.1
  have hK := hE.1
  have hasz : a < sz := by rw [← hsz]; exact RD_lt hP
  have hA : ∀ q, nA a sz q → q = a ∨ s.heap.size ≤ q := fun q z => by rw [hsz]; exact z
  have hZa := hB.2.2.2.2.1
  skip
  have hS : va_S (nA a sz) s.heap s.heap [] := va_S.rf
  have hzs := hS.1
  obtain ⟨hx, hb, hml, hown, hts⟩ := id E
  have hl : lv_has ls 2 [(0, .ref a)] := hl
  obtain ⟨H, hH⟩ : ∃ z, z = s.heap := ⟨_, rfl⟩
  rw [← hH] at hP
  have hS : va_S (nA a sz) s.heap H [] := by rw [hH]; exact va_S.rf
  show W p l e (rmc (9) N) s m _ below meth c s.heap [] 0 0 (nx_MQ below (QcI D a g (nA a sz) out) (XcR D (nA a sz) out) _ s N (24 * N) (nA a sz)) (F0 m 0 ls [])
  rw [← hH]
  have hzs := hS.1
  have hf : ((fi_isIn (μ 3 0) (nI 30) (nI 34) ()).bind fun v1 => (if v1 = 0 then some (1, .inl (nI 1, μ 2 0)) else (fr_next ξ μ).bind fun μ3 => some (0, .inr ((μ 3 0) - (nI 30), μ3)))) = some (N, out) := hf
  refine lv_aload_n hx hb dX3_kind_0 rfl (lv_at hl 0 rfl) ?_
  refine gp_get (C := RX3) (T := TX3) E hK (oneO (dT := dT) hP) (if_pos rfl) rfl in_X3 3 (by decide) (hts _ q407) (fun _ z => z) (v := .int (μ 3 0)) rfl dX3_kind_1 ?_
  refine lv_bipush (v := nI 30) hx hb dX3_kind_4 rfl ?_
  refine lv_bipush (v := nI 34) hx hb dX3_kind_6 rfl ?_
  obtain ⟨v1, hv1, hf⟩ := ob hf
  refine k_siN (Pic := fun _ => True) (Pic1 := fun _ => True) (A1 := fun _ => False) E hS (fun _ _ z => z.elim) (fun _ z => z.elim) (As := [.int (μ 3 0), .int (nI 30), .int (nI 34)]) (ti_isIn l (μ 3 0) (nI 30) (nI 34) _ hv1) (fun _ _ _ _ h => h) (fun _ _ _ => trivial) (nmw_1 hE.2) q161 q387 q388 di_isIn rfl ⟨rfl, rfl⟩ (rmcd_ok (by decide) (by decide)) ⟨show _ ≤ N by omega, show _ ≤ 24 * N by omega⟩ hl rfl (Nat.le_of_ble_eq_true rfl) dX3_kind_8 (fun H locs _ _ hq1 hS => ?_)
  have hkp := kp_pureF (a := a) hq1
  have hP := RD_same hP (fun q z => hq1 q z (fun y => y))
  have hzs := hS.1
  refine lv_if_ne (tgt := 27) hx hb dX3_kind_11 (by decide) (fun kc2 => ?_) (fun kc2 => ?_)
  · have hf := ite_f kc2 hf
    refine lv_aload_n hx hb dX3_kind_27 rfl (lv_at hl 0 rfl) ?_
    refine gp_get (C := RX3) (T := TX3) E hK (oneO (dT := dT) hP) (if_pos rfl) rfl in_X3 3 (by decide) (hts _ q407) (fun _ z => z) (v := .int (μ 3 0)) rfl dX3_kind_28 ?_
    refine lv_bipush (v := nI 30) hx hb dX3_kind_31 rfl ?_
    refine lv_isub hx hb dX3_kind_33 ?_
    refine lv_istore_n (lv' := [(1, .int ((μ 3 0) - (nI 30))), (0, .ref a)]) hx hb dX3_kind_34 rfl hl (by decide) rfl (fun ls hl => ?_)
    refine lv_aload_n hx hb dX3_kind_35 rfl (lv_at hl 1 rfl) ?_
    obtain ⟨μ3, hc4, hf⟩ := ob hf
    refine k_vv (Pic := RP D dT a g ξ β σ ρ Z μ) (Pic1 := fun H => RD D a g μ3 H) (A1 := rA a) E hS (fun _ _ z => Or.inl z) (fun _ z => Or.inl z) (As := []) (tr_next l D dT a g ξ β σ ρ Z μ _ hc4) RP_bl (RP_pre hB hP hS hA) (RD_recv hK hP) (lw_V q432 q434 qs2 q167 q435) dr_next rfl ⟨rfl, rfl⟩ (rmcd_ok (by decide) (by decide)) ⟨show _ ≤ N by omega, show _ ≤ 24 * N by omega⟩ hl rfl (Nat.le_of_ble_eq_true rfl) dX3_kind_36 (fun H locs hP _ hq1 hS => ?_)
    have hkp := kp_call0 hq1
    have hzs := hS.1
    refine lv_iload_n hx hb dX3_kind_39 rfl (lv_at hl 0 rfl) ?_
    cases hf
    exact x_iret E hr hlk hP hS (by omega) (by omega) dX3_kind_40
  · have hf := ite_t kc2 hf
    cases hf
    exact r_throw hst E hB ht hlk hP hS hsz hl (lv_at hl 0 rfl) (by omega) (by omega) (by omega) dX3_kind_14 dX3_kind_17 dX3_kind_18 rfl dX3_kind_19 dX3_kind_20 dX3_kind_23 dX3_kind_26
set_option maxHeartbeats 4000000 in
noncomputable def fr_opens (ξ : nwM) (μ : nwM) : nwR (nwM) := (if (μ 5 0) = (nI 8) then some (1, .inl (nI 3, μ 2 0)) else (wf_ μ 5 ((μ 5 0) + (nI 1))).bind fun μ2 => (fr_next ξ μ2).bind fun μ3 => some (0, .inr μ3))
set_option maxHeartbeats 4000000 in
theorem tr_opens (l : Launch) (hst : l.stackTraces = false) (D : va_G) (dT : Nat → ClassId) (a g : Nat) (ξ : nwM) (β : Nat → Nat) (σ : nwM) (ρ : Nat → Nat) (Z : nwZ) (sz : Nat) (μ : nwM) (res : Nat × (nwF ⊕ (nwM))) (hf : fr_opens ξ μ = some res) : nx_Met l yX3_opens (ws_ yX3_opens cX3_opens 1 none) (rmc (9) res.1) (va_Pc [.ref a] (RQ D dT a g ξ β σ ρ Z sz μ)) (QcV D a g (nA a sz) res.2) (XcR D (nA a sz) res.2) res.1 (24 * res.1) (nA a sz) := by
  obtain ⟨N, out⟩ := res
  refine x_met (own := RX3) (by decide) rfl (Nat.le_of_ble_eq_true rfl) ?_
  intro p e s m below meth c ls E hP hr hlk ht hl
  obtain ⟨⟨hP, hB⟩, hsz⟩ := hP
  have hE := hB.2.1
  have hK := hE.1
  have hasz : a < sz := by rw [← hsz]; exact RD_lt hP
  have hA : ∀ q, nA a sz q → q = a ∨ s.heap.size ≤ q := fun q z => by rw [hsz]; exact z
  have hZa := hB.2.2.2.2.1
  skip
  have hS : va_S (nA a sz) s.heap s.heap [] := va_S.rf
  have hzs := hS.1
  obtain ⟨hx, hb, hml, hown, hts⟩ := id E
  have hl : lv_has ls 1 [(0, .ref a)] := hl
  obtain ⟨H, hH⟩ : ∃ z, z = s.heap := ⟨_, rfl⟩
  rw [← hH] at hP
  have hS : va_S (nA a sz) s.heap H [] := by rw [hH]; exact va_S.rf
  show W p l e (rmc (9) N) s m _ below meth c s.heap [] 0 0 (nx_MQ below (QcV D a g (nA a sz) out) (XcR D (nA a sz) out) _ s N (24 * N) (nA a sz)) (F0 m 0 ls [])
  rw [← hH]
  have hzs := hS.1
  have hf : ((if (μ 5 0) = (nI 8) then some (1, .inl (nI 3, μ 2 0)) else (wf_ μ 5 ((μ 5 0) + (nI 1))).bind fun μ2 => (fr_next ξ μ2).bind fun μ3 => some (0, .inr μ3))) = some (N, out) := hf
  refine lv_aload_n hx hb dX3_opens_0 rfl (lv_at hl 0 rfl) ?_
  refine gp_get (C := RX3) (T := TX3) E hK (oneO (dT := dT) hP) (if_pos rfl) rfl in_X3 5 (by decide) (hts _ q409) (fun _ z => z) (v := .int (μ 5 0)) rfl dX3_opens_1 ?_
  refine lv_bipush (v := nI 8) hx hb dX3_opens_4 rfl ?_
  refine lv_icmp_ne (tgt := 22) hx hb dX3_opens_6 (by decide) (fun kc1 => ?_) (fun kc1 => ?_)
  · have hf := ite_f kc1 hf
    refine lv_aload_n hx hb dX3_opens_22 rfl (lv_at hl 0 rfl) ?_
    refine lv_dup hx hb dX3_opens_23 rfl ?_
    refine gp_get (C := RX3) (T := TX3) E hK (oneO (dT := dT) hP) (if_pos rfl) rfl in_X3 5 (by decide) (hts _ q409) (fun _ z => z) (v := .int (μ 5 0)) rfl dX3_opens_24 ?_
    refine lv_iconst (v := nI 1) hx hb dX3_opens_27 rfl ?_
    refine lv_iadd hx hb dX3_opens_28 ?_
    obtain ⟨μ2, hμ2, hf⟩ := ob hf
    refine gp_put (C := RX3) (T := TX3) (ty := .int) E hK (oneO (dT := dT) hP) hS (Or.inl rfl : nA a sz a) (if_pos rfl) rfl in_X3 tyX3 tyX3_ok nmX3 5 (by decide) (hts _ q409) (fun _ z => z) rfl rfl rfl rfl dX3_opens_29 (fun H locs hP oq hS => ?_)
    have hP := RD_put (by decide) hμ2 hP
    have hkp := kp_put oq
    have hzs := hS.1
    refine lv_aload_n hx hb dX3_opens_32 rfl (lv_at hl 0 rfl) ?_
    obtain ⟨μ3, hc4, hf⟩ := ob hf
    refine k_vv (Pic := RP D dT a g ξ β σ ρ Z μ2) (Pic1 := fun H => RD D a g μ3 H) (A1 := rA a) E hS (fun _ _ z => Or.inl z) (fun _ z => Or.inl z) (As := []) (tr_next l D dT a g ξ β σ ρ Z μ2 _ hc4) RP_bl (RP_pre hB hP hS hA) (RD_recv hK hP) (lw_V q432 q434 qs2 q167 q435) dr_next rfl ⟨rfl, rfl⟩ (rmcd_ok (by decide) (by decide)) ⟨show _ ≤ N by omega, show _ ≤ 24 * N by omega⟩ hl rfl (Nat.le_of_ble_eq_true rfl) dX3_opens_33 (fun H locs hP _ hq1 hS => ?_)
    have hkp := kp_call0 hq1
    have hzs := hS.1
    cases hf
    exact x_vret E hr hlk hP hS (by omega) (by omega) dX3_opens_36
  · have hf := ite_t kc1 hf
    cases hf
    exact r_throw hst E hB ht hlk hP hS hsz hl (lv_at hl 0 rfl) (by omega) (by omega) (by omega) dX3_opens_9 dX3_opens_12 dX3_opens_13 rfl dX3_opens_14 dX3_opens_15 dX3_opens_18 dX3_opens_21
set_option maxHeartbeats 4000000 in
noncomputable def fr_unit (ξ : nwM) (μ : nwM) : nwR (nwT2 × nwM) := (if (μ 3 0) = (nI 2) then xn_ 1 (xq_ (fr_number ξ (nI 0) (nI 9999) μ) fun r11 => some (0, .inr (mkF r11.1, r11.2))) else (fi_isIn (μ 3 0) (nI 180) (nI 188) ()).bind fun v2 => (if v2 = 0 then some (1, .inl (nI 1, μ 2 0)) else (fr_next ξ μ).bind fun μ4 => xn_ 1 (some (0, .inr (mkK ((μ 3 0) - (nI 180)), μ4)))))
set_option maxHeartbeats 4000000 in
theorem tr_unit (l : Launch) (hst : l.stackTraces = false) (D : va_G) (dT : Nat → ClassId) (a g : Nat) (ξ : nwM) (β : Nat → Nat) (σ : nwM) (ρ : Nat → Nat) (Z : nwZ) (sz : Nat) (μ : nwM) (res : Nat × (nwF ⊕ (nwT2 × nwM))) (hf : fr_unit ξ μ = some res) : nx_Met l yX3_unit (ws_ yX3_unit cX3_unit 2 (some (.object "NamesWeather$Term"))) (rmc (10) res.1) (va_Pc [.ref a] (RQ D dT a g ξ β σ ρ Z sz μ)) (QcR D a g (nA a sz) (pvG (PT D) sz) res.2) (XcR D (nA a sz) res.2) res.1 (24 * res.1) (nA a sz) := by
  obtain ⟨N, out⟩ := res
  refine x_met (own := RX3) (by decide) rfl (Nat.le_of_ble_eq_true rfl) ?_
  intro p e s m below meth c ls E hP hr hlk ht hl
  obtain ⟨⟨hP, hB⟩, hsz⟩ := hP
  have hE := hB.2.1
  have hK := hE.1
  have hasz : a < sz := by rw [← hsz]; exact RD_lt hP
  have hA : ∀ q, nA a sz q → q = a ∨ s.heap.size ≤ q := fun q z => by rw [hsz]; exact z
  have hZa := hB.2.2.2.2.1
  skip
  have hS : va_S (nA a sz) s.heap s.heap [] := va_S.rf
  have hzs := hS.1
  obtain ⟨hx, hb, hml, hown, hts⟩ := id E
  have hl : lv_has ls 2 [(0, .ref a)] := hl
  obtain ⟨H, hH⟩ : ∃ z, z = s.heap := ⟨_, rfl⟩
  rw [← hH] at hP
  have hS : va_S (nA a sz) s.heap H [] := by rw [hH]; exact va_S.rf
  show W p l e (rmc (10) N) s m _ below meth c s.heap [] 0 0 (nx_MQ below (QcR D a g (nA a sz) (pvG (PT D) sz) out) (XcR D (nA a sz) out) _ s N (24 * N) (nA a sz)) (F0 m 0 ls [])
  rw [← hH]
  have hzs := hS.1
  have hf : ((if (μ 3 0) = (nI 2) then xn_ 1 (xq_ (fr_number ξ (nI 0) (nI 9999) μ) fun r11 => some (0, .inr (mkF r11.1, r11.2))) else (fi_isIn (μ 3 0) (nI 180) (nI 188) ()).bind fun v2 => (if v2 = 0 then some (1, .inl (nI 1, μ 2 0)) else (fr_next ξ μ).bind fun μ4 => xn_ 1 (some (0, .inr (mkK ((μ 3 0) - (nI 180)), μ4)))))) = some (N, out) := hf
  refine lv_aload_n hx hb dX3_unit_0 rfl (lv_at hl 0 rfl) ?_
  refine gp_get (C := RX3) (T := TX3) E hK (oneO (dT := dT) hP) (if_pos rfl) rfl in_X3 3 (by decide) (hts _ q407) (fun _ z => z) (v := .int (μ 3 0)) rfl dX3_unit_1 ?_
  refine lv_iconst (v := nI 2) hx hb dX3_unit_4 rfl ?_
  refine lv_icmp_ne (tgt := 24) hx hb dX3_unit_5 (by decide) (fun kc1 => ?_) (fun kc1 => ?_)
  · have hf := ite_f kc1 hf
    refine lv_aload_n hx hb dX3_unit_24 rfl (lv_at hl 0 rfl) ?_
    refine gp_get (C := RX3) (T := TX3) E hK (oneO (dT := dT) hP) (if_pos rfl) rfl in_X3 3 (by decide) (hts _ q407) (fun _ z => z) (v := .int (μ 3 0)) rfl dX3_unit_25 ?_
    refine lv_sipush (v := nI 180) hx hb dX3_unit_28 rfl ?_
    refine lv_sipush (v := nI 188) hx hb dX3_unit_31 rfl ?_
    obtain ⟨v2, hv2, hf⟩ := ob hf
    refine k_siN (Pic := fun _ => True) (Pic1 := fun _ => True) (A1 := fun _ => False) E hS (fun _ _ z => z.elim) (fun _ z => z.elim) (As := [.int (μ 3 0), .int (nI 180), .int (nI 188)]) (ti_isIn l (μ 3 0) (nI 180) (nI 188) _ hv2) (fun _ _ _ _ h => h) (fun _ _ _ => trivial) (nmw_1 hE.2) q161 q387 q388 di_isIn rfl ⟨rfl, rfl⟩ (rmcd_ok (by decide) (by decide)) ⟨show _ ≤ N by omega, show _ ≤ 24 * N by omega⟩ hl rfl (Nat.le_of_ble_eq_true rfl) dX3_unit_34 (fun H locs _ _ hq1 hS => ?_)
    have hkp := kp_pureF (a := a) hq1
    have hP := RD_same hP (fun q z => hq1 q z (fun y => y))
    have hzs := hS.1
    refine lv_if_ne (tgt := 53) hx hb dX3_unit_37 (by decide) (fun kc3 => ?_) (fun kc3 => ?_)
    · have hf := ite_f kc3 hf
      refine lv_aload_n hx hb dX3_unit_53 rfl (lv_at hl 0 rfl) ?_
      refine gp_get (C := RX3) (T := TX3) E hK (oneO (dT := dT) hP) (if_pos rfl) rfl in_X3 3 (by decide) (hts _ q407) (fun _ z => z) (v := .int (μ 3 0)) rfl dX3_unit_54 ?_
      refine lv_sipush (v := nI 180) hx hb dX3_unit_57 rfl ?_
      refine lv_isub hx hb dX3_unit_60 ?_
      refine lv_istore_n (lv' := [(1, .int ((μ 3 0) - (nI 180))), (0, .ref a)]) hx hb dX3_unit_61 rfl hl (by decide) rfl (fun ls hl => ?_)
      refine lv_aload_n hx hb dX3_unit_62 rfl (lv_at hl 1 rfl) ?_
      obtain ⟨μ4, hc5, hf⟩ := ob hf
      refine k_vv (Pic := RP D dT a g ξ β σ ρ Z μ) (Pic1 := fun H => RD D a g μ4 H) (A1 := rA a) E hS (fun _ _ z => Or.inl z) (fun _ z => Or.inl z) (As := []) (tr_next l D dT a g ξ β σ ρ Z μ _ hc5) RP_bl (RP_pre hB hP hS hA) (RD_recv hK hP) (lw_V q432 q434 qs2 q167 q435) dr_next rfl ⟨rfl, rfl⟩ (rmcd_ok (by decide) (by decide)) ⟨show _ ≤ N by omega, show _ ≤ 24 * N by omega⟩ hl rfl (Nat.le_of_ble_eq_true rfl) dX3_unit_63 (fun H locs hP _ hq1 hS => ?_)
      have hkp := kp_call0 hq1
      have hzs := hS.1
      obtain ⟨n7, hf, en7⟩ := xn_in hf
      obtain ⟨q6, hqq6⟩ : ∃ z, z = H.size := ⟨_, rfl⟩
      refine x_new (B := 24) (C := RX7) (T := TX7) E hK (ci := 6) rfl in_X7 tyX7 tyX7_ok q662 q663 q177 [.int 0] (by decide) (by decide) (show _ ≤ N by omega) (show _ ≤ 24 * N by omega) dX3_unit_66 (fun H hO6 z1 o1 => ?_)
      have hkp := kp_pure (a := a) o1
      have hP := RD_same hP o1
      have hzs := hS.1
      have hsq6 : sz ≤ q6 := by omega
      have hS := S_new hS z1 o1
      rw [← hqq6] at hO6 ⊢
      have hlq6 : q6 < H.size := by omega
      clear hkp z1 o1
      have hzs := hS.1
      refine lv_dup hx hb dX3_unit_69 rfl ?_
      refine lv_iload_n hx hb dX3_unit_70 rfl (lv_at hl 0 rfl) ?_
      refine k_iv (Pic := oFP D dT 6 1 [.int 0] q6) (Pic1 := fun H => oF D 6 1 [.int ((μ 3 0) - (nI 180))] q6 H) (A1 := eqA q6) E hS (fun z _ ez => Or.inr (by rw [show z = q6 from ez]; omega)) (fun z ez => Or.inr (by rw [show z = q6 from ez]; omega)) (As := [.int ((μ 3 0) - (nI 180))]) (tc_Known l D dT q6 ((μ 3 0) - (nI 180))) oFP_bl (oFP_pre hO6 hE) q664 q665 q177 q666 rfl dc_Known rfl ⟨rfl, rfl⟩ (rmcd_ok (by decide) (by decide)) ⟨show _ ≤ N by omega, show _ ≤ 24 * N by omega⟩ hl rfl (Nat.le_of_ble_eq_true rfl) dX3_unit_71 (fun H locs hO6 hz1 hq1 hS => ?_)
      have hkp := kp_init hq1
      have hP := RD_kp hP hkp (by omega)
      have hzs := hS.1
      have hT8 := mkK_ok hO6 (not_fz (L := []) (by omega) (fun h => nomatch h))
      cases hf
      exact x_aret (PV := pvG (PT D) sz) E hr hlk hT8 hP hS (by omega) (by omega) dX3_unit_74
    · have hf := ite_t kc3 hf
      cases hf
      exact r_throw hst E hB ht hlk hP hS hsz hl (lv_at hl 0 rfl) (by omega) (by omega) (by omega) dX3_unit_40 dX3_unit_43 dX3_unit_44 rfl dX3_unit_45 dX3_unit_46 dX3_unit_49 dX3_unit_52
  · have hf := ite_t kc1 hf
    obtain ⟨n10, hf, en10⟩ := xn_in hf
    obtain ⟨q9, hqq9⟩ : ∃ z, z = H.size := ⟨_, rfl⟩
    refine x_new (B := 24) (C := RX6) (T := TX6) E hK (ci := 5) rfl in_X6 tyX6 tyX6_ok q645 q646 q176 [.int 0] (by decide) (by decide) (show _ ≤ N by omega) (show _ ≤ 24 * N by omega) dX3_unit_8 (fun H hO9 z1 o1 => ?_)
    have hkp := kp_pure (a := a) o1
    have hP := RD_same hP o1
    have hzs := hS.1
    have hsq9 : sz ≤ q9 := by omega
    have hS := S_new hS z1 o1
    rw [← hqq9] at hO9 ⊢
    have hlq9 : q9 < H.size := by omega
    clear hkp z1 o1
    have hzs := hS.1
    refine lv_dup hx hb dX3_unit_11 rfl ?_
    refine lv_aload_n hx hb dX3_unit_12 rfl (lv_at hl 0 rfl) ?_
    refine lv_iconst (v := nI 0) hx hb dX3_unit_13 rfl ?_
    refine lv_sipush (v := nI 9999) hx hb dX3_unit_14 rfl ?_
    rcases xq_in hf with ⟨f15, hc14, hx1⟩ | ⟨m12, r11, n13, hc14, hf, en13⟩
    · subst hx1
      exact x_thrV (A1 := nA a H.size) E hS (fun _ _ z => nA_le hsz hzs z) (fun _ z => nA_le hsz hzs z) (As := [.int (nI 0), .int (nI 9999)]) (tr_number l hst D dT a g ξ β σ ρ Z H.size (nI 0) (nI 9999) μ (_, .inl f15) hc14) (fun _ _ _ _ z => z) RQ_bl (RQ_pre hB hP hS hA) (RD_recv hK hP) (lw_V q647 q649 qs19 q167 q650) dr_number rfl (by omega) (by decide) (by omega) (by omega) ht hlk hl rfl (Nat.le_of_ble_eq_true rfl) dX3_unit_17
    · skip
      refine k_vi (Pic := RQ D dT a g ξ β σ ρ Z H.size μ) (Pic1 := fun H => RD D a g r11.2 H) (A1 := nA a H.size) E hS (fun _ _ z => nA_le hsz hzs z) (fun _ z => nA_le hsz hzs z) (As := [.int (nI 0), .int (nI 9999)]) (nx_met (tr_number l hst D dT a g ξ β σ ρ Z H.size (nI 0) (nI 9999) μ (_, .inr r11) hc14)) RQ_bl (RQ_pre hB hP hS hA) (RD_recv hK hP) (lw_V q647 q649 qs19 q167 q650) dr_number rfl ⟨rfl, rfl⟩ (rmc_ok (by omega) (by decide)) ⟨show _ ≤ N by omega, show _ ≤ 24 * N by omega⟩ hl rfl (Nat.le_of_ble_eq_true rfl) dX3_unit_17 (fun H locs hP hz1 hq1 hS => ?_)
      have hkp := kp_call hq1
      have hO9 := oF_kp hO9 hkp (by omega)
      have hzs := hS.1
      refine k_iv (Pic := oFP D dT 5 1 [.int 0] q9) (Pic1 := fun H => oF D 5 1 [.int r11.1] q9 H) (A1 := eqA q9) E hS (fun z _ ez => Or.inr (by rw [show z = q9 from ez]; omega)) (fun z ez => Or.inr (by rw [show z = q9 from ez]; omega)) (As := [.int r11.1]) (tc_Fixed l D dT q9 r11.1) oFP_bl (oFP_pre hO9 hE) q651 q652 q176 q653 rfl dc_Fixed rfl ⟨rfl, rfl⟩ (rmcd_ok (by decide) (by decide)) ⟨show _ ≤ N by omega, show _ ≤ 24 * N by omega⟩ hl rfl (Nat.le_of_ble_eq_true rfl) dX3_unit_20 (fun H locs hO9 hz1 hq1 hS => ?_)
      have hkp := kp_init hq1
      have hP := RD_kp hP hkp (by omega)
      have hzs := hS.1
      have hT17 := mkF_ok hO9 (not_fz (L := []) (by omega) (fun h => nomatch h))
      cases hf
      exact x_aret (PV := pvG (PT D) sz) E hr hlk hT17 hP hS (by omega) (by omega) dX3_unit_23
set_option maxHeartbeats 4000000 in
noncomputable def fr_product_L5 (ξ : nwM) : (nwT2 × nwM) → nwR ((nwT2 × nwM) ⊕ (nwT2 × nwM)) := fun st => (if (st.2 3 0) = (nI 42) then (fr_next ξ st.2).bind fun μ8 => xn_ 1 ((if (st.2 3 0) = (nI 47) then xn_ 1 (xq_ (fr_number ξ (nI 1) (nI 9999) μ8) fun r22 => some (0, .inr (.inl (mkJ st.1 (st.2 3 0) (mkF r22.1), r22.2)))) else xq_ (fr_unit ξ μ8) fun r13 => some (0, .inr (.inl (mkJ st.1 (st.2 3 0) r13.1, r13.2))))) else (if (st.2 3 0) = (nI 47) then (fr_next ξ st.2).bind fun μ31 => xn_ 1 ((if (st.2 3 0) = (nI 47) then xn_ 1 (xq_ (fr_number ξ (nI 1) (nI 9999) μ31) fun r45 => some (0, .inr (.inl (mkJ st.1 (st.2 3 0) (mkF r45.1), r45.2)))) else xq_ (fr_unit ξ μ31) fun r36 => some (0, .inr (.inl (mkJ st.1 (st.2 3 0) r36.1, r36.2))))) else some (0, .inr (.inr (st.1, st.2)))))
set_option maxHeartbeats 4000000 in
noncomputable def fr_product (ξ : nwM) (μ : nwM) : nwR (nwT2 × nwM) := xq_ (fr_unit ξ μ) fun r1 => xq_ (wc_ (fr_product_L5 ξ) (r1.1, r1.2)) fun x53 => some (0, .inr (x53.1, x53.2))
set_option maxHeartbeats 4000000 in
theorem fr_product_L5_w {p : Program} {l : Launch} {e : Env} {s : State} {m : MethodId} {args : Array Value} {below : List Frame} {meth : Method} {c : Code} {D : va_G} {dT : Nat → ClassId} {a g : Nat} {ξ σ : nwM} {β ρ : Nat → Nat} {Z : nwZ} {sz N nr : Nat} {Qc : Array Value → State → Outcome → State → Prop} {γ : Type} {out : nwF ⊕ γ} (hst : l.stackTraces = false) (E : CallFix p m c cX3_product 3 s args lw_all RX3) (hE : EV D dT s) (hB : RB D dT a g ξ β σ ρ Z s) (hsz : s.heap.size = sz) (hasz : a < sz) (ht : ∀ x ∈ c.exceptionTable.toList, False) (hlk : meth.locks = false) {st : nwT2 × nwM} {n : Nat} {x : nwF ⊕ (nwT2 × nwM)} (hw : wc_ (fr_product_L5 ξ) st = some (n, x)) (hfin : (Sum.elim (fun fl => out = .inl fl) (fun (r : nwT2 × nwM) => ∀ (b1_ : Nat) (ls : Array Slot) (H : Heap) (locs : List Loc) (cells slots : Nat), lv_has ls 3 [(1, .ref b1_)] → PT D r.1 (fz sz []) b1_ H → RD D a g r.2 H → va_S (nA a sz) s.heap H locs → cells + nr ≤ N → slots + 24 * nr ≤ 24 * N → W p l e (rmc 11 N) s m args below meth c H locs cells slots (nx_MQ below Qc (XcR D (nA a sz) out) args s N (24 * N) (nA a sz)) (F0 m 73 ls []))) x) : (fun (st : nwT2 × nwM) (n : Nat) => ∀ (b1_ : Nat) (ls : Array Slot) (H : Heap) (locs : List Loc) (cells slots : Nat), lv_has ls 3 [(0, .ref a), (1, .ref b1_)] → PT D st.1 (fz sz []) b1_ H → RD D a g st.2 H → va_S (nA a sz) s.heap H locs → cells + (n + nr) ≤ N → slots + 24 * (n + nr) ≤ 24 * N → W p l e (rmc 11 N) s m args below meth c H locs cells slots (nx_MQ below Qc (XcR D (nA a sz) out) args s N (24 * N) (nA a sz)) (F0 m 5 ls [])) st n := by
  obtain ⟨hx, hb, hml, hown, hts⟩ := id E
  have hK := hE.1
  have hA : ∀ q, nA a sz q → q = a ∨ s.heap.size ≤ q := fun q z => by rw [hsz]; exact z
  have hZa := hB.2.2.2.2.1
  skip
  refine wc_run (S := (fun (st : nwT2 × nwM) (n : Nat) => ∀ (b1_ : Nat) (ls : Array Slot) (H : Heap) (locs : List Loc) (cells slots : Nat), lv_has ls 3 [(0, .ref a), (1, .ref b1_)] → PT D st.1 (fz sz []) b1_ H → RD D a g st.2 H → va_S (nA a sz) s.heap H locs → cells + (n + nr) ≤ N → slots + 24 * (n + nr) ≤ 24 * N → W p l e (rmc 11 N) s m args below meth c H locs cells slots (nx_MQ below Qc (XcR D (nA a sz) out) args s N (24 * N) (nA a sz)) (F0 m 5 ls []))) (fin := (Sum.elim (fun fl => out = .inl fl) (fun (r : nwT2 × nwM) => ∀ (b1_ : Nat) (ls : Array Slot) (H : Heap) (locs : List Loc) (cells slots : Nat), lv_has ls 3 [(1, .ref b1_)] → PT D r.1 (fz sz []) b1_ H → RD D a g r.2 H → va_S (nA a sz) s.heap H locs → cells + nr ≤ N → slots + 24 * nr ≤ 24 * N → W p l e (rmc 11 N) s m args below meth c H locs cells slots (nx_MQ below Qc (XcR D (nA a sz) out) args s N (24 * N) (nA a sz)) (F0 m 73 ls [])))) ?_ hw hfin
  clear hw hfin
  intro st m1 y n1 hf hk b1_ ls H locs cells slots hl hT1_ hP hS hC1 hC2
  have hzs := hS.1
  have hf : ((if (st.2 3 0) = (nI 42) then (fr_next ξ st.2).bind fun μ8 => xn_ 1 ((if (st.2 3 0) = (nI 47) then xn_ 1 (xq_ (fr_number ξ (nI 1) (nI 9999) μ8) fun r22 => some (0, .inr (.inl (mkJ st.1 (st.2 3 0) (mkF r22.1), r22.2)))) else xq_ (fr_unit ξ μ8) fun r13 => some (0, .inr (.inl (mkJ st.1 (st.2 3 0) r13.1, r13.2))))) else (if (st.2 3 0) = (nI 47) then (fr_next ξ st.2).bind fun μ31 => xn_ 1 ((if (st.2 3 0) = (nI 47) then xn_ 1 (xq_ (fr_number ξ (nI 1) (nI 9999) μ31) fun r45 => some (0, .inr (.inl (mkJ st.1 (st.2 3 0) (mkF r45.1), r45.2)))) else xq_ (fr_unit ξ μ31) fun r36 => some (0, .inr (.inl (mkJ st.1 (st.2 3 0) r36.1, r36.2))))) else some (0, .inr (.inr (st.1, st.2)))))) = some (m1, y) := hf
  refine lv_aload_n hx hb dX3_product_5 rfl (lv_at hl 0 rfl) ?_
  refine gp_get (C := RX3) (T := TX3) E hK (oneO (dT := dT) hP) (if_pos rfl) rfl in_X3 3 (by decide) (hts _ q407) (fun _ z => z) (v := .int (st.2 3 0)) rfl dX3_product_6 ?_
  refine lv_bipush (v := nI 42) hx hb dX3_product_9 rfl ?_
  refine lv_icmp_eq (tgt := 23) hx hb dX3_product_11 (by decide) (fun kc7 => ?_) (fun kc7 => ?_)
  · have hf := ite_t kc7 hf
    refine lv_aload_n hx hb dX3_product_23 rfl (lv_at hl 0 rfl) ?_
    refine gp_get (C := RX3) (T := TX3) E hK (oneO (dT := dT) hP) (if_pos rfl) rfl in_X3 3 (by decide) (hts _ q407) (fun _ z => z) (v := .int (st.2 3 0)) rfl dX3_product_24 ?_
    refine lv_istore_n (lv' := [(2, .int (st.2 3 0)), (0, .ref a), (1, .ref b1_)]) hx hb dX3_product_27 rfl hl (by decide) rfl (fun ls hl => ?_)
    refine lv_aload_n hx hb dX3_product_28 rfl (lv_at hl 1 rfl) ?_
    obtain ⟨μ8, hc9, hf⟩ := ob hf
    refine k_vv (Pic := RP D dT a g ξ β σ ρ Z st.2) (Pic1 := fun H => RD D a g μ8 H) (A1 := rA a) E hS (fun _ _ z => Or.inl z) (fun _ z => Or.inl z) (As := []) (tr_next l D dT a g ξ β σ ρ Z st.2 _ hc9) RP_bl (RP_pre hB hP hS hA) (RD_recv hK hP) (lw_V q432 q434 qs2 q167 q435) dr_next rfl ⟨rfl, rfl⟩ (rmcd_ok (by decide) (by decide)) ⟨show _ ≤ N by omega, show _ ≤ 24 * N by omega⟩ hl rfl (Nat.le_of_ble_eq_true rfl) dX3_product_29 (fun H locs hP _ hq1 hS => ?_)
    have hkp := kp_call0 hq1
    have hT1_ := kpG (gK_T D) (Or.inl hasz) hkp hT1_
    have hzs := hS.1
    obtain ⟨n11, hf, en11⟩ := xn_in hf
    obtain ⟨q10, hqq10⟩ : ∃ z, z = H.size := ⟨_, rfl⟩
    refine x_new (B := 24) (C := RX8) (T := TX8) E hK (ci := 7) rfl in_X8 tyX8 tyX8_ok q672 q673 q178 [.null, .null, .int 0] (by decide) (by decide) (show _ ≤ N by omega) (show _ ≤ 24 * N by omega) dX3_product_32 (fun H hO10 z1 o1 => ?_)
    have hT1_ := frG (gK_T D) hqq10 hT1_
    have hkp := kp_pure (a := a) o1
    have hP := RD_same hP o1
    have hzs := hS.1
    have hsq10 : sz ≤ q10 := by omega
    have hS := S_new hS z1 o1
    have hT1_ := kpG (gK_T D) (Or.inl hasz) hkp hT1_
    rw [← hqq10] at hO10 ⊢
    have hlq10 : q10 < H.size := by omega
    clear hkp z1 o1
    have hzs := hS.1
    refine lv_dup hx hb dX3_product_35 rfl ?_
    refine lv_aload_n hx hb dX3_product_36 rfl (lv_at hl 2 rfl) ?_
    refine lv_iload_n hx hb dX3_product_37 rfl (lv_at hl 0 rfl) ?_
    refine lv_iload_n hx hb dX3_product_38 rfl (lv_at hl 0 rfl) ?_
    refine lv_bipush (v := nI 47) hx hb dX3_product_39 rfl ?_
    refine lv_icmp_ne (tgt := 62) hx hb dX3_product_41 (by decide) (fun kc12 => ?_) (fun kc12 => ?_)
    · have hf := ite_f kc12 hf
      refine lv_aload_n hx hb dX3_product_62 rfl (lv_at hl 1 rfl) ?_
      rcases xq_in hf with ⟨f17, hc16, hx1⟩ | ⟨m14, r13, n15, hc16, hf, en15⟩
      · subst hx1
        obtain ⟨-, hk⟩ := hk
        have hk : out = .inl _ := hk
        subst hk
        exact x_thrV (A1 := nA a H.size) E hS (fun _ _ z => nA_le hsz hzs z) (fun _ z => nA_le hsz hzs z) (As := []) (tr_unit l hst D dT a g ξ β σ ρ Z H.size μ8 (_, .inl f17) hc16) (fun _ _ _ _ z => z) RQ_bl (RQ_pre hB hP hS hA) (RD_recv hK hP) (lw_V q641 q643 qs18 q167 q644) dr_unit rfl (by omega) (by decide) (by omega) (by omega) ht hlk hl rfl (Nat.le_of_ble_eq_true rfl) dX3_product_63
      · skip
        refine k_vr (Pic := RQ D dT a g ξ β σ ρ Z H.size μ8) (PicR := fun b H1 => (pvG (PT D) H.size) r13.1 b H1 ∧ RD D a g r13.2 H1) (A1 := nA a H.size) E hS (fun _ _ z => nA_le hsz hzs z) (fun _ z => nA_le hsz hzs z) (As := []) (nx_met (tr_unit l hst D dT a g ξ β σ ρ Z H.size μ8 (_, .inr r13) hc16)) RQ_bl (RQ_pre hB hP hS hA) (RD_recv hK hP) (lw_V q641 q643 qs18 q167 q644) dr_unit rfl ⟨rfl, rfl⟩ (rmc_ok (by omega) (by decide)) ⟨show _ ≤ N by omega, show _ ≤ 24 * N by omega⟩ hl rfl (Nat.le_of_ble_eq_true rfl) dX3_product_63 (fun b18 H locs hR hz1 hq1 hS => ?_)
        obtain ⟨hT18, hP⟩ := hR
        have hlq10 := hO10.lt
        have hT18 : PT D r13.1 (fz sz [q10]) b18 H := wkG (gK_T D) (by omega) (by intro z hz; simp only [List.mem_cons, List.not_mem_nil, or_false] at hz; rcases hz with rfl <;> assumption) hT18
        have hkp := kp_call hq1
        have hT1_ := kpG (gK_T D) (Or.inl hasz) hkp hT1_
        have hO10 := oF_kp hO10 hkp (by omega)
        have hzs := hS.1
        refine k_iv (Pic := oFP D dT 7 3 [.null, .null, .int 0] q10) (Pic1 := fun H => oF D 7 3 [.ref b1_, .ref b18, .int (st.2 3 0)] q10 H) (A1 := eqA q10) E hS (fun z _ ez => Or.inr (by rw [show z = q10 from ez]; omega)) (fun z ez => Or.inr (by rw [show z = q10 from ez]; omega)) (As := [.ref b1_, .int (st.2 3 0), .ref b18]) (tc_Joined l D dT q10 b1_ (st.2 3 0) b18) oFP_bl (oFP_pre hO10 hE) q674 q675 q178 q676 rfl dc_Joined rfl ⟨rfl, rfl⟩ (rmcd_ok (by decide) (by decide)) ⟨show _ ≤ N by omega, show _ ≤ 24 * N by omega⟩ hl rfl (Nat.le_of_ble_eq_true rfl) dX3_product_66 (fun H locs hO10 hz1 hq1 hS => ?_)
        have hkp := kp_init hq1
        have hP := RD_kp hP hkp (by omega)
        have hT1_ := kpG (gK_T D) (Or.inr (List.mem_cons_self)) hkp hT1_
        have hT18 := kpG (gK_T D) (Or.inr (List.mem_cons_self)) hkp hT18
        have hT1_ := dropG (gK_T D) hT1_
        have hT18 := dropG (gK_T D) hT18
        have hzs := hS.1
        have hT19 := mkJ_ok hO10 (not_fz (L := []) (by omega) (fun h => nomatch h)) hT1_ hT18
        refine lv_astore_n (lv' := [(1, .ref q10), (2, .int (st.2 3 0)), (0, .ref a)]) hx hb dX3_product_69 rfl hl (by decide) rfl (fun ls hl => ?_)
        refine lv_goto (tgt := 5) hx hb dX3_product_70 (by decide) ?_
        cases hf
        exact hk _ _ _ _ _ _ (lv_sub hl [2, 0] rfl) hT19 hP hS (by omega) (by omega)
    · have hf := ite_t kc12 hf
      obtain ⟨n21, hf, en21⟩ := xn_in hf
      obtain ⟨q20, hqq20⟩ : ∃ z, z = H.size := ⟨_, rfl⟩
      refine x_new (B := 24) (C := RX6) (T := TX6) E hK (ci := 5) rfl in_X6 tyX6 tyX6_ok q645 q646 q176 [.int 0] (by decide) (by decide) (show _ ≤ N by omega) (show _ ≤ 24 * N by omega) dX3_product_44 (fun H hO20 z1 o1 => ?_)
      have hlt_q10_q20 : q10 < q20 := by rw [hqq20]; exact hO10.lt
      have hT1_ := frG (gK_T D) hqq20 hT1_
      have hkp := kp_pure (a := a) o1
      have hP := RD_same hP o1
      have hzs := hS.1
      have hsq20 : sz ≤ q20 := by omega
      have hS := S_new hS z1 o1
      have hT1_ := kpG (gK_T D) (Or.inl hasz) hkp hT1_
      have hO10 := oF_kp hO10 hkp (by omega)
      rw [← hqq20] at hO20 ⊢
      have hlq20 : q20 < H.size := by omega
      clear hkp z1 o1
      have hzs := hS.1
      refine lv_dup hx hb dX3_product_47 rfl ?_
      refine lv_aload_n hx hb dX3_product_48 rfl (lv_at hl 1 rfl) ?_
      refine lv_iconst (v := nI 1) hx hb dX3_product_49 rfl ?_
      refine lv_sipush (v := nI 9999) hx hb dX3_product_50 rfl ?_
      rcases xq_in hf with ⟨f26, hc25, hx1⟩ | ⟨m23, r22, n24, hc25, hf, en24⟩
      · subst hx1
        obtain ⟨-, hk⟩ := hk
        have hk : out = .inl _ := hk
        subst hk
        exact x_thrV (A1 := nA a H.size) E hS (fun _ _ z => nA_le hsz hzs z) (fun _ z => nA_le hsz hzs z) (As := [.int (nI 1), .int (nI 9999)]) (tr_number l hst D dT a g ξ β σ ρ Z H.size (nI 1) (nI 9999) μ8 (_, .inl f26) hc25) (fun _ _ _ _ z => z) RQ_bl (RQ_pre hB hP hS hA) (RD_recv hK hP) (lw_V q647 q649 qs19 q167 q650) dr_number rfl (by omega) (by decide) (by omega) (by omega) ht hlk hl rfl (Nat.le_of_ble_eq_true rfl) dX3_product_53
      · skip
        refine k_vi (Pic := RQ D dT a g ξ β σ ρ Z H.size μ8) (Pic1 := fun H => RD D a g r22.2 H) (A1 := nA a H.size) E hS (fun _ _ z => nA_le hsz hzs z) (fun _ z => nA_le hsz hzs z) (As := [.int (nI 1), .int (nI 9999)]) (nx_met (tr_number l hst D dT a g ξ β σ ρ Z H.size (nI 1) (nI 9999) μ8 (_, .inr r22) hc25)) RQ_bl (RQ_pre hB hP hS hA) (RD_recv hK hP) (lw_V q647 q649 qs19 q167 q650) dr_number rfl ⟨rfl, rfl⟩ (rmc_ok (by omega) (by decide)) ⟨show _ ≤ N by omega, show _ ≤ 24 * N by omega⟩ hl rfl (Nat.le_of_ble_eq_true rfl) dX3_product_53 (fun H locs hP hz1 hq1 hS => ?_)
        have hkp := kp_call hq1
        have hT1_ := kpG (gK_T D) (Or.inl hasz) hkp hT1_
        have hO10 := oF_kp hO10 hkp (by omega)
        have hO20 := oF_kp hO20 hkp (by omega)
        have hzs := hS.1
        refine k_iv (Pic := oFP D dT 5 1 [.int 0] q20) (Pic1 := fun H => oF D 5 1 [.int r22.1] q20 H) (A1 := eqA q20) E hS (fun z _ ez => Or.inr (by rw [show z = q20 from ez]; omega)) (fun z ez => Or.inr (by rw [show z = q20 from ez]; omega)) (As := [.int r22.1]) (tc_Fixed l D dT q20 r22.1) oFP_bl (oFP_pre hO20 hE) q651 q652 q176 q653 rfl dc_Fixed rfl ⟨rfl, rfl⟩ (rmcd_ok (by decide) (by decide)) ⟨show _ ≤ N by omega, show _ ≤ 24 * N by omega⟩ hl rfl (Nat.le_of_ble_eq_true rfl) dX3_product_56 (fun H locs hO20 hz1 hq1 hS => ?_)
        have hkp := kp_init hq1
        have hP := RD_kp hP hkp (by omega)
        have hT1_ := kpG (gK_T D) (Or.inr (List.mem_cons_self)) hkp hT1_
        have hO10 := oF_kp hO10 hkp (by omega)
        have hT1_ := dropG (gK_T D) hT1_
        have hzs := hS.1
        have hT28 := mkF_ok hO20 (not_fz (L := [q10]) (by omega) (by simp only [List.mem_cons, List.not_mem_nil, or_false]; omega))
        refine lv_goto (tgt := 66) hx hb dX3_product_59 (by decide) ?_
        refine k_iv (Pic := oFP D dT 7 3 [.null, .null, .int 0] q10) (Pic1 := fun H => oF D 7 3 [.ref b1_, .ref q20, .int (st.2 3 0)] q10 H) (A1 := eqA q10) E hS (fun z _ ez => Or.inr (by rw [show z = q10 from ez]; omega)) (fun z ez => Or.inr (by rw [show z = q10 from ez]; omega)) (As := [.ref b1_, .int (st.2 3 0), .ref q20]) (tc_Joined l D dT q10 b1_ (st.2 3 0) q20) oFP_bl (oFP_pre hO10 hE) q674 q675 q178 q676 rfl dc_Joined rfl ⟨rfl, rfl⟩ (rmcd_ok (by decide) (by decide)) ⟨show _ ≤ N by omega, show _ ≤ 24 * N by omega⟩ hl rfl (Nat.le_of_ble_eq_true rfl) dX3_product_66 (fun H locs hO10 hz1 hq1 hS => ?_)
        have hkp := kp_init hq1
        have hP := RD_kp hP hkp (by omega)
        have hT1_ := kpG (gK_T D) (Or.inr (List.mem_cons_self)) hkp hT1_
        have hT28 := kpG (gK_T D) (Or.inr (List.mem_cons_self)) hkp hT28
        have hT1_ := dropG (gK_T D) hT1_
        have hT28 := dropG (gK_T D) hT28
        have hzs := hS.1
        have hT29 := mkJ_ok hO10 (not_fz (L := []) (by omega) (fun h => nomatch h)) hT1_ hT28
        refine lv_astore_n (lv' := [(1, .ref q10), (2, .int (st.2 3 0)), (0, .ref a)]) hx hb dX3_product_69 rfl hl (by decide) rfl (fun ls hl => ?_)
        refine lv_goto (tgt := 5) hx hb dX3_product_70 (by decide) ?_
        cases hf
        exact hk _ _ _ _ _ _ (lv_sub hl [2, 0] rfl) hT29 hP hS (by omega) (by omega)
  · have hf := ite_f kc7 hf
    refine lv_aload_n hx hb dX3_product_14 rfl (lv_at hl 0 rfl) ?_
    refine gp_get (C := RX3) (T := TX3) E hK (oneO (dT := dT) hP) (if_pos rfl) rfl in_X3 3 (by decide) (hts _ q407) (fun _ z => z) (v := .int (st.2 3 0)) rfl dX3_product_15 ?_
    refine lv_bipush (v := nI 47) hx hb dX3_product_18 rfl ?_
    refine lv_icmp_ne (tgt := 73) hx hb dX3_product_20 (by decide) (fun kc30 => ?_) (fun kc30 => ?_)
    · have hf := ite_f kc30 hf
      cases hf
      obtain ⟨hn0, hk⟩ := hk
      exact hk _ _ _ _ _ _ (lv_sub hl [1] rfl) hT1_ hP hS (by omega) (by omega)
    · have hf := ite_t kc30 hf
      refine lv_aload_n hx hb dX3_product_23 rfl (lv_at hl 0 rfl) ?_
      refine gp_get (C := RX3) (T := TX3) E hK (oneO (dT := dT) hP) (if_pos rfl) rfl in_X3 3 (by decide) (hts _ q407) (fun _ z => z) (v := .int (st.2 3 0)) rfl dX3_product_24 ?_
      refine lv_istore_n (lv' := [(2, .int (st.2 3 0)), (0, .ref a), (1, .ref b1_)]) hx hb dX3_product_27 rfl hl (by decide) rfl (fun ls hl => ?_)
      refine lv_aload_n hx hb dX3_product_28 rfl (lv_at hl 1 rfl) ?_
      obtain ⟨μ31, hc32, hf⟩ := ob hf
      refine k_vv (Pic := RP D dT a g ξ β σ ρ Z st.2) (Pic1 := fun H => RD D a g μ31 H) (A1 := rA a) E hS (fun _ _ z => Or.inl z) (fun _ z => Or.inl z) (As := []) (tr_next l D dT a g ξ β σ ρ Z st.2 _ hc32) RP_bl (RP_pre hB hP hS hA) (RD_recv hK hP) (lw_V q432 q434 qs2 q167 q435) dr_next rfl ⟨rfl, rfl⟩ (rmcd_ok (by decide) (by decide)) ⟨show _ ≤ N by omega, show _ ≤ 24 * N by omega⟩ hl rfl (Nat.le_of_ble_eq_true rfl) dX3_product_29 (fun H locs hP _ hq1 hS => ?_)
      have hkp := kp_call0 hq1
      have hT1_ := kpG (gK_T D) (Or.inl hasz) hkp hT1_
      have hzs := hS.1
      obtain ⟨n34, hf, en34⟩ := xn_in hf
      obtain ⟨q33, hqq33⟩ : ∃ z, z = H.size := ⟨_, rfl⟩
      refine x_new (B := 24) (C := RX8) (T := TX8) E hK (ci := 7) rfl in_X8 tyX8 tyX8_ok q672 q673 q178 [.null, .null, .int 0] (by decide) (by decide) (show _ ≤ N by omega) (show _ ≤ 24 * N by omega) dX3_product_32 (fun H hO33 z1 o1 => ?_)
      have hT1_ := frG (gK_T D) hqq33 hT1_
      have hkp := kp_pure (a := a) o1
      have hP := RD_same hP o1
      have hzs := hS.1
      have hsq33 : sz ≤ q33 := by omega
      have hS := S_new hS z1 o1
      have hT1_ := kpG (gK_T D) (Or.inl hasz) hkp hT1_
      rw [← hqq33] at hO33 ⊢
      have hlq33 : q33 < H.size := by omega
      clear hkp z1 o1
      have hzs := hS.1
      refine lv_dup hx hb dX3_product_35 rfl ?_
      refine lv_aload_n hx hb dX3_product_36 rfl (lv_at hl 2 rfl) ?_
      refine lv_iload_n hx hb dX3_product_37 rfl (lv_at hl 0 rfl) ?_
      refine lv_iload_n hx hb dX3_product_38 rfl (lv_at hl 0 rfl) ?_
      refine lv_bipush (v := nI 47) hx hb dX3_product_39 rfl ?_
      refine lv_icmp_ne (tgt := 62) hx hb dX3_product_41 (by decide) (fun kc35 => ?_) (fun kc35 => ?_)
      · have hf := ite_f kc35 hf
        refine lv_aload_n hx hb dX3_product_62 rfl (lv_at hl 1 rfl) ?_
        rcases xq_in hf with ⟨f40, hc39, hx1⟩ | ⟨m37, r36, n38, hc39, hf, en38⟩
        · subst hx1
          obtain ⟨-, hk⟩ := hk
          have hk : out = .inl _ := hk
          subst hk
          exact x_thrV (A1 := nA a H.size) E hS (fun _ _ z => nA_le hsz hzs z) (fun _ z => nA_le hsz hzs z) (As := []) (tr_unit l hst D dT a g ξ β σ ρ Z H.size μ31 (_, .inl f40) hc39) (fun _ _ _ _ z => z) RQ_bl (RQ_pre hB hP hS hA) (RD_recv hK hP) (lw_V q641 q643 qs18 q167 q644) dr_unit rfl (by omega) (by decide) (by omega) (by omega) ht hlk hl rfl (Nat.le_of_ble_eq_true rfl) dX3_product_63
        · skip
          refine k_vr (Pic := RQ D dT a g ξ β σ ρ Z H.size μ31) (PicR := fun b H1 => (pvG (PT D) H.size) r36.1 b H1 ∧ RD D a g r36.2 H1) (A1 := nA a H.size) E hS (fun _ _ z => nA_le hsz hzs z) (fun _ z => nA_le hsz hzs z) (As := []) (nx_met (tr_unit l hst D dT a g ξ β σ ρ Z H.size μ31 (_, .inr r36) hc39)) RQ_bl (RQ_pre hB hP hS hA) (RD_recv hK hP) (lw_V q641 q643 qs18 q167 q644) dr_unit rfl ⟨rfl, rfl⟩ (rmc_ok (by omega) (by decide)) ⟨show _ ≤ N by omega, show _ ≤ 24 * N by omega⟩ hl rfl (Nat.le_of_ble_eq_true rfl) dX3_product_63 (fun b41 H locs hR hz1 hq1 hS => ?_)
          obtain ⟨hT41, hP⟩ := hR
          have hlq33 := hO33.lt
          have hT41 : PT D r36.1 (fz sz [q33]) b41 H := wkG (gK_T D) (by omega) (by intro z hz; simp only [List.mem_cons, List.not_mem_nil, or_false] at hz; rcases hz with rfl <;> assumption) hT41
          have hkp := kp_call hq1
          have hT1_ := kpG (gK_T D) (Or.inl hasz) hkp hT1_
          have hO33 := oF_kp hO33 hkp (by omega)
          have hzs := hS.1
          refine k_iv (Pic := oFP D dT 7 3 [.null, .null, .int 0] q33) (Pic1 := fun H => oF D 7 3 [.ref b1_, .ref b41, .int (st.2 3 0)] q33 H) (A1 := eqA q33) E hS (fun z _ ez => Or.inr (by rw [show z = q33 from ez]; omega)) (fun z ez => Or.inr (by rw [show z = q33 from ez]; omega)) (As := [.ref b1_, .int (st.2 3 0), .ref b41]) (tc_Joined l D dT q33 b1_ (st.2 3 0) b41) oFP_bl (oFP_pre hO33 hE) q674 q675 q178 q676 rfl dc_Joined rfl ⟨rfl, rfl⟩ (rmcd_ok (by decide) (by decide)) ⟨show _ ≤ N by omega, show _ ≤ 24 * N by omega⟩ hl rfl (Nat.le_of_ble_eq_true rfl) dX3_product_66 (fun H locs hO33 hz1 hq1 hS => ?_)
          have hkp := kp_init hq1
          have hP := RD_kp hP hkp (by omega)
          have hT1_ := kpG (gK_T D) (Or.inr (List.mem_cons_self)) hkp hT1_
          have hT41 := kpG (gK_T D) (Or.inr (List.mem_cons_self)) hkp hT41
          have hT1_ := dropG (gK_T D) hT1_
          have hT41 := dropG (gK_T D) hT41
          have hzs := hS.1
          have hT42 := mkJ_ok hO33 (not_fz (L := []) (by omega) (fun h => nomatch h)) hT1_ hT41
          refine lv_astore_n (lv' := [(1, .ref q33), (2, .int (st.2 3 0)), (0, .ref a)]) hx hb dX3_product_69 rfl hl (by decide) rfl (fun ls hl => ?_)
          refine lv_goto (tgt := 5) hx hb dX3_product_70 (by decide) ?_
          cases hf
          exact hk _ _ _ _ _ _ (lv_sub hl [2, 0] rfl) hT42 hP hS (by omega) (by omega)
      · have hf := ite_t kc35 hf
        obtain ⟨n44, hf, en44⟩ := xn_in hf
        obtain ⟨q43, hqq43⟩ : ∃ z, z = H.size := ⟨_, rfl⟩
        refine x_new (B := 24) (C := RX6) (T := TX6) E hK (ci := 5) rfl in_X6 tyX6 tyX6_ok q645 q646 q176 [.int 0] (by decide) (by decide) (show _ ≤ N by omega) (show _ ≤ 24 * N by omega) dX3_product_44 (fun H hO43 z1 o1 => ?_)
        have hlt_q33_q43 : q33 < q43 := by rw [hqq43]; exact hO33.lt
        have hT1_ := frG (gK_T D) hqq43 hT1_
        have hkp := kp_pure (a := a) o1
        have hP := RD_same hP o1
        have hzs := hS.1
        have hsq43 : sz ≤ q43 := by omega
        have hS := S_new hS z1 o1
        have hT1_ := kpG (gK_T D) (Or.inl hasz) hkp hT1_
        have hO33 := oF_kp hO33 hkp (by omega)
        rw [← hqq43] at hO43 ⊢
        have hlq43 : q43 < H.size := by omega
        clear hkp z1 o1
        have hzs := hS.1
        refine lv_dup hx hb dX3_product_47 rfl ?_
        refine lv_aload_n hx hb dX3_product_48 rfl (lv_at hl 1 rfl) ?_
        refine lv_iconst (v := nI 1) hx hb dX3_product_49 rfl ?_
        refine lv_sipush (v := nI 9999) hx hb dX3_product_50 rfl ?_
        rcases xq_in hf with ⟨f49, hc48, hx1⟩ | ⟨m46, r45, n47, hc48, hf, en47⟩
        · subst hx1
          obtain ⟨-, hk⟩ := hk
          have hk : out = .inl _ := hk
          subst hk
          exact x_thrV (A1 := nA a H.size) E hS (fun _ _ z => nA_le hsz hzs z) (fun _ z => nA_le hsz hzs z) (As := [.int (nI 1), .int (nI 9999)]) (tr_number l hst D dT a g ξ β σ ρ Z H.size (nI 1) (nI 9999) μ31 (_, .inl f49) hc48) (fun _ _ _ _ z => z) RQ_bl (RQ_pre hB hP hS hA) (RD_recv hK hP) (lw_V q647 q649 qs19 q167 q650) dr_number rfl (by omega) (by decide) (by omega) (by omega) ht hlk hl rfl (Nat.le_of_ble_eq_true rfl) dX3_product_53
        · skip
          refine k_vi (Pic := RQ D dT a g ξ β σ ρ Z H.size μ31) (Pic1 := fun H => RD D a g r45.2 H) (A1 := nA a H.size) E hS (fun _ _ z => nA_le hsz hzs z) (fun _ z => nA_le hsz hzs z) (As := [.int (nI 1), .int (nI 9999)]) (nx_met (tr_number l hst D dT a g ξ β σ ρ Z H.size (nI 1) (nI 9999) μ31 (_, .inr r45) hc48)) RQ_bl (RQ_pre hB hP hS hA) (RD_recv hK hP) (lw_V q647 q649 qs19 q167 q650) dr_number rfl ⟨rfl, rfl⟩ (rmc_ok (by omega) (by decide)) ⟨show _ ≤ N by omega, show _ ≤ 24 * N by omega⟩ hl rfl (Nat.le_of_ble_eq_true rfl) dX3_product_53 (fun H locs hP hz1 hq1 hS => ?_)
          have hkp := kp_call hq1
          have hT1_ := kpG (gK_T D) (Or.inl hasz) hkp hT1_
          have hO33 := oF_kp hO33 hkp (by omega)
          have hO43 := oF_kp hO43 hkp (by omega)
          have hzs := hS.1
          refine k_iv (Pic := oFP D dT 5 1 [.int 0] q43) (Pic1 := fun H => oF D 5 1 [.int r45.1] q43 H) (A1 := eqA q43) E hS (fun z _ ez => Or.inr (by rw [show z = q43 from ez]; omega)) (fun z ez => Or.inr (by rw [show z = q43 from ez]; omega)) (As := [.int r45.1]) (tc_Fixed l D dT q43 r45.1) oFP_bl (oFP_pre hO43 hE) q651 q652 q176 q653 rfl dc_Fixed rfl ⟨rfl, rfl⟩ (rmcd_ok (by decide) (by decide)) ⟨show _ ≤ N by omega, show _ ≤ 24 * N by omega⟩ hl rfl (Nat.le_of_ble_eq_true rfl) dX3_product_56 (fun H locs hO43 hz1 hq1 hS => ?_)
          have hkp := kp_init hq1
          have hP := RD_kp hP hkp (by omega)
          have hT1_ := kpG (gK_T D) (Or.inr (List.mem_cons_self)) hkp hT1_
          have hO33 := oF_kp hO33 hkp (by omega)
          have hT1_ := dropG (gK_T D) hT1_
          have hzs := hS.1
          have hT51 := mkF_ok hO43 (not_fz (L := [q33]) (by omega) (by simp only [List.mem_cons, List.not_mem_nil, or_false]; omega))
          refine lv_goto (tgt := 66) hx hb dX3_product_59 (by decide) ?_
          refine k_iv (Pic := oFP D dT 7 3 [.null, .null, .int 0] q33) (Pic1 := fun H => oF D 7 3 [.ref b1_, .ref q43, .int (st.2 3 0)] q33 H) (A1 := eqA q33) E hS (fun z _ ez => Or.inr (by rw [show z = q33 from ez]; omega)) (fun z ez => Or.inr (by rw [show z = q33 from ez]; omega)) (As := [.ref b1_, .int (st.2 3 0), .ref q43]) (tc_Joined l D dT q33 b1_ (st.2 3 0) q43) oFP_bl (oFP_pre hO33 hE) q674 q675 q178 q676 rfl dc_Joined rfl ⟨rfl, rfl⟩ (rmcd_ok (by decide) (by decide)) ⟨show _ ≤ N by omega, show _ ≤ 24 * N by omega⟩ hl rfl (Nat.le_of_ble_eq_true rfl) dX3_product_66 (fun H locs hO33 hz1 hq1 hS => ?_)
          have hkp := kp_init hq1
          have hP := RD_kp hP hkp (by omega)
          have hT1_ := kpG (gK_T D) (Or.inr (List.mem_cons_self)) hkp hT1_
          have hT51 := kpG (gK_T D) (Or.inr (List.mem_cons_self)) hkp hT51
          have hT1_ := dropG (gK_T D) hT1_
          have hT51 := dropG (gK_T D) hT51
          have hzs := hS.1
          have hT52 := mkJ_ok hO33 (not_fz (L := []) (by omega) (fun h => nomatch h)) hT1_ hT51
          refine lv_astore_n (lv' := [(1, .ref q33), (2, .int (st.2 3 0)), (0, .ref a)]) hx hb dX3_product_69 rfl hl (by decide) rfl (fun ls hl => ?_)
          refine lv_goto (tgt := 5) hx hb dX3_product_70 (by decide) ?_
          cases hf
          exact hk _ _ _ _ _ _ (lv_sub hl [2, 0] rfl) hT52 hP hS (by omega) (by omega)
set_option maxHeartbeats 4000000 in
theorem tr_product (l : Launch) (hst : l.stackTraces = false) (D : va_G) (dT : Nat → ClassId) (a g : Nat) (ξ : nwM) (β : Nat → Nat) (σ : nwM) (ρ : Nat → Nat) (Z : nwZ) (sz : Nat) (μ : nwM) (res : Nat × (nwF ⊕ (nwT2 × nwM))) (hf : fr_product ξ μ = some res) : nx_Met l yX3_product (ws_ yX3_product cX3_product 3 (some (.object "NamesWeather$Term"))) (rmc (11) res.1) (va_Pc [.ref a] (RQ D dT a g ξ β σ ρ Z sz μ)) (QcR D a g (nA a sz) (pvG (PT D) sz) res.2) (XcR D (nA a sz) res.2) res.1 (24 * res.1) (nA a sz) := by
  obtain ⟨N, out⟩ := res
  refine x_met (own := RX3) (by decide) rfl (Nat.le_of_ble_eq_true rfl) ?_
  intro p e s m below meth c ls E hP hr hlk ht hl
  obtain ⟨⟨hP, hB⟩, hsz⟩ := hP
  have hE := hB.2.1
  have hK := hE.1
  have hasz : a < sz := by rw [← hsz]; exact RD_lt hP
  have hA : ∀ q, nA a sz q → q = a ∨ s.heap.size ≤ q := fun q z => by rw [hsz]; exact z
  have hZa := hB.2.2.2.2.1
  skip
  have hS : va_S (nA a sz) s.heap s.heap [] := va_S.rf
  have hzs := hS.1
  obtain ⟨hx, hb, hml, hown, hts⟩ := id E
  have hl : lv_has ls 3 [(0, .ref a)] := hl
  obtain ⟨H, hH⟩ : ∃ z, z = s.heap := ⟨_, rfl⟩
  rw [← hH] at hP
  have hS : va_S (nA a sz) s.heap H [] := by rw [hH]; exact va_S.rf
  show W p l e (rmc (11) N) s m _ below meth c s.heap [] 0 0 (nx_MQ below (QcR D a g (nA a sz) (pvG (PT D) sz) out) (XcR D (nA a sz) out) _ s N (24 * N) (nA a sz)) (F0 m 0 ls [])
  rw [← hH]
  have hzs := hS.1
  have hf : (xq_ (fr_unit ξ μ) fun r1 => xq_ (wc_ (fr_product_L5 ξ) (r1.1, r1.2)) fun x53 => some (0, .inr (x53.1, x53.2))) = some (N, out) := hf
  refine lv_aload_n hx hb dX3_product_0 rfl (lv_at hl 0 rfl) ?_
  rcases xq_in hf with ⟨f5, hc4, hx1⟩ | ⟨m2, r1, n3, hc4, hf, en3⟩
  · subst hx1
    exact x_thrV (A1 := nA a H.size) E hS (fun _ _ z => nA_le hsz hzs z) (fun _ z => nA_le hsz hzs z) (As := []) (tr_unit l hst D dT a g ξ β σ ρ Z H.size μ (_, .inl f5) hc4) (fun _ _ _ _ z => z) RQ_bl (RQ_pre hB hP hS hA) (RD_recv hK hP) (lw_V q641 q643 qs18 q167 q644) dr_unit rfl (by omega) (by decide) (by omega) (by omega) ht hlk hl rfl (Nat.le_of_ble_eq_true rfl) dX3_product_1
  · skip
    refine k_vr (Pic := RQ D dT a g ξ β σ ρ Z H.size μ) (PicR := fun b H1 => (pvG (PT D) H.size) r1.1 b H1 ∧ RD D a g r1.2 H1) (A1 := nA a H.size) E hS (fun _ _ z => nA_le hsz hzs z) (fun _ z => nA_le hsz hzs z) (As := []) (nx_met (tr_unit l hst D dT a g ξ β σ ρ Z H.size μ (_, .inr r1) hc4)) RQ_bl (RQ_pre hB hP hS hA) (RD_recv hK hP) (lw_V q641 q643 qs18 q167 q644) dr_unit rfl ⟨rfl, rfl⟩ (rmc_ok (by omega) (by decide)) ⟨show _ ≤ N by omega, show _ ≤ 24 * N by omega⟩ hl rfl (Nat.le_of_ble_eq_true rfl) dX3_product_1 (fun b6 H locs hR hz1 hq1 hS => ?_)
    obtain ⟨hT6, hP⟩ := hR
    have hT6 : PT D r1.1 (fz sz []) b6 H := wkG (gK_T D) (by omega) (fun _ h => nomatch h) hT6
    have hkp := kp_call hq1
    have hzs := hS.1
    refine lv_astore_n (lv' := [(1, .ref b6), (0, .ref a)]) hx hb dX3_product_4 rfl hl (by decide) rfl (fun ls hl => ?_)
    rcases xq_in hf with ⟨f57, hw56, hx1⟩ | ⟨m54, x53, n55, hw56, hf, en55⟩
    · subst hx1
      exact fr_product_L5_w (nr := 0) hst E hE hB hsz hasz ht hlk hw56 rfl _ _ _ _ _ _ (lv_sub hl [1, 0] rfl) hT6 hP hS (by omega) (by omega)
    · refine fr_product_L5_w (nr := n55) hst E hE hB hsz hasz ht hlk hw56 (fun b58 ls H locs cells slots hl hT58 hP hS hC1 hC2 => ?_) _ _ _ _ _ _ (lv_sub hl [1, 0] rfl) hT6 hP hS (by omega) (by omega)
      have hzs := hS.1
      refine lv_aload_n hx hb dX3_product_73 rfl (lv_at hl 0 rfl) ?_
      cases hf
      exact x_aret (PV := pvG (PT D) sz) E hr hlk hT58 hP hS (by omega) (by omega) dX3_product_74
set_option maxHeartbeats 4000000 in
noncomputable def fr_sum_L5 (ξ : nwM) : (nwT2 × nwM) → nwR ((nwT2 × nwM) ⊕ (nwT2 × nwM)) := fun st => (if (st.2 3 0) = (nI 43) then (fr_next ξ st.2).bind fun μ8 => xn_ 1 (xq_ (fr_product ξ μ8) fun r12 => some (0, .inr (.inl (mkJ st.1 (st.2 3 0) r12.1, r12.2)))) else (if (st.2 3 0) = (nI 45) then (fr_next ξ st.2).bind fun μ20 => xn_ 1 (xq_ (fr_product ξ μ20) fun r24 => some (0, .inr (.inl (mkJ st.1 (st.2 3 0) r24.1, r24.2)))) else some (0, .inr (.inr (st.1, st.2)))))
set_option maxHeartbeats 4000000 in
noncomputable def fr_sum (ξ : nwM) (μ : nwM) : nwR (nwT2 × nwM) := xq_ (fr_product ξ μ) fun r1 => xq_ (wc_ (fr_sum_L5 ξ) (r1.1, r1.2)) fun x31 => some (0, .inr (x31.1, x31.2))
set_option maxHeartbeats 4000000 in
theorem fr_sum_L5_w {p : Program} {l : Launch} {e : Env} {s : State} {m : MethodId} {args : Array Value} {below : List Frame} {meth : Method} {c : Code} {D : va_G} {dT : Nat → ClassId} {a g : Nat} {ξ σ : nwM} {β ρ : Nat → Nat} {Z : nwZ} {sz N nr : Nat} {Qc : Array Value → State → Outcome → State → Prop} {γ : Type} {out : nwF ⊕ γ} (hst : l.stackTraces = false) (E : CallFix p m c cX3_sum 3 s args lw_all RX3) (hE : EV D dT s) (hB : RB D dT a g ξ β σ ρ Z s) (hsz : s.heap.size = sz) (hasz : a < sz) (ht : ∀ x ∈ c.exceptionTable.toList, False) (hlk : meth.locks = false) {st : nwT2 × nwM} {n : Nat} {x : nwF ⊕ (nwT2 × nwM)} (hw : wc_ (fr_sum_L5 ξ) st = some (n, x)) (hfin : (Sum.elim (fun fl => out = .inl fl) (fun (r : nwT2 × nwM) => ∀ (b1_ : Nat) (ls : Array Slot) (H : Heap) (locs : List Loc) (cells slots : Nat), lv_has ls 3 [(1, .ref b1_)] → PT D r.1 (fz sz []) b1_ H → RD D a g r.2 H → va_S (nA a sz) s.heap H locs → cells + nr ≤ N → slots + 24 * nr ≤ 24 * N → W p l e (rmc 12 N) s m args below meth c H locs cells slots (nx_MQ below Qc (XcR D (nA a sz) out) args s N (24 * N) (nA a sz)) (F0 m 49 ls []))) x) : (fun (st : nwT2 × nwM) (n : Nat) => ∀ (b1_ : Nat) (ls : Array Slot) (H : Heap) (locs : List Loc) (cells slots : Nat), lv_has ls 3 [(0, .ref a), (1, .ref b1_)] → PT D st.1 (fz sz []) b1_ H → RD D a g st.2 H → va_S (nA a sz) s.heap H locs → cells + (n + nr) ≤ N → slots + 24 * (n + nr) ≤ 24 * N → W p l e (rmc 12 N) s m args below meth c H locs cells slots (nx_MQ below Qc (XcR D (nA a sz) out) args s N (24 * N) (nA a sz)) (F0 m 5 ls [])) st n := by
  obtain ⟨hx, hb, hml, hown, hts⟩ := id E
  have hK := hE.1
  have hA : ∀ q, nA a sz q → q = a ∨ s.heap.size ≤ q := fun q z => by rw [hsz]; exact z
  have hZa := hB.2.2.2.2.1
  skip
  refine wc_run (S := (fun (st : nwT2 × nwM) (n : Nat) => ∀ (b1_ : Nat) (ls : Array Slot) (H : Heap) (locs : List Loc) (cells slots : Nat), lv_has ls 3 [(0, .ref a), (1, .ref b1_)] → PT D st.1 (fz sz []) b1_ H → RD D a g st.2 H → va_S (nA a sz) s.heap H locs → cells + (n + nr) ≤ N → slots + 24 * (n + nr) ≤ 24 * N → W p l e (rmc 12 N) s m args below meth c H locs cells slots (nx_MQ below Qc (XcR D (nA a sz) out) args s N (24 * N) (nA a sz)) (F0 m 5 ls []))) (fin := (Sum.elim (fun fl => out = .inl fl) (fun (r : nwT2 × nwM) => ∀ (b1_ : Nat) (ls : Array Slot) (H : Heap) (locs : List Loc) (cells slots : Nat), lv_has ls 3 [(1, .ref b1_)] → PT D r.1 (fz sz []) b1_ H → RD D a g r.2 H → va_S (nA a sz) s.heap H locs → cells + nr ≤ N → slots + 24 * nr ≤ 24 * N → W p l e (rmc 12 N) s m args below meth c H locs cells slots (nx_MQ below Qc (XcR D (nA a sz) out) args s N (24 * N) (nA a sz)) (F0 m 49 ls [])))) ?_ hw hfin
  clear hw hfin
  intro st m1 y n1 hf hk b1_ ls H locs cells slots hl hT1_ hP hS hC1 hC2
  have hzs := hS.1
  have hf : ((if (st.2 3 0) = (nI 43) then (fr_next ξ st.2).bind fun μ8 => xn_ 1 (xq_ (fr_product ξ μ8) fun r12 => some (0, .inr (.inl (mkJ st.1 (st.2 3 0) r12.1, r12.2)))) else (if (st.2 3 0) = (nI 45) then (fr_next ξ st.2).bind fun μ20 => xn_ 1 (xq_ (fr_product ξ μ20) fun r24 => some (0, .inr (.inl (mkJ st.1 (st.2 3 0) r24.1, r24.2)))) else some (0, .inr (.inr (st.1, st.2)))))) = some (m1, y) := hf
  refine lv_aload_n hx hb dX3_sum_5 rfl (lv_at hl 0 rfl) ?_
  refine gp_get (C := RX3) (T := TX3) E hK (oneO (dT := dT) hP) (if_pos rfl) rfl in_X3 3 (by decide) (hts _ q407) (fun _ z => z) (v := .int (st.2 3 0)) rfl dX3_sum_6 ?_
  refine lv_bipush (v := nI 43) hx hb dX3_sum_9 rfl ?_
  refine lv_icmp_eq (tgt := 23) hx hb dX3_sum_11 (by decide) (fun kc7 => ?_) (fun kc7 => ?_)
  · have hf := ite_t kc7 hf
    refine lv_aload_n hx hb dX3_sum_23 rfl (lv_at hl 0 rfl) ?_
    refine gp_get (C := RX3) (T := TX3) E hK (oneO (dT := dT) hP) (if_pos rfl) rfl in_X3 3 (by decide) (hts _ q407) (fun _ z => z) (v := .int (st.2 3 0)) rfl dX3_sum_24 ?_
    refine lv_istore_n (lv' := [(2, .int (st.2 3 0)), (0, .ref a), (1, .ref b1_)]) hx hb dX3_sum_27 rfl hl (by decide) rfl (fun ls hl => ?_)
    refine lv_aload_n hx hb dX3_sum_28 rfl (lv_at hl 1 rfl) ?_
    obtain ⟨μ8, hc9, hf⟩ := ob hf
    refine k_vv (Pic := RP D dT a g ξ β σ ρ Z st.2) (Pic1 := fun H => RD D a g μ8 H) (A1 := rA a) E hS (fun _ _ z => Or.inl z) (fun _ z => Or.inl z) (As := []) (tr_next l D dT a g ξ β σ ρ Z st.2 _ hc9) RP_bl (RP_pre hB hP hS hA) (RD_recv hK hP) (lw_V q432 q434 qs2 q167 q435) dr_next rfl ⟨rfl, rfl⟩ (rmcd_ok (by decide) (by decide)) ⟨show _ ≤ N by omega, show _ ≤ 24 * N by omega⟩ hl rfl (Nat.le_of_ble_eq_true rfl) dX3_sum_29 (fun H locs hP _ hq1 hS => ?_)
    have hkp := kp_call0 hq1
    have hT1_ := kpG (gK_T D) (Or.inl hasz) hkp hT1_
    have hzs := hS.1
    obtain ⟨n11, hf, en11⟩ := xn_in hf
    obtain ⟨q10, hqq10⟩ : ∃ z, z = H.size := ⟨_, rfl⟩
    refine x_new (B := 24) (C := RX8) (T := TX8) E hK (ci := 7) rfl in_X8 tyX8 tyX8_ok q672 q673 q178 [.null, .null, .int 0] (by decide) (by decide) (show _ ≤ N by omega) (show _ ≤ 24 * N by omega) dX3_sum_32 (fun H hO10 z1 o1 => ?_)
    have hT1_ := frG (gK_T D) hqq10 hT1_
    have hkp := kp_pure (a := a) o1
    have hP := RD_same hP o1
    have hzs := hS.1
    have hsq10 : sz ≤ q10 := by omega
    have hS := S_new hS z1 o1
    have hT1_ := kpG (gK_T D) (Or.inl hasz) hkp hT1_
    rw [← hqq10] at hO10 ⊢
    have hlq10 : q10 < H.size := by omega
    clear hkp z1 o1
    have hzs := hS.1
    refine lv_dup hx hb dX3_sum_35 rfl ?_
    refine lv_aload_n hx hb dX3_sum_36 rfl (lv_at hl 2 rfl) ?_
    refine lv_iload_n hx hb dX3_sum_37 rfl (lv_at hl 0 rfl) ?_
    refine lv_aload_n hx hb dX3_sum_38 rfl (lv_at hl 1 rfl) ?_
    rcases xq_in hf with ⟨f16, hc15, hx1⟩ | ⟨m13, r12, n14, hc15, hf, en14⟩
    · subst hx1
      obtain ⟨-, hk⟩ := hk
      have hk : out = .inl _ := hk
      subst hk
      exact x_thrV (A1 := nA a H.size) E hS (fun _ _ z => nA_le hsz hzs z) (fun _ z => nA_le hsz hzs z) (As := []) (tr_product l hst D dT a g ξ β σ ρ Z H.size μ8 (_, .inl f16) hc15) (fun _ _ _ _ z => z) RQ_bl (RQ_pre hB hP hS hA) (RD_recv hK hP) (lw_V q637 q639 qs17 q167 q640) dr_product rfl (by omega) (by decide) (by omega) (by omega) ht hlk hl rfl (Nat.le_of_ble_eq_true rfl) dX3_sum_39
    · skip
      refine k_vr (Pic := RQ D dT a g ξ β σ ρ Z H.size μ8) (PicR := fun b H1 => (pvG (PT D) H.size) r12.1 b H1 ∧ RD D a g r12.2 H1) (A1 := nA a H.size) E hS (fun _ _ z => nA_le hsz hzs z) (fun _ z => nA_le hsz hzs z) (As := []) (nx_met (tr_product l hst D dT a g ξ β σ ρ Z H.size μ8 (_, .inr r12) hc15)) RQ_bl (RQ_pre hB hP hS hA) (RD_recv hK hP) (lw_V q637 q639 qs17 q167 q640) dr_product rfl ⟨rfl, rfl⟩ (rmc_ok (by omega) (by decide)) ⟨show _ ≤ N by omega, show _ ≤ 24 * N by omega⟩ hl rfl (Nat.le_of_ble_eq_true rfl) dX3_sum_39 (fun b17 H locs hR hz1 hq1 hS => ?_)
      obtain ⟨hT17, hP⟩ := hR
      have hlq10 := hO10.lt
      have hT17 : PT D r12.1 (fz sz [q10]) b17 H := wkG (gK_T D) (by omega) (by intro z hz; simp only [List.mem_cons, List.not_mem_nil, or_false] at hz; rcases hz with rfl <;> assumption) hT17
      have hkp := kp_call hq1
      have hT1_ := kpG (gK_T D) (Or.inl hasz) hkp hT1_
      have hO10 := oF_kp hO10 hkp (by omega)
      have hzs := hS.1
      refine k_iv (Pic := oFP D dT 7 3 [.null, .null, .int 0] q10) (Pic1 := fun H => oF D 7 3 [.ref b1_, .ref b17, .int (st.2 3 0)] q10 H) (A1 := eqA q10) E hS (fun z _ ez => Or.inr (by rw [show z = q10 from ez]; omega)) (fun z ez => Or.inr (by rw [show z = q10 from ez]; omega)) (As := [.ref b1_, .int (st.2 3 0), .ref b17]) (tc_Joined l D dT q10 b1_ (st.2 3 0) b17) oFP_bl (oFP_pre hO10 hE) q674 q675 q178 q676 rfl dc_Joined rfl ⟨rfl, rfl⟩ (rmcd_ok (by decide) (by decide)) ⟨show _ ≤ N by omega, show _ ≤ 24 * N by omega⟩ hl rfl (Nat.le_of_ble_eq_true rfl) dX3_sum_42 (fun H locs hO10 hz1 hq1 hS => ?_)
      have hkp := kp_init hq1
      have hP := RD_kp hP hkp (by omega)
      have hT1_ := kpG (gK_T D) (Or.inr (List.mem_cons_self)) hkp hT1_
      have hT17 := kpG (gK_T D) (Or.inr (List.mem_cons_self)) hkp hT17
      have hT1_ := dropG (gK_T D) hT1_
      have hT17 := dropG (gK_T D) hT17
      have hzs := hS.1
      have hT18 := mkJ_ok hO10 (not_fz (L := []) (by omega) (fun h => nomatch h)) hT1_ hT17
      refine lv_astore_n (lv' := [(1, .ref q10), (2, .int (st.2 3 0)), (0, .ref a)]) hx hb dX3_sum_45 rfl hl (by decide) rfl (fun ls hl => ?_)
      refine lv_goto (tgt := 5) hx hb dX3_sum_46 (by decide) ?_
      cases hf
      exact hk _ _ _ _ _ _ (lv_sub hl [2, 0] rfl) hT18 hP hS (by omega) (by omega)
  · have hf := ite_f kc7 hf
    refine lv_aload_n hx hb dX3_sum_14 rfl (lv_at hl 0 rfl) ?_
    refine gp_get (C := RX3) (T := TX3) E hK (oneO (dT := dT) hP) (if_pos rfl) rfl in_X3 3 (by decide) (hts _ q407) (fun _ z => z) (v := .int (st.2 3 0)) rfl dX3_sum_15 ?_
    refine lv_bipush (v := nI 45) hx hb dX3_sum_18 rfl ?_
    refine lv_icmp_ne (tgt := 49) hx hb dX3_sum_20 (by decide) (fun kc19 => ?_) (fun kc19 => ?_)
    · have hf := ite_f kc19 hf
      cases hf
      obtain ⟨hn0, hk⟩ := hk
      exact hk _ _ _ _ _ _ (lv_sub hl [1] rfl) hT1_ hP hS (by omega) (by omega)
    · have hf := ite_t kc19 hf
      refine lv_aload_n hx hb dX3_sum_23 rfl (lv_at hl 0 rfl) ?_
      refine gp_get (C := RX3) (T := TX3) E hK (oneO (dT := dT) hP) (if_pos rfl) rfl in_X3 3 (by decide) (hts _ q407) (fun _ z => z) (v := .int (st.2 3 0)) rfl dX3_sum_24 ?_
      refine lv_istore_n (lv' := [(2, .int (st.2 3 0)), (0, .ref a), (1, .ref b1_)]) hx hb dX3_sum_27 rfl hl (by decide) rfl (fun ls hl => ?_)
      refine lv_aload_n hx hb dX3_sum_28 rfl (lv_at hl 1 rfl) ?_
      obtain ⟨μ20, hc21, hf⟩ := ob hf
      refine k_vv (Pic := RP D dT a g ξ β σ ρ Z st.2) (Pic1 := fun H => RD D a g μ20 H) (A1 := rA a) E hS (fun _ _ z => Or.inl z) (fun _ z => Or.inl z) (As := []) (tr_next l D dT a g ξ β σ ρ Z st.2 _ hc21) RP_bl (RP_pre hB hP hS hA) (RD_recv hK hP) (lw_V q432 q434 qs2 q167 q435) dr_next rfl ⟨rfl, rfl⟩ (rmcd_ok (by decide) (by decide)) ⟨show _ ≤ N by omega, show _ ≤ 24 * N by omega⟩ hl rfl (Nat.le_of_ble_eq_true rfl) dX3_sum_29 (fun H locs hP _ hq1 hS => ?_)
      have hkp := kp_call0 hq1
      have hT1_ := kpG (gK_T D) (Or.inl hasz) hkp hT1_
      have hzs := hS.1
      obtain ⟨n23, hf, en23⟩ := xn_in hf
      obtain ⟨q22, hqq22⟩ : ∃ z, z = H.size := ⟨_, rfl⟩
      refine x_new (B := 24) (C := RX8) (T := TX8) E hK (ci := 7) rfl in_X8 tyX8 tyX8_ok q672 q673 q178 [.null, .null, .int 0] (by decide) (by decide) (show _ ≤ N by omega) (show _ ≤ 24 * N by omega) dX3_sum_32 (fun H hO22 z1 o1 => ?_)
      have hT1_ := frG (gK_T D) hqq22 hT1_
      have hkp := kp_pure (a := a) o1
      have hP := RD_same hP o1
      have hzs := hS.1
      have hsq22 : sz ≤ q22 := by omega
      have hS := S_new hS z1 o1
      have hT1_ := kpG (gK_T D) (Or.inl hasz) hkp hT1_
      rw [← hqq22] at hO22 ⊢
      have hlq22 : q22 < H.size := by omega
      clear hkp z1 o1
      have hzs := hS.1
      refine lv_dup hx hb dX3_sum_35 rfl ?_
      refine lv_aload_n hx hb dX3_sum_36 rfl (lv_at hl 2 rfl) ?_
      refine lv_iload_n hx hb dX3_sum_37 rfl (lv_at hl 0 rfl) ?_
      refine lv_aload_n hx hb dX3_sum_38 rfl (lv_at hl 1 rfl) ?_
      rcases xq_in hf with ⟨f28, hc27, hx1⟩ | ⟨m25, r24, n26, hc27, hf, en26⟩
      · subst hx1
        obtain ⟨-, hk⟩ := hk
        have hk : out = .inl _ := hk
        subst hk
        exact x_thrV (A1 := nA a H.size) E hS (fun _ _ z => nA_le hsz hzs z) (fun _ z => nA_le hsz hzs z) (As := []) (tr_product l hst D dT a g ξ β σ ρ Z H.size μ20 (_, .inl f28) hc27) (fun _ _ _ _ z => z) RQ_bl (RQ_pre hB hP hS hA) (RD_recv hK hP) (lw_V q637 q639 qs17 q167 q640) dr_product rfl (by omega) (by decide) (by omega) (by omega) ht hlk hl rfl (Nat.le_of_ble_eq_true rfl) dX3_sum_39
      · skip
        refine k_vr (Pic := RQ D dT a g ξ β σ ρ Z H.size μ20) (PicR := fun b H1 => (pvG (PT D) H.size) r24.1 b H1 ∧ RD D a g r24.2 H1) (A1 := nA a H.size) E hS (fun _ _ z => nA_le hsz hzs z) (fun _ z => nA_le hsz hzs z) (As := []) (nx_met (tr_product l hst D dT a g ξ β σ ρ Z H.size μ20 (_, .inr r24) hc27)) RQ_bl (RQ_pre hB hP hS hA) (RD_recv hK hP) (lw_V q637 q639 qs17 q167 q640) dr_product rfl ⟨rfl, rfl⟩ (rmc_ok (by omega) (by decide)) ⟨show _ ≤ N by omega, show _ ≤ 24 * N by omega⟩ hl rfl (Nat.le_of_ble_eq_true rfl) dX3_sum_39 (fun b29 H locs hR hz1 hq1 hS => ?_)
        obtain ⟨hT29, hP⟩ := hR
        have hlq22 := hO22.lt
        have hT29 : PT D r24.1 (fz sz [q22]) b29 H := wkG (gK_T D) (by omega) (by intro z hz; simp only [List.mem_cons, List.not_mem_nil, or_false] at hz; rcases hz with rfl <;> assumption) hT29
        have hkp := kp_call hq1
        have hT1_ := kpG (gK_T D) (Or.inl hasz) hkp hT1_
        have hO22 := oF_kp hO22 hkp (by omega)
        have hzs := hS.1
        refine k_iv (Pic := oFP D dT 7 3 [.null, .null, .int 0] q22) (Pic1 := fun H => oF D 7 3 [.ref b1_, .ref b29, .int (st.2 3 0)] q22 H) (A1 := eqA q22) E hS (fun z _ ez => Or.inr (by rw [show z = q22 from ez]; omega)) (fun z ez => Or.inr (by rw [show z = q22 from ez]; omega)) (As := [.ref b1_, .int (st.2 3 0), .ref b29]) (tc_Joined l D dT q22 b1_ (st.2 3 0) b29) oFP_bl (oFP_pre hO22 hE) q674 q675 q178 q676 rfl dc_Joined rfl ⟨rfl, rfl⟩ (rmcd_ok (by decide) (by decide)) ⟨show _ ≤ N by omega, show _ ≤ 24 * N by omega⟩ hl rfl (Nat.le_of_ble_eq_true rfl) dX3_sum_42 (fun H locs hO22 hz1 hq1 hS => ?_)
        have hkp := kp_init hq1
        have hP := RD_kp hP hkp (by omega)
        have hT1_ := kpG (gK_T D) (Or.inr (List.mem_cons_self)) hkp hT1_
        have hT29 := kpG (gK_T D) (Or.inr (List.mem_cons_self)) hkp hT29
        have hT1_ := dropG (gK_T D) hT1_
        have hT29 := dropG (gK_T D) hT29
        have hzs := hS.1
        have hT30 := mkJ_ok hO22 (not_fz (L := []) (by omega) (fun h => nomatch h)) hT1_ hT29
        refine lv_astore_n (lv' := [(1, .ref q22), (2, .int (st.2 3 0)), (0, .ref a)]) hx hb dX3_sum_45 rfl hl (by decide) rfl (fun ls hl => ?_)
        refine lv_goto (tgt := 5) hx hb dX3_sum_46 (by decide) ?_
        cases hf
        exact hk _ _ _ _ _ _ (lv_sub hl [2, 0] rfl) hT30 hP hS (by omega) (by omega)
set_option maxHeartbeats 4000000 in
theorem tr_sum (l : Launch) (hst : l.stackTraces = false) (D : va_G) (dT : Nat → ClassId) (a g : Nat) (ξ : nwM) (β : Nat → Nat) (σ : nwM) (ρ : Nat → Nat) (Z : nwZ) (sz : Nat) (μ : nwM) (res : Nat × (nwF ⊕ (nwT2 × nwM))) (hf : fr_sum ξ μ = some res) : nx_Met l yX3_sum (ws_ yX3_sum cX3_sum 3 (some (.object "NamesWeather$Term"))) (rmc (12) res.1) (va_Pc [.ref a] (RQ D dT a g ξ β σ ρ Z sz μ)) (QcR D a g (nA a sz) (pvG (PT D) sz) res.2) (XcR D (nA a sz) res.2) res.1 (24 * res.1) (nA a sz) := by
  obtain ⟨N, out⟩ := res
  refine x_met (own := RX3) (by decide) rfl (Nat.le_of_ble_eq_true rfl) ?_
  intro p e s m below meth c ls E hP hr hlk ht hl
  obtain ⟨⟨hP, hB⟩, hsz⟩ := hP
  have hE := hB.2.1
  have hK := hE.1
  have hasz : a < sz := by rw [← hsz]; exact RD_lt hP
  have hA : ∀ q, nA a sz q → q = a ∨ s.heap.size ≤ q := fun q z => by rw [hsz]; exact z
  have hZa := hB.2.2.2.2.1
  skip
  have hS : va_S (nA a sz) s.heap s.heap [] := va_S.rf
  have hzs := hS.1
  obtain ⟨hx, hb, hml, hown, hts⟩ := id E
  have hl : lv_has ls 3 [(0, .ref a)] := hl
  obtain ⟨H, hH⟩ : ∃ z, z = s.heap := ⟨_, rfl⟩
  rw [← hH] at hP
  have hS : va_S (nA a sz) s.heap H [] := by rw [hH]; exact va_S.rf
  show W p l e (rmc (12) N) s m _ below meth c s.heap [] 0 0 (nx_MQ below (QcR D a g (nA a sz) (pvG (PT D) sz) out) (XcR D (nA a sz) out) _ s N (24 * N) (nA a sz)) (F0 m 0 ls [])
  rw [← hH]
  have hzs := hS.1
  have hf : (xq_ (fr_product ξ μ) fun r1 => xq_ (wc_ (fr_sum_L5 ξ) (r1.1, r1.2)) fun x31 => some (0, .inr (x31.1, x31.2))) = some (N, out) := hf
  refine lv_aload_n hx hb dX3_sum_0 rfl (lv_at hl 0 rfl) ?_
  rcases xq_in hf with ⟨f5, hc4, hx1⟩ | ⟨m2, r1, n3, hc4, hf, en3⟩
  · subst hx1
    exact x_thrV (A1 := nA a H.size) E hS (fun _ _ z => nA_le hsz hzs z) (fun _ z => nA_le hsz hzs z) (As := []) (tr_product l hst D dT a g ξ β σ ρ Z H.size μ (_, .inl f5) hc4) (fun _ _ _ _ z => z) RQ_bl (RQ_pre hB hP hS hA) (RD_recv hK hP) (lw_V q637 q639 qs17 q167 q640) dr_product rfl (by omega) (by decide) (by omega) (by omega) ht hlk hl rfl (Nat.le_of_ble_eq_true rfl) dX3_sum_1
  · skip
    refine k_vr (Pic := RQ D dT a g ξ β σ ρ Z H.size μ) (PicR := fun b H1 => (pvG (PT D) H.size) r1.1 b H1 ∧ RD D a g r1.2 H1) (A1 := nA a H.size) E hS (fun _ _ z => nA_le hsz hzs z) (fun _ z => nA_le hsz hzs z) (As := []) (nx_met (tr_product l hst D dT a g ξ β σ ρ Z H.size μ (_, .inr r1) hc4)) RQ_bl (RQ_pre hB hP hS hA) (RD_recv hK hP) (lw_V q637 q639 qs17 q167 q640) dr_product rfl ⟨rfl, rfl⟩ (rmc_ok (by omega) (by decide)) ⟨show _ ≤ N by omega, show _ ≤ 24 * N by omega⟩ hl rfl (Nat.le_of_ble_eq_true rfl) dX3_sum_1 (fun b6 H locs hR hz1 hq1 hS => ?_)
    obtain ⟨hT6, hP⟩ := hR
    have hT6 : PT D r1.1 (fz sz []) b6 H := wkG (gK_T D) (by omega) (fun _ h => nomatch h) hT6
    have hkp := kp_call hq1
    have hzs := hS.1
    refine lv_astore_n (lv' := [(1, .ref b6), (0, .ref a)]) hx hb dX3_sum_4 rfl hl (by decide) rfl (fun ls hl => ?_)
    rcases xq_in hf with ⟨f35, hw34, hx1⟩ | ⟨m32, x31, n33, hw34, hf, en33⟩
    · subst hx1
      exact fr_sum_L5_w (nr := 0) hst E hE hB hsz hasz ht hlk hw34 rfl _ _ _ _ _ _ (lv_sub hl [1, 0] rfl) hT6 hP hS (by omega) (by omega)
    · refine fr_sum_L5_w (nr := n33) hst E hE hB hsz hasz ht hlk hw34 (fun b36 ls H locs cells slots hl hT36 hP hS hC1 hC2 => ?_) _ _ _ _ _ _ (lv_sub hl [1, 0] rfl) hT6 hP hS (by omega) (by omega)
      have hzs := hS.1
      refine lv_aload_n hx hb dX3_sum_49 rfl (lv_at hl 0 rfl) ?_
      cases hf
      exact x_aret (PV := pvG (PT D) sz) E hr hlk hT36 hP hS (by omega) (by omega) dX3_sum_50
