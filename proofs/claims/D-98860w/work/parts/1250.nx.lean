/-! walks, written by my programs -/
set_option maxRecDepth 100000
set_option maxHeartbeats 4000000 in
noncomputable def fx_sails__L48 (F : Int32 → Int32 → Int32 → Int32 → nwX → Option (Int32 × nwX)) (x1 : Int32) (x2 : Int32) (x3 : Int32) (x4 : Int32) : (Int32 × nwX) → Option ((Int32 × nwX) ⊕ (Int32 × nwX)) := fun st => (if x2 < st.1 then some (.inr (nI 0, st.2)) else (if x3 ≤ st.1 then some (.inr (nI 0, st.2)) else (fx_canSail x1 st.1 x4 st.2).bind fun v8 => (if v8 = 0 then some (.inl (st.1 + nI 1, st.2)) else (xo_ st.2 (wr_ st.2.1 11 12 x1 st.1)).bind fun χ10 => bd2 (F (x1 + (nI 1)) (mx_ x2 (st.1 + (nI 1))) x3 x4 χ10) fun v11 χ12 => (if v11 = 0 then (xo_ χ12 (wr_ χ12.1 11 12 x1 (-1))).bind fun χ15 => some (.inl (st.1 + nI 1, χ15)) else some (.inr (nI 1, χ12))))))
set_option maxHeartbeats 4000000 in
noncomputable def fx_sails_ (F : Int32 → Int32 → Int32 → Int32 → nwX → Option (Int32 × nwX)) (x1 : Int32) (x2 : Int32) (x3 : Int32) (x4 : Int32) (μ : nwX) : Option (Int32 × nwX) := (if x1 = ((μ.2.1 0) 13 0) then some (nI 1, μ) else (xo_ μ (wr_ μ.1 11 12 x1 (-1))).bind fun χ2 => (rd_ (χ2.2.1 0) 6 12 x1).bind fun v3 => (if v3 = (nI 1) then bd2 (F (x1 + (nI 1)) x2 x3 x4 χ2) fun v16 χ17 => (zr_ v16).bind fun v19 => some (v19, χ17) else wh_ (fx_sails__L48 F x1 x2 x3 x4) (nI 0, χ2)))
set_option maxHeartbeats 4000000 in
theorem dx_sails : yX0_sails.cls = RX0 ∧ yX0_sails.cls ≠ "java/lang/invoke/MethodHandle" ∧ yX0_sails.cls ≠ "java/lang/invoke/VarHandle" ∧ (parseMethodDescriptor yX0_sails.desc).map (fun d => d.parameters.length) = some 4 := ⟨rfl, by decide +kernel, by decide +kernel, by decide +kernel⟩
set_option maxHeartbeats 4000000 in
theorem fx_sails__L48_w {p : Program} {l : Launch} {e : Env} {s : State} {m : MethodId} {args : Array Value} {below : List Frame} {meth : Method} {c : Code} {D : va_G} {dT : Nat → ClassId} {g dd : Nat} {F : Int32 → Int32 → Int32 → Int32 → nwX → Option (Int32 × nwX)} (E : CallFix p m c cX0_sails 6 s args lw_all RX0) (hK : va_K D nwCl (nwT dT) s) (hr : meth.sig.returnType = (some .boolean)) (hlk : meth.locks = false) (hE : EV D dT s) (hdd : 5 ≤ dd) (hF : ∀ (x1 x2 x3 x4 : Int32) (μ : nwX) (res : Int32 × nwX), F x1 x2 x3 x4 μ = some res → Met l yX0_sails (ws_ yX0_sails cX0_sails 6 (some .boolean)) (rmd dd) (va_Pc [.ref g, .int x1, .int x2, .int x3, .int x4] (fun U => PX D dT g μ U.heap ∧ EV D dT U)) (va_Qi (fun r' (_ : Unit) => r' = res.1) (fun _ t => PX D dT g res.2 t.heap) (xA g)) 0 0 (xA g)) (x1 : Int32) (x2 : Int32) (x3 : Int32) (x4 : Int32) {res : Int32 × nwX} {st : Int32 × nwX} {x : Int32 × nwX} (hw : wh_ (fx_sails__L48 F x1 x2 x3 x4) st = some x) (hk : (fun r : Int32 × nwX => r = res) x) : (fun st : Int32 × nwX => ∀ (ls : Array Slot) (H : Heap) (locs : List Loc), lv_has ls 6 [(0, .ref g), (1, .int x1), (2, .int x2), (3, .int x3), (4, .int x4), (5, .int st.1)] → PX D dT g st.2 H → va_S (xA g) s.heap H locs → W p l e (rmd (dd + 1)) s m args below meth c H locs 0 0 (MQ below (va_Qi (fun r' (_ : Unit) => r' = res.1) (fun _ t => PX D dT g res.2 t.heap) (xA g)) args s 0 0 (xA g)) (F0 m 48 ls [])) st := by
  obtain ⟨hx, hb, hml, hown, hts⟩ := id E
  refine wh_run (P := (fun st : Int32 × nwX => ∀ (ls : Array Slot) (H : Heap) (locs : List Loc), lv_has ls 6 [(0, .ref g), (1, .int x1), (2, .int x2), (3, .int x3), (4, .int x4), (5, .int st.1)] → PX D dT g st.2 H → va_S (xA g) s.heap H locs → W p l e (rmd (dd + 1)) s m args below meth c H locs 0 0 (MQ below (va_Qi (fun r' (_ : Unit) => r' = res.1) (fun _ t => PX D dT g res.2 t.heap) (xA g)) args s 0 0 (xA g)) (F0 m 48 ls []))) (PE := (fun r : Int32 × nwX => r = res)) ?_ hw hk
  clear hw hk
  intro st x hf hk ls H locs hl hP hS
  refine lv_iload hx hb dX0_sails_48 (lv_at hl 5 rfl) ?_
  refine lv_iload_n hx hb dX0_sails_50 rfl (lv_at hl 2 rfl) ?_
  refine lv_icmp_gt (tgt := 119) hx hb dX0_sails_51 (by decide) (fun kc5 => ?_) (fun kc5 => ?_)
  · have hf := ite_t kc5 hf
    refine lv_iconst (v := nI 0) hx hb dX0_sails_119 rfl ?_
    cases hf
    have hk : (nI 0, st.2) = res := hk
    subst hk
    exact g_zret (Pic := fun H => PX D dT g _ H) E hr hlk hP hS rfl dX0_sails_120
  · have hf := ite_f kc5 hf
    refine lv_iload hx hb dX0_sails_54 (lv_at hl 5 rfl) ?_
    refine lv_iload_n hx hb dX0_sails_56 rfl (lv_at hl 3 rfl) ?_
    refine lv_icmp_ge (tgt := 119) hx hb dX0_sails_57 (by decide) (fun kc6 => ?_) (fun kc6 => ?_)
    · have hf := ite_t kc6 hf
      refine lv_iconst (v := nI 0) hx hb dX0_sails_119 rfl ?_
      cases hf
      have hk : (nI 0, st.2) = res := hk
      subst hk
      exact g_zret (Pic := fun H => PX D dT g _ H) E hr hlk hP hS rfl dX0_sails_120
    · have hf := ite_f kc6 hf
      refine lv_aload_n hx hb dX0_sails_60 rfl (lv_at hl 0 rfl) ?_
      refine lv_iload_n hx hb dX0_sails_61 rfl (lv_at hl 1 rfl) ?_
      refine lv_iload hx hb dX0_sails_62 (lv_at hl 5 rfl) ?_
      refine lv_iload hx hb dX0_sails_64 (lv_at hl 4 rfl) ?_
      obtain ⟨v8, hc7, hf⟩ := ob hf
      refine gx_calli E hE (Pic := fun H => PX D dT g st.2 H) (Pic1 := fun H => PX D dT g st.2 H) hP hS (fun _ z => z.elim) (As := [.int x1, .int st.1, .int x4]) (tx_canSail l D dT g x1 st.1 x4 st.2 _ hc7) (g_recv hK hP.1 (shO_g g) rfl) (lw_V q1336 q1338 qs52 q161 q1339) dx_canSail rfl (by omega) (by decide) hl rfl (Nat.le_of_ble_eq_true rfl) dX0_sails_66 (fun H locs hP _ _ hS => ?_)
      refine lv_if_ne (tgt := 75) hx hb dX0_sails_69 (by decide) (fun kc9 => ?_) (fun kc9 => ?_)
      · have hf := ite_f kc9 hf
        refine lv_aload_n hx hb dX0_sails_75 rfl (lv_at hl 0 rfl) ?_
        refine gp_get (C := RX0) (T := TX0) E hK hP.1 (shO_g g) rfl in_X0 11 (by decide) (hts _ q345) (fun _ z => z) (vO_a (by decide)) dX0_sails_76 ?_
        refine lv_iload_n hx hb dX0_sails_79 rfl (lv_at hl 1 rfl) ?_
        refine lv_iload hx hb dX0_sails_80 (lv_at hl 5 rfl) ?_
        obtain ⟨χ10, hχ10, hf⟩ := ob hf
        obtain ⟨sχ10, hχ10, eχ10⟩ := xo_in hχ10
        refine gp_iast E hK hP.1 hS (xA_o (shO_in (by rw [shO_a (by decide) (by decide)]; exact fun z => by cases z))) (shO_a (by decide) (by decide)) (wr_in hχ10).1 dX0_sails_82 (fun H locs hG oq hS => ?_)
        have hP := PX_ast hP (by decide) (by decide) hχ10 hG oq (hz_put hG (by rw [shO_a (by decide) (by decide)]; exact fun z => by cases z) oq)
        rw [← eχ10] at hP
        refine lv_aload_n hx hb dX0_sails_83 rfl (lv_at hl 0 rfl) ?_
        refine lv_iload_n hx hb dX0_sails_84 rfl (lv_at hl 1 rfl) ?_
        refine lv_iconst (v := nI 1) hx hb dX0_sails_85 rfl ?_
        refine lv_iadd hx hb dX0_sails_86 ?_
        refine lv_iload_n hx hb dX0_sails_87 rfl (lv_at hl 2 rfl) ?_
        refine lv_iload hx hb dX0_sails_88 (lv_at hl 5 rfl) ?_
        refine lv_iconst (v := nI 1) hx hb dX0_sails_90 rfl ?_
        refine lv_iadd hx hb dX0_sails_91 ?_
        refine mx_calli E (by omega) hl q1253 q757 q182 q758 (Nat.le_of_ble_eq_true rfl) dX0_sails_92 ?_
        refine lv_nm (y := mx_ x2 (st.1 + (nI 1))) rfl ?_
        refine lv_iload_n hx hb dX0_sails_95 rfl (lv_at hl 3 rfl) ?_
        refine lv_iload hx hb dX0_sails_96 (lv_at hl 4 rfl) ?_
        obtain ⟨v11, χ12, hc13, hf⟩ := ob2 hf
        refine gx_calli E hE (Pic := fun H => PX D dT g χ10 H) (Pic1 := fun H => PX D dT g χ12 H) hP hS (fun _ z => z) (As := [.int (x1 + (nI 1)), .int (mx_ x2 (st.1 + (nI 1))), .int x3, .int x4]) (hF (x1 + (nI 1)) (mx_ x2 (st.1 + (nI 1))) x3 x4 χ10 _ hc13) (g_recv hK hP.1 (shO_g g) rfl) (lw_V q1332 q1334 qs51 q161 q1335) dx_sails rfl (by omega) (by decide) hl rfl (Nat.le_of_ble_eq_true rfl) dX0_sails_98 (fun H locs hP _ _ hS => ?_)
        refine lv_if_eq (tgt := 106) hx hb dX0_sails_101 (by decide) (fun kc14 => ?_) (fun kc14 => ?_)
        · have hf := ite_t kc14 hf
          refine lv_aload_n hx hb dX0_sails_106 rfl (lv_at hl 0 rfl) ?_
          refine gp_get (C := RX0) (T := TX0) E hK hP.1 (shO_g g) rfl in_X0 11 (by decide) (hts _ q345) (fun _ z => z) (vO_a (by decide)) dX0_sails_107 ?_
          refine lv_iload_n hx hb dX0_sails_110 rfl (lv_at hl 1 rfl) ?_
          refine lv_iconst (v := (-1)) hx hb dX0_sails_111 rfl ?_
          obtain ⟨χ15, hχ15, hf⟩ := ob hf
          obtain ⟨sχ15, hχ15, eχ15⟩ := xo_in hχ15
          refine gp_iast E hK hP.1 hS (xA_o (shO_in (by rw [shO_a (by decide) (by decide)]; exact fun z => by cases z))) (shO_a (by decide) (by decide)) (wr_in hχ15).1 dX0_sails_112 (fun H locs hG oq hS => ?_)
          have hP := PX_ast hP (by decide) (by decide) hχ15 hG oq (hz_put hG (by rw [shO_a (by decide) (by decide)]; exact fun z => by cases z) oq)
          rw [← eχ15] at hP
          refine lv_iinc (v := st.1 + nI 1) (lv' := [(5, .int (st.1 + nI 1)), (0, .ref g), (1, .int x1), (2, .int x2), (3, .int x3), (4, .int x4)]) hx hb dX0_sails_113 hl (k := 5) rfl rfl (by decide) rfl (fun ls hl => ?_)
          refine lv_goto (tgt := 48) hx hb dX0_sails_116 (by decide) ?_
          cases hf
          exact hk _ _ _ (lv_sub hl [1, 2, 3, 4, 5, 0] rfl) hP hS
        · have hf := ite_f kc14 hf
          refine lv_iconst (v := nI 1) hx hb dX0_sails_104 rfl ?_
          cases hf
          have hk : (nI 1, χ12) = res := hk
          subst hk
          exact g_zret (Pic := fun H => PX D dT g _ H) E hr hlk hP hS rfl dX0_sails_105
      · have hf := ite_t kc9 hf
        refine lv_goto (tgt := 113) hx hb dX0_sails_72 (by decide) ?_
        refine lv_iinc (v := st.1 + nI 1) (lv' := [(5, .int (st.1 + nI 1)), (0, .ref g), (1, .int x1), (2, .int x2), (3, .int x3), (4, .int x4)]) hx hb dX0_sails_113 hl (k := 5) rfl rfl (by decide) rfl (fun ls hl => ?_)
        refine lv_goto (tgt := 48) hx hb dX0_sails_116 (by decide) ?_
        cases hf
        exact hk _ _ _ (lv_sub hl [1, 2, 3, 4, 5, 0] rfl) hP hS
set_option maxHeartbeats 4000000 in
theorem tx_sails_ (l : Launch) (D : va_G) (dT : Nat → ClassId) (g dd : Nat) (F : Int32 → Int32 → Int32 → Int32 → nwX → Option (Int32 × nwX)) (hdd : 5 ≤ dd) (hF : ∀ (x1 x2 x3 x4 : Int32) (μ : nwX) (res : Int32 × nwX), F x1 x2 x3 x4 μ = some res → Met l yX0_sails (ws_ yX0_sails cX0_sails 6 (some .boolean)) (rmd dd) (va_Pc [.ref g, .int x1, .int x2, .int x3, .int x4] (fun U => PX D dT g μ U.heap ∧ EV D dT U)) (va_Qi (fun r' (_ : Unit) => r' = res.1) (fun _ t => PX D dT g res.2 t.heap) (xA g)) 0 0 (xA g)) (x1 : Int32) (x2 : Int32) (x3 : Int32) (x4 : Int32) (μ : nwX) (res : Int32 × nwX) (hf : fx_sails_ F x1 x2 x3 x4 μ = some res) : Met l yX0_sails (ws_ yX0_sails cX0_sails 6 (some .boolean)) (rmd (dd + 1)) (va_Pc [.ref g, .int x1, .int x2, .int x3, .int x4] (fun U => PX D dT g μ U.heap ∧ EV D dT U)) (va_Qi (fun r' (_ : Unit) => r' = res.1) (fun _ t => PX D dT g res.2 t.heap) (xA g)) 0 0 (xA g) := by
  refine g_met (D := D) (dT := dT) (A := xA g) (own := RX0) (Pic := fun H => PX D dT g μ H) (by decide) rfl (Nat.le_of_ble_eq_true rfl) ?_
  intro p e s m below meth c ls E hE hr hlk hl hP
  have hK := hE.1
  have hS : va_S (xA g) s.heap s.heap [] := va_S.rf
  obtain ⟨hx, hb, hml, hown, hts⟩ := id E
  have hl : lv_has ls 6 [(0, .ref g), (1, .int x1), (2, .int x2), (3, .int x3), (4, .int x4)] := hl
  unfold fx_sails_ at hf
  refine lv_iload_n hx hb dX0_sails_0 rfl (lv_at hl 1 rfl) ?_
  refine lv_aload_n hx hb dX0_sails_1 rfl (lv_at hl 0 rfl) ?_
  refine gp_get (C := RX0) (T := TX0) E hK hP.1 (shO_g g) rfl in_X0 4 (by decide) (hts _ q337) (fun _ z => z) vO_4 dX0_sails_2 ?_
  refine gp_getN (C := RX1) (T := TX1) E hK (hP.2.1 0 (by decide)).1 (shS_h _) rfl in_X1 13 (by decide) (nfw_12 hE.2) (fun _ z => z) (vS_i (by decide)) dX0_sails_5 ?_
  refine lv_icmp_ne (tgt := 13) hx hb dX0_sails_8 (by decide) (fun kc1 => ?_) (fun kc1 => ?_)
  · have hf := ite_f kc1 hf
    refine lv_aload_n hx hb dX0_sails_13 rfl (lv_at hl 0 rfl) ?_
    refine gp_get (C := RX0) (T := TX0) E hK hP.1 (shO_g g) rfl in_X0 11 (by decide) (hts _ q345) (fun _ z => z) (vO_a (by decide)) dX0_sails_14 ?_
    refine lv_iload_n hx hb dX0_sails_17 rfl (lv_at hl 1 rfl) ?_
    refine lv_iconst (v := (-1)) hx hb dX0_sails_18 rfl ?_
    obtain ⟨χ2, hχ2, hf⟩ := ob hf
    obtain ⟨sχ2, hχ2, eχ2⟩ := xo_in hχ2
    refine gp_iast E hK hP.1 hS (xA_o (shO_in (by rw [shO_a (by decide) (by decide)]; exact fun z => by cases z))) (shO_a (by decide) (by decide)) (wr_in hχ2).1 dX0_sails_19 (fun H locs hG oq hS => ?_)
    have hP := PX_ast hP (by decide) (by decide) hχ2 hG oq (hz_put hG (by rw [shO_a (by decide) (by decide)]; exact fun z => by cases z) oq)
    rw [← eχ2] at hP
    refine lv_aload_n hx hb dX0_sails_20 rfl (lv_at hl 0 rfl) ?_
    refine gp_get (C := RX0) (T := TX0) E hK hP.1 (shO_g g) rfl in_X0 4 (by decide) (hts _ q337) (fun _ z => z) vO_4 dX0_sails_21 ?_
    refine gp_getN (C := RX1) (T := TX1) E hK (hP.2.1 0 (by decide)).1 (shS_h _) rfl in_X1 6 (by decide) (nfw_5 hE.2) (fun _ z => z) (vS_a (by decide) (by decide)) dX0_sails_24 ?_
    refine lv_iload_n hx hb dX0_sails_27 rfl (lv_at hl 1 rfl) ?_
    obtain ⟨v3, hv3, hf⟩ := ob hf
    refine gp_iald E hK (hP.2.1 0 (by decide)).1 (shS_a (by decide) (by decide)) (rd_in hv3).1 (by rw [vS_e (by decide) (by decide), ← (rd_in hv3).2]) dX0_sails_28 ?_
    refine lv_iconst (v := nI 1) hx hb dX0_sails_29 rfl ?_
    refine lv_icmp_ne (tgt := 45) hx hb dX0_sails_30 (by decide) (fun kc4 => ?_) (fun kc4 => ?_)
    · have hf := ite_f kc4 hf
      refine lv_iconst (v := nI 0) hx hb dX0_sails_45 rfl ?_
      refine lv_istore (lv' := [(5, .int (nI 0)), (0, .ref g), (1, .int x1), (2, .int x2), (3, .int x3), (4, .int x4)]) hx hb dX0_sails_46 hl (by decide) rfl (fun ls hl => ?_)
      exact fx_sails__L48_w E hK hr hlk hE hdd hF x1 x2 x3 x4 hf rfl _ _ _ (lv_sub hl [1, 2, 3, 4, 5, 0] rfl) hP hS
    · have hf := ite_t kc4 hf
      refine lv_aload_n hx hb dX0_sails_33 rfl (lv_at hl 0 rfl) ?_
      refine lv_iload_n hx hb dX0_sails_34 rfl (lv_at hl 1 rfl) ?_
      refine lv_iconst (v := nI 1) hx hb dX0_sails_35 rfl ?_
      refine lv_iadd hx hb dX0_sails_36 ?_
      refine lv_iload_n hx hb dX0_sails_37 rfl (lv_at hl 2 rfl) ?_
      refine lv_iload_n hx hb dX0_sails_38 rfl (lv_at hl 3 rfl) ?_
      refine lv_iload hx hb dX0_sails_39 (lv_at hl 4 rfl) ?_
      obtain ⟨v16, χ17, hc18, hf⟩ := ob2 hf
      refine gx_calli E hE (Pic := fun H => PX D dT g χ2 H) (Pic1 := fun H => PX D dT g χ17 H) hP hS (fun _ z => z) (As := [.int (x1 + (nI 1)), .int x2, .int x3, .int x4]) (hF (x1 + (nI 1)) x2 x3 x4 χ2 _ hc18) (g_recv hK hP.1 (shO_g g) rfl) (lw_V q1332 q1334 qs51 q161 q1335) dx_sails rfl (by omega) (by decide) hl rfl (Nat.le_of_ble_eq_true rfl) dX0_sails_41 (fun H locs hP _ _ hS => ?_)
      obtain ⟨v19, hv19, hf⟩ := ob hf
      cases hf
      exact g_zret (Pic := fun H => PX D dT g _ H) E hr hlk hP hS hv19 dX0_sails_44
  · have hf := ite_t kc1 hf
    refine lv_iconst (v := nI 1) hx hb dX0_sails_11 rfl ?_
    cases hf
    exact g_zret (Pic := fun H => PX D dT g _ H) E hr hlk hP hS rfl dX0_sails_12
