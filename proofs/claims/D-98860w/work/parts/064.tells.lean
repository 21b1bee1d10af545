/-! Skies.tells, by hand -/
set_option maxRecDepth 100000
def fs_tells_L3 (x1 x2 x3 : Int32) (L : nwL) (μ : nwM) : Int32 → Option (Int32 ⊕ Int32) := fun st =>
  if nI L.1.length ≤ st then some (.inr x2) else (lg_ L.1 st).bind fun e => if e.1 = x1 then (match e.2.2 with
    | none => (e.2.1 μ).bind fun v => some (.inr (mx_ (nI 0) (mn_ x3 v)))
    | some T => (T μ).bind fun w => if w = nI 1 then (e.2.1 μ).bind fun v => some (.inr (mx_ (nI 0) (mn_ x3 v))) else some (.inl (st + nI 1))) else some (.inl (st + nI 1))
noncomputable def fs_tells (x1 x2 x3 : Int32) (L : nwL) (μ : nwM) : Option Int32 := wh_ (fs_tells_L3 x1 x2 x3 L μ) (nI 0)
theorem ds_tells : yX1_tells.cls = RX1 ∧ yX1_tells.cls ≠ "java/lang/invoke/MethodHandle" ∧ yX1_tells.cls ≠ "java/lang/invoke/VarHandle" ∧ (parseMethodDescriptor yX1_tells.desc).map (fun d => d.parameters.length) = some 3 := ⟨rfl, by decide +kernel, by decide +kernel, by decide +kernel⟩
section TELLS
variable {p : Program} {l : Launch} {e : Env} {s : State} {m : MethodId} {args : Array Value} {below : List Frame} {meth : Method} {c : Code} {D : va_G} {dT : Nat → ClassId} {h : Nat} {ρ : Nat → Nat} {L : nwL} {μ : nwM}
set_option maxHeartbeats 4000000 in
/-- from the place where the line's sum is told -/
theorem tells_end {H : Heap} {locs : List Loc} {ls : Array Slot} (E : CallFix p m c cX1_tells 6 s args lw_all RX1) (hE : EV D dT s) (hr : meth.sig.returnType = (some .int)) (hlk : meth.locks = false) {x3 v w : Int32} {ct b : Nat} {T : nwTm} {vw : Value} {lv : List (Nat × Value)} (hl : lv_has ls 6 lv) (k0 k3 k5 : Nat) (e0 : lv[k0]? = some (0, .ref h)) (e3 : lv[k3]? = some (3, .int x3)) (e5 : lv[k5]? = some (5, .ref b)) (hT : TR D 400 T (sA h) ct s.heap) (ho : oO D 9 3 [.int w, .ref ct, vw] (sA h) b s.heap) (hv : T μ = some v) (hP : PS D dT h μ ρ H) (hS : va_S (fun _ => False) s.heap H locs) {res : Int32} (hk : mx_ (nI 0) (mn_ x3 v) = res) : W p l e (rmd 404) s m args below meth c H locs 0 0 (MQ below (va_Qi (fun r' (_ : Unit) => r' = res) (fun _ t => PS D dT h μ ρ t.heap) (fun _ => False)) args s 0 0 (fun _ => False)) (F0 m 59 ls []) := by
  obtain ⟨hx, hb, hml, hown, hts⟩ := id E
  refine lv_iconst (v := nI 0) hx hb dX1_tells_59 rfl ?_
  refine lv_iload_n hx hb dX1_tells_60 rfl (lv_at hl k3 e3) ?_
  refine lv_aload hx hb dX1_tells_61 (lv_at hl k5 e5) ?_
  refine o_getN (C := RX10) (T := TX10) E hE.1 (ho.keep hS (fun _ z => z.elim)) rfl in_X10 1 (by decide) (nfw_24 hE.2) (fun _ z => z) (v := .ref ct) rfl dX1_tells_63 ?_
  refine lv_aload_n hx hb dX1_tells_66 rfl (lv_at hl k0 e0) ?_
  refine td_call (fun d' _ => tt_all l D dT d') (by decide) E hE (TR.weak (fun _ z => z.elim) _ _ _ (TR.keep hS (fun _ z => z.elim) _ _ _ hT)) hP hv hS q1023 hl (Nat.le_of_ble_eq_true rfl) dX1_tells_67 (fun H1 locs1 hq1 hS => ?_)
  have hP := GP.same hP hq1
  refine mn_calli E (by decide) hl q1058 q794 q182 q795 (Nat.le_of_ble_eq_true rfl) dX1_tells_70 ?_
  refine lv_nm (y := mn_ x3 v) rfl ?_
  refine mx_calli E (by decide) hl q1059 q757 q182 q758 (Nat.le_of_ble_eq_true rfl) dX1_tells_73 ?_
  refine lv_nm (y := mx_ (nI 0) (mn_ x3 v)) rfl ?_
  exact g_iret (Pic := fun H => PS D dT h μ ρ H) E hr hlk hP hS hk dX1_tells_76
set_option maxHeartbeats 4000000 in
theorem fs_tells_L3_w (E : CallFix p m c cX1_tells 6 s args lw_all RX1) (hE : EV D dT s) (hL : LR D dT (sA h) ρ L s.heap) (hr : meth.sig.returnType = (some .int)) (hlk : meth.locks = false) (x1 x2 x3 : Int32) {res st : Int32} (hw : wh_ (fs_tells_L3 x1 x2 x3 L μ) st = some res) : (fun st : Int32 => ∀ (ls : Array Slot) (H : Heap) (locs : List Loc), lv_has ls 6 [(0, .ref h), (1, .int x1), (2, .int x2), (3, .int x3), (4, .int st)] → PS D dT h μ ρ H → va_S (fun _ => False) s.heap H locs → W p l e (rmd 404) s m args below meth c H locs 0 0 (MQ below (va_Qi (fun r' (_ : Unit) => r' = res) (fun _ t => PS D dT h μ ρ t.heap) (fun _ => False)) args s 0 0 (fun _ => False)) (F0 m 3 ls [])) st := by
  obtain ⟨hx, hb, hml, hown, hts⟩ := id E
  refine wh_run (P := fun st : Int32 => ∀ (ls : Array Slot) (H : Heap) (locs : List Loc), lv_has ls 6 [(0, .ref h), (1, .int x1), (2, .int x2), (3, .int x3), (4, .int st)] → PS D dT h μ ρ H → va_S (fun _ => False) s.heap H locs → W p l e (rmd 404) s m args below meth c H locs 0 0 (MQ below (va_Qi (fun r' (_ : Unit) => r' = res) (fun _ t => PS D dT h μ ρ t.heap) (fun _ => False)) args s 0 0 (fun _ => False)) (F0 m 3 ls [])) (PE := fun r => r = res) ?_ hw rfl
  clear hw
  intro st x hf hk ls H locs hl hP hS
  have hf : (if nI L.1.length ≤ st then some (.inr x2) else (lg_ L.1 st).bind fun e => if e.1 = x1 then (match e.2.2 with
    | none => (e.2.1 μ).bind fun v => some (.inr (mx_ (nI 0) (mn_ x3 v)))
    | some T => (T μ).bind fun w => if w = nI 1 then (e.2.1 μ).bind fun v => some (.inr (mx_ (nI 0) (mn_ x3 v))) else some (.inl (st + nI 1))) else some (.inl (st + nI 1))) = some x := hf
  have adv : Sum.elim (fun st : Int32 => ∀ (ls : Array Slot) (H : Heap) (locs : List Loc), lv_has ls 6 [(0, .ref h), (1, .int x1), (2, .int x2), (3, .int x3), (4, .int st)] → PS D dT h μ ρ H → va_S (fun _ => False) s.heap H locs → W p l e (rmd 404) s m args below meth c H locs 0 0 (MQ below (va_Qi (fun r' (_ : Unit) => r' = res) (fun _ t => PS D dT h μ ρ t.heap) (fun _ => False)) args s 0 0 (fun _ => False)) (F0 m 3 ls [])) (fun r => r = res) (.inl (st + nI 1)) → ∀ (b : Nat) (ls : Array Slot) (H : Heap) (locs : List Loc), lv_has ls 6 [(5, .ref b), (0, .ref h), (1, .int x1), (2, .int x2), (3, .int x3), (4, .int st)] → PS D dT h μ ρ H → va_S (fun _ => False) s.heap H locs → W p l e (rmd 404) s m args below meth c H locs 0 0 (MQ below (va_Qi (fun r' (_ : Unit) => r' = res) (fun _ t => PS D dT h μ ρ t.heap) (fun _ => False)) args s 0 0 (fun _ => False)) (F0 m 77 ls []) := by
    intro hk b ls H locs hl hP hS
    refine lv_iinc (v := st + nI 1) (lv' := [(4, .int (st + nI 1)), (5, .ref b), (0, .ref h), (1, .int x1), (2, .int x2), (3, .int x3)]) hx hb dX1_tells_77 hl (k := 5) rfl rfl (by decide) rfl (fun ls hl => ?_)
    refine lv_goto (tgt := 3) hx hb dX1_tells_80 (by decide) ?_
    exact hk _ _ _ (lv_sub hl [2, 3, 4, 5, 0] rfl) hP hS
  refine lv_iload hx hb dX1_tells_3 (lv_at hl 4 rfl) ?_
  refine lv_aload_n hx hb dX1_tells_5 rfl (lv_at hl 0 rfl) ?_
  refine gp_get (C := RX1) (T := TX1) E hE.1 hP (shS_h h) rfl in_X1 9 (by decide) (hts _ q257) (fun _ z => z) (vS_l (by decide) (by decide)) dX1_tells_6 ?_
  refine ls_size E hE hL.1 hS (fun _ z => z.elim) (lw_V q1009 q630 q631 q165 q632) (by decide) hl (Nat.le_of_ble_eq_true rfl) dX1_tells_9 (fun H1 locs1 hq1 hS => ?_)
  have hP := GP.same hP hq1
  refine lv_icmp_ge (tgt := 83) hx hb dX1_tells_12 (by decide) (fun kc => ?_) (fun kc => ?_)
  · have hf := ite_t kc hf
    cases hf
    refine lv_iload_n hx hb dX1_tells_83 rfl (lv_at hl 2 rfl) ?_
    exact g_iret (Pic := fun H => PS D dT h μ ρ H) E hr hlk hP hS hk dX1_tells_84
  have hf := ite_f kc hf
  refine lv_aload_n hx hb dX1_tells_15 rfl (lv_at hl 0 rfl) ?_
  refine gp_get (C := RX1) (T := TX1) E hE.1 hP (shS_h h) rfl in_X1 9 (by decide) (hts _ q257) (fun _ z => z) (vS_l (by decide) (by decide)) dX1_tells_16 ?_
  refine lv_iload hx hb dX1_tells_19 (lv_at hl 4 rfl) ?_
  obtain ⟨ln, hln, hf⟩ := ob hf
  refine ls_get E hE hL.1 hln hS (fun _ z => z.elim) (lw_V q1010 q1011 q1012 q165 q1013) (by decide) hl (Nat.le_of_ble_eq_true rfl) dX1_tells_21 (fun b H1 locs1 gb hq1 hS => ?_)
  have hP := GP.same hP hq1
  obtain ⟨ct, hct, hcs⟩ := gb
  rcases hcs with ⟨hn, ho⟩ | ⟨Tw, w, hn, hTw, ho⟩
  · refine o_castS E hE.1 (ho.keep hS (fun _ z => z.elim)) rfl q1022 dX1_tells_24 ?_
    refine lv_astore (lv' := [(5, .ref b), (0, .ref h), (1, .int x1), (2, .int x2), (3, .int x3), (4, .int st)]) hx hb dX1_tells_27 hl (by decide) rfl (fun ls hl => ?_)
    refine lv_aload hx hb dX1_tells_29 (lv_at hl 0 rfl) ?_
    refine o_getN (C := RX10) (T := TX10) E hE.1 (ho.keep hS (fun _ z => z.elim)) rfl in_X10 0 (by decide) (nfw_23 hE.2) (fun _ z => z) (v := .int ln.1) rfl dX1_tells_31 ?_
    refine lv_iload_n hx hb dX1_tells_34 rfl (lv_at hl 2 rfl) ?_
    refine lv_icmp_ne (tgt := 77) hx hb dX1_tells_35 (by decide) (fun kc => ?_) (fun kc => ?_)
    · have hf := ite_f kc hf
      cases hf
      exact adv hk b ls _ _ hl hP hS
    have hf := ite_t kc hf
    rw [hn] at hf
    obtain ⟨v, hv, hf⟩ := ob hf
    cases hf
    refine lv_aload hx hb dX1_tells_38 (lv_at hl 0 rfl) ?_
    refine o_getN (C := RX10) (T := TX10) E hE.1 (ho.keep hS (fun _ z => z.elim)) rfl in_X10 2 (by decide) (nfw_25 hE.2) (fun _ z => z) (v := .null) rfl dX1_tells_40 ?_
    refine lv_ifnullN (tgt := 59) hx hb dX1_tells_43 (by decide) ?_
    exact tells_end E hE hr hlk hl 1 4 0 rfl rfl rfl hct ho hv hP hS hk
  · refine o_castS E hE.1 (ho.keep hS (fun _ z => z.elim)) rfl q1022 dX1_tells_24 ?_
    refine lv_astore (lv' := [(5, .ref b), (0, .ref h), (1, .int x1), (2, .int x2), (3, .int x3), (4, .int st)]) hx hb dX1_tells_27 hl (by decide) rfl (fun ls hl => ?_)
    refine lv_aload hx hb dX1_tells_29 (lv_at hl 0 rfl) ?_
    refine o_getN (C := RX10) (T := TX10) E hE.1 (ho.keep hS (fun _ z => z.elim)) rfl in_X10 0 (by decide) (nfw_23 hE.2) (fun _ z => z) (v := .int ln.1) rfl dX1_tells_31 ?_
    refine lv_iload_n hx hb dX1_tells_34 rfl (lv_at hl 2 rfl) ?_
    refine lv_icmp_ne (tgt := 77) hx hb dX1_tells_35 (by decide) (fun kc => ?_) (fun kc => ?_)
    · have hf := ite_f kc hf
      cases hf
      exact adv hk b ls _ _ hl hP hS
    have hf := ite_t kc hf
    rw [hn] at hf
    obtain ⟨w1, hw1, hf⟩ := ob hf
    refine lv_aload hx hb dX1_tells_38 (lv_at hl 0 rfl) ?_
    refine o_getN (C := RX10) (T := TX10) E hE.1 (ho.keep hS (fun _ z => z.elim)) rfl in_X10 2 (by decide) (nfw_25 hE.2) (fun _ z => z) (v := .ref w) rfl dX1_tells_40 ?_
    refine lv_ifnull hx hb dX1_tells_43 ?_
    refine lv_aload hx hb dX1_tells_46 (lv_at hl 0 rfl) ?_
    refine o_getN (C := RX10) (T := TX10) E hE.1 (ho.keep hS (fun _ z => z.elim)) rfl in_X10 2 (by decide) (nfw_25 hE.2) (fun _ z => z) (v := .ref w) rfl dX1_tells_48 ?_
    refine lv_aload_n hx hb dX1_tells_51 rfl (lv_at hl 1 rfl) ?_
    refine td_call (fun d' _ => tt_all l D dT d') (by decide) E hE (TR.weak (fun _ z => z.elim) _ _ _ (TR.keep hS (fun _ z => z.elim) _ _ _ hTw)) hP hw1 hS q1023 hl (Nat.le_of_ble_eq_true rfl) dX1_tells_52 (fun H1 locs1 hq1 hS => ?_)
    have hP := GP.same hP hq1
    refine lv_iconst (v := nI 1) hx hb dX1_tells_55 rfl ?_
    refine lv_icmp_ne (tgt := 77) hx hb dX1_tells_56 (by decide) (fun kc => ?_) (fun kc => ?_)
    · have hf := ite_f kc hf
      cases hf
      exact adv hk b ls _ _ hl hP hS
    have hf := ite_t kc hf
    obtain ⟨v, hv, hf⟩ := ob hf
    cases hf
    exact tells_end E hE hr hlk hl 1 4 0 rfl rfl rfl hct ho hv hP hS hk
end TELLS
set_option maxHeartbeats 4000000 in
theorem ts_tells (l : Launch) (D : va_G) (dT : Nat → ClassId) (h : Nat) (ρ : Nat → Nat) (x1 x2 x3 : Int32) (L : nwL) (μ : nwM) (res : Int32) (hf : fs_tells x1 x2 x3 L μ = some res) : Met l yX1_tells (ws_ yX1_tells cX1_tells 6 (some .int)) (rmd 404) (va_Pc [.ref h, .int x1, .int x2, .int x3] (fun U => (PS D dT h μ ρ U.heap ∧ LR D dT (sA h) ρ L U.heap) ∧ EV D dT U)) (va_Qi (fun r' (_ : Unit) => r' = res) (fun _ t => PS D dT h μ ρ t.heap) (fun _ => False)) 0 0 (fun _ => False) := by
  refine g_met (D := D) (dT := dT) (A := fun _ => False) (own := RX1) (Pic := fun H => PS D dT h μ ρ H ∧ LR D dT (sA h) ρ L H) (by decide) rfl (Nat.le_of_ble_eq_true rfl) ?_
  intro p e s m below meth c ls E hE hr hlk hl hP
  obtain ⟨hP, hL⟩ := hP
  have hS : va_S (fun _ => False) s.heap s.heap [] := va_S.rf
  obtain ⟨hx, hb, hml, hown, hts⟩ := id E
  have hl : lv_has ls 6 [(0, .ref h), (1, .int x1), (2, .int x2), (3, .int x3)] := hl
  refine lv_iconst (v := nI 0) hx hb dX1_tells_0 rfl ?_
  refine lv_istore (lv' := [(4, .int (nI 0)), (0, .ref h), (1, .int x1), (2, .int x2), (3, .int x3)]) hx hb dX1_tells_1 hl (by decide) rfl (fun ls hl => ?_)
  exact fs_tells_L3_w E hE hL hr hlk x1 x2 x3 hf _ _ _ (lv_sub hl [1, 2, 3, 4, 0] rfl) hP hS
