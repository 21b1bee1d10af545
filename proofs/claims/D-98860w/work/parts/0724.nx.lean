/-! walks, written by my programs -/
set_option maxRecDepth 100000
set_option maxHeartbeats 4000000 in
noncomputable def fx_dry_L59 (x1 : Int32) (x2 : Int32) (x3 : Int32) (x4 : Int32) : (Int32 × Int32 × Int32 × Int32 × nwX) → Option ((Int32 × Int32 × Int32 × Int32 × nwX) ⊕ (Int32 × Int32 × nwX)) := fun st => (if x3 ≤ st.2.2.2.1 then some (.inr (st.1, st.2.1, st.2.2.2.2)) else (xs_ st.2.2.2.2 2 (fs_morning (st.2.2.2.2.2.2.2.2 2) (st.2.2.2.2.2.1 2))).bind fun χ13 => (xs_ χ13 2 (fs_evening (nI 0) (χ13.2.2.2.2 2) (χ13.2.1 2))).bind fun χ15 => (rw_ 8 x1).bind fun r16 => (rr_ (χ15.2.1 2) 0 r16 x2).bind fun v17 => (if v17 = 0 then (if st.1 < (st.2.2.1 + (nI 1)) then some (.inl (st.2.2.1 + (nI 1), (((st.2.2.2.2.2.1 2) 15 0) - (st.2.2.1 + (nI 1))) + (nI 1), st.2.2.1 + (nI 1), st.2.2.2.1 + nI 1, χ15)) else some (.inl (st.1, st.2.1, st.2.2.1 + (nI 1), st.2.2.2.1 + nI 1, χ15))) else (if st.1 < (nI 0) then some (.inl (nI 0, (((st.2.2.2.2.2.1 2) 15 0) - (nI 0)) + (nI 1), nI 0, st.2.2.2.1 + nI 1, χ15)) else some (.inl (st.1, st.2.1, nI 0, st.2.2.2.1 + nI 1, χ15)))))
set_option maxHeartbeats 4000000 in
noncomputable def fx_dry (x1 : Int32) (x2 : Int32) (x3 : Int32) (x4 : Int32) (μ : nwX) : Option (Int32 × nwX) := (fi_isIsland x1 ()).bind fun v1 => (if v1 = 0 then some ((-1), μ) else (fi_isKind x2 ()).bind fun v3 => (if v3 = 0 then some ((-1), μ) else (fi_isIn x3 (nI 1) (nI 60) ()).bind fun v5 => (if v5 = 0 then some ((-1), μ) else (fi_isIn x4 (nI 0) (nI 1) ()).bind fun v7 => (if v7 = 0 then some ((-1), μ) else (xt_ μ 2 0 (fs_thinks (μ.2.1 0) (μ.2.1 2))).bind fun χ10 => (wh_ (fx_dry_L59 x1 x2 x3 x4) (nI 0, (-1), nI 0, nI 0, χ10)).bind fun x21 => (if x4 = 0 then some (x21.1, x21.2.2) else some (x21.2.1, x21.2.2))))))
set_option maxHeartbeats 4000000 in
theorem fx_dry_L59_w {p : Program} {l : Launch} {e : Env} {s : State} {m : MethodId} {args : Array Value} {below : List Frame} {meth : Method} {c : Code} {D : va_G} {dT : Nat → ClassId} {Q : State → Prop} {g : Nat} (E : CallFix p m c cX0_dry 10 s args lw_all RX0) (hK : va_K D nwCl (nwT dT) s) (hE : EV D dT s) (x1 : Int32) (x2 : Int32) (x3 : Int32) (x4 : Int32) {st : Int32 × Int32 × Int32 × Int32 × nwX} {x : Int32 × Int32 × nwX} (hw : wh_ (fx_dry_L59 x1 x2 x3 x4) st = some x) (hk : (fun x : Int32 × Int32 × nwX => ∀ (ls : Array Slot) (H : Heap) (locs : List Loc), lv_has ls 10 [(4, .int x4), (5, .int x.1), (6, .int x.2.1)] → PX D dT g x.2.2 H → va_S (xA g) s.heap H locs → W p l e (rmd 409) s m args below meth c H locs 0 0 Q (F0 m 142 ls [])) x) : (fun st : Int32 × Int32 × Int32 × Int32 × nwX => ∀ (ls : Array Slot) (H : Heap) (locs : List Loc), lv_has ls 10 [(0, .ref g), (1, .int x1), (2, .int x2), (3, .int x3), (4, .int x4), (5, .int st.1), (6, .int st.2.1), (7, .int st.2.2.1), (8, .int st.2.2.2.1)] → PX D dT g st.2.2.2.2 H → va_S (xA g) s.heap H locs → W p l e (rmd 409) s m args below meth c H locs 0 0 Q (F0 m 59 ls [])) st := by
  obtain ⟨hx, hb, hml, hown, hts⟩ := id E
  refine wh_run (P := (fun st : Int32 × Int32 × Int32 × Int32 × nwX => ∀ (ls : Array Slot) (H : Heap) (locs : List Loc), lv_has ls 10 [(0, .ref g), (1, .int x1), (2, .int x2), (3, .int x3), (4, .int x4), (5, .int st.1), (6, .int st.2.1), (7, .int st.2.2.1), (8, .int st.2.2.2.1)] → PX D dT g st.2.2.2.2 H → va_S (xA g) s.heap H locs → W p l e (rmd 409) s m args below meth c H locs 0 0 Q (F0 m 59 ls []))) (PE := (fun x : Int32 × Int32 × nwX => ∀ (ls : Array Slot) (H : Heap) (locs : List Loc), lv_has ls 10 [(4, .int x4), (5, .int x.1), (6, .int x.2.1)] → PX D dT g x.2.2 H → va_S (xA g) s.heap H locs → W p l e (rmd 409) s m args below meth c H locs 0 0 Q (F0 m 142 ls []))) ?_ hw hk
  clear hw hk
  intro st x hf hk ls H locs hl hP hS
  refine lv_iload hx hb dX0_dry_59 (lv_at hl 8 rfl) ?_
  refine lv_iload_n hx hb dX0_dry_61 rfl (lv_at hl 3 rfl) ?_
  refine lv_icmp_ge (tgt := 142) hx hb dX0_dry_62 (by decide) (fun kc11 => ?_) (fun kc11 => ?_)
  · have hf := ite_t kc11 hf
    cases hf
    exact hk _ _ _ (lv_sub hl [4, 5, 6] rfl) hP hS
  · have hf := ite_f kc11 hf
    refine lv_aload_n hx hb dX0_dry_65 rfl (lv_at hl 0 rfl) ?_
    refine gp_get (C := RX0) (T := TX0) E hK hP.1 (shO_g g) rfl in_X0 6 (by decide) (hts _ q340) (fun _ z => z) vO_6 dX0_dry_66 ?_
    refine gp_getN (C := RX1) (T := TX1) E hK (hP.2.1 2 (by decide)).1 (shS_h _) rfl in_X1 15 (by decide) (nfw_14 hE.2) (fun _ z => z) (vS_i (by decide)) dX0_dry_69 ?_
    refine lv_istore (lv' := [(9, .int ((st.2.2.2.2.2.1 2) 15 0)), (0, .ref g), (1, .int x1), (2, .int x2), (3, .int x3), (4, .int x4), (5, .int st.1), (6, .int st.2.1), (7, .int st.2.2.1), (8, .int st.2.2.2.1)]) hx hb dX0_dry_72 hl (by decide) rfl (fun ls hl => ?_)
    refine lv_aload_n hx hb dX0_dry_74 rfl (lv_at hl 1 rfl) ?_
    refine gp_get (C := RX0) (T := TX0) E hK hP.1 (shO_g g) rfl in_X0 6 (by decide) (hts _ q340) (fun _ z => z) vO_6 dX0_dry_75 ?_
    obtain ⟨χ13, hc12, hf⟩ := ob hf
    obtain ⟨sχ13, hc12, eχ13⟩ := xs_in hc12
    refine gx_callv E hE (Pic := fun H => PS D dT (skA g 2) (st.2.2.2.2.2.1 2) (st.2.2.2.2.2.2.2.1 2) H ∧ LR D dT (sA (skA g 2)) (st.2.2.2.2.2.2.2.1 2) (st.2.2.2.2.2.2.2.2 2) H) (Pic1 := fun H => PS D dT (skA g 2) sχ13 (st.2.2.2.2.2.2.2.1 2) H) ⟨(hP.2.1 2 (by decide)).1, (hP.2.1 2 (by decide)).2.weak (fun _ z => xA_s (by decide) z)⟩ hS (fun _ z => xA_s (by decide) z) (As := []) (ts_morning l D dT (skA g 2) (st.2.2.2.2.2.2.2.1 2) (st.2.2.2.2.2.2.2.2 2) (st.2.2.2.2.2.1 2) _ hc12) (g_recv hK (hP.2.1 2 (by decide)).1 (shS_h _) rfl) (lw_V q1111 q1112 q1113 q162 q1114) ds_morning rfl (by decide) (by decide) hl rfl (Nat.le_of_ble_eq_true rfl) dX0_dry_78 (fun H1 locs1 hG hz1 hq1 hS => ?_)
    have hP := PX_set hP (by decide) hG hz1 hq1
    rw [← eχ13] at hP
    refine lv_aload_n hx hb dX0_dry_81 rfl (lv_at hl 1 rfl) ?_
    refine gp_get (C := RX0) (T := TX0) E hK hP.1 (shO_g g) rfl in_X0 6 (by decide) (hts _ q340) (fun _ z => z) vO_6 dX0_dry_82 ?_
    refine lv_iconst (v := nI 0) hx hb dX0_dry_85 rfl ?_
    obtain ⟨χ15, hc14, hf⟩ := ob hf
    obtain ⟨sχ15, hc14, eχ15⟩ := xs_in hc14
    refine gx_callv E hE (Pic := fun H => PS D dT (skA g 2) (χ13.2.1 2) (χ13.2.2.2.1 2) H ∧ LR D dT (sA (skA g 2)) (χ13.2.2.2.1 2) (χ13.2.2.2.2 2) H) (Pic1 := fun H => PS D dT (skA g 2) sχ15 (χ13.2.2.2.1 2) H) ⟨(hP.2.1 2 (by decide)).1, (hP.2.1 2 (by decide)).2.weak (fun _ z => xA_s (by decide) z)⟩ hS (fun _ z => xA_s (by decide) z) (As := [.int (nI 0)]) (ts_evening l D dT (skA g 2) (χ13.2.2.2.1 2) (nI 0) (χ13.2.2.2.2 2) (χ13.2.1 2) _ hc14) (g_recv hK (hP.2.1 2 (by decide)).1 (shS_h _) rfl) (lw_V q1158 q1159 q1160 q162 q1161) ds_evening rfl (by decide) (by decide) hl rfl (Nat.le_of_ble_eq_true rfl) dX0_dry_86 (fun H1 locs1 hG hz1 hq1 hS => ?_)
    have hP := PX_set hP (by decide) hG hz1 hq1
    rw [← eχ15] at hP
    refine lv_aload_n hx hb dX0_dry_89 rfl (lv_at hl 1 rfl) ?_
    refine gp_get (C := RX0) (T := TX0) E hK hP.1 (shO_g g) rfl in_X0 6 (by decide) (hts _ q340) (fun _ z => z) vO_6 dX0_dry_90 ?_
    refine gp_getN (C := RX1) (T := TX1) E hK (hP.2.1 2 (by decide)).1 (shS_h _) rfl in_X1 0 (by decide) (nfw_0 hE.2) (fun _ z => z) (vS_2 (by decide)) dX0_dry_93 ?_
    refine lv_iload_n hx hb dX0_dry_96 rfl (lv_at hl 2 rfl) ?_
    obtain ⟨r16, hr16, hf⟩ := ob hf
    refine gp_aald (t := 2) (ty := .array .int) E hK (hP.2.1 2 (by decide)).1 rfl rfl (shS_2 (by decide)) (rw_in hr16).1 (by rw [vS_o (by decide), (rw_in hr16).2.1]) dX0_dry_97 ?_
    refine lv_iload_n hx hb dX0_dry_98 rfl (lv_at hl 3 rfl) ?_
    obtain ⟨v17, hv17, hf⟩ := ob hf
    refine gp_iald E hK (hP.2.1 2 (by decide)).1 (shS_r (by decide) (rw_in hr16).2.2) (rr_in hv17).1 (by rw [vS_r (by decide) (rw_in hr16).2.2, ← (rr_in hv17).2]) dX0_dry_99 ?_
    refine lv_if_ne (tgt := 110) hx hb dX0_dry_100 (by decide) (fun kc18 => ?_) (fun kc18 => ?_)
    · have hf := ite_f kc18 hf
      refine lv_iconst (v := nI 0) hx hb dX0_dry_110 rfl ?_
      refine lv_istore (lv' := [(7, .int (nI 0)), (9, .int ((st.2.2.2.2.2.1 2) 15 0)), (0, .ref g), (1, .int x1), (2, .int x2), (3, .int x3), (4, .int x4), (5, .int st.1), (6, .int st.2.1), (8, .int st.2.2.2.1)]) hx hb dX0_dry_111 hl (by decide) rfl (fun ls hl => ?_)
      refine lv_iload hx hb dX0_dry_113 (lv_at hl 0 rfl) ?_
      refine lv_iload hx hb dX0_dry_115 (lv_at hl 7 rfl) ?_
      refine lv_icmp_gt (tgt := 123) hx hb dX0_dry_117 (by decide) (fun kc19 => ?_) (fun kc19 => ?_)
      · have hf := ite_t kc19 hf
        refine lv_iload hx hb dX0_dry_123 (lv_at hl 0 rfl) ?_
        refine lv_istore (lv' := [(5, .int (nI 0)), (7, .int (nI 0)), (9, .int ((st.2.2.2.2.2.1 2) 15 0)), (0, .ref g), (1, .int x1), (2, .int x2), (3, .int x3), (4, .int x4), (6, .int st.2.1), (8, .int st.2.2.2.1)]) hx hb dX0_dry_125 hl (by decide) rfl (fun ls hl => ?_)
        refine lv_iload hx hb dX0_dry_127 (lv_at hl 2 rfl) ?_
        refine lv_iload hx hb dX0_dry_129 (lv_at hl 1 rfl) ?_
        refine lv_isub hx hb dX0_dry_131 ?_
        refine lv_iconst (v := nI 1) hx hb dX0_dry_132 rfl ?_
        refine lv_iadd hx hb dX0_dry_133 ?_
        refine lv_istore (lv' := [(6, .int ((((st.2.2.2.2.2.1 2) 15 0) - (nI 0)) + (nI 1))), (5, .int (nI 0)), (7, .int (nI 0)), (9, .int ((st.2.2.2.2.2.1 2) 15 0)), (0, .ref g), (1, .int x1), (2, .int x2), (3, .int x3), (4, .int x4), (8, .int st.2.2.2.1)]) hx hb dX0_dry_134 hl (by decide) rfl (fun ls hl => ?_)
        refine lv_iinc (v := st.2.2.2.1 + nI 1) (lv' := [(8, .int (st.2.2.2.1 + nI 1)), (6, .int ((((st.2.2.2.2.2.1 2) 15 0) - (nI 0)) + (nI 1))), (5, .int (nI 0)), (7, .int (nI 0)), (9, .int ((st.2.2.2.2.2.1 2) 15 0)), (0, .ref g), (1, .int x1), (2, .int x2), (3, .int x3), (4, .int x4)]) hx hb dX0_dry_136 hl (k := 9) rfl rfl (by decide) rfl (fun ls hl => ?_)
        refine lv_goto (tgt := 59) hx hb dX0_dry_139 (by decide) ?_
        cases hf
        exact hk _ _ _ (lv_sub hl [5, 6, 7, 8, 9, 2, 1, 3, 0] rfl) hP hS
      · have hf := ite_f kc19 hf
        refine lv_goto (tgt := 136) hx hb dX0_dry_120 (by decide) ?_
        refine lv_iinc (v := st.2.2.2.1 + nI 1) (lv' := [(8, .int (st.2.2.2.1 + nI 1)), (7, .int (nI 0)), (9, .int ((st.2.2.2.2.2.1 2) 15 0)), (0, .ref g), (1, .int x1), (2, .int x2), (3, .int x3), (4, .int x4), (5, .int st.1), (6, .int st.2.1)]) hx hb dX0_dry_136 hl (k := 9) rfl rfl (by decide) rfl (fun ls hl => ?_)
        refine lv_goto (tgt := 59) hx hb dX0_dry_139 (by decide) ?_
        cases hf
        exact hk _ _ _ (lv_sub hl [3, 4, 5, 6, 7, 8, 9, 1, 0] rfl) hP hS
    · have hf := ite_t kc18 hf
      refine lv_iload hx hb dX0_dry_103 (lv_at hl 8 rfl) ?_
      refine lv_iconst (v := nI 1) hx hb dX0_dry_105 rfl ?_
      refine lv_iadd hx hb dX0_dry_106 ?_
      refine lv_goto (tgt := 111) hx hb dX0_dry_107 (by decide) ?_
      refine lv_istore (lv' := [(7, .int (st.2.2.1 + (nI 1))), (9, .int ((st.2.2.2.2.2.1 2) 15 0)), (0, .ref g), (1, .int x1), (2, .int x2), (3, .int x3), (4, .int x4), (5, .int st.1), (6, .int st.2.1), (8, .int st.2.2.2.1)]) hx hb dX0_dry_111 hl (by decide) rfl (fun ls hl => ?_)
      refine lv_iload hx hb dX0_dry_113 (lv_at hl 0 rfl) ?_
      refine lv_iload hx hb dX0_dry_115 (lv_at hl 7 rfl) ?_
      refine lv_icmp_gt (tgt := 123) hx hb dX0_dry_117 (by decide) (fun kc20 => ?_) (fun kc20 => ?_)
      · have hf := ite_t kc20 hf
        refine lv_iload hx hb dX0_dry_123 (lv_at hl 0 rfl) ?_
        refine lv_istore (lv' := [(5, .int (st.2.2.1 + (nI 1))), (7, .int (st.2.2.1 + (nI 1))), (9, .int ((st.2.2.2.2.2.1 2) 15 0)), (0, .ref g), (1, .int x1), (2, .int x2), (3, .int x3), (4, .int x4), (6, .int st.2.1), (8, .int st.2.2.2.1)]) hx hb dX0_dry_125 hl (by decide) rfl (fun ls hl => ?_)
        refine lv_iload hx hb dX0_dry_127 (lv_at hl 2 rfl) ?_
        refine lv_iload hx hb dX0_dry_129 (lv_at hl 1 rfl) ?_
        refine lv_isub hx hb dX0_dry_131 ?_
        refine lv_iconst (v := nI 1) hx hb dX0_dry_132 rfl ?_
        refine lv_iadd hx hb dX0_dry_133 ?_
        refine lv_istore (lv' := [(6, .int ((((st.2.2.2.2.2.1 2) 15 0) - (st.2.2.1 + (nI 1))) + (nI 1))), (5, .int (st.2.2.1 + (nI 1))), (7, .int (st.2.2.1 + (nI 1))), (9, .int ((st.2.2.2.2.2.1 2) 15 0)), (0, .ref g), (1, .int x1), (2, .int x2), (3, .int x3), (4, .int x4), (8, .int st.2.2.2.1)]) hx hb dX0_dry_134 hl (by decide) rfl (fun ls hl => ?_)
        refine lv_iinc (v := st.2.2.2.1 + nI 1) (lv' := [(8, .int (st.2.2.2.1 + nI 1)), (6, .int ((((st.2.2.2.2.2.1 2) 15 0) - (st.2.2.1 + (nI 1))) + (nI 1))), (5, .int (st.2.2.1 + (nI 1))), (7, .int (st.2.2.1 + (nI 1))), (9, .int ((st.2.2.2.2.2.1 2) 15 0)), (0, .ref g), (1, .int x1), (2, .int x2), (3, .int x3), (4, .int x4)]) hx hb dX0_dry_136 hl (k := 9) rfl rfl (by decide) rfl (fun ls hl => ?_)
        refine lv_goto (tgt := 59) hx hb dX0_dry_139 (by decide) ?_
        cases hf
        exact hk _ _ _ (lv_sub hl [5, 6, 7, 8, 9, 2, 1, 3, 0] rfl) hP hS
      · have hf := ite_f kc20 hf
        refine lv_goto (tgt := 136) hx hb dX0_dry_120 (by decide) ?_
        refine lv_iinc (v := st.2.2.2.1 + nI 1) (lv' := [(8, .int (st.2.2.2.1 + nI 1)), (7, .int (st.2.2.1 + (nI 1))), (9, .int ((st.2.2.2.2.2.1 2) 15 0)), (0, .ref g), (1, .int x1), (2, .int x2), (3, .int x3), (4, .int x4), (5, .int st.1), (6, .int st.2.1)]) hx hb dX0_dry_136 hl (k := 9) rfl rfl (by decide) rfl (fun ls hl => ?_)
        refine lv_goto (tgt := 59) hx hb dX0_dry_139 (by decide) ?_
        cases hf
        exact hk _ _ _ (lv_sub hl [3, 4, 5, 6, 7, 8, 9, 1, 0] rfl) hP hS
set_option maxHeartbeats 4000000 in
theorem dx_dry : yX0_dry.cls = RX0 ∧ yX0_dry.cls ≠ "java/lang/invoke/MethodHandle" ∧ yX0_dry.cls ≠ "java/lang/invoke/VarHandle" ∧ (parseMethodDescriptor yX0_dry.desc).map (fun d => d.parameters.length) = some 4 := ⟨rfl, by decide +kernel, by decide +kernel, by decide +kernel⟩
set_option maxHeartbeats 4000000 in
theorem tx_dry (l : Launch) (D : va_G) (dT : Nat → ClassId) (g : Nat) (x1 : Int32) (x2 : Int32) (x3 : Int32) (x4 : Int32) (μ : nwX) (res : Int32 × nwX) (hf : fx_dry x1 x2 x3 x4 μ = some res) : Met l yX0_dry (ws_ yX0_dry cX0_dry 10 (some .int)) (rmd 409) (va_Pc [.ref g, .int x1, .int x2, .int x3, .int x4] (fun U => PX D dT g μ U.heap ∧ EV D dT U)) (va_Qi (fun r' (_ : Unit) => r' = res.1) (fun _ t => PX D dT g res.2 t.heap) (xA g)) 0 0 (xA g) := by
  refine g_met (D := D) (dT := dT) (A := xA g) (own := RX0) (Pic := fun H => PX D dT g μ H) (by decide) rfl (Nat.le_of_ble_eq_true rfl) ?_
  intro p e s m below meth c ls E hE hr hlk hl hP
  have hK := hE.1
  have hS : va_S (xA g) s.heap s.heap [] := va_S.rf
  obtain ⟨hx, hb, hml, hown, hts⟩ := id E
  have hl : lv_has ls 10 [(0, .ref g), (1, .int x1), (2, .int x2), (3, .int x3), (4, .int x4)] := hl
  unfold fx_dry at hf
  refine lv_iload_n hx hb dX0_dry_0 rfl (lv_at hl 1 rfl) ?_
  obtain ⟨v1, hv1, hf⟩ := ob hf
  refine p_calli E hS (As := [.int x1]) (ti_isIsland l x1 _ hv1) (lw_S q957 q958 q161 q959) di_isIsland rfl (by decide) (by decide) hl rfl (Nat.le_of_ble_eq_true rfl) dX0_dry_1 (fun H1 locs1 hq1 hS => ?_)
  have hP := PX_same hP (hz_all hq1) hq1
  refine lv_if_eq (tgt := 34) hx hb dX0_dry_4 (by decide) (fun kc2 => ?_) (fun kc2 => ?_)
  · have hf := ite_t kc2 hf
    refine lv_iconst (v := (-1)) hx hb dX0_dry_34 rfl ?_
    cases hf
    exact g_iret (Pic := fun H => PX D dT g _ H) E hr hlk hP hS rfl dX0_dry_35
  · have hf := ite_f kc2 hf
    refine lv_iload_n hx hb dX0_dry_7 rfl (lv_at hl 2 rfl) ?_
    obtain ⟨v3, hv3, hf⟩ := ob hf
    refine p_calli E hS (As := [.int x2]) (ti_isKind l x2 _ hv3) (lw_S q954 q955 q161 q956) di_isKind rfl (by decide) (by decide) hl rfl (Nat.le_of_ble_eq_true rfl) dX0_dry_8 (fun H1 locs1 hq1 hS => ?_)
    have hP := PX_same hP (hz_all hq1) hq1
    refine lv_if_eq (tgt := 34) hx hb dX0_dry_11 (by decide) (fun kc4 => ?_) (fun kc4 => ?_)
    · have hf := ite_t kc4 hf
      refine lv_iconst (v := (-1)) hx hb dX0_dry_34 rfl ?_
      cases hf
      exact g_iret (Pic := fun H => PX D dT g _ H) E hr hlk hP hS rfl dX0_dry_35
    · have hf := ite_f kc4 hf
      refine lv_iload_n hx hb dX0_dry_14 rfl (lv_at hl 3 rfl) ?_
      refine lv_iconst (v := nI 1) hx hb dX0_dry_15 rfl ?_
      refine lv_bipush (v := nI 60) hx hb dX0_dry_16 rfl ?_
      obtain ⟨v5, hv5, hf⟩ := ob hf
      refine p_calli E hS (As := [.int x3, .int (nI 1), .int (nI 60)]) (ti_isIn l x3 (nI 1) (nI 60) _ hv5) (lw_S q386 q387 q161 q388) di_isIn rfl (by decide) (by decide) hl rfl (Nat.le_of_ble_eq_true rfl) dX0_dry_18 (fun H1 locs1 hq1 hS => ?_)
      have hP := PX_same hP (hz_all hq1) hq1
      refine lv_if_eq (tgt := 34) hx hb dX0_dry_21 (by decide) (fun kc6 => ?_) (fun kc6 => ?_)
      · have hf := ite_t kc6 hf
        refine lv_iconst (v := (-1)) hx hb dX0_dry_34 rfl ?_
        cases hf
        exact g_iret (Pic := fun H => PX D dT g _ H) E hr hlk hP hS rfl dX0_dry_35
      · have hf := ite_f kc6 hf
        refine lv_iload hx hb dX0_dry_24 (lv_at hl 4 rfl) ?_
        refine lv_iconst (v := nI 0) hx hb dX0_dry_26 rfl ?_
        refine lv_iconst (v := nI 1) hx hb dX0_dry_27 rfl ?_
        obtain ⟨v7, hv7, hf⟩ := ob hf
        refine p_calli E hS (As := [.int x4, .int (nI 0), .int (nI 1)]) (ti_isIn l x4 (nI 0) (nI 1) _ hv7) (lw_S q386 q387 q161 q388) di_isIn rfl (by decide) (by decide) hl rfl (Nat.le_of_ble_eq_true rfl) dX0_dry_28 (fun H1 locs1 hq1 hS => ?_)
        have hP := PX_same hP (hz_all hq1) hq1
        refine lv_if_ne (tgt := 36) hx hb dX0_dry_31 (by decide) (fun kc8 => ?_) (fun kc8 => ?_)
        · have hf := ite_f kc8 hf
          refine lv_aload_n hx hb dX0_dry_36 rfl (lv_at hl 0 rfl) ?_
          refine gp_get (C := RX0) (T := TX0) E hK hP.1 (shO_g g) rfl in_X0 6 (by decide) (hts _ q340) (fun _ z => z) vO_6 dX0_dry_37 ?_
          refine lv_aload_n hx hb dX0_dry_40 rfl (lv_at hl 0 rfl) ?_
          refine gp_get (C := RX0) (T := TX0) E hK hP.1 (shO_g g) rfl in_X0 4 (by decide) (hts _ q337) (fun _ z => z) vO_4 dX0_dry_41 ?_
          obtain ⟨χ10, hc9, hf⟩ := ob hf
          obtain ⟨sχ10, hc9, eχ10⟩ := xt_in hc9
          refine gx_callv E hE (Pic := fun H => PS D dT (skA g 2) (μ.2.1 2) (μ.2.2.2.1 2) H ∧ (PS D dT (skA g 0) (μ.2.1 0) (μ.2.2.2.1 0) H ∧ ∀ q, shS (skA g 0) q ≠ none → ¬ sA (skA g 2) q)) (Pic1 := fun H => PS D dT (skA g 2) sχ10 (μ.2.2.2.1 0) H) ⟨(hP.2.1 2 (by decide)).1, (hP.2.1 0 (by decide)).1, fun q hq1 hq2 => absurd (skA_ap (by decide) (by decide) (shS_in hq1) hq2) (by omega)⟩ hS (fun _ z => xA_s (by decide) z) (As := [.ref (skA g 0)]) (ts_thinks l D dT (skA g 2) (μ.2.2.2.1 2) (skA g 0) (μ.2.1 0) (μ.2.2.2.1 0) (μ.2.1 2) _ hc9) (g_recv hK (hP.2.1 2 (by decide)).1 (shS_h _) rfl) (lw_V q1212 q1213 q1214 q162 q1215) ds_thinks rfl (by decide) (by decide) hl rfl (Nat.le_of_ble_eq_true rfl) dX0_dry_44 (fun H1 locs1 hG hz1 hq1 hS => ?_)
          have hP := PX_think hP (by decide) (by decide) hG hz1 hq1
          rw [← eχ10] at hP
          refine lv_iconst (v := nI 0) hx hb dX0_dry_47 rfl ?_
          refine lv_istore (lv' := [(5, .int (nI 0)), (0, .ref g), (1, .int x1), (2, .int x2), (3, .int x3), (4, .int x4)]) hx hb dX0_dry_48 hl (by decide) rfl (fun ls hl => ?_)
          refine lv_iconst (v := (-1)) hx hb dX0_dry_50 rfl ?_
          refine lv_istore (lv' := [(6, .int (-1)), (5, .int (nI 0)), (0, .ref g), (1, .int x1), (2, .int x2), (3, .int x3), (4, .int x4)]) hx hb dX0_dry_51 hl (by decide) rfl (fun ls hl => ?_)
          refine lv_iconst (v := nI 0) hx hb dX0_dry_53 rfl ?_
          refine lv_istore (lv' := [(7, .int (nI 0)), (6, .int (-1)), (5, .int (nI 0)), (0, .ref g), (1, .int x1), (2, .int x2), (3, .int x3), (4, .int x4)]) hx hb dX0_dry_54 hl (by decide) rfl (fun ls hl => ?_)
          refine lv_iconst (v := nI 0) hx hb dX0_dry_56 rfl ?_
          refine lv_istore (lv' := [(8, .int (nI 0)), (7, .int (nI 0)), (6, .int (-1)), (5, .int (nI 0)), (0, .ref g), (1, .int x1), (2, .int x2), (3, .int x3), (4, .int x4)]) hx hb dX0_dry_57 hl (by decide) rfl (fun ls hl => ?_)
          obtain ⟨x21, hx21, hf⟩ := ob hf
          refine fx_dry_L59_w E hK hE x1 x2 x3 x4 hx21 (fun ls H locs hl hP hS => ?_) _ _ _ (lv_sub hl [4, 5, 6, 7, 8, 3, 2, 1, 0] rfl) hP hS
          refine lv_iload hx hb dX0_dry_142 (lv_at hl 0 rfl) ?_
          refine lv_if_ne (tgt := 152) hx hb dX0_dry_144 (by decide) (fun kc22 => ?_) (fun kc22 => ?_)
          · have hf := ite_f kc22 hf
            refine lv_iload hx hb dX0_dry_152 (lv_at hl 2 rfl) ?_
            cases hf
            exact g_iret (Pic := fun H => PX D dT g _ H) E hr hlk hP hS rfl dX0_dry_154
          · have hf := ite_t kc22 hf
            refine lv_iload hx hb dX0_dry_147 (lv_at hl 1 rfl) ?_
            refine lv_goto (tgt := 154) hx hb dX0_dry_149 (by decide) ?_
            cases hf
            exact g_iret (Pic := fun H => PX D dT g _ H) E hr hlk hP hS rfl dX0_dry_154
        · have hf := ite_t kc8 hf
          refine lv_iconst (v := (-1)) hx hb dX0_dry_34 rfl ?_
          cases hf
          exact g_iret (Pic := fun H => PX D dT g _ H) E hr hlk hP hS rfl dX0_dry_35
set_option maxHeartbeats 4000000 in
def fx_areAlive_L2 (x1 : Int32) (μ : nwX) : Int32 → Option ((Int32) ⊕ (Int32)) := fun st => (if ((μ.2.1 0) 13 0) ≤ st then some (.inr (nI 1)) else (if ((x1 >>> (st &&& 31)) &&& (nI 1)) = (nI 1) then (rd_ (μ.2.1 0) 6 12 st).bind fun v3 => (if v3 = (nI 1) then some (.inr (nI 0)) else some (.inl (st + nI 1))) else some (.inl (st + nI 1))))
set_option maxHeartbeats 4000000 in
noncomputable def fx_areAlive (x1 : Int32) (μ : nwX) : Option (Int32) := wh_ (fx_areAlive_L2 x1 μ) (nI 0)
set_option maxHeartbeats 4000000 in
theorem fx_areAlive_L2_w {p : Program} {l : Launch} {e : Env} {s : State} {m : MethodId} {args : Array Value} {below : List Frame} {meth : Method} {c : Code} {D : va_G} {dT : Nat → ClassId} {g : Nat} (E : CallFix p m c cX0_areAlive 3 s args lw_all RX0) (hK : va_K D nwCl (nwT dT) s) (hr : meth.sig.returnType = (some .boolean)) (hlk : meth.locks = false) (hE : EV D dT s) (x1 : Int32) (μ : nwX) {res : Int32} {st : Int32} {x : Int32} (hw : wh_ (fx_areAlive_L2 x1 μ) st = some x) (hk : (fun r : Int32 => r = res) x) : (fun st : Int32 => ∀ (ls : Array Slot) (H : Heap) (locs : List Loc), lv_has ls 3 [(0, .ref g), (1, .int x1), (2, .int st)] → PX D dT g μ H → va_S (fun _ => False) s.heap H locs → W p l e (rmd 0) s m args below meth c H locs 0 0 (MQ below (va_Qi (fun r' (_ : Unit) => r' = res) (fun _ t => PX D dT g μ t.heap) (fun _ => False)) args s 0 0 (fun _ => False)) (F0 m 2 ls [])) st := by
  obtain ⟨hx, hb, hml, hown, hts⟩ := id E
  refine wh_run (P := (fun st : Int32 => ∀ (ls : Array Slot) (H : Heap) (locs : List Loc), lv_has ls 3 [(0, .ref g), (1, .int x1), (2, .int st)] → PX D dT g μ H → va_S (fun _ => False) s.heap H locs → W p l e (rmd 0) s m args below meth c H locs 0 0 (MQ below (va_Qi (fun r' (_ : Unit) => r' = res) (fun _ t => PX D dT g μ t.heap) (fun _ => False)) args s 0 0 (fun _ => False)) (F0 m 2 ls []))) (PE := (fun r : Int32 => r = res)) ?_ hw hk
  clear hw hk
  intro st x hf hk ls H locs hl hP hS
  refine lv_iload_n hx hb dX0_areAlive_2 rfl (lv_at hl 2 rfl) ?_
  refine lv_aload_n hx hb dX0_areAlive_3 rfl (lv_at hl 0 rfl) ?_
  refine gp_get (C := RX0) (T := TX0) E hK hP.1 (shO_g g) rfl in_X0 4 (by decide) (hts _ q337) (fun _ z => z) vO_4 dX0_areAlive_4 ?_
  refine gp_getN (C := RX1) (T := TX1) E hK (hP.2.1 0 (by decide)).1 (shS_h _) rfl in_X1 13 (by decide) (nfw_12 hE.2) (fun _ z => z) (vS_i (by decide)) dX0_areAlive_7 ?_
  refine lv_icmp_ge (tgt := 43) hx hb dX0_areAlive_10 (by decide) (fun kc1 => ?_) (fun kc1 => ?_)
  · have hf := ite_t kc1 hf
    refine lv_iconst (v := nI 1) hx hb dX0_areAlive_43 rfl ?_
    cases hf
    have hk : nI 1 = res := hk
    subst hk
    exact g_zret (Pic := fun H => PX D dT g _ H) E hr hlk hP hS rfl dX0_areAlive_44
  · have hf := ite_f kc1 hf
    refine lv_iload_n hx hb dX0_areAlive_13 rfl (lv_at hl 1 rfl) ?_
    refine lv_iload_n hx hb dX0_areAlive_14 rfl (lv_at hl 2 rfl) ?_
    refine lv_ishr hx hb dX0_areAlive_15 ?_
    refine lv_iconst (v := nI 1) hx hb dX0_areAlive_16 rfl ?_
    refine lv_iand hx hb dX0_areAlive_17 ?_
    refine lv_iconst (v := nI 1) hx hb dX0_areAlive_18 rfl ?_
    refine lv_icmp_ne (tgt := 37) hx hb dX0_areAlive_19 (by decide) (fun kc2 => ?_) (fun kc2 => ?_)
    · have hf := ite_f kc2 hf
      refine lv_iinc (v := st + nI 1) (lv' := [(2, .int (st + nI 1)), (0, .ref g), (1, .int x1)]) hx hb dX0_areAlive_37 hl (k := 2) rfl rfl (by decide) rfl (fun ls hl => ?_)
      refine lv_goto (tgt := 2) hx hb dX0_areAlive_40 (by decide) ?_
      cases hf
      exact hk _ _ _ (lv_sub hl [1, 2, 0] rfl) hP hS
    · have hf := ite_t kc2 hf
      refine lv_aload_n hx hb dX0_areAlive_22 rfl (lv_at hl 0 rfl) ?_
      refine gp_get (C := RX0) (T := TX0) E hK hP.1 (shO_g g) rfl in_X0 4 (by decide) (hts _ q337) (fun _ z => z) vO_4 dX0_areAlive_23 ?_
      refine gp_getN (C := RX1) (T := TX1) E hK (hP.2.1 0 (by decide)).1 (shS_h _) rfl in_X1 6 (by decide) (nfw_5 hE.2) (fun _ z => z) (vS_a (by decide) (by decide)) dX0_areAlive_26 ?_
      refine lv_iload_n hx hb dX0_areAlive_29 rfl (lv_at hl 2 rfl) ?_
      obtain ⟨v3, hv3, hf⟩ := ob hf
      refine gp_iald E hK (hP.2.1 0 (by decide)).1 (shS_a (by decide) (by decide)) (rd_in hv3).1 (by rw [vS_e (by decide) (by decide), ← (rd_in hv3).2]) dX0_areAlive_30 ?_
      refine lv_iconst (v := nI 1) hx hb dX0_areAlive_31 rfl ?_
      refine lv_icmp_ne (tgt := 37) hx hb dX0_areAlive_32 (by decide) (fun kc4 => ?_) (fun kc4 => ?_)
      · have hf := ite_f kc4 hf
        refine lv_iinc (v := st + nI 1) (lv' := [(2, .int (st + nI 1)), (0, .ref g), (1, .int x1)]) hx hb dX0_areAlive_37 hl (k := 2) rfl rfl (by decide) rfl (fun ls hl => ?_)
        refine lv_goto (tgt := 2) hx hb dX0_areAlive_40 (by decide) ?_
        cases hf
        exact hk _ _ _ (lv_sub hl [1, 2, 0] rfl) hP hS
      · have hf := ite_t kc4 hf
        refine lv_iconst (v := nI 0) hx hb dX0_areAlive_35 rfl ?_
        cases hf
        have hk : nI 0 = res := hk
        subst hk
        exact g_zret (Pic := fun H => PX D dT g _ H) E hr hlk hP hS rfl dX0_areAlive_36
set_option maxHeartbeats 4000000 in
theorem dx_areAlive : yX0_areAlive.cls = RX0 ∧ yX0_areAlive.cls ≠ "java/lang/invoke/MethodHandle" ∧ yX0_areAlive.cls ≠ "java/lang/invoke/VarHandle" ∧ (parseMethodDescriptor yX0_areAlive.desc).map (fun d => d.parameters.length) = some 1 := ⟨rfl, by decide +kernel, by decide +kernel, by decide +kernel⟩
set_option maxHeartbeats 4000000 in
theorem tx_areAlive (l : Launch) (D : va_G) (dT : Nat → ClassId) (g : Nat) (x1 : Int32) (μ : nwX) (res : Int32) (hf : fx_areAlive x1 μ = some res) : Met l yX0_areAlive (ws_ yX0_areAlive cX0_areAlive 3 (some .boolean)) (rmd 0) (va_Pc [.ref g, .int x1] (fun U => PX D dT g μ U.heap ∧ EV D dT U)) (va_Qi (fun r' (_ : Unit) => r' = res) (fun _ t => PX D dT g μ t.heap) (fun _ => False)) 0 0 (fun _ => False) := by
  refine g_met (D := D) (dT := dT) (A := fun _ => False) (own := RX0) (Pic := fun H => PX D dT g μ H) (by decide) rfl (Nat.le_of_ble_eq_true rfl) ?_
  intro p e s m below meth c ls E hE hr hlk hl hP
  have hK := hE.1
  have hS : va_S (fun _ => False) s.heap s.heap [] := va_S.rf
  obtain ⟨hx, hb, hml, hown, hts⟩ := id E
  have hl : lv_has ls 3 [(0, .ref g), (1, .int x1)] := hl
  unfold fx_areAlive at hf
  refine lv_iconst (v := nI 0) hx hb dX0_areAlive_0 rfl ?_
  refine lv_istore_n (lv' := [(2, .int (nI 0)), (0, .ref g), (1, .int x1)]) hx hb dX0_areAlive_1 rfl hl (by decide) rfl (fun ls hl => ?_)
  exact fx_areAlive_L2_w E hK hr hlk hE x1 μ hf rfl _ _ _ (lv_sub hl [1, 2, 0] rfl) hP hS
set_option maxHeartbeats 4000000 in
def fx_carried_L21 (x2 : Int32) (μ : nwX) : (Int32 × Int32) → Option ((Int32 × Int32) ⊕ (Int32)) := fun st => (if (nI 8) ≤ st.2 then some (.inr (-1)) else (if st.1 = (-1) then some (.inr (-1)) else (if st.1 = x2 then some (.inr st.2) else (rd_ (μ.2.1 0) 8 8 st.1).bind fun v8 => some (.inl (v8, st.2 + nI 1)))))
set_option maxHeartbeats 4000000 in
noncomputable def fx_carried (x1 : Int32) (x2 : Int32) (μ : nwX) : Option (Int32) := (fi_isIsland x1 ()).bind fun v1 => (if v1 = 0 then some (-1) else (fi_isIsland x2 ()).bind fun v3 => (if v3 = 0 then some (-1) else wh_ (fx_carried_L21 x2 μ) (x1, nI 0)))
set_option maxHeartbeats 4000000 in
theorem fx_carried_L21_w {p : Program} {l : Launch} {e : Env} {s : State} {m : MethodId} {args : Array Value} {below : List Frame} {meth : Method} {c : Code} {D : va_G} {dT : Nat → ClassId} {g : Nat} (E : CallFix p m c cX0_carried 5 s args lw_all RX0) (hK : va_K D nwCl (nwT dT) s) (hr : meth.sig.returnType = (some .int)) (hlk : meth.locks = false) (hE : EV D dT s) (x2 : Int32) (μ : nwX) {res : Int32} {st : Int32 × Int32} {x : Int32} (hw : wh_ (fx_carried_L21 x2 μ) st = some x) (hk : (fun r : Int32 => r = res) x) : (fun st : Int32 × Int32 => ∀ (ls : Array Slot) (H : Heap) (locs : List Loc), lv_has ls 5 [(0, .ref g), (2, .int x2), (3, .int st.1), (4, .int st.2)] → PX D dT g μ H → va_S (fun _ => False) s.heap H locs → W p l e (rmd 3) s m args below meth c H locs 0 0 (MQ below (va_Qi (fun r' (_ : Unit) => r' = res) (fun _ t => PX D dT g μ t.heap) (fun _ => False)) args s 0 0 (fun _ => False)) (F0 m 21 ls [])) st := by
  obtain ⟨hx, hb, hml, hown, hts⟩ := id E
  refine wh_run (P := (fun st : Int32 × Int32 => ∀ (ls : Array Slot) (H : Heap) (locs : List Loc), lv_has ls 5 [(0, .ref g), (2, .int x2), (3, .int st.1), (4, .int st.2)] → PX D dT g μ H → va_S (fun _ => False) s.heap H locs → W p l e (rmd 3) s m args below meth c H locs 0 0 (MQ below (va_Qi (fun r' (_ : Unit) => r' = res) (fun _ t => PX D dT g μ t.heap) (fun _ => False)) args s 0 0 (fun _ => False)) (F0 m 21 ls []))) (PE := (fun r : Int32 => r = res)) ?_ hw hk
  clear hw hk
  intro st x hf hk ls H locs hl hP hS
  refine lv_iload hx hb dX0_carried_21 (lv_at hl 3 rfl) ?_
  refine lv_bipush (v := nI 8) hx hb dX0_carried_23 rfl ?_
  refine lv_icmp_ge (tgt := 57) hx hb dX0_carried_25 (by decide) (fun kc5 => ?_) (fun kc5 => ?_)
  · have hf := ite_t kc5 hf
    refine lv_iconst (v := (-1)) hx hb dX0_carried_57 rfl ?_
    cases hf
    have hk : (-1) = res := hk
    subst hk
    exact g_iret (Pic := fun H => PX D dT g _ H) E hr hlk hP hS rfl dX0_carried_58
  · have hf := ite_f kc5 hf
    refine lv_iload_n hx hb dX0_carried_28 rfl (lv_at hl 2 rfl) ?_
    refine lv_iconst (v := (-1)) hx hb dX0_carried_29 rfl ?_
    refine lv_icmp_eq (tgt := 57) hx hb dX0_carried_30 (by decide) (fun kc6 => ?_) (fun kc6 => ?_)
    · have hf := ite_t kc6 hf
      refine lv_iconst (v := (-1)) hx hb dX0_carried_57 rfl ?_
      cases hf
      have hk : (-1) = res := hk
      subst hk
      exact g_iret (Pic := fun H => PX D dT g _ H) E hr hlk hP hS rfl dX0_carried_58
    · have hf := ite_f kc6 hf
      refine lv_iload_n hx hb dX0_carried_33 rfl (lv_at hl 2 rfl) ?_
      refine lv_iload_n hx hb dX0_carried_34 rfl (lv_at hl 1 rfl) ?_
      refine lv_icmp_ne (tgt := 41) hx hb dX0_carried_35 (by decide) (fun kc7 => ?_) (fun kc7 => ?_)
      · have hf := ite_f kc7 hf
        refine lv_aload_n hx hb dX0_carried_41 rfl (lv_at hl 0 rfl) ?_
        refine gp_get (C := RX0) (T := TX0) E hK hP.1 (shO_g g) rfl in_X0 4 (by decide) (hts _ q337) (fun _ z => z) vO_4 dX0_carried_42 ?_
        refine gp_getN (C := RX1) (T := TX1) E hK (hP.2.1 0 (by decide)).1 (shS_h _) rfl in_X1 8 (by decide) (nfw_7 hE.2) (fun _ z => z) (vS_a (by decide) (by decide)) dX0_carried_45 ?_
        refine lv_iload_n hx hb dX0_carried_48 rfl (lv_at hl 2 rfl) ?_
        obtain ⟨v8, hv8, hf⟩ := ob hf
        refine gp_iald E hK (hP.2.1 0 (by decide)).1 (shS_a (by decide) (by decide)) (rd_in hv8).1 (by rw [vS_e (by decide) (by decide), ← (rd_in hv8).2]) dX0_carried_49 ?_
        refine lv_istore_n (lv' := [(3, .int v8), (0, .ref g), (2, .int x2), (4, .int st.2)]) hx hb dX0_carried_50 rfl hl (by decide) rfl (fun ls hl => ?_)
        refine lv_iinc (v := st.2 + nI 1) (lv' := [(4, .int (st.2 + nI 1)), (3, .int v8), (0, .ref g), (2, .int x2)]) hx hb dX0_carried_51 hl (k := 3) rfl rfl (by decide) rfl (fun ls hl => ?_)
        refine lv_goto (tgt := 21) hx hb dX0_carried_54 (by decide) ?_
        cases hf
        exact hk _ _ _ (lv_sub hl [2, 3, 1, 0] rfl) hP hS
      · have hf := ite_t kc7 hf
        refine lv_iload hx hb dX0_carried_38 (lv_at hl 3 rfl) ?_
        cases hf
        have hk : st.2 = res := hk
        subst hk
        exact g_iret (Pic := fun H => PX D dT g _ H) E hr hlk hP hS rfl dX0_carried_40
set_option maxHeartbeats 4000000 in
theorem dx_carried : yX0_carried.cls = RX0 ∧ yX0_carried.cls ≠ "java/lang/invoke/MethodHandle" ∧ yX0_carried.cls ≠ "java/lang/invoke/VarHandle" ∧ (parseMethodDescriptor yX0_carried.desc).map (fun d => d.parameters.length) = some 2 := ⟨rfl, by decide +kernel, by decide +kernel, by decide +kernel⟩
set_option maxHeartbeats 4000000 in
theorem tx_carried (l : Launch) (D : va_G) (dT : Nat → ClassId) (g : Nat) (x1 : Int32) (x2 : Int32) (μ : nwX) (res : Int32) (hf : fx_carried x1 x2 μ = some res) : Met l yX0_carried (ws_ yX0_carried cX0_carried 5 (some .int)) (rmd 3) (va_Pc [.ref g, .int x1, .int x2] (fun U => PX D dT g μ U.heap ∧ EV D dT U)) (va_Qi (fun r' (_ : Unit) => r' = res) (fun _ t => PX D dT g μ t.heap) (fun _ => False)) 0 0 (fun _ => False) := by
  refine g_met (D := D) (dT := dT) (A := fun _ => False) (own := RX0) (Pic := fun H => PX D dT g μ H) (by decide) rfl (Nat.le_of_ble_eq_true rfl) ?_
  intro p e s m below meth c ls E hE hr hlk hl hP
  have hK := hE.1
  have hS : va_S (fun _ => False) s.heap s.heap [] := va_S.rf
  obtain ⟨hx, hb, hml, hown, hts⟩ := id E
  have hl : lv_has ls 5 [(0, .ref g), (1, .int x1), (2, .int x2)] := hl
  unfold fx_carried at hf
  refine lv_iload_n hx hb dX0_carried_0 rfl (lv_at hl 1 rfl) ?_
  obtain ⟨v1, hv1, hf⟩ := ob hf
  refine p_calli E hS (As := [.int x1]) (ti_isIsland l x1 _ hv1) (lw_S q957 q958 q161 q959) di_isIsland rfl (by decide) (by decide) hl rfl (Nat.le_of_ble_eq_true rfl) dX0_carried_1 (fun H1 locs1 hq1 hS => ?_)
  have hP := PX_same hP (hz_all hq1) hq1
  refine lv_if_eq (tgt := 14) hx hb dX0_carried_4 (by decide) (fun kc2 => ?_) (fun kc2 => ?_)
  · have hf := ite_t kc2 hf
    refine lv_iconst (v := (-1)) hx hb dX0_carried_14 rfl ?_
    cases hf
    exact g_iret (Pic := fun H => PX D dT g _ H) E hr hlk hP hS rfl dX0_carried_15
  · have hf := ite_f kc2 hf
    refine lv_iload_n hx hb dX0_carried_7 rfl (lv_at hl 2 rfl) ?_
    obtain ⟨v3, hv3, hf⟩ := ob hf
    refine p_calli E hS (As := [.int x2]) (ti_isIsland l x2 _ hv3) (lw_S q957 q958 q161 q959) di_isIsland rfl (by decide) (by decide) hl rfl (Nat.le_of_ble_eq_true rfl) dX0_carried_8 (fun H1 locs1 hq1 hS => ?_)
    have hP := PX_same hP (hz_all hq1) hq1
    refine lv_if_ne (tgt := 16) hx hb dX0_carried_11 (by decide) (fun kc4 => ?_) (fun kc4 => ?_)
    · have hf := ite_f kc4 hf
      refine lv_iload_n hx hb dX0_carried_16 rfl (lv_at hl 1 rfl) ?_
      refine lv_istore_n (lv' := [(3, .int x1), (0, .ref g), (1, .int x1), (2, .int x2)]) hx hb dX0_carried_17 rfl hl (by decide) rfl (fun ls hl => ?_)
      refine lv_iconst (v := nI 0) hx hb dX0_carried_18 rfl ?_
      refine lv_istore (lv' := [(4, .int (nI 0)), (3, .int x1), (0, .ref g), (1, .int x1), (2, .int x2)]) hx hb dX0_carried_19 hl (by decide) rfl (fun ls hl => ?_)
      exact fx_carried_L21_w E hK hr hlk hE x2 μ hf rfl _ _ _ (lv_sub hl [2, 4, 1, 0] rfl) hP hS
    · have hf := ite_t kc4 hf
      refine lv_iconst (v := (-1)) hx hb dX0_carried_14 rfl ?_
      cases hf
      exact g_iret (Pic := fun H => PX D dT g _ H) E hr hlk hP hS rfl dX0_carried_15
set_option maxHeartbeats 4000000 in
noncomputable def fx_ring_L4 (μ : nwX) : (Int32 × Int32) → Option ((Int32 × Int32) ⊕ (Int32)) := fun st => (if (nI 8) ≤ st.2 then some (.inr st.1) else (rd_ (μ.2.1 0) 8 8 st.2).bind fun v2 => (if v2 = (-1) then some (.inl (st.1 ||| (nI 0), st.2 + nI 1)) else (rd_ (μ.2.1 0) 8 8 st.2).bind fun v4 => (fx_carried v4 st.2 μ).bind fun v6 => (if v6 = (-1) then some (.inl (st.1 ||| (nI 0), st.2 + nI 1)) else some (.inl (st.1 ||| ((nI 1) <<< (st.2 &&& 31)), st.2 + nI 1)))))
set_option maxHeartbeats 4000000 in
noncomputable def fx_ring (μ : nwX) : Option (Int32) := (wh_ (fx_ring_L4 μ) (nI 0, nI 0)).bind fun x8 => some x8
set_option maxHeartbeats 4000000 in
theorem fx_ring_L4_w {p : Program} {l : Launch} {e : Env} {s : State} {m : MethodId} {args : Array Value} {below : List Frame} {meth : Method} {c : Code} {D : va_G} {dT : Nat → ClassId} {Q : State → Prop} {g : Nat} (E : CallFix p m c cX0_ring 3 s args lw_all RX0) (hK : va_K D nwCl (nwT dT) s) (hE : EV D dT s) (μ : nwX) {st : Int32 × Int32} {x : Int32} (hw : wh_ (fx_ring_L4 μ) st = some x) (hk : (fun x : Int32 => ∀ (ls : Array Slot) (H : Heap) (locs : List Loc), lv_has ls 3 [(1, .int x)] → PX D dT g μ H → va_S (fun _ => False) s.heap H locs → W p l e (rmd 4) s m args below meth c H locs 0 0 Q (F0 m 57 ls [])) x) : (fun st : Int32 × Int32 => ∀ (ls : Array Slot) (H : Heap) (locs : List Loc), lv_has ls 3 [(0, .ref g), (1, .int st.1), (2, .int st.2)] → PX D dT g μ H → va_S (fun _ => False) s.heap H locs → W p l e (rmd 4) s m args below meth c H locs 0 0 Q (F0 m 4 ls [])) st := by
  obtain ⟨hx, hb, hml, hown, hts⟩ := id E
  refine wh_run (P := (fun st : Int32 × Int32 => ∀ (ls : Array Slot) (H : Heap) (locs : List Loc), lv_has ls 3 [(0, .ref g), (1, .int st.1), (2, .int st.2)] → PX D dT g μ H → va_S (fun _ => False) s.heap H locs → W p l e (rmd 4) s m args below meth c H locs 0 0 Q (F0 m 4 ls []))) (PE := (fun x : Int32 => ∀ (ls : Array Slot) (H : Heap) (locs : List Loc), lv_has ls 3 [(1, .int x)] → PX D dT g μ H → va_S (fun _ => False) s.heap H locs → W p l e (rmd 4) s m args below meth c H locs 0 0 Q (F0 m 57 ls []))) ?_ hw hk
  clear hw hk
  intro st x hf hk ls H locs hl hP hS
  refine lv_iload_n hx hb dX0_ring_4 rfl (lv_at hl 2 rfl) ?_
  refine lv_bipush (v := nI 8) hx hb dX0_ring_5 rfl ?_
  refine lv_icmp_ge (tgt := 57) hx hb dX0_ring_7 (by decide) (fun kc1 => ?_) (fun kc1 => ?_)
  · have hf := ite_t kc1 hf
    cases hf
    exact hk _ _ _ (lv_sub hl [1] rfl) hP hS
  · have hf := ite_f kc1 hf
    refine lv_iload_n hx hb dX0_ring_10 rfl (lv_at hl 1 rfl) ?_
    refine lv_aload_n hx hb dX0_ring_11 rfl (lv_at hl 0 rfl) ?_
    refine gp_get (C := RX0) (T := TX0) E hK hP.1 (shO_g g) rfl in_X0 4 (by decide) (hts _ q337) (fun _ z => z) vO_4 dX0_ring_12 ?_
    refine gp_getN (C := RX1) (T := TX1) E hK (hP.2.1 0 (by decide)).1 (shS_h _) rfl in_X1 8 (by decide) (nfw_7 hE.2) (fun _ z => z) (vS_a (by decide) (by decide)) dX0_ring_15 ?_
    refine lv_iload_n hx hb dX0_ring_18 rfl (lv_at hl 2 rfl) ?_
    obtain ⟨v2, hv2, hf⟩ := ob hf
    refine gp_iald E hK (hP.2.1 0 (by decide)).1 (shS_a (by decide) (by decide)) (rd_in hv2).1 (by rw [vS_e (by decide) (by decide), ← (rd_in hv2).2]) dX0_ring_19 ?_
    refine lv_iconst (v := (-1)) hx hb dX0_ring_20 rfl ?_
    refine lv_icmp_eq (tgt := 48) hx hb dX0_ring_21 (by decide) (fun kc3 => ?_) (fun kc3 => ?_)
    · have hf := ite_t kc3 hf
      refine lv_iconst (v := nI 0) hx hb dX0_ring_48 rfl ?_
      refine lv_ior hx hb dX0_ring_49 ?_
      refine lv_istore_n (lv' := [(1, .int (st.1 ||| (nI 0))), (0, .ref g), (2, .int st.2)]) hx hb dX0_ring_50 rfl hl (by decide) rfl (fun ls hl => ?_)
      refine lv_iinc (v := st.2 + nI 1) (lv' := [(2, .int (st.2 + nI 1)), (1, .int (st.1 ||| (nI 0))), (0, .ref g)]) hx hb dX0_ring_51 hl (k := 2) rfl rfl (by decide) rfl (fun ls hl => ?_)
      refine lv_goto (tgt := 4) hx hb dX0_ring_54 (by decide) ?_
      cases hf
      exact hk _ _ _ (lv_sub hl [2, 1, 0] rfl) hP hS
    · have hf := ite_f kc3 hf
      refine lv_aload_n hx hb dX0_ring_24 rfl (lv_at hl 0 rfl) ?_
      refine lv_aload_n hx hb dX0_ring_25 rfl (lv_at hl 0 rfl) ?_
      refine gp_get (C := RX0) (T := TX0) E hK hP.1 (shO_g g) rfl in_X0 4 (by decide) (hts _ q337) (fun _ z => z) vO_4 dX0_ring_26 ?_
      refine gp_getN (C := RX1) (T := TX1) E hK (hP.2.1 0 (by decide)).1 (shS_h _) rfl in_X1 8 (by decide) (nfw_7 hE.2) (fun _ z => z) (vS_a (by decide) (by decide)) dX0_ring_29 ?_
      refine lv_iload_n hx hb dX0_ring_32 rfl (lv_at hl 2 rfl) ?_
      obtain ⟨v4, hv4, hf⟩ := ob hf
      refine gp_iald E hK (hP.2.1 0 (by decide)).1 (shS_a (by decide) (by decide)) (rd_in hv4).1 (by rw [vS_e (by decide) (by decide), ← (rd_in hv4).2]) dX0_ring_33 ?_
      refine lv_iload_n hx hb dX0_ring_34 rfl (lv_at hl 2 rfl) ?_
      obtain ⟨v6, hc5, hf⟩ := ob hf
      refine gx_calli E hE (Pic := fun H => PX D dT g μ H) (Pic1 := fun H => PX D dT g μ H) hP hS (fun _ z => z.elim) (As := [.int v4, .int st.2]) (tx_carried l D dT g v4 st.2 μ _ hc5) (g_recv hK hP.1 (shO_g g) rfl) (lw_V q1381 q1374 q1375 q161 q1376) dx_carried rfl (by decide) (by decide) hl rfl (Nat.le_of_ble_eq_true rfl) dX0_ring_35 (fun H locs hP _ _ hS => ?_)
      refine lv_iconst (v := (-1)) hx hb dX0_ring_38 rfl ?_
      refine lv_icmp_eq (tgt := 48) hx hb dX0_ring_39 (by decide) (fun kc7 => ?_) (fun kc7 => ?_)
      · have hf := ite_t kc7 hf
        refine lv_iconst (v := nI 0) hx hb dX0_ring_48 rfl ?_
        refine lv_ior hx hb dX0_ring_49 ?_
        refine lv_istore_n (lv' := [(1, .int (st.1 ||| (nI 0))), (0, .ref g), (2, .int st.2)]) hx hb dX0_ring_50 rfl hl (by decide) rfl (fun ls hl => ?_)
        refine lv_iinc (v := st.2 + nI 1) (lv' := [(2, .int (st.2 + nI 1)), (1, .int (st.1 ||| (nI 0))), (0, .ref g)]) hx hb dX0_ring_51 hl (k := 2) rfl rfl (by decide) rfl (fun ls hl => ?_)
        refine lv_goto (tgt := 4) hx hb dX0_ring_54 (by decide) ?_
        cases hf
        exact hk _ _ _ (lv_sub hl [2, 1, 0] rfl) hP hS
      · have hf := ite_f kc7 hf
        refine lv_iconst (v := nI 1) hx hb dX0_ring_42 rfl ?_
        refine lv_iload_n hx hb dX0_ring_43 rfl (lv_at hl 2 rfl) ?_
        refine lv_ishl hx hb dX0_ring_44 ?_
        refine lv_goto (tgt := 49) hx hb dX0_ring_45 (by decide) ?_
        refine lv_ior hx hb dX0_ring_49 ?_
        refine lv_istore_n (lv' := [(1, .int (st.1 ||| ((nI 1) <<< (st.2 &&& 31)))), (0, .ref g), (2, .int st.2)]) hx hb dX0_ring_50 rfl hl (by decide) rfl (fun ls hl => ?_)
        refine lv_iinc (v := st.2 + nI 1) (lv' := [(2, .int (st.2 + nI 1)), (1, .int (st.1 ||| ((nI 1) <<< (st.2 &&& 31)))), (0, .ref g)]) hx hb dX0_ring_51 hl (k := 2) rfl rfl (by decide) rfl (fun ls hl => ?_)
        refine lv_goto (tgt := 4) hx hb dX0_ring_54 (by decide) ?_
        cases hf
        exact hk _ _ _ (lv_sub hl [2, 1, 0] rfl) hP hS
set_option maxHeartbeats 4000000 in
theorem dx_ring : yX0_ring.cls = RX0 ∧ yX0_ring.cls ≠ "java/lang/invoke/MethodHandle" ∧ yX0_ring.cls ≠ "java/lang/invoke/VarHandle" ∧ (parseMethodDescriptor yX0_ring.desc).map (fun d => d.parameters.length) = some 0 := ⟨rfl, by decide +kernel, by decide +kernel, by decide +kernel⟩
set_option maxHeartbeats 4000000 in
theorem tx_ring (l : Launch) (D : va_G) (dT : Nat → ClassId) (g : Nat) (μ : nwX) (res : Int32) (hf : fx_ring μ = some res) : Met l yX0_ring (ws_ yX0_ring cX0_ring 3 (some .int)) (rmd 4) (va_Pc [.ref g] (fun U => PX D dT g μ U.heap ∧ EV D dT U)) (va_Qi (fun r' (_ : Unit) => r' = res) (fun _ t => PX D dT g μ t.heap) (fun _ => False)) 0 0 (fun _ => False) := by
  refine g_met (D := D) (dT := dT) (A := fun _ => False) (own := RX0) (Pic := fun H => PX D dT g μ H) (by decide) rfl (Nat.le_of_ble_eq_true rfl) ?_
  intro p e s m below meth c ls E hE hr hlk hl hP
  have hK := hE.1
  have hS : va_S (fun _ => False) s.heap s.heap [] := va_S.rf
  obtain ⟨hx, hb, hml, hown, hts⟩ := id E
  have hl : lv_has ls 3 [(0, .ref g)] := hl
  unfold fx_ring at hf
  refine lv_iconst (v := nI 0) hx hb dX0_ring_0 rfl ?_
  refine lv_istore_n (lv' := [(1, .int (nI 0)), (0, .ref g)]) hx hb dX0_ring_1 rfl hl (by decide) rfl (fun ls hl => ?_)
  refine lv_iconst (v := nI 0) hx hb dX0_ring_2 rfl ?_
  refine lv_istore_n (lv' := [(2, .int (nI 0)), (1, .int (nI 0)), (0, .ref g)]) hx hb dX0_ring_3 rfl hl (by decide) rfl (fun ls hl => ?_)
  obtain ⟨x8, hx8, hf⟩ := ob hf
  refine fx_ring_L4_w E hK hE μ hx8 (fun ls H locs hl hP hS => ?_) _ _ _ (lv_sub hl [2, 1, 0] rfl) hP hS
  refine lv_iload_n hx hb dX0_ring_57 rfl (lv_at hl 0 rfl) ?_
  cases hf
  exact g_iret (Pic := fun H => PX D dT g _ H) E hr hlk hP hS rfl dX0_ring_58
set_option maxHeartbeats 4000000 in
noncomputable def fx_folkAt (x1 : Int32) (μ : nwX) : Option (Int32) := (fx_thereOf x1 (nI 0) μ).bind fun v2 => (fi_bitCount v2 ()).bind fun v3 => some v3
set_option maxHeartbeats 4000000 in
theorem dx_folkAt : yX0_folkAt.cls = RX0 ∧ yX0_folkAt.cls ≠ "java/lang/invoke/MethodHandle" ∧ yX0_folkAt.cls ≠ "java/lang/invoke/VarHandle" ∧ (parseMethodDescriptor yX0_folkAt.desc).map (fun d => d.parameters.length) = some 1 := ⟨rfl, by decide +kernel, by decide +kernel, by decide +kernel⟩
set_option maxHeartbeats 4000000 in
theorem tx_folkAt (l : Launch) (D : va_G) (dT : Nat → ClassId) (g : Nat) (x1 : Int32) (μ : nwX) (res : Int32) (hf : fx_folkAt x1 μ = some res) : Met l yX0_folkAt (ws_ yX0_folkAt cX0_folkAt 2 (some .int)) (rmd 1) (va_Pc [.ref g, .int x1] (fun U => PX D dT g μ U.heap ∧ EV D dT U)) (va_Qi (fun r' (_ : Unit) => r' = res) (fun _ t => PX D dT g μ t.heap) (fun _ => False)) 0 0 (fun _ => False) := by
  refine g_met (D := D) (dT := dT) (A := fun _ => False) (own := RX0) (Pic := fun H => PX D dT g μ H) (by decide) rfl (Nat.le_of_ble_eq_true rfl) ?_
  intro p e s m below meth c ls E hE hr hlk hl hP
  have hK := hE.1
  have hS : va_S (fun _ => False) s.heap s.heap [] := va_S.rf
  obtain ⟨hx, hb, hml, hown, hts⟩ := id E
  have hl : lv_has ls 2 [(0, .ref g), (1, .int x1)] := hl
  unfold fx_folkAt at hf
  refine lv_aload_n hx hb dX0_folkAt_0 rfl (lv_at hl 0 rfl) ?_
  refine lv_iload_n hx hb dX0_folkAt_1 rfl (lv_at hl 1 rfl) ?_
  refine lv_iconst (v := nI 0) hx hb dX0_folkAt_2 rfl ?_
  obtain ⟨v2, hc1, hf⟩ := ob hf
  refine gx_calli E hE (Pic := fun H => PX D dT g μ H) (Pic1 := fun H => PX D dT g μ H) hP hS (fun _ z => z.elim) (As := [.int x1, .int (nI 0)]) (tx_thereOf l D dT g x1 (nI 0) μ _ hc1) (g_recv hK hP.1 (shO_g g) rfl) (lw_V q1222 q1224 qs45 q161 q1225) dx_thereOf rfl (by decide) (by decide) hl rfl (Nat.le_of_ble_eq_true rfl) dX0_folkAt_3 (fun H locs hP _ _ hS => ?_)
  obtain ⟨v3, hv3, hf⟩ := ob hf
  refine p_calli E hS (As := [.int v2]) (ti_bitCount l v2 _ hv3) (lw_S q1303 q1304 q194 q1305) di_bitCount rfl (by decide) (by decide) hl rfl (Nat.le_of_ble_eq_true rfl) dX0_folkAt_6 (fun H1 locs1 hq1 hS => ?_)
  have hP := PX_same hP (hz_all hq1) hq1
  cases hf
  exact g_iret (Pic := fun H => PX D dT g _ H) E hr hlk hP hS rfl dX0_folkAt_9
set_option maxHeartbeats 4000000 in
noncomputable def fx_game_L15 (x1 : Int32) (μ : nwX) : (Int32 × Int32) → Option ((Int32 × Int32) ⊕ (Int32)) := fun st => (if (nI 8) ≤ st.2 then some (.inr st.1) else (fx_folkAt st.2 μ).bind fun v5 => some (.inl (st.1 ^^^ v5, st.2 + nI 1)))
set_option maxHeartbeats 4000000 in
noncomputable def fx_game_L37 (x1 : Int32) (x2 : Int32) (μ : nwX) : Int32 → Option ((Int32) ⊕ (Int32)) := fun st => (if (nI 8) ≤ st then some (.inr (-1)) else (fx_folkAt st μ).bind fun v9 => (fx_folkAt st μ).bind fun v11 => (if v11 ≤ (v9 ^^^ x2) then some (.inl (st + nI 1)) else (if x1 = 0 then some (.inr st) else (fx_folkAt st μ).bind fun v15 => some (.inr (v15 ^^^ x2)))))
set_option maxHeartbeats 4000000 in
noncomputable def fx_game (x1 : Int32) (μ : nwX) : Option (Int32) := (fi_isIn x1 (nI 0) (nI 1) ()).bind fun v1 => (if v1 = 0 then some (-1) else (wh_ (fx_game_L15 x1 μ) (nI 0, nI 0)).bind fun x6 => wh_ (fx_game_L37 x1 x6 μ) (nI 0))
set_option maxHeartbeats 4000000 in
theorem fx_game_L15_w {p : Program} {l : Launch} {e : Env} {s : State} {m : MethodId} {args : Array Value} {below : List Frame} {meth : Method} {c : Code} {D : va_G} {dT : Nat → ClassId} {Q : State → Prop} {g : Nat} (E : CallFix p m c cX0_game 4 s args lw_all RX0) (hK : va_K D nwCl (nwT dT) s) (hE : EV D dT s) (x1 : Int32) (μ : nwX) {st : Int32 × Int32} {x : Int32} (hw : wh_ (fx_game_L15 x1 μ) st = some x) (hk : (fun x : Int32 => ∀ (ls : Array Slot) (H : Heap) (locs : List Loc), lv_has ls 4 [(0, .ref g), (1, .int x1), (2, .int x)] → PX D dT g μ H → va_S (fun _ => False) s.heap H locs → W p l e (rmd 3) s m args below meth c H locs 0 0 Q (F0 m 35 ls [])) x) : (fun st : Int32 × Int32 => ∀ (ls : Array Slot) (H : Heap) (locs : List Loc), lv_has ls 4 [(0, .ref g), (1, .int x1), (2, .int st.1), (3, .int st.2)] → PX D dT g μ H → va_S (fun _ => False) s.heap H locs → W p l e (rmd 3) s m args below meth c H locs 0 0 Q (F0 m 15 ls [])) st := by
  obtain ⟨hx, hb, hml, hown, hts⟩ := id E
  refine wh_run (P := (fun st : Int32 × Int32 => ∀ (ls : Array Slot) (H : Heap) (locs : List Loc), lv_has ls 4 [(0, .ref g), (1, .int x1), (2, .int st.1), (3, .int st.2)] → PX D dT g μ H → va_S (fun _ => False) s.heap H locs → W p l e (rmd 3) s m args below meth c H locs 0 0 Q (F0 m 15 ls []))) (PE := (fun x : Int32 => ∀ (ls : Array Slot) (H : Heap) (locs : List Loc), lv_has ls 4 [(0, .ref g), (1, .int x1), (2, .int x)] → PX D dT g μ H → va_S (fun _ => False) s.heap H locs → W p l e (rmd 3) s m args below meth c H locs 0 0 Q (F0 m 35 ls []))) ?_ hw hk
  clear hw hk
  intro st x hf hk ls H locs hl hP hS
  refine lv_iload_n hx hb dX0_game_15 rfl (lv_at hl 3 rfl) ?_
  refine lv_bipush (v := nI 8) hx hb dX0_game_16 rfl ?_
  refine lv_icmp_ge (tgt := 35) hx hb dX0_game_18 (by decide) (fun kc3 => ?_) (fun kc3 => ?_)
  · have hf := ite_t kc3 hf
    cases hf
    exact hk _ _ _ (lv_sub hl [0, 1, 2] rfl) hP hS
  · have hf := ite_f kc3 hf
    refine lv_iload_n hx hb dX0_game_21 rfl (lv_at hl 2 rfl) ?_
    refine lv_aload_n hx hb dX0_game_22 rfl (lv_at hl 0 rfl) ?_
    refine lv_iload_n hx hb dX0_game_23 rfl (lv_at hl 3 rfl) ?_
    obtain ⟨v5, hc4, hf⟩ := ob hf
    refine gx_calli E hE (Pic := fun H => PX D dT g μ H) (Pic1 := fun H => PX D dT g μ H) hP hS (fun _ z => z.elim) (As := [.int st.2]) (tx_folkAt l D dT g st.2 μ _ hc4) (g_recv hK hP.1 (shO_g g) rfl) (lw_V q1386 q1388 qs57 q161 q1389) dx_folkAt rfl (by decide) (by decide) hl rfl (Nat.le_of_ble_eq_true rfl) dX0_game_24 (fun H locs hP _ _ hS => ?_)
    refine lv_ixor hx hb dX0_game_27 ?_
    refine lv_istore_n (lv' := [(2, .int (st.1 ^^^ v5)), (0, .ref g), (1, .int x1), (3, .int st.2)]) hx hb dX0_game_28 rfl hl (by decide) rfl (fun ls hl => ?_)
    refine lv_iinc (v := st.2 + nI 1) (lv' := [(3, .int (st.2 + nI 1)), (2, .int (st.1 ^^^ v5)), (0, .ref g), (1, .int x1)]) hx hb dX0_game_29 hl (k := 3) rfl rfl (by decide) rfl (fun ls hl => ?_)
    refine lv_goto (tgt := 15) hx hb dX0_game_32 (by decide) ?_
    cases hf
    exact hk _ _ _ (lv_sub hl [2, 3, 1, 0] rfl) hP hS
set_option maxHeartbeats 4000000 in
theorem fx_game_L37_w {p : Program} {l : Launch} {e : Env} {s : State} {m : MethodId} {args : Array Value} {below : List Frame} {meth : Method} {c : Code} {D : va_G} {dT : Nat → ClassId} {g : Nat} (E : CallFix p m c cX0_game 4 s args lw_all RX0) (hK : va_K D nwCl (nwT dT) s) (hr : meth.sig.returnType = (some .int)) (hlk : meth.locks = false) (hE : EV D dT s) (x1 : Int32) (x2 : Int32) (μ : nwX) {res : Int32} {st : Int32} {x : Int32} (hw : wh_ (fx_game_L37 x1 x2 μ) st = some x) (hk : (fun r : Int32 => r = res) x) : (fun st : Int32 => ∀ (ls : Array Slot) (H : Heap) (locs : List Loc), lv_has ls 4 [(0, .ref g), (1, .int x1), (2, .int x2), (3, .int st)] → PX D dT g μ H → va_S (fun _ => False) s.heap H locs → W p l e (rmd 3) s m args below meth c H locs 0 0 (MQ below (va_Qi (fun r' (_ : Unit) => r' = res) (fun _ t => PX D dT g μ t.heap) (fun _ => False)) args s 0 0 (fun _ => False)) (F0 m 37 ls [])) st := by
  obtain ⟨hx, hb, hml, hown, hts⟩ := id E
  refine wh_run (P := (fun st : Int32 => ∀ (ls : Array Slot) (H : Heap) (locs : List Loc), lv_has ls 4 [(0, .ref g), (1, .int x1), (2, .int x2), (3, .int st)] → PX D dT g μ H → va_S (fun _ => False) s.heap H locs → W p l e (rmd 3) s m args below meth c H locs 0 0 (MQ below (va_Qi (fun r' (_ : Unit) => r' = res) (fun _ t => PX D dT g μ t.heap) (fun _ => False)) args s 0 0 (fun _ => False)) (F0 m 37 ls []))) (PE := (fun r : Int32 => r = res)) ?_ hw hk
  clear hw hk
  intro st x hf hk ls H locs hl hP hS
  refine lv_iload_n hx hb dX0_game_37 rfl (lv_at hl 3 rfl) ?_
  refine lv_bipush (v := nI 8) hx hb dX0_game_38 rfl ?_
  refine lv_icmp_ge (tgt := 80) hx hb dX0_game_40 (by decide) (fun kc7 => ?_) (fun kc7 => ?_)
  · have hf := ite_t kc7 hf
    refine lv_iconst (v := (-1)) hx hb dX0_game_80 rfl ?_
    cases hf
    have hk : (-1) = res := hk
    subst hk
    exact g_iret (Pic := fun H => PX D dT g _ H) E hr hlk hP hS rfl dX0_game_81
  · have hf := ite_f kc7 hf
    refine lv_aload_n hx hb dX0_game_43 rfl (lv_at hl 0 rfl) ?_
    refine lv_iload_n hx hb dX0_game_44 rfl (lv_at hl 3 rfl) ?_
    obtain ⟨v9, hc8, hf⟩ := ob hf
    refine gx_calli E hE (Pic := fun H => PX D dT g μ H) (Pic1 := fun H => PX D dT g μ H) hP hS (fun _ z => z.elim) (As := [.int st]) (tx_folkAt l D dT g st μ _ hc8) (g_recv hK hP.1 (shO_g g) rfl) (lw_V q1386 q1388 qs57 q161 q1389) dx_folkAt rfl (by decide) (by decide) hl rfl (Nat.le_of_ble_eq_true rfl) dX0_game_45 (fun H locs hP _ _ hS => ?_)
    refine lv_iload_n hx hb dX0_game_48 rfl (lv_at hl 2 rfl) ?_
    refine lv_ixor hx hb dX0_game_49 ?_
    refine lv_aload_n hx hb dX0_game_50 rfl (lv_at hl 0 rfl) ?_
    refine lv_iload_n hx hb dX0_game_51 rfl (lv_at hl 3 rfl) ?_
    obtain ⟨v11, hc10, hf⟩ := ob hf
    refine gx_calli E hE (Pic := fun H => PX D dT g μ H) (Pic1 := fun H => PX D dT g μ H) hP hS (fun _ z => z.elim) (As := [.int st]) (tx_folkAt l D dT g st μ _ hc10) (g_recv hK hP.1 (shO_g g) rfl) (lw_V q1386 q1388 qs57 q161 q1389) dx_folkAt rfl (by decide) (by decide) hl rfl (Nat.le_of_ble_eq_true rfl) dX0_game_52 (fun H locs hP _ _ hS => ?_)
    refine lv_icmp_ge (tgt := 74) hx hb dX0_game_55 (by decide) (fun kc12 => ?_) (fun kc12 => ?_)
    · have hf := ite_t kc12 hf
      refine lv_iinc (v := st + nI 1) (lv' := [(3, .int (st + nI 1)), (0, .ref g), (1, .int x1), (2, .int x2)]) hx hb dX0_game_74 hl (k := 3) rfl rfl (by decide) rfl (fun ls hl => ?_)
      refine lv_goto (tgt := 37) hx hb dX0_game_77 (by decide) ?_
      cases hf
      exact hk _ _ _ (lv_sub hl [1, 2, 3, 0] rfl) hP hS
    · have hf := ite_f kc12 hf
      refine lv_iload_n hx hb dX0_game_58 rfl (lv_at hl 1 rfl) ?_
      refine lv_if_ne (tgt := 66) hx hb dX0_game_59 (by decide) (fun kc13 => ?_) (fun kc13 => ?_)
      · have hf := ite_f kc13 hf
        refine lv_aload_n hx hb dX0_game_66 rfl (lv_at hl 0 rfl) ?_
        refine lv_iload_n hx hb dX0_game_67 rfl (lv_at hl 3 rfl) ?_
        obtain ⟨v15, hc14, hf⟩ := ob hf
        refine gx_calli E hE (Pic := fun H => PX D dT g μ H) (Pic1 := fun H => PX D dT g μ H) hP hS (fun _ z => z.elim) (As := [.int st]) (tx_folkAt l D dT g st μ _ hc14) (g_recv hK hP.1 (shO_g g) rfl) (lw_V q1386 q1388 qs57 q161 q1389) dx_folkAt rfl (by decide) (by decide) hl rfl (Nat.le_of_ble_eq_true rfl) dX0_game_68 (fun H locs hP _ _ hS => ?_)
        refine lv_iload_n hx hb dX0_game_71 rfl (lv_at hl 2 rfl) ?_
        refine lv_ixor hx hb dX0_game_72 ?_
        cases hf
        have hk : v15 ^^^ x2 = res := hk
        subst hk
        exact g_iret (Pic := fun H => PX D dT g _ H) E hr hlk hP hS rfl dX0_game_73
      · have hf := ite_t kc13 hf
        refine lv_iload_n hx hb dX0_game_62 rfl (lv_at hl 3 rfl) ?_
        refine lv_goto (tgt := 73) hx hb dX0_game_63 (by decide) ?_
        cases hf
        have hk : st = res := hk
        subst hk
        exact g_iret (Pic := fun H => PX D dT g _ H) E hr hlk hP hS rfl dX0_game_73
set_option maxHeartbeats 4000000 in
theorem dx_game : yX0_game.cls = RX0 ∧ yX0_game.cls ≠ "java/lang/invoke/MethodHandle" ∧ yX0_game.cls ≠ "java/lang/invoke/VarHandle" ∧ (parseMethodDescriptor yX0_game.desc).map (fun d => d.parameters.length) = some 1 := ⟨rfl, by decide +kernel, by decide +kernel, by decide +kernel⟩
set_option maxHeartbeats 4000000 in
theorem tx_game (l : Launch) (D : va_G) (dT : Nat → ClassId) (g : Nat) (x1 : Int32) (μ : nwX) (res : Int32) (hf : fx_game x1 μ = some res) : Met l yX0_game (ws_ yX0_game cX0_game 4 (some .int)) (rmd 3) (va_Pc [.ref g, .int x1] (fun U => PX D dT g μ U.heap ∧ EV D dT U)) (va_Qi (fun r' (_ : Unit) => r' = res) (fun _ t => PX D dT g μ t.heap) (fun _ => False)) 0 0 (fun _ => False) := by
  refine g_met (D := D) (dT := dT) (A := fun _ => False) (own := RX0) (Pic := fun H => PX D dT g μ H) (by decide) rfl (Nat.le_of_ble_eq_true rfl) ?_
  intro p e s m below meth c ls E hE hr hlk hl hP
  have hK := hE.1
  have hS : va_S (fun _ => False) s.heap s.heap [] := va_S.rf
  obtain ⟨hx, hb, hml, hown, hts⟩ := id E
  have hl : lv_has ls 4 [(0, .ref g), (1, .int x1)] := hl
  unfold fx_game at hf
  refine lv_iload_n hx hb dX0_game_0 rfl (lv_at hl 1 rfl) ?_
  refine lv_iconst (v := nI 0) hx hb dX0_game_1 rfl ?_
  refine lv_iconst (v := nI 1) hx hb dX0_game_2 rfl ?_
  obtain ⟨v1, hv1, hf⟩ := ob hf
  refine p_calli E hS (As := [.int x1, .int (nI 0), .int (nI 1)]) (ti_isIn l x1 (nI 0) (nI 1) _ hv1) (lw_S q386 q387 q161 q388) di_isIn rfl (by decide) (by decide) hl rfl (Nat.le_of_ble_eq_true rfl) dX0_game_3 (fun H1 locs1 hq1 hS => ?_)
  have hP := PX_same hP (hz_all hq1) hq1
  refine lv_if_ne (tgt := 11) hx hb dX0_game_6 (by decide) (fun kc2 => ?_) (fun kc2 => ?_)
  · have hf := ite_f kc2 hf
    refine lv_iconst (v := nI 0) hx hb dX0_game_11 rfl ?_
    refine lv_istore_n (lv' := [(2, .int (nI 0)), (0, .ref g), (1, .int x1)]) hx hb dX0_game_12 rfl hl (by decide) rfl (fun ls hl => ?_)
    refine lv_iconst (v := nI 0) hx hb dX0_game_13 rfl ?_
    refine lv_istore_n (lv' := [(3, .int (nI 0)), (2, .int (nI 0)), (0, .ref g), (1, .int x1)]) hx hb dX0_game_14 rfl hl (by decide) rfl (fun ls hl => ?_)
    obtain ⟨x6, hx6, hf⟩ := ob hf
    refine fx_game_L15_w E hK hE x1 μ hx6 (fun ls H locs hl hP hS => ?_) _ _ _ (lv_sub hl [2, 3, 1, 0] rfl) hP hS
    refine lv_iconst (v := nI 0) hx hb dX0_game_35 rfl ?_
    refine lv_istore_n (lv' := [(3, .int (nI 0)), (0, .ref g), (1, .int x1), (2, .int x6)]) hx hb dX0_game_36 rfl hl (by decide) rfl (fun ls hl => ?_)
    exact fx_game_L37_w E hK hr hlk hE x1 x6 μ hf rfl _ _ _ (lv_sub hl [1, 2, 3, 0] rfl) hP hS
  · have hf := ite_t kc2 hf
    refine lv_iconst (v := (-1)) hx hb dX0_game_9 rfl ?_
    cases hf
    exact g_iret (Pic := fun H => PX D dT g _ H) E hr hlk hP hS rfl dX0_game_10
set_option maxHeartbeats 4000000 in
noncomputable def fx_image (x1 : Int32) (μ : nwX) : Option (Int32 × nwX) := (if x1 = 0 then (if (μ.1 9 0) = 0 then some (nI 0, μ) else (if x1 = 0 then (xt_ μ 0 1 (fs_takes (μ.2.1 1) (μ.2.1 0))).bind fun χ20 => (if x1 = 0 then (fx_forgets χ20).bind fun χ24 => (xo_ χ24 (wz_ χ24.1 9 (nI 1))).bind fun χ25 => some (nI 1, χ25) else (xo_ χ20 (wz_ χ20.1 9 (nI 1))).bind fun χ22 => some (nI 1, χ22)) else (xt_ μ 1 0 (fs_takes (μ.2.1 0) (μ.2.1 1))).bind fun χ27 => (if x1 = 0 then (fx_forgets χ27).bind fun χ31 => (xo_ χ31 (wz_ χ31.1 9 (nI 1))).bind fun χ32 => some (nI 1, χ32) else (xo_ χ27 (wz_ χ27.1 9 (nI 1))).bind fun χ29 => some (nI 1, χ29)))) else (if x1 = 0 then (xt_ μ 0 1 (fs_takes (μ.2.1 1) (μ.2.1 0))).bind fun χ4 => (if x1 = 0 then (fx_forgets χ4).bind fun χ8 => (xo_ χ8 (wz_ χ8.1 9 (nI 1))).bind fun χ9 => some (nI 1, χ9) else (xo_ χ4 (wz_ χ4.1 9 (nI 1))).bind fun χ6 => some (nI 1, χ6)) else (xt_ μ 1 0 (fs_takes (μ.2.1 0) (μ.2.1 1))).bind fun χ11 => (if x1 = 0 then (fx_forgets χ11).bind fun χ15 => (xo_ χ15 (wz_ χ15.1 9 (nI 1))).bind fun χ16 => some (nI 1, χ16) else (xo_ χ11 (wz_ χ11.1 9 (nI 1))).bind fun χ13 => some (nI 1, χ13))))
set_option maxHeartbeats 4000000 in
theorem dx_image : yX0_image.cls = RX0 ∧ yX0_image.cls ≠ "java/lang/invoke/MethodHandle" ∧ yX0_image.cls ≠ "java/lang/invoke/VarHandle" ∧ (parseMethodDescriptor yX0_image.desc).map (fun d => d.parameters.length) = some 1 := ⟨rfl, by decide +kernel, by decide +kernel, by decide +kernel⟩
set_option maxHeartbeats 4000000 in
theorem tx_image (l : Launch) (D : va_G) (dT : Nat → ClassId) (g : Nat) (x1 : Int32) (μ : nwX) (res : Int32 × nwX) (hf : fx_image x1 μ = some res) : Met l yX0_image (ws_ yX0_image cX0_image 2 (some .boolean)) (rmd 3) (va_Pc [.ref g, .int x1] (fun U => PX D dT g μ U.heap ∧ EV D dT U)) (va_Qi (fun r' (_ : Unit) => r' = res.1) (fun _ t => PX D dT g res.2 t.heap) (xA g)) 0 0 (xA g) := by
  refine g_met (D := D) (dT := dT) (A := xA g) (own := RX0) (Pic := fun H => PX D dT g μ H) (by decide) rfl (Nat.le_of_ble_eq_true rfl) ?_
  intro p e s m below meth c ls E hE hr hlk hl hP
  have hK := hE.1
  have hS : va_S (xA g) s.heap s.heap [] := va_S.rf
  obtain ⟨hx, hb, hml, hown, hts⟩ := id E
  have hl : lv_has ls 2 [(0, .ref g), (1, .int x1)] := hl
  unfold fx_image at hf
  refine lv_iload_n hx hb dX0_image_0 rfl (lv_at hl 1 rfl) ?_
  refine lv_if_ne (tgt := 13) hx hb dX0_image_1 (by decide) (fun kc1 => ?_) (fun kc1 => ?_)
  · have hf := ite_f kc1 hf
    refine lv_iload_n hx hb dX0_image_13 rfl (lv_at hl 1 rfl) ?_
    refine lv_if_eq (tgt := 31) hx hb dX0_image_14 (by decide) (fun kc2 => ?_) (fun kc2 => ?_)
    · have hf := ite_t kc2 hf
      refine lv_aload_n hx hb dX0_image_31 rfl (lv_at hl 0 rfl) ?_
      refine gp_get (C := RX0) (T := TX0) E hK hP.1 (shO_g g) rfl in_X0 4 (by decide) (hts _ q337) (fun _ z => z) vO_4 dX0_image_32 ?_
      refine lv_aload_n hx hb dX0_image_35 rfl (lv_at hl 0 rfl) ?_
      refine gp_get (C := RX0) (T := TX0) E hK hP.1 (shO_g g) rfl in_X0 5 (by decide) (hts _ q339) (fun _ z => z) vO_5 dX0_image_36 ?_
      obtain ⟨χ4, hc3, hf⟩ := ob hf
      obtain ⟨sχ4, hc3, eχ4⟩ := xt_in hc3
      refine gx_callv E hE (Pic := fun H => PS D dT (skA g 0) (μ.2.1 0) (μ.2.2.2.1 0) H ∧ (PS D dT (skA g 1) (μ.2.1 1) (μ.2.2.2.1 1) H ∧ ∀ q, shS (skA g 1) q ≠ none → ¬ sA (skA g 0) q)) (Pic1 := fun H => PS D dT (skA g 0) sχ4 (μ.2.2.2.1 1) H) ⟨(hP.2.1 0 (by decide)).1, (hP.2.1 1 (by decide)).1, fun q hq1 hq2 => absurd (skA_ap (by decide) (by decide) (shS_in hq1) hq2) (by omega)⟩ hS (fun _ z => xA_s (by decide) z) (As := [.ref (skA g 1)]) (ts_takes l D dT (skA g 0) (μ.2.2.2.1 0) (skA g 1) (μ.2.1 1) (μ.2.2.2.1 1) (μ.2.1 0) _ hc3) (g_recv hK (hP.2.1 0 (by decide)).1 (shS_h _) rfl) (lw_V q1394 q1395 q1396 q162 q1397) ds_takes rfl (by decide) (by decide) hl rfl (Nat.le_of_ble_eq_true rfl) dX0_image_39 (fun H1 locs1 hG hz1 hq1 hS => ?_)
      have hP := PX_think hP (by decide) (by decide) hG hz1 hq1
      rw [← eχ4] at hP
      refine lv_iload_n hx hb dX0_image_42 rfl (lv_at hl 1 rfl) ?_
      refine lv_if_ne (tgt := 50) hx hb dX0_image_43 (by decide) (fun kc5 => ?_) (fun kc5 => ?_)
      · have hf := ite_f kc5 hf
        refine lv_aload_n hx hb dX0_image_50 rfl (lv_at hl 0 rfl) ?_
        refine lv_iconst (v := nI 1) hx hb dX0_image_51 rfl ?_
        obtain ⟨χ6, hχ6, hf⟩ := ob hf
        refine gp_put (C := RX0) (T := TX0) (ty := .boolean) E hK hP.1 hS (xA_o (Or.inl rfl)) (shO_g g) rfl in_X0 tyX0 tyX0_ok nmX0 9 (by decide) (hts _ q343) (fun _ z => z) rfl rfl (zb_nar (xo_wz hχ6).1) (zb_fit (xo_wz hχ6).1) dX0_image_52 (fun H locs hG oq hS => ?_)
        have hP := PX_put hP (by decide) (xo_wz hχ6).2 hG oq (hz_put hG (by rw [shO_g]; exact fun z => by cases z) oq)
        refine lv_iconst (v := nI 1) hx hb dX0_image_55 rfl ?_
        cases hf
        exact g_zret (Pic := fun H => PX D dT g _ H) E hr hlk hP hS rfl dX0_image_56
      · have hf := ite_t kc5 hf
        refine lv_aload_n hx hb dX0_image_46 rfl (lv_at hl 0 rfl) ?_
        obtain ⟨χ8, hc7, hf⟩ := ob hf
        refine gx_callv E hE (Pic := fun H => PX D dT g χ4 H) (Pic1 := fun H => PX D dT g χ8 H) hP hS (fun _ z => z) (As := []) (tx_forgets l D dT g χ4 _ hc7) (g_recv hK hP.1 (shO_g g) rfl) (lw_V q930 q932 qs33 q161 q933) dx_forgets rfl (by decide) (by decide) hl rfl (Nat.le_of_ble_eq_true rfl) dX0_image_47 (fun H locs hP _ _ hS => ?_)
        refine lv_aload_n hx hb dX0_image_50 rfl (lv_at hl 0 rfl) ?_
        refine lv_iconst (v := nI 1) hx hb dX0_image_51 rfl ?_
        obtain ⟨χ9, hχ9, hf⟩ := ob hf
        refine gp_put (C := RX0) (T := TX0) (ty := .boolean) E hK hP.1 hS (xA_o (Or.inl rfl)) (shO_g g) rfl in_X0 tyX0 tyX0_ok nmX0 9 (by decide) (hts _ q343) (fun _ z => z) rfl rfl (zb_nar (xo_wz hχ9).1) (zb_fit (xo_wz hχ9).1) dX0_image_52 (fun H locs hG oq hS => ?_)
        have hP := PX_put hP (by decide) (xo_wz hχ9).2 hG oq (hz_put hG (by rw [shO_g]; exact fun z => by cases z) oq)
        refine lv_iconst (v := nI 1) hx hb dX0_image_55 rfl ?_
        cases hf
        exact g_zret (Pic := fun H => PX D dT g _ H) E hr hlk hP hS rfl dX0_image_56
    · have hf := ite_f kc2 hf
      refine lv_aload_n hx hb dX0_image_17 rfl (lv_at hl 0 rfl) ?_
      refine gp_get (C := RX0) (T := TX0) E hK hP.1 (shO_g g) rfl in_X0 5 (by decide) (hts _ q339) (fun _ z => z) vO_5 dX0_image_18 ?_
      refine lv_aload_n hx hb dX0_image_21 rfl (lv_at hl 0 rfl) ?_
      refine gp_get (C := RX0) (T := TX0) E hK hP.1 (shO_g g) rfl in_X0 4 (by decide) (hts _ q337) (fun _ z => z) vO_4 dX0_image_22 ?_
      obtain ⟨χ11, hc10, hf⟩ := ob hf
      obtain ⟨sχ11, hc10, eχ11⟩ := xt_in hc10
      refine gx_callv E hE (Pic := fun H => PS D dT (skA g 1) (μ.2.1 1) (μ.2.2.2.1 1) H ∧ (PS D dT (skA g 0) (μ.2.1 0) (μ.2.2.2.1 0) H ∧ ∀ q, shS (skA g 0) q ≠ none → ¬ sA (skA g 1) q)) (Pic1 := fun H => PS D dT (skA g 1) sχ11 (μ.2.2.2.1 0) H) ⟨(hP.2.1 1 (by decide)).1, (hP.2.1 0 (by decide)).1, fun q hq1 hq2 => absurd (skA_ap (by decide) (by decide) (shS_in hq1) hq2) (by omega)⟩ hS (fun _ z => xA_s (by decide) z) (As := [.ref (skA g 0)]) (ts_takes l D dT (skA g 1) (μ.2.2.2.1 1) (skA g 0) (μ.2.1 0) (μ.2.2.2.1 0) (μ.2.1 1) _ hc10) (g_recv hK (hP.2.1 1 (by decide)).1 (shS_h _) rfl) (lw_V q1394 q1395 q1396 q162 q1397) ds_takes rfl (by decide) (by decide) hl rfl (Nat.le_of_ble_eq_true rfl) dX0_image_25 (fun H1 locs1 hG hz1 hq1 hS => ?_)
      have hP := PX_think hP (by decide) (by decide) hG hz1 hq1
      rw [← eχ11] at hP
      refine lv_goto (tgt := 42) hx hb dX0_image_28 (by decide) ?_
      refine lv_iload_n hx hb dX0_image_42 rfl (lv_at hl 1 rfl) ?_
      refine lv_if_ne (tgt := 50) hx hb dX0_image_43 (by decide) (fun kc12 => ?_) (fun kc12 => ?_)
      · have hf := ite_f kc12 hf
        refine lv_aload_n hx hb dX0_image_50 rfl (lv_at hl 0 rfl) ?_
        refine lv_iconst (v := nI 1) hx hb dX0_image_51 rfl ?_
        obtain ⟨χ13, hχ13, hf⟩ := ob hf
        refine gp_put (C := RX0) (T := TX0) (ty := .boolean) E hK hP.1 hS (xA_o (Or.inl rfl)) (shO_g g) rfl in_X0 tyX0 tyX0_ok nmX0 9 (by decide) (hts _ q343) (fun _ z => z) rfl rfl (zb_nar (xo_wz hχ13).1) (zb_fit (xo_wz hχ13).1) dX0_image_52 (fun H locs hG oq hS => ?_)
        have hP := PX_put hP (by decide) (xo_wz hχ13).2 hG oq (hz_put hG (by rw [shO_g]; exact fun z => by cases z) oq)
        refine lv_iconst (v := nI 1) hx hb dX0_image_55 rfl ?_
        cases hf
        exact g_zret (Pic := fun H => PX D dT g _ H) E hr hlk hP hS rfl dX0_image_56
      · have hf := ite_t kc12 hf
        refine lv_aload_n hx hb dX0_image_46 rfl (lv_at hl 0 rfl) ?_
        obtain ⟨χ15, hc14, hf⟩ := ob hf
        refine gx_callv E hE (Pic := fun H => PX D dT g χ11 H) (Pic1 := fun H => PX D dT g χ15 H) hP hS (fun _ z => z) (As := []) (tx_forgets l D dT g χ11 _ hc14) (g_recv hK hP.1 (shO_g g) rfl) (lw_V q930 q932 qs33 q161 q933) dx_forgets rfl (by decide) (by decide) hl rfl (Nat.le_of_ble_eq_true rfl) dX0_image_47 (fun H locs hP _ _ hS => ?_)
        refine lv_aload_n hx hb dX0_image_50 rfl (lv_at hl 0 rfl) ?_
        refine lv_iconst (v := nI 1) hx hb dX0_image_51 rfl ?_
        obtain ⟨χ16, hχ16, hf⟩ := ob hf
        refine gp_put (C := RX0) (T := TX0) (ty := .boolean) E hK hP.1 hS (xA_o (Or.inl rfl)) (shO_g g) rfl in_X0 tyX0 tyX0_ok nmX0 9 (by decide) (hts _ q343) (fun _ z => z) rfl rfl (zb_nar (xo_wz hχ16).1) (zb_fit (xo_wz hχ16).1) dX0_image_52 (fun H locs hG oq hS => ?_)
        have hP := PX_put hP (by decide) (xo_wz hχ16).2 hG oq (hz_put hG (by rw [shO_g]; exact fun z => by cases z) oq)
        refine lv_iconst (v := nI 1) hx hb dX0_image_55 rfl ?_
        cases hf
        exact g_zret (Pic := fun H => PX D dT g _ H) E hr hlk hP hS rfl dX0_image_56
  · have hf := ite_t kc1 hf
    refine lv_aload_n hx hb dX0_image_4 rfl (lv_at hl 0 rfl) ?_
    refine gp_get (C := RX0) (T := TX0) E hK hP.1 (shO_g g) rfl in_X0 9 (by decide) (hts _ q343) (fun _ z => z) (vO_i (by decide)) dX0_image_5 ?_
    refine lv_if_ne (tgt := 13) hx hb dX0_image_8 (by decide) (fun kc17 => ?_) (fun kc17 => ?_)
    · have hf := ite_f kc17 hf
      refine lv_iload_n hx hb dX0_image_13 rfl (lv_at hl 1 rfl) ?_
      refine lv_if_eq (tgt := 31) hx hb dX0_image_14 (by decide) (fun kc18 => ?_) (fun kc18 => ?_)
      · have hf := ite_t kc18 hf
        refine lv_aload_n hx hb dX0_image_31 rfl (lv_at hl 0 rfl) ?_
        refine gp_get (C := RX0) (T := TX0) E hK hP.1 (shO_g g) rfl in_X0 4 (by decide) (hts _ q337) (fun _ z => z) vO_4 dX0_image_32 ?_
        refine lv_aload_n hx hb dX0_image_35 rfl (lv_at hl 0 rfl) ?_
        refine gp_get (C := RX0) (T := TX0) E hK hP.1 (shO_g g) rfl in_X0 5 (by decide) (hts _ q339) (fun _ z => z) vO_5 dX0_image_36 ?_
        obtain ⟨χ20, hc19, hf⟩ := ob hf
        obtain ⟨sχ20, hc19, eχ20⟩ := xt_in hc19
        refine gx_callv E hE (Pic := fun H => PS D dT (skA g 0) (μ.2.1 0) (μ.2.2.2.1 0) H ∧ (PS D dT (skA g 1) (μ.2.1 1) (μ.2.2.2.1 1) H ∧ ∀ q, shS (skA g 1) q ≠ none → ¬ sA (skA g 0) q)) (Pic1 := fun H => PS D dT (skA g 0) sχ20 (μ.2.2.2.1 1) H) ⟨(hP.2.1 0 (by decide)).1, (hP.2.1 1 (by decide)).1, fun q hq1 hq2 => absurd (skA_ap (by decide) (by decide) (shS_in hq1) hq2) (by omega)⟩ hS (fun _ z => xA_s (by decide) z) (As := [.ref (skA g 1)]) (ts_takes l D dT (skA g 0) (μ.2.2.2.1 0) (skA g 1) (μ.2.1 1) (μ.2.2.2.1 1) (μ.2.1 0) _ hc19) (g_recv hK (hP.2.1 0 (by decide)).1 (shS_h _) rfl) (lw_V q1394 q1395 q1396 q162 q1397) ds_takes rfl (by decide) (by decide) hl rfl (Nat.le_of_ble_eq_true rfl) dX0_image_39 (fun H1 locs1 hG hz1 hq1 hS => ?_)
        have hP := PX_think hP (by decide) (by decide) hG hz1 hq1
        rw [← eχ20] at hP
        refine lv_iload_n hx hb dX0_image_42 rfl (lv_at hl 1 rfl) ?_
        refine lv_if_ne (tgt := 50) hx hb dX0_image_43 (by decide) (fun kc21 => ?_) (fun kc21 => ?_)
        · have hf := ite_f kc21 hf
          refine lv_aload_n hx hb dX0_image_50 rfl (lv_at hl 0 rfl) ?_
          refine lv_iconst (v := nI 1) hx hb dX0_image_51 rfl ?_
          obtain ⟨χ22, hχ22, hf⟩ := ob hf
          refine gp_put (C := RX0) (T := TX0) (ty := .boolean) E hK hP.1 hS (xA_o (Or.inl rfl)) (shO_g g) rfl in_X0 tyX0 tyX0_ok nmX0 9 (by decide) (hts _ q343) (fun _ z => z) rfl rfl (zb_nar (xo_wz hχ22).1) (zb_fit (xo_wz hχ22).1) dX0_image_52 (fun H locs hG oq hS => ?_)
          have hP := PX_put hP (by decide) (xo_wz hχ22).2 hG oq (hz_put hG (by rw [shO_g]; exact fun z => by cases z) oq)
          refine lv_iconst (v := nI 1) hx hb dX0_image_55 rfl ?_
          cases hf
          exact g_zret (Pic := fun H => PX D dT g _ H) E hr hlk hP hS rfl dX0_image_56
        · have hf := ite_t kc21 hf
          refine lv_aload_n hx hb dX0_image_46 rfl (lv_at hl 0 rfl) ?_
          obtain ⟨χ24, hc23, hf⟩ := ob hf
          refine gx_callv E hE (Pic := fun H => PX D dT g χ20 H) (Pic1 := fun H => PX D dT g χ24 H) hP hS (fun _ z => z) (As := []) (tx_forgets l D dT g χ20 _ hc23) (g_recv hK hP.1 (shO_g g) rfl) (lw_V q930 q932 qs33 q161 q933) dx_forgets rfl (by decide) (by decide) hl rfl (Nat.le_of_ble_eq_true rfl) dX0_image_47 (fun H locs hP _ _ hS => ?_)
          refine lv_aload_n hx hb dX0_image_50 rfl (lv_at hl 0 rfl) ?_
          refine lv_iconst (v := nI 1) hx hb dX0_image_51 rfl ?_
          obtain ⟨χ25, hχ25, hf⟩ := ob hf
          refine gp_put (C := RX0) (T := TX0) (ty := .boolean) E hK hP.1 hS (xA_o (Or.inl rfl)) (shO_g g) rfl in_X0 tyX0 tyX0_ok nmX0 9 (by decide) (hts _ q343) (fun _ z => z) rfl rfl (zb_nar (xo_wz hχ25).1) (zb_fit (xo_wz hχ25).1) dX0_image_52 (fun H locs hG oq hS => ?_)
          have hP := PX_put hP (by decide) (xo_wz hχ25).2 hG oq (hz_put hG (by rw [shO_g]; exact fun z => by cases z) oq)
          refine lv_iconst (v := nI 1) hx hb dX0_image_55 rfl ?_
          cases hf
          exact g_zret (Pic := fun H => PX D dT g _ H) E hr hlk hP hS rfl dX0_image_56
      · have hf := ite_f kc18 hf
        refine lv_aload_n hx hb dX0_image_17 rfl (lv_at hl 0 rfl) ?_
        refine gp_get (C := RX0) (T := TX0) E hK hP.1 (shO_g g) rfl in_X0 5 (by decide) (hts _ q339) (fun _ z => z) vO_5 dX0_image_18 ?_
        refine lv_aload_n hx hb dX0_image_21 rfl (lv_at hl 0 rfl) ?_
        refine gp_get (C := RX0) (T := TX0) E hK hP.1 (shO_g g) rfl in_X0 4 (by decide) (hts _ q337) (fun _ z => z) vO_4 dX0_image_22 ?_
        obtain ⟨χ27, hc26, hf⟩ := ob hf
        obtain ⟨sχ27, hc26, eχ27⟩ := xt_in hc26
        refine gx_callv E hE (Pic := fun H => PS D dT (skA g 1) (μ.2.1 1) (μ.2.2.2.1 1) H ∧ (PS D dT (skA g 0) (μ.2.1 0) (μ.2.2.2.1 0) H ∧ ∀ q, shS (skA g 0) q ≠ none → ¬ sA (skA g 1) q)) (Pic1 := fun H => PS D dT (skA g 1) sχ27 (μ.2.2.2.1 0) H) ⟨(hP.2.1 1 (by decide)).1, (hP.2.1 0 (by decide)).1, fun q hq1 hq2 => absurd (skA_ap (by decide) (by decide) (shS_in hq1) hq2) (by omega)⟩ hS (fun _ z => xA_s (by decide) z) (As := [.ref (skA g 0)]) (ts_takes l D dT (skA g 1) (μ.2.2.2.1 1) (skA g 0) (μ.2.1 0) (μ.2.2.2.1 0) (μ.2.1 1) _ hc26) (g_recv hK (hP.2.1 1 (by decide)).1 (shS_h _) rfl) (lw_V q1394 q1395 q1396 q162 q1397) ds_takes rfl (by decide) (by decide) hl rfl (Nat.le_of_ble_eq_true rfl) dX0_image_25 (fun H1 locs1 hG hz1 hq1 hS => ?_)
        have hP := PX_think hP (by decide) (by decide) hG hz1 hq1
        rw [← eχ27] at hP
        refine lv_goto (tgt := 42) hx hb dX0_image_28 (by decide) ?_
        refine lv_iload_n hx hb dX0_image_42 rfl (lv_at hl 1 rfl) ?_
        refine lv_if_ne (tgt := 50) hx hb dX0_image_43 (by decide) (fun kc28 => ?_) (fun kc28 => ?_)
        · have hf := ite_f kc28 hf
          refine lv_aload_n hx hb dX0_image_50 rfl (lv_at hl 0 rfl) ?_
          refine lv_iconst (v := nI 1) hx hb dX0_image_51 rfl ?_
          obtain ⟨χ29, hχ29, hf⟩ := ob hf
          refine gp_put (C := RX0) (T := TX0) (ty := .boolean) E hK hP.1 hS (xA_o (Or.inl rfl)) (shO_g g) rfl in_X0 tyX0 tyX0_ok nmX0 9 (by decide) (hts _ q343) (fun _ z => z) rfl rfl (zb_nar (xo_wz hχ29).1) (zb_fit (xo_wz hχ29).1) dX0_image_52 (fun H locs hG oq hS => ?_)
          have hP := PX_put hP (by decide) (xo_wz hχ29).2 hG oq (hz_put hG (by rw [shO_g]; exact fun z => by cases z) oq)
          refine lv_iconst (v := nI 1) hx hb dX0_image_55 rfl ?_
          cases hf
          exact g_zret (Pic := fun H => PX D dT g _ H) E hr hlk hP hS rfl dX0_image_56
        · have hf := ite_t kc28 hf
          refine lv_aload_n hx hb dX0_image_46 rfl (lv_at hl 0 rfl) ?_
          obtain ⟨χ31, hc30, hf⟩ := ob hf
          refine gx_callv E hE (Pic := fun H => PX D dT g χ27 H) (Pic1 := fun H => PX D dT g χ31 H) hP hS (fun _ z => z) (As := []) (tx_forgets l D dT g χ27 _ hc30) (g_recv hK hP.1 (shO_g g) rfl) (lw_V q930 q932 qs33 q161 q933) dx_forgets rfl (by decide) (by decide) hl rfl (Nat.le_of_ble_eq_true rfl) dX0_image_47 (fun H locs hP _ _ hS => ?_)
          refine lv_aload_n hx hb dX0_image_50 rfl (lv_at hl 0 rfl) ?_
          refine lv_iconst (v := nI 1) hx hb dX0_image_51 rfl ?_
          obtain ⟨χ32, hχ32, hf⟩ := ob hf
          refine gp_put (C := RX0) (T := TX0) (ty := .boolean) E hK hP.1 hS (xA_o (Or.inl rfl)) (shO_g g) rfl in_X0 tyX0 tyX0_ok nmX0 9 (by decide) (hts _ q343) (fun _ z => z) rfl rfl (zb_nar (xo_wz hχ32).1) (zb_fit (xo_wz hχ32).1) dX0_image_52 (fun H locs hG oq hS => ?_)
          have hP := PX_put hP (by decide) (xo_wz hχ32).2 hG oq (hz_put hG (by rw [shO_g]; exact fun z => by cases z) oq)
          refine lv_iconst (v := nI 1) hx hb dX0_image_55 rfl ?_
          cases hf
          exact g_zret (Pic := fun H => PX D dT g _ H) E hr hlk hP hS rfl dX0_image_56
    · have hf := ite_t kc17 hf
      refine lv_iconst (v := nI 0) hx hb dX0_image_11 rfl ?_
      cases hf
      exact g_zret (Pic := fun H => PX D dT g _ H) E hr hlk hP hS rfl dX0_image_12
