/-! walks, written by my programs -/
set_option maxRecDepth 100000
set_option maxHeartbeats 4000000 in
noncomputable def fr_quenching_L12 (ξ : nwM) : (List nwQ × nwM) → nwR ((List nwQ × nwM) ⊕ (List nwQ × nwM)) := fun st => (if (st.2 3 0) = 0 then some (0, .inr (.inr (st.1, st.2))) else (fi_isIn (st.2 3 0) (nI 30) (nI 34) ()).bind fun v7 => (if v7 = 0 then xq_ (fr_quench ξ st.2) fun r9 => (if (st.1).length ≤ 15 then xn_ 1 (some (0, .inr (.inl (st.1 ++ [r9.1], r9.2)))) else none) else (if (nI (st.1).length) = (nI 16) then some (1, .inl (nI 3, st.2 2 0)) else xq_ (fr_quench ξ st.2) fun r18 => (if (st.1).length ≤ 15 then xn_ 1 (some (0, .inr (.inl (st.1 ++ [r18.1], r18.2)))) else none))))
set_option maxHeartbeats 4000000 in
noncomputable def fr_quenching (ξ : nwM) (μ : nwM) : nwR (List nwQ × nwM) := xn_ 1 ((fr_next ξ μ).bind fun μ4 => xq_ (wc_ (fr_quenching_L12 ξ) (([] : List nwQ), μ4)) fun x26 => some (0, .inr (x26.1, x26.2)))
set_option maxHeartbeats 4000000 in
theorem fr_quenching_L12_w {p : Program} {l : Launch} {e : Env} {s : State} {m : MethodId} {args : Array Value} {below : List Frame} {meth : Method} {c : Code} {D : va_G} {dT : Nat → ClassId} {a g : Nat} {ξ σ : nwM} {β ρ : Nat → Nat} {Z : nwZ} {sz N nr : Nat} {Qc : Array Value → State → Outcome → State → Prop} {γ : Type} {out : nwF ⊕ γ} (hst : l.stackTraces = false) (E : CallFix p m c cX3_quenching 2 s args lw_all RX3) (hE : EV D dT s) (hB : RB D dT a g ξ β σ ρ Z s) (hsz : s.heap.size = sz) (hasz : a < sz) (ht : ∀ x ∈ c.exceptionTable.toList, False) (hlk : meth.locks = false) {st : List nwQ × nwM} {n : Nat} {x : nwF ⊕ (List nwQ × nwM)} (hw : wc_ (fr_quenching_L12 ξ) st = some (n, x)) (hfin : (Sum.elim (fun fl => out = .inl fl) (fun (r : List nwQ × nwM) => ∀ (b1_ : Nat) (ls : Array Slot) (H : Heap) (locs : List Loc) (cells slots : Nat), lv_has ls 2 [(1, .ref b1_)] → LF D dT Z (oQu D) sz r.1 b1_ H → RD D a g r.2 H → va_S (nA a sz) s.heap H locs → cells + nr ≤ N → slots + 24 * nr ≤ 24 * N → W p l e (rmc 12 N) s m args below meth c H locs cells slots (nx_MQ below Qc (XcR D (nA a sz) out) args s N (24 * N) (nA a sz)) (F0 m 67 ls []))) x) : (fun (st : List nwQ × nwM) (n : Nat) => ∀ (b1_ : Nat) (ls : Array Slot) (H : Heap) (locs : List Loc) (cells slots : Nat), lv_has ls 2 [(0, .ref a), (1, .ref b1_)] → LF D dT Z (oQu D) sz st.1 b1_ H → RD D a g st.2 H → va_S (nA a sz) s.heap H locs → cells + (n + nr) ≤ N → slots + 24 * (n + nr) ≤ 24 * N → W p l e (rmc 12 N) s m args below meth c H locs cells slots (nx_MQ below Qc (XcR D (nA a sz) out) args s N (24 * N) (nA a sz)) (F0 m 12 ls [])) st n := by
  obtain ⟨hx, hb, hml, hown, hts⟩ := id E
  have hK := hE.1
  have hA : ∀ q, nA a sz q → q = a ∨ s.heap.size ≤ q := fun q z => by rw [hsz]; exact z
  have hZa := hB.2.2.2.2.1
  have hE0 : Z.2.2.1 < sz := SV_e0 hB.2.2.1 hsz
  refine wc_run (S := (fun (st : List nwQ × nwM) (n : Nat) => ∀ (b1_ : Nat) (ls : Array Slot) (H : Heap) (locs : List Loc) (cells slots : Nat), lv_has ls 2 [(0, .ref a), (1, .ref b1_)] → LF D dT Z (oQu D) sz st.1 b1_ H → RD D a g st.2 H → va_S (nA a sz) s.heap H locs → cells + (n + nr) ≤ N → slots + 24 * (n + nr) ≤ 24 * N → W p l e (rmc 12 N) s m args below meth c H locs cells slots (nx_MQ below Qc (XcR D (nA a sz) out) args s N (24 * N) (nA a sz)) (F0 m 12 ls []))) (fin := (Sum.elim (fun fl => out = .inl fl) (fun (r : List nwQ × nwM) => ∀ (b1_ : Nat) (ls : Array Slot) (H : Heap) (locs : List Loc) (cells slots : Nat), lv_has ls 2 [(1, .ref b1_)] → LF D dT Z (oQu D) sz r.1 b1_ H → RD D a g r.2 H → va_S (nA a sz) s.heap H locs → cells + nr ≤ N → slots + 24 * nr ≤ 24 * N → W p l e (rmc 12 N) s m args below meth c H locs cells slots (nx_MQ below Qc (XcR D (nA a sz) out) args s N (24 * N) (nA a sz)) (F0 m 67 ls [])))) ?_ hw hfin
  clear hw hfin
  intro st m1 y n1 hf hk b1_ ls H locs cells slots hl hT1_ hP hS hC1 hC2
  have hzs := hS.1
  have hf : ((if (st.2 3 0) = 0 then some (0, .inr (.inr (st.1, st.2))) else (fi_isIn (st.2 3 0) (nI 30) (nI 34) ()).bind fun v7 => (if v7 = 0 then xq_ (fr_quench ξ st.2) fun r9 => (if (st.1).length ≤ 15 then xn_ 1 (some (0, .inr (.inl (st.1 ++ [r9.1], r9.2)))) else none) else (if (nI (st.1).length) = (nI 16) then some (1, .inl (nI 3, st.2 2 0)) else xq_ (fr_quench ξ st.2) fun r18 => (if (st.1).length ≤ 15 then xn_ 1 (some (0, .inr (.inl (st.1 ++ [r18.1], r18.2)))) else none))))) = some (m1, y) := hf
  refine lv_aload_n hx hb dX3_quenching_12 rfl (lv_at hl 0 rfl) ?_
  refine gp_get (C := RX3) (T := TX3) E hK (oneO (dT := dT) hP) (if_pos rfl) rfl in_X3 3 (by decide) (hts _ q407) (fun _ z => z) (v := .int (st.2 3 0)) rfl dX3_quenching_13 ?_
  refine lv_if_eq (tgt := 67) hx hb dX3_quenching_16 (by decide) (fun kc6 => ?_) (fun kc6 => ?_)
  · have hf := ite_t kc6 hf
    cases hf
    obtain ⟨hn0, hk⟩ := hk
    exact hk _ _ _ _ _ _ (lv_sub hl [1] rfl) hT1_ hP hS (by omega) (by omega)
  · have hf := ite_f kc6 hf
    refine lv_aload_n hx hb dX3_quenching_19 rfl (lv_at hl 0 rfl) ?_
    refine gp_get (C := RX3) (T := TX3) E hK (oneO (dT := dT) hP) (if_pos rfl) rfl in_X3 3 (by decide) (hts _ q407) (fun _ z => z) (v := .int (st.2 3 0)) rfl dX3_quenching_20 ?_
    refine lv_bipush (v := nI 30) hx hb dX3_quenching_23 rfl ?_
    refine lv_bipush (v := nI 34) hx hb dX3_quenching_25 rfl ?_
    obtain ⟨v7, hv7, hf⟩ := ob hf
    refine k_siN (Pic := fun _ => True) (Pic1 := fun _ => True) (A1 := fun _ => False) E hS (fun _ _ z => z.elim) (fun _ z => z.elim) (As := [.int (st.2 3 0), .int (nI 30), .int (nI 34)]) (ti_isIn l (st.2 3 0) (nI 30) (nI 34) _ hv7) (fun _ _ _ _ h => h) (fun _ _ _ => trivial) (nmw_1 hE.2) q161 q387 q388 di_isIn rfl ⟨rfl, rfl⟩ (rmcd_ok (by decide) (by decide)) ⟨show _ ≤ N by omega, show _ ≤ 24 * N by omega⟩ hl rfl (Nat.le_of_ble_eq_true rfl) dX3_quenching_27 (fun H locs _ _ hq1 hS => ?_)
    have hkp := kp_pureF (a := a) hq1
    have hP := RD_same hP (fun q z => hq1 q z (fun y => y))
    have hT1_ := LF_kp (gK_Q D) hasz hkp hT1_
    have hzs := hS.1
    refine lv_if_eq (tgt := 55) hx hb dX3_quenching_30 (by decide) (fun kc8 => ?_) (fun kc8 => ?_)
    · have hf := ite_t kc8 hf
      refine lv_aload_n hx hb dX3_quenching_55 rfl (lv_at hl 1 rfl) ?_
      refine lv_aload_n hx hb dX3_quenching_56 rfl (lv_at hl 0 rfl) ?_
      obtain ⟨ed, els, hLB, hed, hal, hPE⟩ := hT1_
      rcases xq_in hf with ⟨f13, hc12, hx1⟩ | ⟨m10, r9, n11, hc12, hf, en11⟩
      · subst hx1
        obtain ⟨-, hk⟩ := hk
        have hk : out = .inl _ := hk
        subst hk
        exact x_thrV (A1 := nA a H.size) E hS (fun _ _ z => nA_le hsz hzs z) (fun _ z => nA_le hsz hzs z) (As := []) (tr_quench l hst D dT a g ξ β σ ρ Z H.size st.2 (_, .inl f13) hc12) (fun _ _ _ _ z => z) RQ_bl (RQ_pre hB hP hS hA) (RD_recv hK hP) (lw_V q806 q808 qs28 q167 q809) dr_quench rfl (by omega) (by decide) (by omega) (by omega) ht hlk hl rfl (Nat.le_of_ble_eq_true rfl) dX3_quenching_57
      · skip
        refine k_vr (Pic := RQ D dT a g ξ β σ ρ Z H.size st.2) (PicR := fun b H1 => (pvG (oQu D) H.size) r9.1 b H1 ∧ RD D a g r9.2 H1) (A1 := nA a H.size) E hS (fun _ _ z => nA_le hsz hzs z) (fun _ z => nA_le hsz hzs z) (As := []) (nx_met (tr_quench l hst D dT a g ξ β σ ρ Z H.size st.2 (_, .inr r9) hc12)) RQ_bl (RQ_pre hB hP hS hA) (RD_recv hK hP) (lw_V q806 q808 qs28 q167 q809) dr_quench rfl ⟨rfl, rfl⟩ (rmc_ok (by omega) (by decide)) ⟨show _ ≤ N by omega, show _ ≤ 24 * N by omega⟩ hl rfl (Nat.le_of_ble_eq_true rfl) dX3_quenching_57 (fun b14 H locs hR hz1 hq1 hS => ?_)
        obtain ⟨hT14, hP⟩ := hR
        obtain ⟨hlal, hled⟩ := LB_lt hLB (by omega)
        have hT14 : oQu D r9.1 (fz sz [ed, b1_]) b14 H := wkG (gK_Q D) (by omega) (by intro z hz; simp only [List.mem_cons, List.not_mem_nil, or_false] at hz; rcases hz with rfl | rfl <;> assumption) hT14
        have hkp := kp_call hq1
        have hPE := kpG (gK_E (gK_Q D)) (Or.inl hasz) hkp hPE
        have hLB := LB_kp hLB hkp (by omega) (fun _ => by omega)
        have hzs := hS.1
        obtain ⟨hl15, hf⟩ := ite_s hf
        obtain ⟨n15, hf, en15⟩ := xn_in hf
        refine k_vi (Pic := AU D dT Z b1_ ed els b14 H.size) (Pic1 := fun H1 => AR D dT Z b1_ ed els b14 H.size H1) (A1 := lA Z.2.2.1 b1_ ed H.size) E hS (fun _ _ z => lA_nA hal hed (by omega) z) (fun _ z => lA_nA hal hed (by omega) z) (As := [.ref b14]) (tl_ad l D dT Z b1_ ed els b14 H.size) AU_bl (AU_pre (gI_Q D) hLB hPE hl15 hT14 hE (RB_sv hB hS hA) (by omega)) (LB_recv hK hLB) (lw_V q737 q738 q739 q165 q740) dl_ad rfl ⟨rfl, rfl⟩ (rmc_ok (by decide) (by decide)) ⟨show _ ≤ N by omega, show _ ≤ 24 * N by omega⟩ hl rfl (Nat.le_of_ble_eq_true rfl) dX3_quenching_60 (fun H locs hR _ hq1 hS => ?_)
        have hP := RD_q hP (hq1 a (RD_lt hP) (not_lA hasz hal hed (by omega)))
        have hT16 := LF_add (gK_Q D) hPE hT14 hR hq1 hed hal (by omega)
        have hzs := hS.1
        refine lv_pop hx hb dX3_quenching_63 rfl ?_
        refine lv_goto (tgt := 12) hx hb dX3_quenching_64 (by decide) ?_
        cases hf
        exact hk _ _ _ _ _ _ (lv_sub hl [0, 1] rfl) hT16 hP hS (by omega) (by omega)
    · have hf := ite_f kc8 hf
      refine lv_aload_n hx hb dX3_quenching_33 rfl (lv_at hl 1 rfl) ?_
      obtain ⟨ed, els, hLB, hed, hal, hPE⟩ := hT1_
      refine k_vi (Pic := fun U => AL D dT nN b1_ els U.heap ∧ EV D dT U) (Pic1 := fun _ => True) (A1 := nN) E hS (fun _ _ z => z.elim) (fun _ z => z.elim) (As := []) (tj_size l D dT b1_ els) sz_bl (fun U hU hW => ⟨by rw [hU]; exact LB_AL hLB, hE.warm hW⟩) (LB_recv hK hLB) (lw_V q629 q630 q631 q165 q632) dj_size rfl ⟨rfl, rfl⟩ (rmcd_ok (by decide) (by decide)) ⟨show _ ≤ N by omega, show _ ≤ 24 * N by omega⟩ hl rfl (Nat.le_of_ble_eq_true rfl) dX3_quenching_34 (fun H locs _ _ hq1 hS => ?_)
      have hkp := kp_pureF (a := a) hq1
      have hP := RD_same hP (fun q z => hq1 q z (fun y => y))
      have hPE := kpG (gK_E (gK_Q D)) (Or.inl hasz) hkp hPE
      have hLB := LB_kp hLB hkp (by omega) (fun _ => by omega)
      have hzs := hS.1
      refine lv_nm (congrArg nI hPE.1) ?_
      refine lv_bipush (v := nI 16) hx hb dX3_quenching_37 rfl ?_
      refine lv_icmp_ne (tgt := 55) hx hb dX3_quenching_39 (by decide) (fun kc17 => ?_) (fun kc17 => ?_)
      · have hf := ite_f kc17 hf
        refine lv_aload_n hx hb dX3_quenching_55 rfl (lv_at hl 1 rfl) ?_
        refine lv_aload_n hx hb dX3_quenching_56 rfl (lv_at hl 0 rfl) ?_
        rcases xq_in hf with ⟨f22, hc21, hx1⟩ | ⟨m19, r18, n20, hc21, hf, en20⟩
        · subst hx1
          obtain ⟨-, hk⟩ := hk
          have hk : out = .inl _ := hk
          subst hk
          exact x_thrV (A1 := nA a H.size) E hS (fun _ _ z => nA_le hsz hzs z) (fun _ z => nA_le hsz hzs z) (As := []) (tr_quench l hst D dT a g ξ β σ ρ Z H.size st.2 (_, .inl f22) hc21) (fun _ _ _ _ z => z) RQ_bl (RQ_pre hB hP hS hA) (RD_recv hK hP) (lw_V q806 q808 qs28 q167 q809) dr_quench rfl (by omega) (by decide) (by omega) (by omega) ht hlk hl rfl (Nat.le_of_ble_eq_true rfl) dX3_quenching_57
        · skip
          refine k_vr (Pic := RQ D dT a g ξ β σ ρ Z H.size st.2) (PicR := fun b H1 => (pvG (oQu D) H.size) r18.1 b H1 ∧ RD D a g r18.2 H1) (A1 := nA a H.size) E hS (fun _ _ z => nA_le hsz hzs z) (fun _ z => nA_le hsz hzs z) (As := []) (nx_met (tr_quench l hst D dT a g ξ β σ ρ Z H.size st.2 (_, .inr r18) hc21)) RQ_bl (RQ_pre hB hP hS hA) (RD_recv hK hP) (lw_V q806 q808 qs28 q167 q809) dr_quench rfl ⟨rfl, rfl⟩ (rmc_ok (by omega) (by decide)) ⟨show _ ≤ N by omega, show _ ≤ 24 * N by omega⟩ hl rfl (Nat.le_of_ble_eq_true rfl) dX3_quenching_57 (fun b23 H locs hR hz1 hq1 hS => ?_)
          obtain ⟨hT23, hP⟩ := hR
          obtain ⟨hlal, hled⟩ := LB_lt hLB (by omega)
          have hT23 : oQu D r18.1 (fz sz [ed, b1_]) b23 H := wkG (gK_Q D) (by omega) (by intro z hz; simp only [List.mem_cons, List.not_mem_nil, or_false] at hz; rcases hz with rfl | rfl <;> assumption) hT23
          have hkp := kp_call hq1
          have hPE := kpG (gK_E (gK_Q D)) (Or.inl hasz) hkp hPE
          have hLB := LB_kp hLB hkp (by omega) (fun _ => by omega)
          have hzs := hS.1
          obtain ⟨hl15, hf⟩ := ite_s hf
          obtain ⟨n24, hf, en24⟩ := xn_in hf
          refine k_vi (Pic := AU D dT Z b1_ ed els b23 H.size) (Pic1 := fun H1 => AR D dT Z b1_ ed els b23 H.size H1) (A1 := lA Z.2.2.1 b1_ ed H.size) E hS (fun _ _ z => lA_nA hal hed (by omega) z) (fun _ z => lA_nA hal hed (by omega) z) (As := [.ref b23]) (tl_ad l D dT Z b1_ ed els b23 H.size) AU_bl (AU_pre (gI_Q D) hLB hPE hl15 hT23 hE (RB_sv hB hS hA) (by omega)) (LB_recv hK hLB) (lw_V q737 q738 q739 q165 q740) dl_ad rfl ⟨rfl, rfl⟩ (rmc_ok (by decide) (by decide)) ⟨show _ ≤ N by omega, show _ ≤ 24 * N by omega⟩ hl rfl (Nat.le_of_ble_eq_true rfl) dX3_quenching_60 (fun H locs hR _ hq1 hS => ?_)
          have hP := RD_q hP (hq1 a (RD_lt hP) (not_lA hasz hal hed (by omega)))
          have hT25 := LF_add (gK_Q D) hPE hT23 hR hq1 hed hal (by omega)
          have hzs := hS.1
          refine lv_pop hx hb dX3_quenching_63 rfl ?_
          refine lv_goto (tgt := 12) hx hb dX3_quenching_64 (by decide) ?_
          cases hf
          exact hk _ _ _ _ _ _ (lv_sub hl [0, 1] rfl) hT25 hP hS (by omega) (by omega)
      · have hf := ite_t kc17 hf
        cases hf
        obtain ⟨-, hk⟩ := hk
        have hk : out = .inl _ := hk
        subst hk
        exact r_throw hst E hB ht hlk hP hS hsz hl (lv_at hl 0 rfl) (by omega) (by omega) (by omega) dX3_quenching_42 dX3_quenching_45 dX3_quenching_46 rfl dX3_quenching_47 dX3_quenching_48 dX3_quenching_51 dX3_quenching_54
set_option maxHeartbeats 4000000 in
theorem tr_quenching (l : Launch) (hst : l.stackTraces = false) (D : va_G) (dT : Nat → ClassId) (a g : Nat) (ξ : nwM) (β : Nat → Nat) (σ : nwM) (ρ : Nat → Nat) (Z : nwZ) (sz : Nat) (μ : nwM) (res : Nat × (nwF ⊕ (List nwQ × nwM))) (hf : fr_quenching ξ μ = some res) : nx_Met l yX3_quenching (ws_ yX3_quenching cX3_quenching 2 (some (.object "java/util/ArrayList"))) (rmc (12) res.1) (va_Pc [.ref a] (RQ D dT a g ξ β σ ρ Z sz μ)) (QcR D a g (nA a sz) (pvL D dT Z (oQu D) sz) res.2) (XcR D (nA a sz) res.2) res.1 (24 * res.1) (nA a sz) := by
  obtain ⟨N, out⟩ := res
  refine x_met (own := RX3) (by decide) rfl (Nat.le_of_ble_eq_true rfl) ?_
  intro p e s m below meth c ls E hP hr hlk ht hl
  obtain ⟨⟨hP, hB⟩, hsz⟩ := hP
  have hE := hB.2.1
  have hK := hE.1
  have hasz : a < sz := by rw [← hsz]; exact RD_lt hP
  have hA : ∀ q, nA a sz q → q = a ∨ s.heap.size ≤ q := fun q z => by rw [hsz]; exact z
  have hZa := hB.2.2.2.2.1
  have hE0 : Z.2.2.1 < sz := SV_e0 hB.2.2.1 hsz
  have hS : va_S (nA a sz) s.heap s.heap [] := va_S.rf
  have hzs := hS.1
  obtain ⟨hx, hb, hml, hown, hts⟩ := id E
  have hl : lv_has ls 2 [(0, .ref a)] := hl
  obtain ⟨H, hH⟩ : ∃ z, z = s.heap := ⟨_, rfl⟩
  rw [← hH] at hP
  have hS : va_S (nA a sz) s.heap H [] := by rw [hH]; exact va_S.rf
  show W p l e (rmc (12) N) s m _ below meth c s.heap [] 0 0 (nx_MQ below (QcR D a g (nA a sz) (pvL D dT Z (oQu D) sz) out) (XcR D (nA a sz) out) _ s N (24 * N) (nA a sz)) (F0 m 0 ls [])
  rw [← hH]
  have hzs := hS.1
  have hf : (xn_ 1 ((fr_next ξ μ).bind fun μ4 => xq_ (wc_ (fr_quenching_L12 ξ) (([] : List nwQ), μ4)) fun x26 => some (0, .inr (x26.1, x26.2)))) = some (N, out) := hf
  obtain ⟨n2, hf, en2⟩ := xn_in hf
  obtain ⟨q1, hqq1⟩ : ∃ z, z = H.size := ⟨_, rfl⟩
  refine x_new (B := 24) (C := RJ2) (T := TJ2) E hK (ci := 16) rfl in_J2 tyJ2 tyJ2_ok q430 q212 q165 [.int 0, .null, .int 0] (by decide) (by decide) (show _ ≤ N by omega) (show _ ≤ 24 * N by omega) dX3_quenching_0 (fun H hO1 z1 o1 => ?_)
  have hkp := kp_pure (a := a) o1
  have hP := RD_same hP o1
  have hzs := hS.1
  have hsq1 : sz ≤ q1 := by omega
  have hS := S_new hS z1 o1
  rw [← hqq1] at hO1 ⊢
  have hlq1 : q1 < H.size := by omega
  clear hkp z1 o1
  have hzs := hS.1
  refine lv_dup hx hb dX3_quenching_3 rfl ?_
  refine k_iv (Pic := aLP D dT Z q1) (Pic1 := fun H => LB D dT Z.2.2.1 q1 Z.2.2.1 [] H) (A1 := eqA q1) E hS (fun z _ ez => Or.inr (by rw [show z = q1 from ez]; omega)) (fun z ez => Or.inr (by rw [show z = q1 from ez]; omega)) (As := []) (tl_init l D dT Z q1) aLP_bl (aLP_pre hO1 hE (RB_sv hB hS hA) (by omega)) q431 q214 q165 q215 rfl dl_init rfl ⟨rfl, rfl⟩ (rmcd_ok (by decide) (by decide)) ⟨show _ ≤ N by omega, show _ ≤ 24 * N by omega⟩ hl rfl (Nat.le_of_ble_eq_true rfl) dX3_quenching_4 (fun H locs hLB hz1 hq1 hS => ?_)
  have hkp := kp_init hq1
  have hP := RD_kp hP hkp (by omega)
  have hzs := hS.1
  have hT3 : LF D dT Z (oQu D) sz ([] : List nwQ) q1 H := LF_nil hLB (by omega)
  refine lv_astore_n (lv' := [(1, .ref q1), (0, .ref a)]) hx hb dX3_quenching_7 rfl hl (by decide) rfl (fun ls hl => ?_)
  refine lv_aload_n hx hb dX3_quenching_8 rfl (lv_at hl 1 rfl) ?_
  obtain ⟨μ4, hc5, hf⟩ := ob hf
  refine k_vv (Pic := RP D dT a g ξ β σ ρ Z μ) (Pic1 := fun H => RD D a g μ4 H) (A1 := rA a) E hS (fun _ _ z => Or.inl z) (fun _ z => Or.inl z) (As := []) (tr_next l D dT a g ξ β σ ρ Z μ _ hc5) RP_bl (RP_pre hB hP hS hA) (RD_recv hK hP) (lw_V q432 q434 qs2 q167 q435) dr_next rfl ⟨rfl, rfl⟩ (rmcd_ok (by decide) (by decide)) ⟨show _ ≤ N by omega, show _ ≤ 24 * N by omega⟩ hl rfl (Nat.le_of_ble_eq_true rfl) dX3_quenching_9 (fun H locs hP _ hq1 hS => ?_)
  have hkp := kp_call0 hq1
  have hT3 := LF_kp (gK_Q D) hasz hkp hT3
  have hzs := hS.1
  rcases xq_in hf with ⟨f30, hw29, hx1⟩ | ⟨m27, x26, n28, hw29, hf, en28⟩
  · subst hx1
    exact fr_quenching_L12_w (nr := 0) hst E hE hB hsz hasz ht hlk hw29 rfl _ _ _ _ _ _ (lv_sub hl [1, 0] rfl) hT3 hP hS (by omega) (by omega)
  · refine fr_quenching_L12_w (nr := n28) hst E hE hB hsz hasz ht hlk hw29 (fun b31 ls H locs cells slots hl hT31 hP hS hC1 hC2 => ?_) _ _ _ _ _ _ (lv_sub hl [1, 0] rfl) hT3 hP hS (by omega) (by omega)
    have hzs := hS.1
    refine lv_aload_n hx hb dX3_quenching_67 rfl (lv_at hl 0 rfl) ?_
    cases hf
    exact x_aret (PV := pvL D dT Z (oQu D) sz) E hr hlk hT31 hP hS (by omega) (by omega) dX3_quenching_68
set_option maxHeartbeats 4000000 in
noncomputable def fr_wants_L12 (ξ : nwM) : (List nwW × nwM) → nwR ((List nwW × nwM) ⊕ (List nwW × nwM)) := fun st => (if (st.2 3 0) = 0 then some (0, .inr (.inr (st.1, st.2))) else (if (st.2 3 0) = (nI 12) then (if (nI (st.1).length) = (nI 10) then some (1, .inl (nI 3, st.2 2 0)) else xq_ (fr_want ξ st.2) fun r9 => (if (st.1).length ≤ 15 then xn_ 1 (some (0, .inr (.inl (st.1 ++ [r9.1], r9.2)))) else none)) else some (1, .inl (nI 1, st.2 2 0))))
set_option maxHeartbeats 4000000 in
noncomputable def fr_wants (ξ : nwM) (μ : nwM) : nwR (List nwW × nwM) := xn_ 1 ((fr_next ξ μ).bind fun μ4 => xq_ (wc_ (fr_wants_L12 ξ) (([] : List nwW), μ4)) fun x17 => some (0, .inr (x17.1, x17.2)))
set_option maxHeartbeats 4000000 in
theorem fr_wants_L12_w {p : Program} {l : Launch} {e : Env} {s : State} {m : MethodId} {args : Array Value} {below : List Frame} {meth : Method} {c : Code} {D : va_G} {dT : Nat → ClassId} {a g : Nat} {ξ σ : nwM} {β ρ : Nat → Nat} {Z : nwZ} {sz N nr : Nat} {Qc : Array Value → State → Outcome → State → Prop} {γ : Type} {out : nwF ⊕ γ} (hst : l.stackTraces = false) (E : CallFix p m c cX3_wants 2 s args lw_all RX3) (hE : EV D dT s) (hB : RB D dT a g ξ β σ ρ Z s) (hsz : s.heap.size = sz) (hasz : a < sz) (ht : ∀ x ∈ c.exceptionTable.toList, False) (hlk : meth.locks = false) {st : List nwW × nwM} {n : Nat} {x : nwF ⊕ (List nwW × nwM)} (hw : wc_ (fr_wants_L12 ξ) st = some (n, x)) (hfin : (Sum.elim (fun fl => out = .inl fl) (fun (r : List nwW × nwM) => ∀ (b1_ : Nat) (ls : Array Slot) (H : Heap) (locs : List Loc) (cells slots : Nat), lv_has ls 2 [(1, .ref b1_)] → LF D dT Z (oWa D) sz r.1 b1_ H → RD D a g r.2 H → va_S (nA a sz) s.heap H locs → cells + nr ≤ N → slots + 24 * nr ≤ 24 * N → W p l e (rmc 12 N) s m args below meth c H locs cells slots (nx_MQ below Qc (XcR D (nA a sz) out) args s N (24 * N) (nA a sz)) (F0 m 75 ls []))) x) : (fun (st : List nwW × nwM) (n : Nat) => ∀ (b1_ : Nat) (ls : Array Slot) (H : Heap) (locs : List Loc) (cells slots : Nat), lv_has ls 2 [(0, .ref a), (1, .ref b1_)] → LF D dT Z (oWa D) sz st.1 b1_ H → RD D a g st.2 H → va_S (nA a sz) s.heap H locs → cells + (n + nr) ≤ N → slots + 24 * (n + nr) ≤ 24 * N → W p l e (rmc 12 N) s m args below meth c H locs cells slots (nx_MQ below Qc (XcR D (nA a sz) out) args s N (24 * N) (nA a sz)) (F0 m 12 ls [])) st n := by
  obtain ⟨hx, hb, hml, hown, hts⟩ := id E
  have hK := hE.1
  have hA : ∀ q, nA a sz q → q = a ∨ s.heap.size ≤ q := fun q z => by rw [hsz]; exact z
  have hZa := hB.2.2.2.2.1
  have hE0 : Z.2.2.1 < sz := SV_e0 hB.2.2.1 hsz
  refine wc_run (S := (fun (st : List nwW × nwM) (n : Nat) => ∀ (b1_ : Nat) (ls : Array Slot) (H : Heap) (locs : List Loc) (cells slots : Nat), lv_has ls 2 [(0, .ref a), (1, .ref b1_)] → LF D dT Z (oWa D) sz st.1 b1_ H → RD D a g st.2 H → va_S (nA a sz) s.heap H locs → cells + (n + nr) ≤ N → slots + 24 * (n + nr) ≤ 24 * N → W p l e (rmc 12 N) s m args below meth c H locs cells slots (nx_MQ below Qc (XcR D (nA a sz) out) args s N (24 * N) (nA a sz)) (F0 m 12 ls []))) (fin := (Sum.elim (fun fl => out = .inl fl) (fun (r : List nwW × nwM) => ∀ (b1_ : Nat) (ls : Array Slot) (H : Heap) (locs : List Loc) (cells slots : Nat), lv_has ls 2 [(1, .ref b1_)] → LF D dT Z (oWa D) sz r.1 b1_ H → RD D a g r.2 H → va_S (nA a sz) s.heap H locs → cells + nr ≤ N → slots + 24 * nr ≤ 24 * N → W p l e (rmc 12 N) s m args below meth c H locs cells slots (nx_MQ below Qc (XcR D (nA a sz) out) args s N (24 * N) (nA a sz)) (F0 m 75 ls [])))) ?_ hw hfin
  clear hw hfin
  intro st m1 y n1 hf hk b1_ ls H locs cells slots hl hT1_ hP hS hC1 hC2
  have hzs := hS.1
  have hf : ((if (st.2 3 0) = 0 then some (0, .inr (.inr (st.1, st.2))) else (if (st.2 3 0) = (nI 12) then (if (nI (st.1).length) = (nI 10) then some (1, .inl (nI 3, st.2 2 0)) else xq_ (fr_want ξ st.2) fun r9 => (if (st.1).length ≤ 15 then xn_ 1 (some (0, .inr (.inl (st.1 ++ [r9.1], r9.2)))) else none)) else some (1, .inl (nI 1, st.2 2 0))))) = some (m1, y) := hf
  refine lv_aload_n hx hb dX3_wants_12 rfl (lv_at hl 0 rfl) ?_
  refine gp_get (C := RX3) (T := TX3) E hK (oneO (dT := dT) hP) (if_pos rfl) rfl in_X3 3 (by decide) (hts _ q407) (fun _ z => z) (v := .int (st.2 3 0)) rfl dX3_wants_13 ?_
  refine lv_if_eq (tgt := 75) hx hb dX3_wants_16 (by decide) (fun kc6 => ?_) (fun kc6 => ?_)
  · have hf := ite_t kc6 hf
    cases hf
    obtain ⟨hn0, hk⟩ := hk
    exact hk _ _ _ _ _ _ (lv_sub hl [1] rfl) hT1_ hP hS (by omega) (by omega)
  · have hf := ite_f kc6 hf
    refine lv_aload_n hx hb dX3_wants_19 rfl (lv_at hl 0 rfl) ?_
    refine gp_get (C := RX3) (T := TX3) E hK (oneO (dT := dT) hP) (if_pos rfl) rfl in_X3 3 (by decide) (hts _ q407) (fun _ z => z) (v := .int (st.2 3 0)) rfl dX3_wants_20 ?_
    refine lv_bipush (v := nI 12) hx hb dX3_wants_23 rfl ?_
    refine lv_icmp_eq (tgt := 41) hx hb dX3_wants_25 (by decide) (fun kc7 => ?_) (fun kc7 => ?_)
    · have hf := ite_t kc7 hf
      refine lv_aload_n hx hb dX3_wants_41 rfl (lv_at hl 1 rfl) ?_
      obtain ⟨ed, els, hLB, hed, hal, hPE⟩ := hT1_
      refine k_vi (Pic := fun U => AL D dT nN b1_ els U.heap ∧ EV D dT U) (Pic1 := fun _ => True) (A1 := nN) E hS (fun _ _ z => z.elim) (fun _ z => z.elim) (As := []) (tj_size l D dT b1_ els) sz_bl (fun U hU hW => ⟨by rw [hU]; exact LB_AL hLB, hE.warm hW⟩) (LB_recv hK hLB) (lw_V q629 q630 q631 q165 q632) dj_size rfl ⟨rfl, rfl⟩ (rmcd_ok (by decide) (by decide)) ⟨show _ ≤ N by omega, show _ ≤ 24 * N by omega⟩ hl rfl (Nat.le_of_ble_eq_true rfl) dX3_wants_42 (fun H locs _ _ hq1 hS => ?_)
      have hkp := kp_pureF (a := a) hq1
      have hP := RD_same hP (fun q z => hq1 q z (fun y => y))
      have hPE := kpG (gK_E (gK_W D)) (Or.inl hasz) hkp hPE
      have hLB := LB_kp hLB hkp (by omega) (fun _ => by omega)
      have hzs := hS.1
      refine lv_nm (congrArg nI hPE.1) ?_
      refine lv_bipush (v := nI 10) hx hb dX3_wants_45 rfl ?_
      refine lv_icmp_ne (tgt := 63) hx hb dX3_wants_47 (by decide) (fun kc8 => ?_) (fun kc8 => ?_)
      · have hf := ite_f kc8 hf
        refine lv_aload_n hx hb dX3_wants_63 rfl (lv_at hl 1 rfl) ?_
        refine lv_aload_n hx hb dX3_wants_64 rfl (lv_at hl 0 rfl) ?_
        rcases xq_in hf with ⟨f13, hc12, hx1⟩ | ⟨m10, r9, n11, hc12, hf, en11⟩
        · subst hx1
          obtain ⟨-, hk⟩ := hk
          have hk : out = .inl _ := hk
          subst hk
          exact x_thrV (A1 := nA a H.size) E hS (fun _ _ z => nA_le hsz hzs z) (fun _ z => nA_le hsz hzs z) (As := []) (tr_want l hst D dT a g ξ β σ ρ Z H.size st.2 (_, .inl f13) hc12) (fun _ _ _ _ z => z) RQ_bl (RQ_pre hB hP hS hA) (RD_recv hK hP) (lw_V q841 q843 qs31 q167 q844) dr_want rfl (by omega) (by decide) (by omega) (by omega) ht hlk hl rfl (Nat.le_of_ble_eq_true rfl) dX3_wants_65
        · skip
          refine k_vr (Pic := RQ D dT a g ξ β σ ρ Z H.size st.2) (PicR := fun b H1 => (pvG (oWa D) H.size) r9.1 b H1 ∧ RD D a g r9.2 H1) (A1 := nA a H.size) E hS (fun _ _ z => nA_le hsz hzs z) (fun _ z => nA_le hsz hzs z) (As := []) (nx_met (tr_want l hst D dT a g ξ β σ ρ Z H.size st.2 (_, .inr r9) hc12)) RQ_bl (RQ_pre hB hP hS hA) (RD_recv hK hP) (lw_V q841 q843 qs31 q167 q844) dr_want rfl ⟨rfl, rfl⟩ (rmc_ok (by omega) (by decide)) ⟨show _ ≤ N by omega, show _ ≤ 24 * N by omega⟩ hl rfl (Nat.le_of_ble_eq_true rfl) dX3_wants_65 (fun b14 H locs hR hz1 hq1 hS => ?_)
          obtain ⟨hT14, hP⟩ := hR
          obtain ⟨hlal, hled⟩ := LB_lt hLB (by omega)
          have hT14 : oWa D r9.1 (fz sz [ed, b1_]) b14 H := wkG (gK_W D) (by omega) (by intro z hz; simp only [List.mem_cons, List.not_mem_nil, or_false] at hz; rcases hz with rfl | rfl <;> assumption) hT14
          have hkp := kp_call hq1
          have hPE := kpG (gK_E (gK_W D)) (Or.inl hasz) hkp hPE
          have hLB := LB_kp hLB hkp (by omega) (fun _ => by omega)
          have hzs := hS.1
          obtain ⟨hl15, hf⟩ := ite_s hf
          obtain ⟨n15, hf, en15⟩ := xn_in hf
          refine k_vi (Pic := AU D dT Z b1_ ed els b14 H.size) (Pic1 := fun H1 => AR D dT Z b1_ ed els b14 H.size H1) (A1 := lA Z.2.2.1 b1_ ed H.size) E hS (fun _ _ z => lA_nA hal hed (by omega) z) (fun _ z => lA_nA hal hed (by omega) z) (As := [.ref b14]) (tl_ad l D dT Z b1_ ed els b14 H.size) AU_bl (AU_pre (gI_W D) hLB hPE hl15 hT14 hE (RB_sv hB hS hA) (by omega)) (LB_recv hK hLB) (lw_V q737 q738 q739 q165 q740) dl_ad rfl ⟨rfl, rfl⟩ (rmc_ok (by decide) (by decide)) ⟨show _ ≤ N by omega, show _ ≤ 24 * N by omega⟩ hl rfl (Nat.le_of_ble_eq_true rfl) dX3_wants_68 (fun H locs hR _ hq1 hS => ?_)
          have hP := RD_q hP (hq1 a (RD_lt hP) (not_lA hasz hal hed (by omega)))
          have hT16 := LF_add (gK_W D) hPE hT14 hR hq1 hed hal (by omega)
          have hzs := hS.1
          refine lv_pop hx hb dX3_wants_71 rfl ?_
          refine lv_goto (tgt := 12) hx hb dX3_wants_72 (by decide) ?_
          cases hf
          exact hk _ _ _ _ _ _ (lv_sub hl [0, 1] rfl) hT16 hP hS (by omega) (by omega)
      · have hf := ite_t kc8 hf
        cases hf
        obtain ⟨-, hk⟩ := hk
        have hk : out = .inl _ := hk
        subst hk
        exact r_throw hst E hB ht hlk hP hS hsz hl (lv_at hl 0 rfl) (by omega) (by omega) (by omega) dX3_wants_50 dX3_wants_53 dX3_wants_54 rfl dX3_wants_55 dX3_wants_56 dX3_wants_59 dX3_wants_62
    · have hf := ite_f kc7 hf
      cases hf
      obtain ⟨-, hk⟩ := hk
      have hk : out = .inl _ := hk
      subst hk
      exact r_throw hst E hB ht hlk hP hS hsz hl (lv_at hl 0 rfl) (by omega) (by omega) (by omega) dX3_wants_28 dX3_wants_31 dX3_wants_32 rfl dX3_wants_33 dX3_wants_34 dX3_wants_37 dX3_wants_40
set_option maxHeartbeats 4000000 in
theorem tr_wants (l : Launch) (hst : l.stackTraces = false) (D : va_G) (dT : Nat → ClassId) (a g : Nat) (ξ : nwM) (β : Nat → Nat) (σ : nwM) (ρ : Nat → Nat) (Z : nwZ) (sz : Nat) (μ : nwM) (res : Nat × (nwF ⊕ (List nwW × nwM))) (hf : fr_wants ξ μ = some res) : nx_Met l yX3_wants (ws_ yX3_wants cX3_wants 2 (some (.object "java/util/ArrayList"))) (rmc (12) res.1) (va_Pc [.ref a] (RQ D dT a g ξ β σ ρ Z sz μ)) (QcR D a g (nA a sz) (pvL D dT Z (oWa D) sz) res.2) (XcR D (nA a sz) res.2) res.1 (24 * res.1) (nA a sz) := by
  obtain ⟨N, out⟩ := res
  refine x_met (own := RX3) (by decide) rfl (Nat.le_of_ble_eq_true rfl) ?_
  intro p e s m below meth c ls E hP hr hlk ht hl
  obtain ⟨⟨hP, hB⟩, hsz⟩ := hP
  have hE := hB.2.1
  have hK := hE.1
  have hasz : a < sz := by rw [← hsz]; exact RD_lt hP
  have hA : ∀ q, nA a sz q → q = a ∨ s.heap.size ≤ q := fun q z => by rw [hsz]; exact z
  have hZa := hB.2.2.2.2.1
  have hE0 : Z.2.2.1 < sz := SV_e0 hB.2.2.1 hsz
  have hS : va_S (nA a sz) s.heap s.heap [] := va_S.rf
  have hzs := hS.1
  obtain ⟨hx, hb, hml, hown, hts⟩ := id E
  have hl : lv_has ls 2 [(0, .ref a)] := hl
  obtain ⟨H, hH⟩ : ∃ z, z = s.heap := ⟨_, rfl⟩
  rw [← hH] at hP
  have hS : va_S (nA a sz) s.heap H [] := by rw [hH]; exact va_S.rf
  show W p l e (rmc (12) N) s m _ below meth c s.heap [] 0 0 (nx_MQ below (QcR D a g (nA a sz) (pvL D dT Z (oWa D) sz) out) (XcR D (nA a sz) out) _ s N (24 * N) (nA a sz)) (F0 m 0 ls [])
  rw [← hH]
  have hzs := hS.1
  have hf : (xn_ 1 ((fr_next ξ μ).bind fun μ4 => xq_ (wc_ (fr_wants_L12 ξ) (([] : List nwW), μ4)) fun x17 => some (0, .inr (x17.1, x17.2)))) = some (N, out) := hf
  obtain ⟨n2, hf, en2⟩ := xn_in hf
  obtain ⟨q1, hqq1⟩ : ∃ z, z = H.size := ⟨_, rfl⟩
  refine x_new (B := 24) (C := RJ2) (T := TJ2) E hK (ci := 16) rfl in_J2 tyJ2 tyJ2_ok q430 q212 q165 [.int 0, .null, .int 0] (by decide) (by decide) (show _ ≤ N by omega) (show _ ≤ 24 * N by omega) dX3_wants_0 (fun H hO1 z1 o1 => ?_)
  have hkp := kp_pure (a := a) o1
  have hP := RD_same hP o1
  have hzs := hS.1
  have hsq1 : sz ≤ q1 := by omega
  have hS := S_new hS z1 o1
  rw [← hqq1] at hO1 ⊢
  have hlq1 : q1 < H.size := by omega
  clear hkp z1 o1
  have hzs := hS.1
  refine lv_dup hx hb dX3_wants_3 rfl ?_
  refine k_iv (Pic := aLP D dT Z q1) (Pic1 := fun H => LB D dT Z.2.2.1 q1 Z.2.2.1 [] H) (A1 := eqA q1) E hS (fun z _ ez => Or.inr (by rw [show z = q1 from ez]; omega)) (fun z ez => Or.inr (by rw [show z = q1 from ez]; omega)) (As := []) (tl_init l D dT Z q1) aLP_bl (aLP_pre hO1 hE (RB_sv hB hS hA) (by omega)) q431 q214 q165 q215 rfl dl_init rfl ⟨rfl, rfl⟩ (rmcd_ok (by decide) (by decide)) ⟨show _ ≤ N by omega, show _ ≤ 24 * N by omega⟩ hl rfl (Nat.le_of_ble_eq_true rfl) dX3_wants_4 (fun H locs hLB hz1 hq1 hS => ?_)
  have hkp := kp_init hq1
  have hP := RD_kp hP hkp (by omega)
  have hzs := hS.1
  have hT3 : LF D dT Z (oWa D) sz ([] : List nwW) q1 H := LF_nil hLB (by omega)
  refine lv_astore_n (lv' := [(1, .ref q1), (0, .ref a)]) hx hb dX3_wants_7 rfl hl (by decide) rfl (fun ls hl => ?_)
  refine lv_aload_n hx hb dX3_wants_8 rfl (lv_at hl 1 rfl) ?_
  obtain ⟨μ4, hc5, hf⟩ := ob hf
  refine k_vv (Pic := RP D dT a g ξ β σ ρ Z μ) (Pic1 := fun H => RD D a g μ4 H) (A1 := rA a) E hS (fun _ _ z => Or.inl z) (fun _ z => Or.inl z) (As := []) (tr_next l D dT a g ξ β σ ρ Z μ _ hc5) RP_bl (RP_pre hB hP hS hA) (RD_recv hK hP) (lw_V q432 q434 qs2 q167 q435) dr_next rfl ⟨rfl, rfl⟩ (rmcd_ok (by decide) (by decide)) ⟨show _ ≤ N by omega, show _ ≤ 24 * N by omega⟩ hl rfl (Nat.le_of_ble_eq_true rfl) dX3_wants_9 (fun H locs hP _ hq1 hS => ?_)
  have hkp := kp_call0 hq1
  have hT3 := LF_kp (gK_W D) hasz hkp hT3
  have hzs := hS.1
  rcases xq_in hf with ⟨f21, hw20, hx1⟩ | ⟨m18, x17, n19, hw20, hf, en19⟩
  · subst hx1
    exact fr_wants_L12_w (nr := 0) hst E hE hB hsz hasz ht hlk hw20 rfl _ _ _ _ _ _ (lv_sub hl [1, 0] rfl) hT3 hP hS (by omega) (by omega)
  · refine fr_wants_L12_w (nr := n19) hst E hE hB hsz hasz ht hlk hw20 (fun b22 ls H locs cells slots hl hT22 hP hS hC1 hC2 => ?_) _ _ _ _ _ _ (lv_sub hl [1, 0] rfl) hT3 hP hS (by omega) (by omega)
    have hzs := hS.1
    refine lv_aload_n hx hb dX3_wants_75 rfl (lv_at hl 0 rfl) ?_
    cases hf
    exact x_aret (PV := pvL D dT Z (oWa D) sz) E hr hlk hT22 hP hS (by omega) (by omega) dX3_wants_76
set_option maxHeartbeats 4000000 in
noncomputable def fr_plan_L12 (ξ : nwM) (nm : Int32) : (List nwD × nwM) → nwR ((List nwD × nwM) ⊕ (List nwD × nwM)) := fun st => (if (st.2 3 0) = 0 then some (0, .inr (.inr (st.1, st.2))) else (if (st.2 3 0) = (nI 15) then (if (nI (st.1).length) = (nI 16) then some (1, .inl (nI 3, st.2 2 0)) else (fr_next ξ st.2).bind fun μ9 => xq_ (fr_number ξ (nI 0) (nI 999) μ9) fun r11 => xq_ (fr_deed ξ nm r11.1 r11.2) fun r17 => (if (st.1).length ≤ 15 then xn_ 1 (xq_ (fr_must ξ (nI 59) r17.2) fun r25 => some (0, .inr (.inl (st.1 ++ [r17.1], r25)))) else none)) else some (1, .inl (nI 1, st.2 2 0))))
set_option maxHeartbeats 4000000 in
noncomputable def fr_plan (ξ : nwM) (nm : Int32) (μ : nwM) : nwR (List nwD × nwM) := xn_ 1 ((fr_next ξ μ).bind fun μ4 => xq_ (wc_ (fr_plan_L12 ξ nm) (([] : List nwD), μ4)) fun x31 => some (0, .inr (x31.1, x31.2)))
set_option maxHeartbeats 4000000 in
theorem fr_plan_L12_w {p : Program} {l : Launch} {e : Env} {s : State} {m : MethodId} {args : Array Value} {below : List Frame} {meth : Method} {c : Code} {D : va_G} {dT : Nat → ClassId} {a g : Nat} {ξ σ : nwM} {β ρ : Nat → Nat} {Z : nwZ} {sz N nr : Nat} {Qc : Array Value → State → Outcome → State → Prop} {γ : Type} {out : nwF ⊕ γ} {nm : Int32} (hst : l.stackTraces = false) (E : CallFix p m c cX3_plan 2 s args lw_all RX3) (hE : EV D dT s) (hB : RB D dT a g ξ β σ ρ Z s) (hsz : s.heap.size = sz) (hasz : a < sz) (ht : ∀ x ∈ c.exceptionTable.toList, False) (hlk : meth.locks = false) (hnm : σ 13 0 = nm) {st : List nwD × nwM} {n : Nat} {x : nwF ⊕ (List nwD × nwM)} (hw : wc_ (fr_plan_L12 ξ nm) st = some (n, x)) (hfin : (Sum.elim (fun fl => out = .inl fl) (fun (r : List nwD × nwM) => ∀ (b1_ : Nat) (ls : Array Slot) (H : Heap) (locs : List Loc) (cells slots : Nat), lv_has ls 2 [(1, .ref b1_)] → LF D dT Z (oDe D) sz r.1 b1_ H → RD D a g r.2 H → va_S (nA a sz) s.heap H locs → cells + nr ≤ N → slots + 24 * nr ≤ 24 * N → W p l e (rmc 12 N) s m args below meth c H locs cells slots (nx_MQ below Qc (XcR D (nA a sz) out) args s N (24 * N) (nA a sz)) (F0 m 93 ls []))) x) : (fun (st : List nwD × nwM) (n : Nat) => ∀ (b1_ : Nat) (ls : Array Slot) (H : Heap) (locs : List Loc) (cells slots : Nat), lv_has ls 2 [(0, .ref a), (1, .ref b1_)] → LF D dT Z (oDe D) sz st.1 b1_ H → RD D a g st.2 H → va_S (nA a sz) s.heap H locs → cells + (n + nr) ≤ N → slots + 24 * (n + nr) ≤ 24 * N → W p l e (rmc 12 N) s m args below meth c H locs cells slots (nx_MQ below Qc (XcR D (nA a sz) out) args s N (24 * N) (nA a sz)) (F0 m 12 ls [])) st n := by
  obtain ⟨hx, hb, hml, hown, hts⟩ := id E
  have hK := hE.1
  have hA : ∀ q, nA a sz q → q = a ∨ s.heap.size ≤ q := fun q z => by rw [hsz]; exact z
  have hZa := hB.2.2.2.2.1
  have hE0 : Z.2.2.1 < sz := SV_e0 hB.2.2.1 hsz
  refine wc_run (S := (fun (st : List nwD × nwM) (n : Nat) => ∀ (b1_ : Nat) (ls : Array Slot) (H : Heap) (locs : List Loc) (cells slots : Nat), lv_has ls 2 [(0, .ref a), (1, .ref b1_)] → LF D dT Z (oDe D) sz st.1 b1_ H → RD D a g st.2 H → va_S (nA a sz) s.heap H locs → cells + (n + nr) ≤ N → slots + 24 * (n + nr) ≤ 24 * N → W p l e (rmc 12 N) s m args below meth c H locs cells slots (nx_MQ below Qc (XcR D (nA a sz) out) args s N (24 * N) (nA a sz)) (F0 m 12 ls []))) (fin := (Sum.elim (fun fl => out = .inl fl) (fun (r : List nwD × nwM) => ∀ (b1_ : Nat) (ls : Array Slot) (H : Heap) (locs : List Loc) (cells slots : Nat), lv_has ls 2 [(1, .ref b1_)] → LF D dT Z (oDe D) sz r.1 b1_ H → RD D a g r.2 H → va_S (nA a sz) s.heap H locs → cells + nr ≤ N → slots + 24 * nr ≤ 24 * N → W p l e (rmc 12 N) s m args below meth c H locs cells slots (nx_MQ below Qc (XcR D (nA a sz) out) args s N (24 * N) (nA a sz)) (F0 m 93 ls [])))) ?_ hw hfin
  clear hw hfin
  intro st m1 y n1 hf hk b1_ ls H locs cells slots hl hT1_ hP hS hC1 hC2
  have hzs := hS.1
  have hf : ((if (st.2 3 0) = 0 then some (0, .inr (.inr (st.1, st.2))) else (if (st.2 3 0) = (nI 15) then (if (nI (st.1).length) = (nI 16) then some (1, .inl (nI 3, st.2 2 0)) else (fr_next ξ st.2).bind fun μ9 => xq_ (fr_number ξ (nI 0) (nI 999) μ9) fun r11 => xq_ (fr_deed ξ nm r11.1 r11.2) fun r17 => (if (st.1).length ≤ 15 then xn_ 1 (xq_ (fr_must ξ (nI 59) r17.2) fun r25 => some (0, .inr (.inl (st.1 ++ [r17.1], r25)))) else none)) else some (1, .inl (nI 1, st.2 2 0))))) = some (m1, y) := hf
  refine lv_aload_n hx hb dX3_plan_12 rfl (lv_at hl 0 rfl) ?_
  refine gp_get (C := RX3) (T := TX3) E hK (oneO (dT := dT) hP) (if_pos rfl) rfl in_X3 3 (by decide) (hts _ q407) (fun _ z => z) (v := .int (st.2 3 0)) rfl dX3_plan_13 ?_
  refine lv_if_eq (tgt := 93) hx hb dX3_plan_16 (by decide) (fun kc6 => ?_) (fun kc6 => ?_)
  · have hf := ite_t kc6 hf
    cases hf
    obtain ⟨hn0, hk⟩ := hk
    exact hk _ _ _ _ _ _ (lv_sub hl [1] rfl) hT1_ hP hS (by omega) (by omega)
  · have hf := ite_f kc6 hf
    refine lv_aload_n hx hb dX3_plan_19 rfl (lv_at hl 0 rfl) ?_
    refine gp_get (C := RX3) (T := TX3) E hK (oneO (dT := dT) hP) (if_pos rfl) rfl in_X3 3 (by decide) (hts _ q407) (fun _ z => z) (v := .int (st.2 3 0)) rfl dX3_plan_20 ?_
    refine lv_bipush (v := nI 15) hx hb dX3_plan_23 rfl ?_
    refine lv_icmp_eq (tgt := 41) hx hb dX3_plan_25 (by decide) (fun kc7 => ?_) (fun kc7 => ?_)
    · have hf := ite_t kc7 hf
      refine lv_aload_n hx hb dX3_plan_41 rfl (lv_at hl 1 rfl) ?_
      obtain ⟨ed, els, hLB, hed, hal, hPE⟩ := hT1_
      refine k_vi (Pic := fun U => AL D dT nN b1_ els U.heap ∧ EV D dT U) (Pic1 := fun _ => True) (A1 := nN) E hS (fun _ _ z => z.elim) (fun _ z => z.elim) (As := []) (tj_size l D dT b1_ els) sz_bl (fun U hU hW => ⟨by rw [hU]; exact LB_AL hLB, hE.warm hW⟩) (LB_recv hK hLB) (lw_V q629 q630 q631 q165 q632) dj_size rfl ⟨rfl, rfl⟩ (rmcd_ok (by decide) (by decide)) ⟨show _ ≤ N by omega, show _ ≤ 24 * N by omega⟩ hl rfl (Nat.le_of_ble_eq_true rfl) dX3_plan_42 (fun H locs _ _ hq1 hS => ?_)
      have hkp := kp_pureF (a := a) hq1
      have hP := RD_same hP (fun q z => hq1 q z (fun y => y))
      have hPE := kpG (gK_E (gK_D D)) (Or.inl hasz) hkp hPE
      have hLB := LB_kp hLB hkp (by omega) (fun _ => by omega)
      have hzs := hS.1
      refine lv_nm (congrArg nI hPE.1) ?_
      refine lv_bipush (v := nI 16) hx hb dX3_plan_45 rfl ?_
      refine lv_icmp_ne (tgt := 63) hx hb dX3_plan_47 (by decide) (fun kc8 => ?_) (fun kc8 => ?_)
      · have hf := ite_f kc8 hf
        refine lv_aload_n hx hb dX3_plan_63 rfl (lv_at hl 0 rfl) ?_
        obtain ⟨μ9, hc10, hf⟩ := ob hf
        refine k_vv (Pic := RP D dT a g ξ β σ ρ Z st.2) (Pic1 := fun H => RD D a g μ9 H) (A1 := rA a) E hS (fun _ _ z => Or.inl z) (fun _ z => Or.inl z) (As := []) (tr_next l D dT a g ξ β σ ρ Z st.2 _ hc10) RP_bl (RP_pre hB hP hS hA) (RD_recv hK hP) (lw_V q432 q434 qs2 q167 q435) dr_next rfl ⟨rfl, rfl⟩ (rmcd_ok (by decide) (by decide)) ⟨show _ ≤ N by omega, show _ ≤ 24 * N by omega⟩ hl rfl (Nat.le_of_ble_eq_true rfl) dX3_plan_64 (fun H locs hP _ hq1 hS => ?_)
        have hkp := kp_call0 hq1
        have hPE := kpG (gK_E (gK_D D)) (Or.inl hasz) hkp hPE
        have hLB := LB_kp hLB hkp (by omega) (fun _ => by omega)
        have hzs := hS.1
        refine lv_aload_n hx hb dX3_plan_67 rfl (lv_at hl 1 rfl) ?_
        refine lv_aload_n hx hb dX3_plan_68 rfl (lv_at hl 0 rfl) ?_
        refine lv_aload_n hx hb dX3_plan_69 rfl (lv_at hl 0 rfl) ?_
        refine lv_iconst (v := nI 0) hx hb dX3_plan_70 rfl ?_
        refine lv_sipush (v := nI 999) hx hb dX3_plan_71 rfl ?_
        rcases xq_in hf with ⟨f15, hc14, hx1⟩ | ⟨m12, r11, n13, hc14, hf, en13⟩
        · subst hx1
          obtain ⟨-, hk⟩ := hk
          have hk : out = .inl _ := hk
          subst hk
          exact x_thrV (A1 := nA a H.size) E hS (fun _ _ z => nA_le hsz hzs z) (fun _ z => nA_le hsz hzs z) (As := [.int (nI 0), .int (nI 999)]) (tr_number l hst D dT a g ξ β σ ρ Z H.size (nI 0) (nI 999) μ9 (_, .inl f15) hc14) (fun _ _ _ _ z => z) RQ_bl (RQ_pre hB hP hS hA) (RD_recv hK hP) (lw_V q647 q649 qs19 q167 q650) dr_number rfl (by omega) (by decide) (by omega) (by omega) ht hlk hl rfl (Nat.le_of_ble_eq_true rfl) dX3_plan_74
        · skip
          refine k_vi (Pic := RQ D dT a g ξ β σ ρ Z H.size μ9) (Pic1 := fun H => RD D a g r11.2 H) (A1 := nA a H.size) E hS (fun _ _ z => nA_le hsz hzs z) (fun _ z => nA_le hsz hzs z) (As := [.int (nI 0), .int (nI 999)]) (nx_met (tr_number l hst D dT a g ξ β σ ρ Z H.size (nI 0) (nI 999) μ9 (_, .inr r11) hc14)) RQ_bl (RQ_pre hB hP hS hA) (RD_recv hK hP) (lw_V q647 q649 qs19 q167 q650) dr_number rfl ⟨rfl, rfl⟩ (rmc_ok (by omega) (by decide)) ⟨show _ ≤ N by omega, show _ ≤ 24 * N by omega⟩ hl rfl (Nat.le_of_ble_eq_true rfl) dX3_plan_74 (fun H locs hP hz1 hq1 hS => ?_)
          have hkp := kp_call hq1
          have hPE := kpG (gK_E (gK_D D)) (Or.inl hasz) hkp hPE
          have hLB := LB_kp hLB hkp (by omega) (fun _ => by omega)
          have hzs := hS.1
          rcases xq_in hf with ⟨f21, hc20, hx1⟩ | ⟨m18, r17, n19, hc20, hf, en19⟩
          · subst hx1
            obtain ⟨-, hk⟩ := hk
            have hk : out = .inl _ := hk
            subst hk
            exact x_thrV (A1 := nA a H.size) E hS (fun _ _ z => nA_le hsz hzs z) (fun _ z => nA_le hsz hzs z) (As := [.int r11.1]) (tr_deed l hst D dT a g ξ β σ ρ Z H.size hnm r11.1 r11.2 (_, .inl f21) hc20) (fun _ _ _ _ z => z) RQ_bl (RQ_pre hB hP hS hA) (RD_recv hK hP) (lw_V q886 q888 qs32 q167 q889) dr_deed rfl (by omega) (by decide) (by omega) (by omega) ht hlk hl rfl (Nat.le_of_ble_eq_true rfl) dX3_plan_77
          · skip
            refine k_vr (Pic := RQ D dT a g ξ β σ ρ Z H.size r11.2) (PicR := fun b H1 => (pvG (oDe D) H.size) r17.1 b H1 ∧ RD D a g r17.2 H1) (A1 := nA a H.size) E hS (fun _ _ z => nA_le hsz hzs z) (fun _ z => nA_le hsz hzs z) (As := [.int r11.1]) (nx_met (tr_deed l hst D dT a g ξ β σ ρ Z H.size hnm r11.1 r11.2 (_, .inr r17) hc20)) RQ_bl (RQ_pre hB hP hS hA) (RD_recv hK hP) (lw_V q886 q888 qs32 q167 q889) dr_deed rfl ⟨rfl, rfl⟩ (rmc_ok (by omega) (by decide)) ⟨show _ ≤ N by omega, show _ ≤ 24 * N by omega⟩ hl rfl (Nat.le_of_ble_eq_true rfl) dX3_plan_77 (fun b22 H locs hR hz1 hq1 hS => ?_)
            obtain ⟨hT22, hP⟩ := hR
            obtain ⟨hlal, hled⟩ := LB_lt hLB (by omega)
            have hT22 : oDe D r17.1 (fz sz [ed, b1_]) b22 H := wkG (gK_D D) (by omega) (by intro z hz; simp only [List.mem_cons, List.not_mem_nil, or_false] at hz; rcases hz with rfl | rfl <;> assumption) hT22
            have hkp := kp_call hq1
            have hPE := kpG (gK_E (gK_D D)) (Or.inl hasz) hkp hPE
            have hLB := LB_kp hLB hkp (by omega) (fun _ => by omega)
            have hzs := hS.1
            obtain ⟨hl15, hf⟩ := ite_s hf
            obtain ⟨n23, hf, en23⟩ := xn_in hf
            refine k_vi (Pic := AU D dT Z b1_ ed els b22 H.size) (Pic1 := fun H1 => AR D dT Z b1_ ed els b22 H.size H1) (A1 := lA Z.2.2.1 b1_ ed H.size) E hS (fun _ _ z => lA_nA hal hed (by omega) z) (fun _ z => lA_nA hal hed (by omega) z) (As := [.ref b22]) (tl_ad l D dT Z b1_ ed els b22 H.size) AU_bl (AU_pre (gI_D D) hLB hPE hl15 hT22 hE (RB_sv hB hS hA) (by omega)) (LB_recv hK hLB) (lw_V q737 q738 q739 q165 q740) dl_ad rfl ⟨rfl, rfl⟩ (rmc_ok (by decide) (by decide)) ⟨show _ ≤ N by omega, show _ ≤ 24 * N by omega⟩ hl rfl (Nat.le_of_ble_eq_true rfl) dX3_plan_80 (fun H locs hR _ hq1 hS => ?_)
            have hP := RD_q hP (hq1 a (RD_lt hP) (not_lA hasz hal hed (by omega)))
            have hT24 := LF_add (gK_D D) hPE hT22 hR hq1 hed hal (by omega)
            have hzs := hS.1
            refine lv_pop hx hb dX3_plan_83 rfl ?_
            refine lv_aload_n hx hb dX3_plan_84 rfl (lv_at hl 0 rfl) ?_
            refine lv_bipush (v := nI 59) hx hb dX3_plan_85 rfl ?_
            rcases xq_in hf with ⟨f29, hc28, hx1⟩ | ⟨m26, r25, n27, hc28, hf, en27⟩
            · subst hx1
              obtain ⟨-, hk⟩ := hk
              have hk : out = .inl _ := hk
              subst hk
              exact x_thrV (A1 := nA a H.size) E hS (fun _ _ z => nA_le hsz hzs z) (fun _ z => nA_le hsz hzs z) (As := [.int (nI 59)]) (tr_must l hst D dT a g ξ β σ ρ Z H.size (nI 59) r17.2 (_, .inl f29) hc28) (fun _ _ _ _ z => z) RQ_bl (RQ_pre hB hP hS hA) (RD_recv hK hP) (lw_V q714 q716 qs24 q167 q717) dr_must rfl (by omega) (by decide) (by omega) (by omega) ht hlk hl rfl (Nat.le_of_ble_eq_true rfl) dX3_plan_87
            · skip
              refine k_vv (Pic := RQ D dT a g ξ β σ ρ Z H.size r17.2) (Pic1 := fun H => RD D a g r25 H) (A1 := nA a H.size) E hS (fun _ _ z => nA_le hsz hzs z) (fun _ z => nA_le hsz hzs z) (As := [.int (nI 59)]) (nx_met (tr_must l hst D dT a g ξ β σ ρ Z H.size (nI 59) r17.2 (_, .inr r25) hc28)) RQ_bl (RQ_pre hB hP hS hA) (RD_recv hK hP) (lw_V q714 q716 qs24 q167 q717) dr_must rfl ⟨rfl, rfl⟩ (rmc_ok (by omega) (by decide)) ⟨show _ ≤ N by omega, show _ ≤ 24 * N by omega⟩ hl rfl (Nat.le_of_ble_eq_true rfl) dX3_plan_87 (fun H locs hP hz1 hq1 hS => ?_)
              have hkp := kp_call hq1
              have hT24 := LF_kp (gK_D D) hasz hkp hT24
              have hzs := hS.1
              refine lv_goto (tgt := 12) hx hb dX3_plan_90 (by decide) ?_
              cases hf
              exact hk _ _ _ _ _ _ (lv_sub hl [0, 1] rfl) hT24 hP hS (by omega) (by omega)
      · have hf := ite_t kc8 hf
        cases hf
        obtain ⟨-, hk⟩ := hk
        have hk : out = .inl _ := hk
        subst hk
        exact r_throw hst E hB ht hlk hP hS hsz hl (lv_at hl 0 rfl) (by omega) (by omega) (by omega) dX3_plan_50 dX3_plan_53 dX3_plan_54 rfl dX3_plan_55 dX3_plan_56 dX3_plan_59 dX3_plan_62
    · have hf := ite_f kc7 hf
      cases hf
      obtain ⟨-, hk⟩ := hk
      have hk : out = .inl _ := hk
      subst hk
      exact r_throw hst E hB ht hlk hP hS hsz hl (lv_at hl 0 rfl) (by omega) (by omega) (by omega) dX3_plan_28 dX3_plan_31 dX3_plan_32 rfl dX3_plan_33 dX3_plan_34 dX3_plan_37 dX3_plan_40
set_option maxHeartbeats 4000000 in
theorem tr_plan (l : Launch) (hst : l.stackTraces = false) (D : va_G) (dT : Nat → ClassId) (a g : Nat) (ξ : nwM) (β : Nat → Nat) (σ : nwM) (ρ : Nat → Nat) (Z : nwZ) (sz : Nat) {nm : Int32} (hnm : σ 13 0 = nm) (μ : nwM) (res : Nat × (nwF ⊕ (List nwD × nwM))) (hf : fr_plan ξ nm μ = some res) : nx_Met l yX3_plan (ws_ yX3_plan cX3_plan 2 (some (.object "java/util/ArrayList"))) (rmc (12) res.1) (va_Pc [.ref a] (RQ D dT a g ξ β σ ρ Z sz μ)) (QcR D a g (nA a sz) (pvL D dT Z (oDe D) sz) res.2) (XcR D (nA a sz) res.2) res.1 (24 * res.1) (nA a sz) := by
  obtain ⟨N, out⟩ := res
  refine x_met (own := RX3) (by decide) rfl (Nat.le_of_ble_eq_true rfl) ?_
  intro p e s m below meth c ls E hP hr hlk ht hl
  obtain ⟨⟨hP, hB⟩, hsz⟩ := hP
  have hE := hB.2.1
  have hK := hE.1
  have hasz : a < sz := by rw [← hsz]; exact RD_lt hP
  have hA : ∀ q, nA a sz q → q = a ∨ s.heap.size ≤ q := fun q z => by rw [hsz]; exact z
  have hZa := hB.2.2.2.2.1
  have hE0 : Z.2.2.1 < sz := SV_e0 hB.2.2.1 hsz
  have hS : va_S (nA a sz) s.heap s.heap [] := va_S.rf
  have hzs := hS.1
  obtain ⟨hx, hb, hml, hown, hts⟩ := id E
  have hl : lv_has ls 2 [(0, .ref a)] := hl
  obtain ⟨H, hH⟩ : ∃ z, z = s.heap := ⟨_, rfl⟩
  rw [← hH] at hP
  have hS : va_S (nA a sz) s.heap H [] := by rw [hH]; exact va_S.rf
  show W p l e (rmc (12) N) s m _ below meth c s.heap [] 0 0 (nx_MQ below (QcR D a g (nA a sz) (pvL D dT Z (oDe D) sz) out) (XcR D (nA a sz) out) _ s N (24 * N) (nA a sz)) (F0 m 0 ls [])
  rw [← hH]
  have hzs := hS.1
  have hf : (xn_ 1 ((fr_next ξ μ).bind fun μ4 => xq_ (wc_ (fr_plan_L12 ξ nm) (([] : List nwD), μ4)) fun x31 => some (0, .inr (x31.1, x31.2)))) = some (N, out) := hf
  obtain ⟨n2, hf, en2⟩ := xn_in hf
  obtain ⟨q1, hqq1⟩ : ∃ z, z = H.size := ⟨_, rfl⟩
  refine x_new (B := 24) (C := RJ2) (T := TJ2) E hK (ci := 16) rfl in_J2 tyJ2 tyJ2_ok q430 q212 q165 [.int 0, .null, .int 0] (by decide) (by decide) (show _ ≤ N by omega) (show _ ≤ 24 * N by omega) dX3_plan_0 (fun H hO1 z1 o1 => ?_)
  have hkp := kp_pure (a := a) o1
  have hP := RD_same hP o1
  have hzs := hS.1
  have hsq1 : sz ≤ q1 := by omega
  have hS := S_new hS z1 o1
  rw [← hqq1] at hO1 ⊢
  have hlq1 : q1 < H.size := by omega
  clear hkp z1 o1
  have hzs := hS.1
  refine lv_dup hx hb dX3_plan_3 rfl ?_
  refine k_iv (Pic := aLP D dT Z q1) (Pic1 := fun H => LB D dT Z.2.2.1 q1 Z.2.2.1 [] H) (A1 := eqA q1) E hS (fun z _ ez => Or.inr (by rw [show z = q1 from ez]; omega)) (fun z ez => Or.inr (by rw [show z = q1 from ez]; omega)) (As := []) (tl_init l D dT Z q1) aLP_bl (aLP_pre hO1 hE (RB_sv hB hS hA) (by omega)) q431 q214 q165 q215 rfl dl_init rfl ⟨rfl, rfl⟩ (rmcd_ok (by decide) (by decide)) ⟨show _ ≤ N by omega, show _ ≤ 24 * N by omega⟩ hl rfl (Nat.le_of_ble_eq_true rfl) dX3_plan_4 (fun H locs hLB hz1 hq1 hS => ?_)
  have hkp := kp_init hq1
  have hP := RD_kp hP hkp (by omega)
  have hzs := hS.1
  have hT3 : LF D dT Z (oDe D) sz ([] : List nwD) q1 H := LF_nil hLB (by omega)
  refine lv_astore_n (lv' := [(1, .ref q1), (0, .ref a)]) hx hb dX3_plan_7 rfl hl (by decide) rfl (fun ls hl => ?_)
  refine lv_aload_n hx hb dX3_plan_8 rfl (lv_at hl 1 rfl) ?_
  obtain ⟨μ4, hc5, hf⟩ := ob hf
  refine k_vv (Pic := RP D dT a g ξ β σ ρ Z μ) (Pic1 := fun H => RD D a g μ4 H) (A1 := rA a) E hS (fun _ _ z => Or.inl z) (fun _ z => Or.inl z) (As := []) (tr_next l D dT a g ξ β σ ρ Z μ _ hc5) RP_bl (RP_pre hB hP hS hA) (RD_recv hK hP) (lw_V q432 q434 qs2 q167 q435) dr_next rfl ⟨rfl, rfl⟩ (rmcd_ok (by decide) (by decide)) ⟨show _ ≤ N by omega, show _ ≤ 24 * N by omega⟩ hl rfl (Nat.le_of_ble_eq_true rfl) dX3_plan_9 (fun H locs hP _ hq1 hS => ?_)
  have hkp := kp_call0 hq1
  have hT3 := LF_kp (gK_D D) hasz hkp hT3
  have hzs := hS.1
  rcases xq_in hf with ⟨f35, hw34, hx1⟩ | ⟨m32, x31, n33, hw34, hf, en33⟩
  · subst hx1
    exact fr_plan_L12_w (nr := 0) hst E hE hB hsz hasz ht hlk hnm hw34 rfl _ _ _ _ _ _ (lv_sub hl [1, 0] rfl) hT3 hP hS (by omega) (by omega)
  · refine fr_plan_L12_w (nr := n33) hst E hE hB hsz hasz ht hlk hnm hw34 (fun b36 ls H locs cells slots hl hT36 hP hS hC1 hC2 => ?_) _ _ _ _ _ _ (lv_sub hl [1, 0] rfl) hT3 hP hS (by omega) (by omega)
    have hzs := hS.1
    refine lv_aload_n hx hb dX3_plan_93 rfl (lv_at hl 0 rfl) ?_
    cases hf
    exact x_aret (PV := pvL D dT Z (oDe D) sz) E hr hlk hT36 hP hS (by omega) (by omega) dX3_plan_94
