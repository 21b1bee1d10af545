/-! walks, written by my programs -/
set_option maxRecDepth 100000
set_option maxHeartbeats 4000000 in
theorem dr_any : yX3_any.cls = RX3 ∧ yX3_any.cls ≠ "java/lang/invoke/MethodHandle" ∧ yX3_any.cls ≠ "java/lang/invoke/VarHandle" ∧ (parseMethodDescriptor yX3_any.desc).map (fun d => d.parameters.length) = some 0 := ⟨rfl, by decide +kernel, by decide +kernel, by decide +kernel⟩
set_option maxHeartbeats 4000000 in
theorem dr_all : yX3_all.cls = RX3 ∧ yX3_all.cls ≠ "java/lang/invoke/MethodHandle" ∧ yX3_all.cls ≠ "java/lang/invoke/VarHandle" ∧ (parseMethodDescriptor yX3_all.desc).map (fun d => d.parameters.length) = some 0 := ⟨rfl, by decide +kernel, by decide +kernel, by decide +kernel⟩
set_option maxHeartbeats 4000000 in
theorem dr_one : yX3_one.cls = RX3 ∧ yX3_one.cls ≠ "java/lang/invoke/MethodHandle" ∧ yX3_one.cls ≠ "java/lang/invoke/VarHandle" ∧ (parseMethodDescriptor yX3_one.desc).map (fun d => d.parameters.length) = some 0 := ⟨rfl, by decide +kernel, by decide +kernel, by decide +kernel⟩
set_option maxHeartbeats 4000000 in
noncomputable def fr_any__L5 (F : nwM → nwR (nwT2 × nwM)) (ξ : nwM) : (nwT2 × nwM) → nwR ((nwT2 × nwM) ⊕ (nwT2 × nwM)) := fun st => (if (st.2 3 0) = (nI 4) then (fr_next ξ st.2).bind fun μ8 => xn_ 1 (xq_ (F μ8) fun r12 => some (0, .inr (.inl (mkJ st.1 (nI 4) r12.1, r12.2)))) else some (0, .inr (.inr (st.1, st.2))))
set_option maxHeartbeats 4000000 in
noncomputable def fr_any_ (F : nwM → nwR (nwT2 × nwM)) (ξ : nwM) (μ : nwM) : nwR (nwT2 × nwM) := xq_ (F μ) fun r1 => xq_ (wc_ (fr_any__L5 F ξ) (r1.1, r1.2)) fun x19 => some (0, .inr (x19.1, x19.2))
set_option maxHeartbeats 4000000 in
theorem fr_any__L5_w {p : Program} {l : Launch} {e : Env} {s : State} {m : MethodId} {args : Array Value} {below : List Frame} {meth : Method} {c : Code} {D : va_G} {dT : Nat → ClassId} {a g : Nat} {ξ σ : nwM} {β ρ : Nat → Nat} {Z : nwZ} {sz N nr dd : Nat} {F : nwM → nwR (nwT2 × nwM)} {Qc : Array Value → State → Outcome → State → Prop} {γ : Type} {out : nwF ⊕ γ} (hst : l.stackTraces = false) (E : CallFix p m c cX3_any 2 s args lw_all RX3) (hE : EV D dT s) (hB : RB D dT a g ξ β σ ρ Z s) (hsz : s.heap.size = sz) (hasz : a < sz) (ht : ∀ x ∈ c.exceptionTable.toList, False) (hlk : meth.locks = false) (hdd : 13 ≤ dd) (hF : ∀ (sz : Nat) (μ : nwM) (res : Nat × (nwF ⊕ (nwT2 × nwM))), F μ = some res → nx_Met l yX3_all (ws_ yX3_all cX3_all 2 (some (.object "NamesWeather$Term"))) (rmc dd res.1) (va_Pc [.ref a] (RQ D dT a g ξ β σ ρ Z sz μ)) (QcR D a g (nA a sz) (pvG (PT D) sz) res.2) (XcR D (nA a sz) res.2) res.1 (24 * res.1) (nA a sz)) {st : nwT2 × nwM} {n : Nat} {x : nwF ⊕ (nwT2 × nwM)} (hw : wc_ (fr_any__L5 F ξ) st = some (n, x)) (hfin : (Sum.elim (fun fl => out = .inl fl) (fun (r : nwT2 × nwM) => ∀ (b1_ : Nat) (ls : Array Slot) (H : Heap) (locs : List Loc) (cells slots : Nat), lv_has ls 2 [(1, .ref b1_)] → PT D r.1 (fz sz []) b1_ H → RD D a g r.2 H → va_S (nA a sz) s.heap H locs → cells + nr ≤ N → slots + 24 * nr ≤ 24 * N → W p l e (rmc (dd + 1) N) s m args below meth c H locs cells slots (nx_MQ below Qc (XcR D (nA a sz) out) args s N (24 * N) (nA a sz)) (F0 m 34 ls []))) x) : (fun (st : nwT2 × nwM) (n : Nat) => ∀ (b1_ : Nat) (ls : Array Slot) (H : Heap) (locs : List Loc) (cells slots : Nat), lv_has ls 2 [(0, .ref a), (1, .ref b1_)] → PT D st.1 (fz sz []) b1_ H → RD D a g st.2 H → va_S (nA a sz) s.heap H locs → cells + (n + nr) ≤ N → slots + 24 * (n + nr) ≤ 24 * N → W p l e (rmc (dd + 1) N) s m args below meth c H locs cells slots (nx_MQ below Qc (XcR D (nA a sz) out) args s N (24 * N) (nA a sz)) (F0 m 5 ls [])) st n := by
  obtain ⟨hx, hb, hml, hown, hts⟩ := id E
  have hK := hE.1
  have hA : ∀ q, nA a sz q → q = a ∨ s.heap.size ≤ q := fun q z => by rw [hsz]; exact z
  have hZa := hB.2.2.2.2.1
  skip
  refine wc_run (S := (fun (st : nwT2 × nwM) (n : Nat) => ∀ (b1_ : Nat) (ls : Array Slot) (H : Heap) (locs : List Loc) (cells slots : Nat), lv_has ls 2 [(0, .ref a), (1, .ref b1_)] → PT D st.1 (fz sz []) b1_ H → RD D a g st.2 H → va_S (nA a sz) s.heap H locs → cells + (n + nr) ≤ N → slots + 24 * (n + nr) ≤ 24 * N → W p l e (rmc (dd + 1) N) s m args below meth c H locs cells slots (nx_MQ below Qc (XcR D (nA a sz) out) args s N (24 * N) (nA a sz)) (F0 m 5 ls []))) (fin := (Sum.elim (fun fl => out = .inl fl) (fun (r : nwT2 × nwM) => ∀ (b1_ : Nat) (ls : Array Slot) (H : Heap) (locs : List Loc) (cells slots : Nat), lv_has ls 2 [(1, .ref b1_)] → PT D r.1 (fz sz []) b1_ H → RD D a g r.2 H → va_S (nA a sz) s.heap H locs → cells + nr ≤ N → slots + 24 * nr ≤ 24 * N → W p l e (rmc (dd + 1) N) s m args below meth c H locs cells slots (nx_MQ below Qc (XcR D (nA a sz) out) args s N (24 * N) (nA a sz)) (F0 m 34 ls [])))) ?_ hw hfin
  clear hw hfin
  intro st m1 y n1 hf hk b1_ ls H locs cells slots hl hT1_ hP hS hC1 hC2
  have hzs := hS.1
  have hf : ((if (st.2 3 0) = (nI 4) then (fr_next ξ st.2).bind fun μ8 => xn_ 1 (xq_ (F μ8) fun r12 => some (0, .inr (.inl (mkJ st.1 (nI 4) r12.1, r12.2)))) else some (0, .inr (.inr (st.1, st.2))))) = some (m1, y) := hf
  refine lv_aload_n hx hb dX3_any_5 rfl (lv_at hl 0 rfl) ?_
  refine gp_get (C := RX3) (T := TX3) E hK (oneO (dT := dT) hP) (if_pos rfl) rfl in_X3 3 (by decide) (hts _ q407) (fun _ z => z) (v := .int (st.2 3 0)) rfl dX3_any_6 ?_
  refine lv_iconst (v := nI 4) hx hb dX3_any_9 rfl ?_
  refine lv_icmp_ne (tgt := 34) hx hb dX3_any_10 (by decide) (fun kc7 => ?_) (fun kc7 => ?_)
  · have hf := ite_f kc7 hf
    cases hf
    obtain ⟨hn0, hk⟩ := hk
    exact hk _ _ _ _ _ _ (lv_sub hl [1] rfl) hT1_ hP hS (by omega) (by omega)
  · have hf := ite_t kc7 hf
    refine lv_aload_n hx hb dX3_any_13 rfl (lv_at hl 0 rfl) ?_
    obtain ⟨μ8, hc9, hf⟩ := ob hf
    refine k_vv (Pic := RP D dT a g ξ β σ ρ Z st.2) (Pic1 := fun H => RD D a g μ8 H) (A1 := rA a) E hS (fun _ _ z => Or.inl z) (fun _ z => Or.inl z) (As := []) (tr_next l D dT a g ξ β σ ρ Z st.2 _ hc9) RP_bl (RP_pre hB hP hS hA) (RD_recv hK hP) (lw_V q432 q434 qs2 q167 q435) dr_next rfl ⟨rfl, rfl⟩ (rmcd_ok (by omega) (by decide)) ⟨show _ ≤ N by omega, show _ ≤ 24 * N by omega⟩ hl rfl (Nat.le_of_ble_eq_true rfl) dX3_any_14 (fun H locs hP _ hq1 hS => ?_)
    have hkp := kp_call0 hq1
    have hT1_ := kpG (gK_T D) (Or.inl hasz) hkp hT1_
    have hzs := hS.1
    obtain ⟨n11, hf, en11⟩ := xn_in hf
    obtain ⟨q10, hqq10⟩ : ∃ z, z = H.size := ⟨_, rfl⟩
    refine x_new (B := 24) (C := RX8) (T := TX8) E hK (ci := 7) rfl in_X8 tyX8 tyX8_ok q672 q673 q178 [.null, .null, .int 0] (by decide) (by decide) (show _ ≤ N by omega) (show _ ≤ 24 * N by omega) dX3_any_17 (fun H hO10 z1 o1 => ?_)
    have hT1_ := frG (gK_T D) hqq10 hT1_
    have hkp := kp_pure (a := a) o1
    have hP := RD_same hP o1
    have hzs := hS.1
    have hsq10 : sz ≤ q10 := by omega
    have hS := S_new hS z1 o1
    have hT1_ := kpG (gK_T D) (Or.inl hasz) hkp hT1_
    rw [← hqq10] at hO10 ⊢
    have hlq10 : q10 < H.size := by omega
    clear hkp z1 o1
    have hzs := hS.1
    refine lv_dup hx hb dX3_any_20 rfl ?_
    refine lv_aload_n hx hb dX3_any_21 rfl (lv_at hl 1 rfl) ?_
    refine lv_iconst (v := nI 4) hx hb dX3_any_22 rfl ?_
    refine lv_aload_n hx hb dX3_any_23 rfl (lv_at hl 0 rfl) ?_
    rcases xq_in hf with ⟨f16, hc15, hx1⟩ | ⟨m13, r12, n14, hc15, hf, en14⟩
    · subst hx1
      obtain ⟨-, hk⟩ := hk
      have hk : out = .inl _ := hk
      subst hk
      exact x_thrV (A1 := nA a H.size) E hS (fun _ _ z => nA_le hsz hzs z) (fun _ z => nA_le hsz hzs z) (As := []) (hF H.size μ8 (_, .inl f16) hc15) (fun _ _ _ _ z => z) RQ_bl (RQ_pre hB hP hS hA) (RD_recv hK hP) (lw_V q692 q694 qs21 q167 q695) dr_all rfl (by omega) (by decide) (by omega) (by omega) ht hlk hl rfl (Nat.le_of_ble_eq_true rfl) dX3_any_24
    · skip
      refine k_vr (Pic := RQ D dT a g ξ β σ ρ Z H.size μ8) (PicR := fun b H1 => (pvG (PT D) H.size) r12.1 b H1 ∧ RD D a g r12.2 H1) (A1 := nA a H.size) E hS (fun _ _ z => nA_le hsz hzs z) (fun _ z => nA_le hsz hzs z) (As := []) (nx_met (hF H.size μ8 (_, .inr r12) hc15)) RQ_bl (RQ_pre hB hP hS hA) (RD_recv hK hP) (lw_V q692 q694 qs21 q167 q695) dr_all rfl ⟨rfl, rfl⟩ (rmc_ok (by omega) (by decide)) ⟨show _ ≤ N by omega, show _ ≤ 24 * N by omega⟩ hl rfl (Nat.le_of_ble_eq_true rfl) dX3_any_24 (fun b17 H locs hR hz1 hq1 hS => ?_)
      obtain ⟨hT17, hP⟩ := hR
      have hlq10 := hO10.lt
      have hT17 : PT D r12.1 (fz sz [q10]) b17 H := wkG (gK_T D) (by omega) (by intro z hz; simp only [List.mem_cons, List.not_mem_nil, or_false] at hz; rcases hz with rfl <;> assumption) hT17
      have hkp := kp_call hq1
      have hT1_ := kpG (gK_T D) (Or.inl hasz) hkp hT1_
      have hO10 := oF_kp hO10 hkp (by omega)
      have hzs := hS.1
      refine k_iv (Pic := oFP D dT 7 3 [.null, .null, .int 0] q10) (Pic1 := fun H => oF D 7 3 [.ref b1_, .ref b17, .int (nI 4)] q10 H) (A1 := eqA q10) E hS (fun z _ ez => Or.inr (by rw [show z = q10 from ez]; omega)) (fun z ez => Or.inr (by rw [show z = q10 from ez]; omega)) (As := [.ref b1_, .int (nI 4), .ref b17]) (tc_Joined l D dT q10 b1_ (nI 4) b17) oFP_bl (oFP_pre hO10 hE) q674 q675 q178 q676 rfl dc_Joined rfl ⟨rfl, rfl⟩ (rmcd_ok (by omega) (by decide)) ⟨show _ ≤ N by omega, show _ ≤ 24 * N by omega⟩ hl rfl (Nat.le_of_ble_eq_true rfl) dX3_any_27 (fun H locs hO10 hz1 hq1 hS => ?_)
      have hkp := kp_init hq1
      have hP := RD_kp hP hkp (by omega)
      have hT1_ := kpG (gK_T D) (Or.inr (List.mem_cons_self)) hkp hT1_
      have hT17 := kpG (gK_T D) (Or.inr (List.mem_cons_self)) hkp hT17
      have hT1_ := dropG (gK_T D) hT1_
      have hT17 := dropG (gK_T D) hT17
      have hzs := hS.1
      have hT18 := mkJ_ok hO10 (not_fz (L := []) (by omega) (fun h => nomatch h)) hT1_ hT17
      refine lv_astore_n (lv' := [(1, .ref q10), (0, .ref a)]) hx hb dX3_any_30 rfl hl (by decide) rfl (fun ls hl => ?_)
      refine lv_goto (tgt := 5) hx hb dX3_any_31 (by decide) ?_
      cases hf
      exact hk _ _ _ _ _ _ (lv_sub hl [1, 0] rfl) hT18 hP hS (by omega) (by omega)
set_option maxHeartbeats 4000000 in
theorem tr_any_ (l : Launch) (hst : l.stackTraces = false) (D : va_G) (dT : Nat → ClassId) (a g : Nat) (ξ : nwM) (β : Nat → Nat) (σ : nwM) (ρ : Nat → Nat) (Z : nwZ) (sz : Nat) (dd : Nat) (F : nwM → nwR (nwT2 × nwM)) (hdd : 13 ≤ dd) (hF : ∀ (sz : Nat) (μ : nwM) (res : Nat × (nwF ⊕ (nwT2 × nwM))), F μ = some res → nx_Met l yX3_all (ws_ yX3_all cX3_all 2 (some (.object "NamesWeather$Term"))) (rmc dd res.1) (va_Pc [.ref a] (RQ D dT a g ξ β σ ρ Z sz μ)) (QcR D a g (nA a sz) (pvG (PT D) sz) res.2) (XcR D (nA a sz) res.2) res.1 (24 * res.1) (nA a sz)) (μ : nwM) (res : Nat × (nwF ⊕ (nwT2 × nwM))) (hf : fr_any_ F ξ μ = some res) : nx_Met l yX3_any (ws_ yX3_any cX3_any 2 (some (.object "NamesWeather$Term"))) (rmc (dd + 1) res.1) (va_Pc [.ref a] (RQ D dT a g ξ β σ ρ Z sz μ)) (QcR D a g (nA a sz) (pvG (PT D) sz) res.2) (XcR D (nA a sz) res.2) res.1 (24 * res.1) (nA a sz) := by
  obtain ⟨N, out⟩ := res
  refine x_met (own := RX3) (by decide) rfl (Nat.le_of_ble_eq_true rfl) ?_
  intro p e s m below meth c ls E hP hr hlk ht hl
  obtain ⟨⟨hP, hB⟩, hsz⟩ := hP
  have hE := hB.2.1
  have hK := hE.1
  have hasz : a < sz := by rw [← hsz]; exact RD_lt hP
  have hA : ∀ q, nA a sz q → q = a ∨ s.heap.size ≤ q := fun q z => by rw [hsz]; exact z
  have hZa := hB.2.2.2.2.1
  skip
  have hS : va_S (nA a sz) s.heap s.heap [] := va_S.rf
  have hzs := hS.1
  obtain ⟨hx, hb, hml, hown, hts⟩ := id E
  have hl : lv_has ls 2 [(0, .ref a)] := hl
  obtain ⟨H, hH⟩ : ∃ z, z = s.heap := ⟨_, rfl⟩
  rw [← hH] at hP
  have hS : va_S (nA a sz) s.heap H [] := by rw [hH]; exact va_S.rf
  show W p l e (rmc (dd + 1) N) s m _ below meth c s.heap [] 0 0 (nx_MQ below (QcR D a g (nA a sz) (pvG (PT D) sz) out) (XcR D (nA a sz) out) _ s N (24 * N) (nA a sz)) (F0 m 0 ls [])
  rw [← hH]
  have hzs := hS.1
  have hf : (xq_ (F μ) fun r1 => xq_ (wc_ (fr_any__L5 F ξ) (r1.1, r1.2)) fun x19 => some (0, .inr (x19.1, x19.2))) = some (N, out) := hf
  refine lv_aload_n hx hb dX3_any_0 rfl (lv_at hl 0 rfl) ?_
  rcases xq_in hf with ⟨f5, hc4, hx1⟩ | ⟨m2, r1, n3, hc4, hf, en3⟩
  · subst hx1
    exact x_thrV (A1 := nA a H.size) E hS (fun _ _ z => nA_le hsz hzs z) (fun _ z => nA_le hsz hzs z) (As := []) (hF H.size μ (_, .inl f5) hc4) (fun _ _ _ _ z => z) RQ_bl (RQ_pre hB hP hS hA) (RD_recv hK hP) (lw_V q692 q694 qs21 q167 q695) dr_all rfl (by omega) (by decide) (by omega) (by omega) ht hlk hl rfl (Nat.le_of_ble_eq_true rfl) dX3_any_1
  · skip
    refine k_vr (Pic := RQ D dT a g ξ β σ ρ Z H.size μ) (PicR := fun b H1 => (pvG (PT D) H.size) r1.1 b H1 ∧ RD D a g r1.2 H1) (A1 := nA a H.size) E hS (fun _ _ z => nA_le hsz hzs z) (fun _ z => nA_le hsz hzs z) (As := []) (nx_met (hF H.size μ (_, .inr r1) hc4)) RQ_bl (RQ_pre hB hP hS hA) (RD_recv hK hP) (lw_V q692 q694 qs21 q167 q695) dr_all rfl ⟨rfl, rfl⟩ (rmc_ok (by omega) (by decide)) ⟨show _ ≤ N by omega, show _ ≤ 24 * N by omega⟩ hl rfl (Nat.le_of_ble_eq_true rfl) dX3_any_1 (fun b6 H locs hR hz1 hq1 hS => ?_)
    obtain ⟨hT6, hP⟩ := hR
    have hT6 : PT D r1.1 (fz sz []) b6 H := wkG (gK_T D) (by omega) (fun _ h => nomatch h) hT6
    have hkp := kp_call hq1
    have hzs := hS.1
    refine lv_astore_n (lv' := [(1, .ref b6), (0, .ref a)]) hx hb dX3_any_4 rfl hl (by decide) rfl (fun ls hl => ?_)
    rcases xq_in hf with ⟨f23, hw22, hx1⟩ | ⟨m20, x19, n21, hw22, hf, en21⟩
    · subst hx1
      exact fr_any__L5_w (nr := 0) hst E hE hB hsz hasz ht hlk hdd hF hw22 rfl _ _ _ _ _ _ (lv_sub hl [1, 0] rfl) hT6 hP hS (by omega) (by omega)
    · refine fr_any__L5_w (nr := n21) hst E hE hB hsz hasz ht hlk hdd hF hw22 (fun b24 ls H locs cells slots hl hT24 hP hS hC1 hC2 => ?_) _ _ _ _ _ _ (lv_sub hl [1, 0] rfl) hT6 hP hS (by omega) (by omega)
      have hzs := hS.1
      refine lv_aload_n hx hb dX3_any_34 rfl (lv_at hl 0 rfl) ?_
      cases hf
      exact x_aret (PV := pvG (PT D) sz) E hr hlk hT24 hP hS (by omega) (by omega) dX3_any_35
set_option maxHeartbeats 4000000 in
noncomputable def fr_all__L5 (F : nwM → nwR (nwT2 × nwM)) (ξ : nwM) : (nwT2 × nwM) → nwR ((nwT2 × nwM) ⊕ (nwT2 × nwM)) := fun st => (if (st.2 3 0) = (nI 5) then (fr_next ξ st.2).bind fun μ8 => xn_ 1 (xq_ (F μ8) fun r12 => some (0, .inr (.inl (mkJ st.1 (nI 5) r12.1, r12.2)))) else some (0, .inr (.inr (st.1, st.2))))
set_option maxHeartbeats 4000000 in
noncomputable def fr_all_ (F : nwM → nwR (nwT2 × nwM)) (ξ : nwM) (μ : nwM) : nwR (nwT2 × nwM) := xq_ (F μ) fun r1 => xq_ (wc_ (fr_all__L5 F ξ) (r1.1, r1.2)) fun x19 => some (0, .inr (x19.1, x19.2))
set_option maxHeartbeats 4000000 in
theorem fr_all__L5_w {p : Program} {l : Launch} {e : Env} {s : State} {m : MethodId} {args : Array Value} {below : List Frame} {meth : Method} {c : Code} {D : va_G} {dT : Nat → ClassId} {a g : Nat} {ξ σ : nwM} {β ρ : Nat → Nat} {Z : nwZ} {sz N nr dd : Nat} {F : nwM → nwR (nwT2 × nwM)} {Qc : Array Value → State → Outcome → State → Prop} {γ : Type} {out : nwF ⊕ γ} (hst : l.stackTraces = false) (E : CallFix p m c cX3_all 2 s args lw_all RX3) (hE : EV D dT s) (hB : RB D dT a g ξ β σ ρ Z s) (hsz : s.heap.size = sz) (hasz : a < sz) (ht : ∀ x ∈ c.exceptionTable.toList, False) (hlk : meth.locks = false) (hdd : 13 ≤ dd) (hF : ∀ (sz : Nat) (μ : nwM) (res : Nat × (nwF ⊕ (nwT2 × nwM))), F μ = some res → nx_Met l yX3_one (ws_ yX3_one cX3_one 3 (some (.object "NamesWeather$Term"))) (rmc dd res.1) (va_Pc [.ref a] (RQ D dT a g ξ β σ ρ Z sz μ)) (QcR D a g (nA a sz) (pvG (PT D) sz) res.2) (XcR D (nA a sz) res.2) res.1 (24 * res.1) (nA a sz)) {st : nwT2 × nwM} {n : Nat} {x : nwF ⊕ (nwT2 × nwM)} (hw : wc_ (fr_all__L5 F ξ) st = some (n, x)) (hfin : (Sum.elim (fun fl => out = .inl fl) (fun (r : nwT2 × nwM) => ∀ (b1_ : Nat) (ls : Array Slot) (H : Heap) (locs : List Loc) (cells slots : Nat), lv_has ls 2 [(1, .ref b1_)] → PT D r.1 (fz sz []) b1_ H → RD D a g r.2 H → va_S (nA a sz) s.heap H locs → cells + nr ≤ N → slots + 24 * nr ≤ 24 * N → W p l e (rmc (dd + 1) N) s m args below meth c H locs cells slots (nx_MQ below Qc (XcR D (nA a sz) out) args s N (24 * N) (nA a sz)) (F0 m 34 ls []))) x) : (fun (st : nwT2 × nwM) (n : Nat) => ∀ (b1_ : Nat) (ls : Array Slot) (H : Heap) (locs : List Loc) (cells slots : Nat), lv_has ls 2 [(0, .ref a), (1, .ref b1_)] → PT D st.1 (fz sz []) b1_ H → RD D a g st.2 H → va_S (nA a sz) s.heap H locs → cells + (n + nr) ≤ N → slots + 24 * (n + nr) ≤ 24 * N → W p l e (rmc (dd + 1) N) s m args below meth c H locs cells slots (nx_MQ below Qc (XcR D (nA a sz) out) args s N (24 * N) (nA a sz)) (F0 m 5 ls [])) st n := by
  obtain ⟨hx, hb, hml, hown, hts⟩ := id E
  have hK := hE.1
  have hA : ∀ q, nA a sz q → q = a ∨ s.heap.size ≤ q := fun q z => by rw [hsz]; exact z
  have hZa := hB.2.2.2.2.1
  skip
  refine wc_run (S := (fun (st : nwT2 × nwM) (n : Nat) => ∀ (b1_ : Nat) (ls : Array Slot) (H : Heap) (locs : List Loc) (cells slots : Nat), lv_has ls 2 [(0, .ref a), (1, .ref b1_)] → PT D st.1 (fz sz []) b1_ H → RD D a g st.2 H → va_S (nA a sz) s.heap H locs → cells + (n + nr) ≤ N → slots + 24 * (n + nr) ≤ 24 * N → W p l e (rmc (dd + 1) N) s m args below meth c H locs cells slots (nx_MQ below Qc (XcR D (nA a sz) out) args s N (24 * N) (nA a sz)) (F0 m 5 ls []))) (fin := (Sum.elim (fun fl => out = .inl fl) (fun (r : nwT2 × nwM) => ∀ (b1_ : Nat) (ls : Array Slot) (H : Heap) (locs : List Loc) (cells slots : Nat), lv_has ls 2 [(1, .ref b1_)] → PT D r.1 (fz sz []) b1_ H → RD D a g r.2 H → va_S (nA a sz) s.heap H locs → cells + nr ≤ N → slots + 24 * nr ≤ 24 * N → W p l e (rmc (dd + 1) N) s m args below meth c H locs cells slots (nx_MQ below Qc (XcR D (nA a sz) out) args s N (24 * N) (nA a sz)) (F0 m 34 ls [])))) ?_ hw hfin
  clear hw hfin
  intro st m1 y n1 hf hk b1_ ls H locs cells slots hl hT1_ hP hS hC1 hC2
  have hzs := hS.1
  have hf : ((if (st.2 3 0) = (nI 5) then (fr_next ξ st.2).bind fun μ8 => xn_ 1 (xq_ (F μ8) fun r12 => some (0, .inr (.inl (mkJ st.1 (nI 5) r12.1, r12.2)))) else some (0, .inr (.inr (st.1, st.2))))) = some (m1, y) := hf
  refine lv_aload_n hx hb dX3_all_5 rfl (lv_at hl 0 rfl) ?_
  refine gp_get (C := RX3) (T := TX3) E hK (oneO (dT := dT) hP) (if_pos rfl) rfl in_X3 3 (by decide) (hts _ q407) (fun _ z => z) (v := .int (st.2 3 0)) rfl dX3_all_6 ?_
  refine lv_iconst (v := nI 5) hx hb dX3_all_9 rfl ?_
  refine lv_icmp_ne (tgt := 34) hx hb dX3_all_10 (by decide) (fun kc7 => ?_) (fun kc7 => ?_)
  · have hf := ite_f kc7 hf
    cases hf
    obtain ⟨hn0, hk⟩ := hk
    exact hk _ _ _ _ _ _ (lv_sub hl [1] rfl) hT1_ hP hS (by omega) (by omega)
  · have hf := ite_t kc7 hf
    refine lv_aload_n hx hb dX3_all_13 rfl (lv_at hl 0 rfl) ?_
    obtain ⟨μ8, hc9, hf⟩ := ob hf
    refine k_vv (Pic := RP D dT a g ξ β σ ρ Z st.2) (Pic1 := fun H => RD D a g μ8 H) (A1 := rA a) E hS (fun _ _ z => Or.inl z) (fun _ z => Or.inl z) (As := []) (tr_next l D dT a g ξ β σ ρ Z st.2 _ hc9) RP_bl (RP_pre hB hP hS hA) (RD_recv hK hP) (lw_V q432 q434 qs2 q167 q435) dr_next rfl ⟨rfl, rfl⟩ (rmcd_ok (by omega) (by decide)) ⟨show _ ≤ N by omega, show _ ≤ 24 * N by omega⟩ hl rfl (Nat.le_of_ble_eq_true rfl) dX3_all_14 (fun H locs hP _ hq1 hS => ?_)
    have hkp := kp_call0 hq1
    have hT1_ := kpG (gK_T D) (Or.inl hasz) hkp hT1_
    have hzs := hS.1
    obtain ⟨n11, hf, en11⟩ := xn_in hf
    obtain ⟨q10, hqq10⟩ : ∃ z, z = H.size := ⟨_, rfl⟩
    refine x_new (B := 24) (C := RX8) (T := TX8) E hK (ci := 7) rfl in_X8 tyX8 tyX8_ok q672 q673 q178 [.null, .null, .int 0] (by decide) (by decide) (show _ ≤ N by omega) (show _ ≤ 24 * N by omega) dX3_all_17 (fun H hO10 z1 o1 => ?_)
    have hT1_ := frG (gK_T D) hqq10 hT1_
    have hkp := kp_pure (a := a) o1
    have hP := RD_same hP o1
    have hzs := hS.1
    have hsq10 : sz ≤ q10 := by omega
    have hS := S_new hS z1 o1
    have hT1_ := kpG (gK_T D) (Or.inl hasz) hkp hT1_
    rw [← hqq10] at hO10 ⊢
    have hlq10 : q10 < H.size := by omega
    clear hkp z1 o1
    have hzs := hS.1
    refine lv_dup hx hb dX3_all_20 rfl ?_
    refine lv_aload_n hx hb dX3_all_21 rfl (lv_at hl 1 rfl) ?_
    refine lv_iconst (v := nI 5) hx hb dX3_all_22 rfl ?_
    refine lv_aload_n hx hb dX3_all_23 rfl (lv_at hl 0 rfl) ?_
    rcases xq_in hf with ⟨f16, hc15, hx1⟩ | ⟨m13, r12, n14, hc15, hf, en14⟩
    · subst hx1
      obtain ⟨-, hk⟩ := hk
      have hk : out = .inl _ := hk
      subst hk
      exact x_thrV (A1 := nA a H.size) E hS (fun _ _ z => nA_le hsz hzs z) (fun _ z => nA_le hsz hzs z) (As := []) (hF H.size μ8 (_, .inl f16) hc15) (fun _ _ _ _ z => z) RQ_bl (RQ_pre hB hP hS hA) (RD_recv hK hP) (lw_V q696 q698 qs22 q167 q699) dr_one rfl (by omega) (by decide) (by omega) (by omega) ht hlk hl rfl (Nat.le_of_ble_eq_true rfl) dX3_all_24
    · skip
      refine k_vr (Pic := RQ D dT a g ξ β σ ρ Z H.size μ8) (PicR := fun b H1 => (pvG (PT D) H.size) r12.1 b H1 ∧ RD D a g r12.2 H1) (A1 := nA a H.size) E hS (fun _ _ z => nA_le hsz hzs z) (fun _ z => nA_le hsz hzs z) (As := []) (nx_met (hF H.size μ8 (_, .inr r12) hc15)) RQ_bl (RQ_pre hB hP hS hA) (RD_recv hK hP) (lw_V q696 q698 qs22 q167 q699) dr_one rfl ⟨rfl, rfl⟩ (rmc_ok (by omega) (by decide)) ⟨show _ ≤ N by omega, show _ ≤ 24 * N by omega⟩ hl rfl (Nat.le_of_ble_eq_true rfl) dX3_all_24 (fun b17 H locs hR hz1 hq1 hS => ?_)
      obtain ⟨hT17, hP⟩ := hR
      have hlq10 := hO10.lt
      have hT17 : PT D r12.1 (fz sz [q10]) b17 H := wkG (gK_T D) (by omega) (by intro z hz; simp only [List.mem_cons, List.not_mem_nil, or_false] at hz; rcases hz with rfl <;> assumption) hT17
      have hkp := kp_call hq1
      have hT1_ := kpG (gK_T D) (Or.inl hasz) hkp hT1_
      have hO10 := oF_kp hO10 hkp (by omega)
      have hzs := hS.1
      refine k_iv (Pic := oFP D dT 7 3 [.null, .null, .int 0] q10) (Pic1 := fun H => oF D 7 3 [.ref b1_, .ref b17, .int (nI 5)] q10 H) (A1 := eqA q10) E hS (fun z _ ez => Or.inr (by rw [show z = q10 from ez]; omega)) (fun z ez => Or.inr (by rw [show z = q10 from ez]; omega)) (As := [.ref b1_, .int (nI 5), .ref b17]) (tc_Joined l D dT q10 b1_ (nI 5) b17) oFP_bl (oFP_pre hO10 hE) q674 q675 q178 q676 rfl dc_Joined rfl ⟨rfl, rfl⟩ (rmcd_ok (by omega) (by decide)) ⟨show _ ≤ N by omega, show _ ≤ 24 * N by omega⟩ hl rfl (Nat.le_of_ble_eq_true rfl) dX3_all_27 (fun H locs hO10 hz1 hq1 hS => ?_)
      have hkp := kp_init hq1
      have hP := RD_kp hP hkp (by omega)
      have hT1_ := kpG (gK_T D) (Or.inr (List.mem_cons_self)) hkp hT1_
      have hT17 := kpG (gK_T D) (Or.inr (List.mem_cons_self)) hkp hT17
      have hT1_ := dropG (gK_T D) hT1_
      have hT17 := dropG (gK_T D) hT17
      have hzs := hS.1
      have hT18 := mkJ_ok hO10 (not_fz (L := []) (by omega) (fun h => nomatch h)) hT1_ hT17
      refine lv_astore_n (lv' := [(1, .ref q10), (0, .ref a)]) hx hb dX3_all_30 rfl hl (by decide) rfl (fun ls hl => ?_)
      refine lv_goto (tgt := 5) hx hb dX3_all_31 (by decide) ?_
      cases hf
      exact hk _ _ _ _ _ _ (lv_sub hl [1, 0] rfl) hT18 hP hS (by omega) (by omega)
set_option maxHeartbeats 4000000 in
theorem tr_all_ (l : Launch) (hst : l.stackTraces = false) (D : va_G) (dT : Nat → ClassId) (a g : Nat) (ξ : nwM) (β : Nat → Nat) (σ : nwM) (ρ : Nat → Nat) (Z : nwZ) (sz : Nat) (dd : Nat) (F : nwM → nwR (nwT2 × nwM)) (hdd : 13 ≤ dd) (hF : ∀ (sz : Nat) (μ : nwM) (res : Nat × (nwF ⊕ (nwT2 × nwM))), F μ = some res → nx_Met l yX3_one (ws_ yX3_one cX3_one 3 (some (.object "NamesWeather$Term"))) (rmc dd res.1) (va_Pc [.ref a] (RQ D dT a g ξ β σ ρ Z sz μ)) (QcR D a g (nA a sz) (pvG (PT D) sz) res.2) (XcR D (nA a sz) res.2) res.1 (24 * res.1) (nA a sz)) (μ : nwM) (res : Nat × (nwF ⊕ (nwT2 × nwM))) (hf : fr_all_ F ξ μ = some res) : nx_Met l yX3_all (ws_ yX3_all cX3_all 2 (some (.object "NamesWeather$Term"))) (rmc (dd + 1) res.1) (va_Pc [.ref a] (RQ D dT a g ξ β σ ρ Z sz μ)) (QcR D a g (nA a sz) (pvG (PT D) sz) res.2) (XcR D (nA a sz) res.2) res.1 (24 * res.1) (nA a sz) := by
  obtain ⟨N, out⟩ := res
  refine x_met (own := RX3) (by decide) rfl (Nat.le_of_ble_eq_true rfl) ?_
  intro p e s m below meth c ls E hP hr hlk ht hl
  obtain ⟨⟨hP, hB⟩, hsz⟩ := hP
  have hE := hB.2.1
  have hK := hE.1
  have hasz : a < sz := by rw [← hsz]; exact RD_lt hP
  have hA : ∀ q, nA a sz q → q = a ∨ s.heap.size ≤ q := fun q z => by rw [hsz]; exact z
  have hZa := hB.2.2.2.2.1
  skip
  have hS : va_S (nA a sz) s.heap s.heap [] := va_S.rf
  have hzs := hS.1
  obtain ⟨hx, hb, hml, hown, hts⟩ := id E
  have hl : lv_has ls 2 [(0, .ref a)] := hl
  obtain ⟨H, hH⟩ : ∃ z, z = s.heap := ⟨_, rfl⟩
  rw [← hH] at hP
  have hS : va_S (nA a sz) s.heap H [] := by rw [hH]; exact va_S.rf
  show W p l e (rmc (dd + 1) N) s m _ below meth c s.heap [] 0 0 (nx_MQ below (QcR D a g (nA a sz) (pvG (PT D) sz) out) (XcR D (nA a sz) out) _ s N (24 * N) (nA a sz)) (F0 m 0 ls [])
  rw [← hH]
  have hzs := hS.1
  have hf : (xq_ (F μ) fun r1 => xq_ (wc_ (fr_all__L5 F ξ) (r1.1, r1.2)) fun x19 => some (0, .inr (x19.1, x19.2))) = some (N, out) := hf
  refine lv_aload_n hx hb dX3_all_0 rfl (lv_at hl 0 rfl) ?_
  rcases xq_in hf with ⟨f5, hc4, hx1⟩ | ⟨m2, r1, n3, hc4, hf, en3⟩
  · subst hx1
    exact x_thrV (A1 := nA a H.size) E hS (fun _ _ z => nA_le hsz hzs z) (fun _ z => nA_le hsz hzs z) (As := []) (hF H.size μ (_, .inl f5) hc4) (fun _ _ _ _ z => z) RQ_bl (RQ_pre hB hP hS hA) (RD_recv hK hP) (lw_V q696 q698 qs22 q167 q699) dr_one rfl (by omega) (by decide) (by omega) (by omega) ht hlk hl rfl (Nat.le_of_ble_eq_true rfl) dX3_all_1
  · skip
    refine k_vr (Pic := RQ D dT a g ξ β σ ρ Z H.size μ) (PicR := fun b H1 => (pvG (PT D) H.size) r1.1 b H1 ∧ RD D a g r1.2 H1) (A1 := nA a H.size) E hS (fun _ _ z => nA_le hsz hzs z) (fun _ z => nA_le hsz hzs z) (As := []) (nx_met (hF H.size μ (_, .inr r1) hc4)) RQ_bl (RQ_pre hB hP hS hA) (RD_recv hK hP) (lw_V q696 q698 qs22 q167 q699) dr_one rfl ⟨rfl, rfl⟩ (rmc_ok (by omega) (by decide)) ⟨show _ ≤ N by omega, show _ ≤ 24 * N by omega⟩ hl rfl (Nat.le_of_ble_eq_true rfl) dX3_all_1 (fun b6 H locs hR hz1 hq1 hS => ?_)
    obtain ⟨hT6, hP⟩ := hR
    have hT6 : PT D r1.1 (fz sz []) b6 H := wkG (gK_T D) (by omega) (fun _ h => nomatch h) hT6
    have hkp := kp_call hq1
    have hzs := hS.1
    refine lv_astore_n (lv' := [(1, .ref b6), (0, .ref a)]) hx hb dX3_all_4 rfl hl (by decide) rfl (fun ls hl => ?_)
    rcases xq_in hf with ⟨f23, hw22, hx1⟩ | ⟨m20, x19, n21, hw22, hf, en21⟩
    · subst hx1
      exact fr_all__L5_w (nr := 0) hst E hE hB hsz hasz ht hlk hdd hF hw22 rfl _ _ _ _ _ _ (lv_sub hl [1, 0] rfl) hT6 hP hS (by omega) (by omega)
    · refine fr_all__L5_w (nr := n21) hst E hE hB hsz hasz ht hlk hdd hF hw22 (fun b24 ls H locs cells slots hl hT24 hP hS hC1 hC2 => ?_) _ _ _ _ _ _ (lv_sub hl [1, 0] rfl) hT6 hP hS (by omega) (by omega)
      have hzs := hS.1
      refine lv_aload_n hx hb dX3_all_34 rfl (lv_at hl 0 rfl) ?_
      cases hf
      exact x_aret (PV := pvG (PT D) sz) E hr hlk hT24 hP hS (by omega) (by omega) dX3_all_35
set_option maxHeartbeats 4000000 in
noncomputable def fr_one_ (F : nwM → nwR (nwT2 × nwM)) (F2 : nwM → nwR (nwT2 × nwM)) (ξ : nwM) (μ : nwM) : nwR (nwT2 × nwM) := (if (μ 3 0) = (nI 6) then (if (μ 3 0) = (nI 6) then xq_ (fr_opens ξ μ) fun r24 => xn_ 1 (xq_ (F r24) fun r33 => (wf_ r33.2 5 ((r33.2 5 0) - (nI 1))).bind fun μ41 => some (0, .inr (mkN r33.1, μ41))) else xq_ (fr_opens ξ μ) fun r3 => xq_ (F2 r3) fun r10 => xq_ (fr_must ξ (nI 41) r10.2) fun r17 => (wf_ r17 5 ((r17 5 0) - (nI 1))).bind fun μ23 => some (0, .inr (r10.1, μ23))) else (if (μ 3 0) = (nI 40) then (if (μ 3 0) = (nI 6) then xq_ (fr_opens ξ μ) fun r107 => xn_ 1 (xq_ (F r107) fun r116 => (wf_ r116.2 5 ((r116.2 5 0) - (nI 1))).bind fun μ124 => some (0, .inr (mkN r116.1, μ124))) else xq_ (fr_opens ξ μ) fun r86 => xq_ (F2 r86) fun r93 => xq_ (fr_must ξ (nI 41) r93.2) fun r100 => (wf_ r100 5 ((r100 5 0) - (nI 1))).bind fun μ106 => some (0, .inr (r93.1, μ106))) else xq_ (fr_sum ξ μ) fun r43 => (if (r43.2 3 0) = (nI 60) then (fr_next ξ r43.2).bind fun μ50 => xn_ 1 (xq_ (fr_sum ξ μ50) fun r54 => some (0, .inr (mkJ r43.1 (r43.2 3 0) r54.1, r54.2))) else (if (r43.2 3 0) = (nI 61) then (fr_next ξ r43.2).bind fun μ62 => xn_ 1 (xq_ (fr_sum ξ μ62) fun r66 => some (0, .inr (mkJ r43.1 (r43.2 3 0) r66.1, r66.2))) else (if (r43.2 3 0) = (nI 62) then (fr_next ξ r43.2).bind fun μ74 => xn_ 1 (xq_ (fr_sum ξ μ74) fun r78 => some (0, .inr (mkJ r43.1 (r43.2 3 0) r78.1, r78.2))) else some (1, .inl (nI 1, r43.2 2 0)))))))
set_option maxHeartbeats 4000000 in
theorem tr_one_ (l : Launch) (hst : l.stackTraces = false) (D : va_G) (dT : Nat → ClassId) (a g : Nat) (ξ : nwM) (β : Nat → Nat) (σ : nwM) (ρ : Nat → Nat) (Z : nwZ) (sz : Nat) (dd : Nat) (F : nwM → nwR (nwT2 × nwM)) (F2 : nwM → nwR (nwT2 × nwM)) (hdd : 13 ≤ dd) (hF : ∀ (sz : Nat) (μ : nwM) (res : Nat × (nwF ⊕ (nwT2 × nwM))), F μ = some res → nx_Met l yX3_one (ws_ yX3_one cX3_one 3 (some (.object "NamesWeather$Term"))) (rmc dd res.1) (va_Pc [.ref a] (RQ D dT a g ξ β σ ρ Z sz μ)) (QcR D a g (nA a sz) (pvG (PT D) sz) res.2) (XcR D (nA a sz) res.2) res.1 (24 * res.1) (nA a sz)) (hF2 : ∀ (sz : Nat) (μ : nwM) (res : Nat × (nwF ⊕ (nwT2 × nwM))), F2 μ = some res → nx_Met l yX3_any (ws_ yX3_any cX3_any 2 (some (.object "NamesWeather$Term"))) (rmc dd res.1) (va_Pc [.ref a] (RQ D dT a g ξ β σ ρ Z sz μ)) (QcR D a g (nA a sz) (pvG (PT D) sz) res.2) (XcR D (nA a sz) res.2) res.1 (24 * res.1) (nA a sz)) (μ : nwM) (res : Nat × (nwF ⊕ (nwT2 × nwM))) (hf : fr_one_ F F2 ξ μ = some res) : nx_Met l yX3_one (ws_ yX3_one cX3_one 3 (some (.object "NamesWeather$Term"))) (rmc (dd + 1) res.1) (va_Pc [.ref a] (RQ D dT a g ξ β σ ρ Z sz μ)) (QcR D a g (nA a sz) (pvG (PT D) sz) res.2) (XcR D (nA a sz) res.2) res.1 (24 * res.1) (nA a sz) := by
  obtain ⟨N, out⟩ := res
  refine x_met (own := RX3) (by decide) rfl (Nat.le_of_ble_eq_true rfl) ?_
  intro p e s m below meth c ls E hP hr hlk ht hl
  obtain ⟨⟨hP, hB⟩, hsz⟩ := hP
  have hE := hB.2.1
  have hK := hE.1
  have hasz : a < sz := by rw [← hsz]; exact RD_lt hP
  have hA : ∀ q, nA a sz q → q = a ∨ s.heap.size ≤ q := fun q z => by rw [hsz]; exact z
  have hZa := hB.2.2.2.2.1
  skip
  have hS : va_S (nA a sz) s.heap s.heap [] := va_S.rf
  have hzs := hS.1
  obtain ⟨hx, hb, hml, hown, hts⟩ := id E
  have hl : lv_has ls 3 [(0, .ref a)] := hl
  obtain ⟨H, hH⟩ : ∃ z, z = s.heap := ⟨_, rfl⟩
  rw [← hH] at hP
  have hS : va_S (nA a sz) s.heap H [] := by rw [hH]; exact va_S.rf
  show W p l e (rmc (dd + 1) N) s m _ below meth c s.heap [] 0 0 (nx_MQ below (QcR D a g (nA a sz) (pvG (PT D) sz) out) (XcR D (nA a sz) out) _ s N (24 * N) (nA a sz)) (F0 m 0 ls [])
  rw [← hH]
  have hzs := hS.1
  have hf : ((if (μ 3 0) = (nI 6) then (if (μ 3 0) = (nI 6) then xq_ (fr_opens ξ μ) fun r24 => xn_ 1 (xq_ (F r24) fun r33 => (wf_ r33.2 5 ((r33.2 5 0) - (nI 1))).bind fun μ41 => some (0, .inr (mkN r33.1, μ41))) else xq_ (fr_opens ξ μ) fun r3 => xq_ (F2 r3) fun r10 => xq_ (fr_must ξ (nI 41) r10.2) fun r17 => (wf_ r17 5 ((r17 5 0) - (nI 1))).bind fun μ23 => some (0, .inr (r10.1, μ23))) else (if (μ 3 0) = (nI 40) then (if (μ 3 0) = (nI 6) then xq_ (fr_opens ξ μ) fun r107 => xn_ 1 (xq_ (F r107) fun r116 => (wf_ r116.2 5 ((r116.2 5 0) - (nI 1))).bind fun μ124 => some (0, .inr (mkN r116.1, μ124))) else xq_ (fr_opens ξ μ) fun r86 => xq_ (F2 r86) fun r93 => xq_ (fr_must ξ (nI 41) r93.2) fun r100 => (wf_ r100 5 ((r100 5 0) - (nI 1))).bind fun μ106 => some (0, .inr (r93.1, μ106))) else xq_ (fr_sum ξ μ) fun r43 => (if (r43.2 3 0) = (nI 60) then (fr_next ξ r43.2).bind fun μ50 => xn_ 1 (xq_ (fr_sum ξ μ50) fun r54 => some (0, .inr (mkJ r43.1 (r43.2 3 0) r54.1, r54.2))) else (if (r43.2 3 0) = (nI 61) then (fr_next ξ r43.2).bind fun μ62 => xn_ 1 (xq_ (fr_sum ξ μ62) fun r66 => some (0, .inr (mkJ r43.1 (r43.2 3 0) r66.1, r66.2))) else (if (r43.2 3 0) = (nI 62) then (fr_next ξ r43.2).bind fun μ74 => xn_ 1 (xq_ (fr_sum ξ μ74) fun r78 => some (0, .inr (mkJ r43.1 (r43.2 3 0) r78.1, r78.2))) else some (1, .inl (nI 1, r43.2 2 0)))))))) = some (N, out) := hf
  refine lv_aload_n hx hb dX3_one_0 rfl (lv_at hl 0 rfl) ?_
  refine gp_get (C := RX3) (T := TX3) E hK (oneO (dT := dT) hP) (if_pos rfl) rfl in_X3 3 (by decide) (hts _ q407) (fun _ z => z) (v := .int (μ 3 0)) rfl dX3_one_1 ?_
  refine lv_bipush (v := nI 6) hx hb dX3_one_4 rfl ?_
  refine lv_icmp_eq (tgt := 18) hx hb dX3_one_6 (by decide) (fun kc1 => ?_) (fun kc1 => ?_)
  · have hf := ite_t kc1 hf
    refine lv_aload_n hx hb dX3_one_18 rfl (lv_at hl 0 rfl) ?_
    refine gp_get (C := RX3) (T := TX3) E hK (oneO (dT := dT) hP) (if_pos rfl) rfl in_X3 3 (by decide) (hts _ q407) (fun _ z => z) (v := .int (μ 3 0)) rfl dX3_one_19 ?_
    refine lv_bipush (v := nI 6) hx hb dX3_one_22 rfl ?_
    refine lv_icmp_ne (tgt := 31) hx hb dX3_one_24 (by decide) (fun kc2 => ?_) (fun kc2 => ?_)
    · have hf := ite_f kc2 hf
      refine lv_iconst (v := nI 0) hx hb dX3_one_31 rfl ?_
      refine lv_istore_n (lv' := [(1, .int (nI 0)), (0, .ref a)]) hx hb dX3_one_32 rfl hl (by decide) rfl (fun ls hl => ?_)
      refine lv_aload_n hx hb dX3_one_33 rfl (lv_at hl 1 rfl) ?_
      rcases xq_in hf with ⟨f7, hc6, hx1⟩ | ⟨m4, r3, n5, hc6, hf, en5⟩
      · subst hx1
        exact x_thrV (A1 := nA a H.size) E hS (fun _ _ z => nA_le hsz hzs z) (fun _ z => nA_le hsz hzs z) (As := []) (tr_opens l hst D dT a g ξ β σ ρ Z H.size μ (_, .inl f7) hc6) (fun _ _ _ _ z => z) RQ_bl (RQ_pre hB hP hS hA) (RD_recv hK hP) (lw_V q700 q702 qs23 q167 q703) dr_opens rfl (by omega) (by decide) (by omega) (by omega) ht hlk hl rfl (Nat.le_of_ble_eq_true rfl) dX3_one_34
      · skip
        refine k_vv (Pic := RQ D dT a g ξ β σ ρ Z H.size μ) (Pic1 := fun H => RD D a g r3 H) (A1 := nA a H.size) E hS (fun _ _ z => nA_le hsz hzs z) (fun _ z => nA_le hsz hzs z) (As := []) (nx_met (tr_opens l hst D dT a g ξ β σ ρ Z H.size μ (_, .inr r3) hc6)) RQ_bl (RQ_pre hB hP hS hA) (RD_recv hK hP) (lw_V q700 q702 qs23 q167 q703) dr_opens rfl ⟨rfl, rfl⟩ (rmc_ok (by omega) (by decide)) ⟨show _ ≤ N by omega, show _ ≤ 24 * N by omega⟩ hl rfl (Nat.le_of_ble_eq_true rfl) dX3_one_34 (fun H locs hP hz1 hq1 hS => ?_)
        have hkp := kp_call hq1
        have hzs := hS.1
        refine lv_iload_n hx hb dX3_one_37 rfl (lv_at hl 0 rfl) ?_
        refine lv_if_eq (tgt := 55) hx hb dX3_one_38 (by decide) (fun kc9 => ?_) (fun kc9 => ?_)
        · skip
          refine lv_aload_n hx hb dX3_one_55 rfl (lv_at hl 1 rfl) ?_
          rcases xq_in hf with ⟨f14, hc13, hx1⟩ | ⟨m11, r10, n12, hc13, hf, en12⟩
          · subst hx1
            exact x_thrV (A1 := nA a H.size) E hS (fun _ _ z => nA_le hsz hzs z) (fun _ z => nA_le hsz hzs z) (As := []) (hF2 H.size r3 (_, .inl f14) hc13) (fun _ _ _ _ z => z) RQ_bl (RQ_pre hB hP hS hA) (RD_recv hK hP) (lw_V q688 q690 qs20 q167 q691) dr_any rfl (by omega) (by decide) (by omega) (by omega) ht hlk hl rfl (Nat.le_of_ble_eq_true rfl) dX3_one_56
          · skip
            refine k_vr (Pic := RQ D dT a g ξ β σ ρ Z H.size r3) (PicR := fun b H1 => (pvG (PT D) H.size) r10.1 b H1 ∧ RD D a g r10.2 H1) (A1 := nA a H.size) E hS (fun _ _ z => nA_le hsz hzs z) (fun _ z => nA_le hsz hzs z) (As := []) (nx_met (hF2 H.size r3 (_, .inr r10) hc13)) RQ_bl (RQ_pre hB hP hS hA) (RD_recv hK hP) (lw_V q688 q690 qs20 q167 q691) dr_any rfl ⟨rfl, rfl⟩ (rmc_ok (by omega) (by decide)) ⟨show _ ≤ N by omega, show _ ≤ 24 * N by omega⟩ hl rfl (Nat.le_of_ble_eq_true rfl) dX3_one_56 (fun b15 H locs hR hz1 hq1 hS => ?_)
            obtain ⟨hT15, hP⟩ := hR
            have hT15 : PT D r10.1 (fz sz []) b15 H := wkG (gK_T D) (by omega) (fun _ h => nomatch h) hT15
            have hkp := kp_call hq1
            have hzs := hS.1
            refine lv_astore_n (lv' := [(2, .ref b15), (1, .int (nI 0)), (0, .ref a)]) hx hb dX3_one_59 rfl hl (by decide) rfl (fun ls hl => ?_)
            refine lv_iload_n hx hb dX3_one_60 rfl (lv_at hl 1 rfl) ?_
            refine lv_if_ne (tgt := 70) hx hb dX3_one_61 (by decide) (fun kc16 => ?_) (fun kc16 => ?_)
            · exact absurd (by decide) kc16
            · skip
              refine lv_aload_n hx hb dX3_one_64 rfl (lv_at hl 2 rfl) ?_
              refine lv_bipush (v := nI 41) hx hb dX3_one_65 rfl ?_
              rcases xq_in hf with ⟨f21, hc20, hx1⟩ | ⟨m18, r17, n19, hc20, hf, en19⟩
              · subst hx1
                exact x_thrV (A1 := nA a H.size) E hS (fun _ _ z => nA_le hsz hzs z) (fun _ z => nA_le hsz hzs z) (As := [.int (nI 41)]) (tr_must l hst D dT a g ξ β σ ρ Z H.size (nI 41) r10.2 (_, .inl f21) hc20) (fun _ _ _ _ z => z) RQ_bl (RQ_pre hB hP hS hA) (RD_recv hK hP) (lw_V q714 q716 qs24 q167 q717) dr_must rfl (by omega) (by decide) (by omega) (by omega) ht hlk hl rfl (Nat.le_of_ble_eq_true rfl) dX3_one_67
              · skip
                refine k_vv (Pic := RQ D dT a g ξ β σ ρ Z H.size r10.2) (Pic1 := fun H => RD D a g r17 H) (A1 := nA a H.size) E hS (fun _ _ z => nA_le hsz hzs z) (fun _ z => nA_le hsz hzs z) (As := [.int (nI 41)]) (nx_met (tr_must l hst D dT a g ξ β σ ρ Z H.size (nI 41) r10.2 (_, .inr r17) hc20)) RQ_bl (RQ_pre hB hP hS hA) (RD_recv hK hP) (lw_V q714 q716 qs24 q167 q717) dr_must rfl ⟨rfl, rfl⟩ (rmc_ok (by omega) (by decide)) ⟨show _ ≤ N by omega, show _ ≤ 24 * N by omega⟩ hl rfl (Nat.le_of_ble_eq_true rfl) dX3_one_67 (fun H locs hP hz1 hq1 hS => ?_)
                have hkp := kp_call hq1
                have hT15 := kpG (gK_T D) (Or.inl hasz) hkp hT15
                have hzs := hS.1
                refine lv_aload_n hx hb dX3_one_70 rfl (lv_at hl 2 rfl) ?_
                refine lv_dup hx hb dX3_one_71 rfl ?_
                refine gp_get (C := RX3) (T := TX3) E hK (oneO (dT := dT) hP) (if_pos rfl) rfl in_X3 5 (by decide) (hts _ q409) (fun _ z => z) (v := .int (r17 5 0)) rfl dX3_one_72 ?_
                refine lv_iconst (v := nI 1) hx hb dX3_one_75 rfl ?_
                refine lv_isub hx hb dX3_one_76 ?_
                obtain ⟨μ23, hμ23, hf⟩ := ob hf
                refine gp_put (C := RX3) (T := TX3) (ty := .int) E hK (oneO (dT := dT) hP) hS (Or.inl rfl : nA a sz a) (if_pos rfl) rfl in_X3 tyX3 tyX3_ok nmX3 5 (by decide) (hts _ q409) (fun _ z => z) rfl rfl rfl rfl dX3_one_77 (fun H locs hP oq hS => ?_)
                have hP := RD_put (by decide) hμ23 hP
                have hkp := kp_put oq
                have hT15 := kpG (gK_T D) (Or.inl hasz) hkp hT15
                have hzs := hS.1
                refine lv_aload_n hx hb dX3_one_80 rfl (lv_at hl 0 rfl) ?_
                cases hf
                exact x_aret (PV := pvG (PT D) sz) E hr hlk hT15 hP hS (by omega) (by omega) dX3_one_81
        · exact absurd (by decide) kc9
    · have hf := ite_t kc2 hf
      refine lv_iconst (v := nI 1) hx hb dX3_one_27 rfl ?_
      refine lv_goto (tgt := 32) hx hb dX3_one_28 (by decide) ?_
      refine lv_istore_n (lv' := [(1, .int (nI 1)), (0, .ref a)]) hx hb dX3_one_32 rfl hl (by decide) rfl (fun ls hl => ?_)
      refine lv_aload_n hx hb dX3_one_33 rfl (lv_at hl 1 rfl) ?_
      rcases xq_in hf with ⟨f28, hc27, hx1⟩ | ⟨m25, r24, n26, hc27, hf, en26⟩
      · subst hx1
        exact x_thrV (A1 := nA a H.size) E hS (fun _ _ z => nA_le hsz hzs z) (fun _ z => nA_le hsz hzs z) (As := []) (tr_opens l hst D dT a g ξ β σ ρ Z H.size μ (_, .inl f28) hc27) (fun _ _ _ _ z => z) RQ_bl (RQ_pre hB hP hS hA) (RD_recv hK hP) (lw_V q700 q702 qs23 q167 q703) dr_opens rfl (by omega) (by decide) (by omega) (by omega) ht hlk hl rfl (Nat.le_of_ble_eq_true rfl) dX3_one_34
      · skip
        refine k_vv (Pic := RQ D dT a g ξ β σ ρ Z H.size μ) (Pic1 := fun H => RD D a g r24 H) (A1 := nA a H.size) E hS (fun _ _ z => nA_le hsz hzs z) (fun _ z => nA_le hsz hzs z) (As := []) (nx_met (tr_opens l hst D dT a g ξ β σ ρ Z H.size μ (_, .inr r24) hc27)) RQ_bl (RQ_pre hB hP hS hA) (RD_recv hK hP) (lw_V q700 q702 qs23 q167 q703) dr_opens rfl ⟨rfl, rfl⟩ (rmc_ok (by omega) (by decide)) ⟨show _ ≤ N by omega, show _ ≤ 24 * N by omega⟩ hl rfl (Nat.le_of_ble_eq_true rfl) dX3_one_34 (fun H locs hP hz1 hq1 hS => ?_)
        have hkp := kp_call hq1
        have hzs := hS.1
        refine lv_iload_n hx hb dX3_one_37 rfl (lv_at hl 0 rfl) ?_
        refine lv_if_eq (tgt := 55) hx hb dX3_one_38 (by decide) (fun kc30 => ?_) (fun kc30 => ?_)
        · exact absurd kc30 (by decide)
        · skip
          obtain ⟨n32, hf, en32⟩ := xn_in hf
          obtain ⟨q31, hqq31⟩ : ∃ z, z = H.size := ⟨_, rfl⟩
          refine x_new (B := 24) (C := RX9) (T := TX9) E hK (ci := 8) rfl in_X9 tyX9 tyX9_ok q704 q705 q179 [.null] (by decide) (by decide) (show _ ≤ N by omega) (show _ ≤ 24 * N by omega) dX3_one_41 (fun H hO31 z1 o1 => ?_)
          have hkp := kp_pure (a := a) o1
          have hP := RD_same hP o1
          have hzs := hS.1
          have hsq31 : sz ≤ q31 := by omega
          have hS := S_new hS z1 o1
          rw [← hqq31] at hO31 ⊢
          have hlq31 : q31 < H.size := by omega
          clear hkp z1 o1
          have hzs := hS.1
          refine lv_dup hx hb dX3_one_44 rfl ?_
          refine lv_aload_n hx hb dX3_one_45 rfl (lv_at hl 1 rfl) ?_
          rcases xq_in hf with ⟨f37, hc36, hx1⟩ | ⟨m34, r33, n35, hc36, hf, en35⟩
          · subst hx1
            exact x_thrV (A1 := nA a H.size) E hS (fun _ _ z => nA_le hsz hzs z) (fun _ z => nA_le hsz hzs z) (As := []) (hF H.size r24 (_, .inl f37) hc36) (fun _ _ _ _ z => z) RQ_bl (RQ_pre hB hP hS hA) (RD_recv hK hP) (lw_V q696 q698 qs22 q167 q699) dr_one rfl (by omega) (by decide) (by omega) (by omega) ht hlk hl rfl (Nat.le_of_ble_eq_true rfl) dX3_one_46
          · skip
            refine k_vr (Pic := RQ D dT a g ξ β σ ρ Z H.size r24) (PicR := fun b H1 => (pvG (PT D) H.size) r33.1 b H1 ∧ RD D a g r33.2 H1) (A1 := nA a H.size) E hS (fun _ _ z => nA_le hsz hzs z) (fun _ z => nA_le hsz hzs z) (As := []) (nx_met (hF H.size r24 (_, .inr r33) hc36)) RQ_bl (RQ_pre hB hP hS hA) (RD_recv hK hP) (lw_V q696 q698 qs22 q167 q699) dr_one rfl ⟨rfl, rfl⟩ (rmc_ok (by omega) (by decide)) ⟨show _ ≤ N by omega, show _ ≤ 24 * N by omega⟩ hl rfl (Nat.le_of_ble_eq_true rfl) dX3_one_46 (fun b38 H locs hR hz1 hq1 hS => ?_)
            obtain ⟨hT38, hP⟩ := hR
            have hlq31 := hO31.lt
            have hT38 : PT D r33.1 (fz sz [q31]) b38 H := wkG (gK_T D) (by omega) (by intro z hz; simp only [List.mem_cons, List.not_mem_nil, or_false] at hz; rcases hz with rfl <;> assumption) hT38
            have hkp := kp_call hq1
            have hO31 := oF_kp hO31 hkp (by omega)
            have hzs := hS.1
            refine k_iv (Pic := oFP D dT 8 1 [.null] q31) (Pic1 := fun H => oF D 8 1 [.ref b38] q31 H) (A1 := eqA q31) E hS (fun z _ ez => Or.inr (by rw [show z = q31 from ez]; omega)) (fun z ez => Or.inr (by rw [show z = q31 from ez]; omega)) (As := [.ref b38]) (tc_Not l D dT q31 b38) oFP_bl (oFP_pre hO31 hE) q706 q707 q179 q708 rfl dc_Not rfl ⟨rfl, rfl⟩ (rmcd_ok (by omega) (by decide)) ⟨show _ ≤ N by omega, show _ ≤ 24 * N by omega⟩ hl rfl (Nat.le_of_ble_eq_true rfl) dX3_one_49 (fun H locs hO31 hz1 hq1 hS => ?_)
            have hkp := kp_init hq1
            have hP := RD_kp hP hkp (by omega)
            have hT38 := kpG (gK_T D) (Or.inr (List.mem_cons_self)) hkp hT38
            have hT38 := dropG (gK_T D) hT38
            have hzs := hS.1
            have hT39 := mkN_ok hO31 (not_fz (L := []) (by omega) (fun h => nomatch h)) hT38
            refine lv_goto (tgt := 59) hx hb dX3_one_52 (by decide) ?_
            refine lv_astore_n (lv' := [(2, .ref q31), (1, .int (nI 1)), (0, .ref a)]) hx hb dX3_one_59 rfl hl (by decide) rfl (fun ls hl => ?_)
            refine lv_iload_n hx hb dX3_one_60 rfl (lv_at hl 1 rfl) ?_
            refine lv_if_ne (tgt := 70) hx hb dX3_one_61 (by decide) (fun kc40 => ?_) (fun kc40 => ?_)
            · skip
              refine lv_aload_n hx hb dX3_one_70 rfl (lv_at hl 2 rfl) ?_
              refine lv_dup hx hb dX3_one_71 rfl ?_
              refine gp_get (C := RX3) (T := TX3) E hK (oneO (dT := dT) hP) (if_pos rfl) rfl in_X3 5 (by decide) (hts _ q409) (fun _ z => z) (v := .int (r33.2 5 0)) rfl dX3_one_72 ?_
              refine lv_iconst (v := nI 1) hx hb dX3_one_75 rfl ?_
              refine lv_isub hx hb dX3_one_76 ?_
              obtain ⟨μ41, hμ41, hf⟩ := ob hf
              refine gp_put (C := RX3) (T := TX3) (ty := .int) E hK (oneO (dT := dT) hP) hS (Or.inl rfl : nA a sz a) (if_pos rfl) rfl in_X3 tyX3 tyX3_ok nmX3 5 (by decide) (hts _ q409) (fun _ z => z) rfl rfl rfl rfl dX3_one_77 (fun H locs hP oq hS => ?_)
              have hP := RD_put (by decide) hμ41 hP
              have hkp := kp_put oq
              have hT38 := kpG (gK_T D) (Or.inl hasz) hkp hT38
              have hT39 := kpG (gK_T D) (Or.inl hasz) hkp hT39
              have hzs := hS.1
              refine lv_aload_n hx hb dX3_one_80 rfl (lv_at hl 0 rfl) ?_
              cases hf
              exact x_aret (PV := pvG (PT D) sz) E hr hlk hT39 hP hS (by omega) (by omega) dX3_one_81
            · exact absurd kc40 (by decide)
  · have hf := ite_f kc1 hf
    refine lv_aload_n hx hb dX3_one_9 rfl (lv_at hl 0 rfl) ?_
    refine gp_get (C := RX3) (T := TX3) E hK (oneO (dT := dT) hP) (if_pos rfl) rfl in_X3 3 (by decide) (hts _ q407) (fun _ z => z) (v := .int (μ 3 0)) rfl dX3_one_10 ?_
    refine lv_bipush (v := nI 40) hx hb dX3_one_13 rfl ?_
    refine lv_icmp_ne (tgt := 82) hx hb dX3_one_15 (by decide) (fun kc42 => ?_) (fun kc42 => ?_)
    · have hf := ite_f kc42 hf
      refine lv_aload_n hx hb dX3_one_82 rfl (lv_at hl 0 rfl) ?_
      rcases xq_in hf with ⟨f47, hc46, hx1⟩ | ⟨m44, r43, n45, hc46, hf, en45⟩
      · subst hx1
        exact x_thrV (A1 := nA a H.size) E hS (fun _ _ z => nA_le hsz hzs z) (fun _ z => nA_le hsz hzs z) (As := []) (tr_sum l hst D dT a g ξ β σ ρ Z H.size μ (_, .inl f47) hc46) (fun _ _ _ _ z => z) RQ_bl (RQ_pre hB hP hS hA) (RD_recv hK hP) (lw_V q633 q635 qs16 q167 q636) dr_sum rfl (by omega) (by decide) (by omega) (by omega) ht hlk hl rfl (Nat.le_of_ble_eq_true rfl) dX3_one_83
      · skip
        refine k_vr (Pic := RQ D dT a g ξ β σ ρ Z H.size μ) (PicR := fun b H1 => (pvG (PT D) H.size) r43.1 b H1 ∧ RD D a g r43.2 H1) (A1 := nA a H.size) E hS (fun _ _ z => nA_le hsz hzs z) (fun _ z => nA_le hsz hzs z) (As := []) (nx_met (tr_sum l hst D dT a g ξ β σ ρ Z H.size μ (_, .inr r43) hc46)) RQ_bl (RQ_pre hB hP hS hA) (RD_recv hK hP) (lw_V q633 q635 qs16 q167 q636) dr_sum rfl ⟨rfl, rfl⟩ (rmc_ok (by omega) (by decide)) ⟨show _ ≤ N by omega, show _ ≤ 24 * N by omega⟩ hl rfl (Nat.le_of_ble_eq_true rfl) dX3_one_83 (fun b48 H locs hR hz1 hq1 hS => ?_)
        obtain ⟨hT48, hP⟩ := hR
        have hT48 : PT D r43.1 (fz sz []) b48 H := wkG (gK_T D) (by omega) (fun _ h => nomatch h) hT48
        have hkp := kp_call hq1
        have hzs := hS.1
        refine lv_astore_n (lv' := [(1, .ref b48), (0, .ref a)]) hx hb dX3_one_86 rfl hl (by decide) rfl (fun ls hl => ?_)
        refine lv_aload_n hx hb dX3_one_87 rfl (lv_at hl 1 rfl) ?_
        refine gp_get (C := RX3) (T := TX3) E hK (oneO (dT := dT) hP) (if_pos rfl) rfl in_X3 3 (by decide) (hts _ q407) (fun _ z => z) (v := .int (r43.2 3 0)) rfl dX3_one_88 ?_
        refine lv_istore_n (lv' := [(2, .int (r43.2 3 0)), (1, .ref b48), (0, .ref a)]) hx hb dX3_one_91 rfl hl (by decide) rfl (fun ls hl => ?_)
        refine lv_iload_n hx hb dX3_one_92 rfl (lv_at hl 0 rfl) ?_
        refine lv_bipush (v := nI 60) hx hb dX3_one_93 rfl ?_
        refine lv_icmp_eq (tgt := 123) hx hb dX3_one_95 (by decide) (fun kc49 => ?_) (fun kc49 => ?_)
        · have hf := ite_t kc49 hf
          refine lv_aload_n hx hb dX3_one_123 rfl (lv_at hl 2 rfl) ?_
          obtain ⟨μ50, hc51, hf⟩ := ob hf
          refine k_vv (Pic := RP D dT a g ξ β σ ρ Z r43.2) (Pic1 := fun H => RD D a g μ50 H) (A1 := rA a) E hS (fun _ _ z => Or.inl z) (fun _ z => Or.inl z) (As := []) (tr_next l D dT a g ξ β σ ρ Z r43.2 _ hc51) RP_bl (RP_pre hB hP hS hA) (RD_recv hK hP) (lw_V q432 q434 qs2 q167 q435) dr_next rfl ⟨rfl, rfl⟩ (rmcd_ok (by omega) (by decide)) ⟨show _ ≤ N by omega, show _ ≤ 24 * N by omega⟩ hl rfl (Nat.le_of_ble_eq_true rfl) dX3_one_124 (fun H locs hP _ hq1 hS => ?_)
          have hkp := kp_call0 hq1
          have hT48 := kpG (gK_T D) (Or.inl hasz) hkp hT48
          have hzs := hS.1
          obtain ⟨n53, hf, en53⟩ := xn_in hf
          obtain ⟨q52, hqq52⟩ : ∃ z, z = H.size := ⟨_, rfl⟩
          refine x_new (B := 24) (C := RX8) (T := TX8) E hK (ci := 7) rfl in_X8 tyX8 tyX8_ok q672 q673 q178 [.null, .null, .int 0] (by decide) (by decide) (show _ ≤ N by omega) (show _ ≤ 24 * N by omega) dX3_one_127 (fun H hO52 z1 o1 => ?_)
          have hT48 := frG (gK_T D) hqq52 hT48
          have hkp := kp_pure (a := a) o1
          have hP := RD_same hP o1
          have hzs := hS.1
          have hsq52 : sz ≤ q52 := by omega
          have hS := S_new hS z1 o1
          have hT48 := kpG (gK_T D) (Or.inl hasz) hkp hT48
          rw [← hqq52] at hO52 ⊢
          have hlq52 : q52 < H.size := by omega
          clear hkp z1 o1
          have hzs := hS.1
          refine lv_dup hx hb dX3_one_130 rfl ?_
          refine lv_aload_n hx hb dX3_one_131 rfl (lv_at hl 1 rfl) ?_
          refine lv_iload_n hx hb dX3_one_132 rfl (lv_at hl 0 rfl) ?_
          refine lv_aload_n hx hb dX3_one_133 rfl (lv_at hl 2 rfl) ?_
          rcases xq_in hf with ⟨f58, hc57, hx1⟩ | ⟨m55, r54, n56, hc57, hf, en56⟩
          · subst hx1
            exact x_thrV (A1 := nA a H.size) E hS (fun _ _ z => nA_le hsz hzs z) (fun _ z => nA_le hsz hzs z) (As := []) (tr_sum l hst D dT a g ξ β σ ρ Z H.size μ50 (_, .inl f58) hc57) (fun _ _ _ _ z => z) RQ_bl (RQ_pre hB hP hS hA) (RD_recv hK hP) (lw_V q633 q635 qs16 q167 q636) dr_sum rfl (by omega) (by decide) (by omega) (by omega) ht hlk hl rfl (Nat.le_of_ble_eq_true rfl) dX3_one_134
          · skip
            refine k_vr (Pic := RQ D dT a g ξ β σ ρ Z H.size μ50) (PicR := fun b H1 => (pvG (PT D) H.size) r54.1 b H1 ∧ RD D a g r54.2 H1) (A1 := nA a H.size) E hS (fun _ _ z => nA_le hsz hzs z) (fun _ z => nA_le hsz hzs z) (As := []) (nx_met (tr_sum l hst D dT a g ξ β σ ρ Z H.size μ50 (_, .inr r54) hc57)) RQ_bl (RQ_pre hB hP hS hA) (RD_recv hK hP) (lw_V q633 q635 qs16 q167 q636) dr_sum rfl ⟨rfl, rfl⟩ (rmc_ok (by omega) (by decide)) ⟨show _ ≤ N by omega, show _ ≤ 24 * N by omega⟩ hl rfl (Nat.le_of_ble_eq_true rfl) dX3_one_134 (fun b59 H locs hR hz1 hq1 hS => ?_)
            obtain ⟨hT59, hP⟩ := hR
            have hlq52 := hO52.lt
            have hT59 : PT D r54.1 (fz sz [q52]) b59 H := wkG (gK_T D) (by omega) (by intro z hz; simp only [List.mem_cons, List.not_mem_nil, or_false] at hz; rcases hz with rfl <;> assumption) hT59
            have hkp := kp_call hq1
            have hT48 := kpG (gK_T D) (Or.inl hasz) hkp hT48
            have hO52 := oF_kp hO52 hkp (by omega)
            have hzs := hS.1
            refine k_iv (Pic := oFP D dT 7 3 [.null, .null, .int 0] q52) (Pic1 := fun H => oF D 7 3 [.ref b48, .ref b59, .int (r43.2 3 0)] q52 H) (A1 := eqA q52) E hS (fun z _ ez => Or.inr (by rw [show z = q52 from ez]; omega)) (fun z ez => Or.inr (by rw [show z = q52 from ez]; omega)) (As := [.ref b48, .int (r43.2 3 0), .ref b59]) (tc_Joined l D dT q52 b48 (r43.2 3 0) b59) oFP_bl (oFP_pre hO52 hE) q674 q675 q178 q676 rfl dc_Joined rfl ⟨rfl, rfl⟩ (rmcd_ok (by omega) (by decide)) ⟨show _ ≤ N by omega, show _ ≤ 24 * N by omega⟩ hl rfl (Nat.le_of_ble_eq_true rfl) dX3_one_137 (fun H locs hO52 hz1 hq1 hS => ?_)
            have hkp := kp_init hq1
            have hP := RD_kp hP hkp (by omega)
            have hT48 := kpG (gK_T D) (Or.inr (List.mem_cons_self)) hkp hT48
            have hT59 := kpG (gK_T D) (Or.inr (List.mem_cons_self)) hkp hT59
            have hT48 := dropG (gK_T D) hT48
            have hT59 := dropG (gK_T D) hT59
            have hzs := hS.1
            have hT60 := mkJ_ok hO52 (not_fz (L := []) (by omega) (fun h => nomatch h)) hT48 hT59
            cases hf
            exact x_aret (PV := pvG (PT D) sz) E hr hlk hT60 hP hS (by omega) (by omega) dX3_one_140
        · have hf := ite_f kc49 hf
          refine lv_iload_n hx hb dX3_one_98 rfl (lv_at hl 0 rfl) ?_
          refine lv_bipush (v := nI 61) hx hb dX3_one_99 rfl ?_
          refine lv_icmp_eq (tgt := 123) hx hb dX3_one_101 (by decide) (fun kc61 => ?_) (fun kc61 => ?_)
          · have hf := ite_t kc61 hf
            refine lv_aload_n hx hb dX3_one_123 rfl (lv_at hl 2 rfl) ?_
            obtain ⟨μ62, hc63, hf⟩ := ob hf
            refine k_vv (Pic := RP D dT a g ξ β σ ρ Z r43.2) (Pic1 := fun H => RD D a g μ62 H) (A1 := rA a) E hS (fun _ _ z => Or.inl z) (fun _ z => Or.inl z) (As := []) (tr_next l D dT a g ξ β σ ρ Z r43.2 _ hc63) RP_bl (RP_pre hB hP hS hA) (RD_recv hK hP) (lw_V q432 q434 qs2 q167 q435) dr_next rfl ⟨rfl, rfl⟩ (rmcd_ok (by omega) (by decide)) ⟨show _ ≤ N by omega, show _ ≤ 24 * N by omega⟩ hl rfl (Nat.le_of_ble_eq_true rfl) dX3_one_124 (fun H locs hP _ hq1 hS => ?_)
            have hkp := kp_call0 hq1
            have hT48 := kpG (gK_T D) (Or.inl hasz) hkp hT48
            have hzs := hS.1
            obtain ⟨n65, hf, en65⟩ := xn_in hf
            obtain ⟨q64, hqq64⟩ : ∃ z, z = H.size := ⟨_, rfl⟩
            refine x_new (B := 24) (C := RX8) (T := TX8) E hK (ci := 7) rfl in_X8 tyX8 tyX8_ok q672 q673 q178 [.null, .null, .int 0] (by decide) (by decide) (show _ ≤ N by omega) (show _ ≤ 24 * N by omega) dX3_one_127 (fun H hO64 z1 o1 => ?_)
            have hT48 := frG (gK_T D) hqq64 hT48
            have hkp := kp_pure (a := a) o1
            have hP := RD_same hP o1
            have hzs := hS.1
            have hsq64 : sz ≤ q64 := by omega
            have hS := S_new hS z1 o1
            have hT48 := kpG (gK_T D) (Or.inl hasz) hkp hT48
            rw [← hqq64] at hO64 ⊢
            have hlq64 : q64 < H.size := by omega
            clear hkp z1 o1
            have hzs := hS.1
            refine lv_dup hx hb dX3_one_130 rfl ?_
            refine lv_aload_n hx hb dX3_one_131 rfl (lv_at hl 1 rfl) ?_
            refine lv_iload_n hx hb dX3_one_132 rfl (lv_at hl 0 rfl) ?_
            refine lv_aload_n hx hb dX3_one_133 rfl (lv_at hl 2 rfl) ?_
            rcases xq_in hf with ⟨f70, hc69, hx1⟩ | ⟨m67, r66, n68, hc69, hf, en68⟩
            · subst hx1
              exact x_thrV (A1 := nA a H.size) E hS (fun _ _ z => nA_le hsz hzs z) (fun _ z => nA_le hsz hzs z) (As := []) (tr_sum l hst D dT a g ξ β σ ρ Z H.size μ62 (_, .inl f70) hc69) (fun _ _ _ _ z => z) RQ_bl (RQ_pre hB hP hS hA) (RD_recv hK hP) (lw_V q633 q635 qs16 q167 q636) dr_sum rfl (by omega) (by decide) (by omega) (by omega) ht hlk hl rfl (Nat.le_of_ble_eq_true rfl) dX3_one_134
            · skip
              refine k_vr (Pic := RQ D dT a g ξ β σ ρ Z H.size μ62) (PicR := fun b H1 => (pvG (PT D) H.size) r66.1 b H1 ∧ RD D a g r66.2 H1) (A1 := nA a H.size) E hS (fun _ _ z => nA_le hsz hzs z) (fun _ z => nA_le hsz hzs z) (As := []) (nx_met (tr_sum l hst D dT a g ξ β σ ρ Z H.size μ62 (_, .inr r66) hc69)) RQ_bl (RQ_pre hB hP hS hA) (RD_recv hK hP) (lw_V q633 q635 qs16 q167 q636) dr_sum rfl ⟨rfl, rfl⟩ (rmc_ok (by omega) (by decide)) ⟨show _ ≤ N by omega, show _ ≤ 24 * N by omega⟩ hl rfl (Nat.le_of_ble_eq_true rfl) dX3_one_134 (fun b71 H locs hR hz1 hq1 hS => ?_)
              obtain ⟨hT71, hP⟩ := hR
              have hlq64 := hO64.lt
              have hT71 : PT D r66.1 (fz sz [q64]) b71 H := wkG (gK_T D) (by omega) (by intro z hz; simp only [List.mem_cons, List.not_mem_nil, or_false] at hz; rcases hz with rfl <;> assumption) hT71
              have hkp := kp_call hq1
              have hT48 := kpG (gK_T D) (Or.inl hasz) hkp hT48
              have hO64 := oF_kp hO64 hkp (by omega)
              have hzs := hS.1
              refine k_iv (Pic := oFP D dT 7 3 [.null, .null, .int 0] q64) (Pic1 := fun H => oF D 7 3 [.ref b48, .ref b71, .int (r43.2 3 0)] q64 H) (A1 := eqA q64) E hS (fun z _ ez => Or.inr (by rw [show z = q64 from ez]; omega)) (fun z ez => Or.inr (by rw [show z = q64 from ez]; omega)) (As := [.ref b48, .int (r43.2 3 0), .ref b71]) (tc_Joined l D dT q64 b48 (r43.2 3 0) b71) oFP_bl (oFP_pre hO64 hE) q674 q675 q178 q676 rfl dc_Joined rfl ⟨rfl, rfl⟩ (rmcd_ok (by omega) (by decide)) ⟨show _ ≤ N by omega, show _ ≤ 24 * N by omega⟩ hl rfl (Nat.le_of_ble_eq_true rfl) dX3_one_137 (fun H locs hO64 hz1 hq1 hS => ?_)
              have hkp := kp_init hq1
              have hP := RD_kp hP hkp (by omega)
              have hT48 := kpG (gK_T D) (Or.inr (List.mem_cons_self)) hkp hT48
              have hT71 := kpG (gK_T D) (Or.inr (List.mem_cons_self)) hkp hT71
              have hT48 := dropG (gK_T D) hT48
              have hT71 := dropG (gK_T D) hT71
              have hzs := hS.1
              have hT72 := mkJ_ok hO64 (not_fz (L := []) (by omega) (fun h => nomatch h)) hT48 hT71
              cases hf
              exact x_aret (PV := pvG (PT D) sz) E hr hlk hT72 hP hS (by omega) (by omega) dX3_one_140
          · have hf := ite_f kc61 hf
            refine lv_iload_n hx hb dX3_one_104 rfl (lv_at hl 0 rfl) ?_
            refine lv_bipush (v := nI 62) hx hb dX3_one_105 rfl ?_
            refine lv_icmp_eq (tgt := 123) hx hb dX3_one_107 (by decide) (fun kc73 => ?_) (fun kc73 => ?_)
            · have hf := ite_t kc73 hf
              refine lv_aload_n hx hb dX3_one_123 rfl (lv_at hl 2 rfl) ?_
              obtain ⟨μ74, hc75, hf⟩ := ob hf
              refine k_vv (Pic := RP D dT a g ξ β σ ρ Z r43.2) (Pic1 := fun H => RD D a g μ74 H) (A1 := rA a) E hS (fun _ _ z => Or.inl z) (fun _ z => Or.inl z) (As := []) (tr_next l D dT a g ξ β σ ρ Z r43.2 _ hc75) RP_bl (RP_pre hB hP hS hA) (RD_recv hK hP) (lw_V q432 q434 qs2 q167 q435) dr_next rfl ⟨rfl, rfl⟩ (rmcd_ok (by omega) (by decide)) ⟨show _ ≤ N by omega, show _ ≤ 24 * N by omega⟩ hl rfl (Nat.le_of_ble_eq_true rfl) dX3_one_124 (fun H locs hP _ hq1 hS => ?_)
              have hkp := kp_call0 hq1
              have hT48 := kpG (gK_T D) (Or.inl hasz) hkp hT48
              have hzs := hS.1
              obtain ⟨n77, hf, en77⟩ := xn_in hf
              obtain ⟨q76, hqq76⟩ : ∃ z, z = H.size := ⟨_, rfl⟩
              refine x_new (B := 24) (C := RX8) (T := TX8) E hK (ci := 7) rfl in_X8 tyX8 tyX8_ok q672 q673 q178 [.null, .null, .int 0] (by decide) (by decide) (show _ ≤ N by omega) (show _ ≤ 24 * N by omega) dX3_one_127 (fun H hO76 z1 o1 => ?_)
              have hT48 := frG (gK_T D) hqq76 hT48
              have hkp := kp_pure (a := a) o1
              have hP := RD_same hP o1
              have hzs := hS.1
              have hsq76 : sz ≤ q76 := by omega
              have hS := S_new hS z1 o1
              have hT48 := kpG (gK_T D) (Or.inl hasz) hkp hT48
              rw [← hqq76] at hO76 ⊢
              have hlq76 : q76 < H.size := by omega
              clear hkp z1 o1
              have hzs := hS.1
              refine lv_dup hx hb dX3_one_130 rfl ?_
              refine lv_aload_n hx hb dX3_one_131 rfl (lv_at hl 1 rfl) ?_
              refine lv_iload_n hx hb dX3_one_132 rfl (lv_at hl 0 rfl) ?_
              refine lv_aload_n hx hb dX3_one_133 rfl (lv_at hl 2 rfl) ?_
              rcases xq_in hf with ⟨f82, hc81, hx1⟩ | ⟨m79, r78, n80, hc81, hf, en80⟩
              · subst hx1
                exact x_thrV (A1 := nA a H.size) E hS (fun _ _ z => nA_le hsz hzs z) (fun _ z => nA_le hsz hzs z) (As := []) (tr_sum l hst D dT a g ξ β σ ρ Z H.size μ74 (_, .inl f82) hc81) (fun _ _ _ _ z => z) RQ_bl (RQ_pre hB hP hS hA) (RD_recv hK hP) (lw_V q633 q635 qs16 q167 q636) dr_sum rfl (by omega) (by decide) (by omega) (by omega) ht hlk hl rfl (Nat.le_of_ble_eq_true rfl) dX3_one_134
              · skip
                refine k_vr (Pic := RQ D dT a g ξ β σ ρ Z H.size μ74) (PicR := fun b H1 => (pvG (PT D) H.size) r78.1 b H1 ∧ RD D a g r78.2 H1) (A1 := nA a H.size) E hS (fun _ _ z => nA_le hsz hzs z) (fun _ z => nA_le hsz hzs z) (As := []) (nx_met (tr_sum l hst D dT a g ξ β σ ρ Z H.size μ74 (_, .inr r78) hc81)) RQ_bl (RQ_pre hB hP hS hA) (RD_recv hK hP) (lw_V q633 q635 qs16 q167 q636) dr_sum rfl ⟨rfl, rfl⟩ (rmc_ok (by omega) (by decide)) ⟨show _ ≤ N by omega, show _ ≤ 24 * N by omega⟩ hl rfl (Nat.le_of_ble_eq_true rfl) dX3_one_134 (fun b83 H locs hR hz1 hq1 hS => ?_)
                obtain ⟨hT83, hP⟩ := hR
                have hlq76 := hO76.lt
                have hT83 : PT D r78.1 (fz sz [q76]) b83 H := wkG (gK_T D) (by omega) (by intro z hz; simp only [List.mem_cons, List.not_mem_nil, or_false] at hz; rcases hz with rfl <;> assumption) hT83
                have hkp := kp_call hq1
                have hT48 := kpG (gK_T D) (Or.inl hasz) hkp hT48
                have hO76 := oF_kp hO76 hkp (by omega)
                have hzs := hS.1
                refine k_iv (Pic := oFP D dT 7 3 [.null, .null, .int 0] q76) (Pic1 := fun H => oF D 7 3 [.ref b48, .ref b83, .int (r43.2 3 0)] q76 H) (A1 := eqA q76) E hS (fun z _ ez => Or.inr (by rw [show z = q76 from ez]; omega)) (fun z ez => Or.inr (by rw [show z = q76 from ez]; omega)) (As := [.ref b48, .int (r43.2 3 0), .ref b83]) (tc_Joined l D dT q76 b48 (r43.2 3 0) b83) oFP_bl (oFP_pre hO76 hE) q674 q675 q178 q676 rfl dc_Joined rfl ⟨rfl, rfl⟩ (rmcd_ok (by omega) (by decide)) ⟨show _ ≤ N by omega, show _ ≤ 24 * N by omega⟩ hl rfl (Nat.le_of_ble_eq_true rfl) dX3_one_137 (fun H locs hO76 hz1 hq1 hS => ?_)
                have hkp := kp_init hq1
                have hP := RD_kp hP hkp (by omega)
                have hT48 := kpG (gK_T D) (Or.inr (List.mem_cons_self)) hkp hT48
                have hT83 := kpG (gK_T D) (Or.inr (List.mem_cons_self)) hkp hT83
                have hT48 := dropG (gK_T D) hT48
                have hT83 := dropG (gK_T D) hT83
                have hzs := hS.1
                have hT84 := mkJ_ok hO76 (not_fz (L := []) (by omega) (fun h => nomatch h)) hT48 hT83
                cases hf
                exact x_aret (PV := pvG (PT D) sz) E hr hlk hT84 hP hS (by omega) (by omega) dX3_one_140
            · have hf := ite_f kc73 hf
              cases hf
              exact r_throw hst E hB ht hlk hP hS hsz hl (lv_at hl 2 rfl) (by omega) (by omega) (by omega) dX3_one_110 dX3_one_113 dX3_one_114 rfl dX3_one_115 dX3_one_116 dX3_one_119 dX3_one_122
    · have hf := ite_t kc42 hf
      refine lv_aload_n hx hb dX3_one_18 rfl (lv_at hl 0 rfl) ?_
      refine gp_get (C := RX3) (T := TX3) E hK (oneO (dT := dT) hP) (if_pos rfl) rfl in_X3 3 (by decide) (hts _ q407) (fun _ z => z) (v := .int (μ 3 0)) rfl dX3_one_19 ?_
      refine lv_bipush (v := nI 6) hx hb dX3_one_22 rfl ?_
      refine lv_icmp_ne (tgt := 31) hx hb dX3_one_24 (by decide) (fun kc85 => ?_) (fun kc85 => ?_)
      · have hf := ite_f kc85 hf
        refine lv_iconst (v := nI 0) hx hb dX3_one_31 rfl ?_
        refine lv_istore_n (lv' := [(1, .int (nI 0)), (0, .ref a)]) hx hb dX3_one_32 rfl hl (by decide) rfl (fun ls hl => ?_)
        refine lv_aload_n hx hb dX3_one_33 rfl (lv_at hl 1 rfl) ?_
        rcases xq_in hf with ⟨f90, hc89, hx1⟩ | ⟨m87, r86, n88, hc89, hf, en88⟩
        · subst hx1
          exact x_thrV (A1 := nA a H.size) E hS (fun _ _ z => nA_le hsz hzs z) (fun _ z => nA_le hsz hzs z) (As := []) (tr_opens l hst D dT a g ξ β σ ρ Z H.size μ (_, .inl f90) hc89) (fun _ _ _ _ z => z) RQ_bl (RQ_pre hB hP hS hA) (RD_recv hK hP) (lw_V q700 q702 qs23 q167 q703) dr_opens rfl (by omega) (by decide) (by omega) (by omega) ht hlk hl rfl (Nat.le_of_ble_eq_true rfl) dX3_one_34
        · skip
          refine k_vv (Pic := RQ D dT a g ξ β σ ρ Z H.size μ) (Pic1 := fun H => RD D a g r86 H) (A1 := nA a H.size) E hS (fun _ _ z => nA_le hsz hzs z) (fun _ z => nA_le hsz hzs z) (As := []) (nx_met (tr_opens l hst D dT a g ξ β σ ρ Z H.size μ (_, .inr r86) hc89)) RQ_bl (RQ_pre hB hP hS hA) (RD_recv hK hP) (lw_V q700 q702 qs23 q167 q703) dr_opens rfl ⟨rfl, rfl⟩ (rmc_ok (by omega) (by decide)) ⟨show _ ≤ N by omega, show _ ≤ 24 * N by omega⟩ hl rfl (Nat.le_of_ble_eq_true rfl) dX3_one_34 (fun H locs hP hz1 hq1 hS => ?_)
          have hkp := kp_call hq1
          have hzs := hS.1
          refine lv_iload_n hx hb dX3_one_37 rfl (lv_at hl 0 rfl) ?_
          refine lv_if_eq (tgt := 55) hx hb dX3_one_38 (by decide) (fun kc92 => ?_) (fun kc92 => ?_)
          · skip
            refine lv_aload_n hx hb dX3_one_55 rfl (lv_at hl 1 rfl) ?_
            rcases xq_in hf with ⟨f97, hc96, hx1⟩ | ⟨m94, r93, n95, hc96, hf, en95⟩
            · subst hx1
              exact x_thrV (A1 := nA a H.size) E hS (fun _ _ z => nA_le hsz hzs z) (fun _ z => nA_le hsz hzs z) (As := []) (hF2 H.size r86 (_, .inl f97) hc96) (fun _ _ _ _ z => z) RQ_bl (RQ_pre hB hP hS hA) (RD_recv hK hP) (lw_V q688 q690 qs20 q167 q691) dr_any rfl (by omega) (by decide) (by omega) (by omega) ht hlk hl rfl (Nat.le_of_ble_eq_true rfl) dX3_one_56
            · skip
              refine k_vr (Pic := RQ D dT a g ξ β σ ρ Z H.size r86) (PicR := fun b H1 => (pvG (PT D) H.size) r93.1 b H1 ∧ RD D a g r93.2 H1) (A1 := nA a H.size) E hS (fun _ _ z => nA_le hsz hzs z) (fun _ z => nA_le hsz hzs z) (As := []) (nx_met (hF2 H.size r86 (_, .inr r93) hc96)) RQ_bl (RQ_pre hB hP hS hA) (RD_recv hK hP) (lw_V q688 q690 qs20 q167 q691) dr_any rfl ⟨rfl, rfl⟩ (rmc_ok (by omega) (by decide)) ⟨show _ ≤ N by omega, show _ ≤ 24 * N by omega⟩ hl rfl (Nat.le_of_ble_eq_true rfl) dX3_one_56 (fun b98 H locs hR hz1 hq1 hS => ?_)
              obtain ⟨hT98, hP⟩ := hR
              have hT98 : PT D r93.1 (fz sz []) b98 H := wkG (gK_T D) (by omega) (fun _ h => nomatch h) hT98
              have hkp := kp_call hq1
              have hzs := hS.1
              refine lv_astore_n (lv' := [(2, .ref b98), (1, .int (nI 0)), (0, .ref a)]) hx hb dX3_one_59 rfl hl (by decide) rfl (fun ls hl => ?_)
              refine lv_iload_n hx hb dX3_one_60 rfl (lv_at hl 1 rfl) ?_
              refine lv_if_ne (tgt := 70) hx hb dX3_one_61 (by decide) (fun kc99 => ?_) (fun kc99 => ?_)
              · exact absurd (by decide) kc99
              · skip
                refine lv_aload_n hx hb dX3_one_64 rfl (lv_at hl 2 rfl) ?_
                refine lv_bipush (v := nI 41) hx hb dX3_one_65 rfl ?_
                rcases xq_in hf with ⟨f104, hc103, hx1⟩ | ⟨m101, r100, n102, hc103, hf, en102⟩
                · subst hx1
                  exact x_thrV (A1 := nA a H.size) E hS (fun _ _ z => nA_le hsz hzs z) (fun _ z => nA_le hsz hzs z) (As := [.int (nI 41)]) (tr_must l hst D dT a g ξ β σ ρ Z H.size (nI 41) r93.2 (_, .inl f104) hc103) (fun _ _ _ _ z => z) RQ_bl (RQ_pre hB hP hS hA) (RD_recv hK hP) (lw_V q714 q716 qs24 q167 q717) dr_must rfl (by omega) (by decide) (by omega) (by omega) ht hlk hl rfl (Nat.le_of_ble_eq_true rfl) dX3_one_67
                · skip
                  refine k_vv (Pic := RQ D dT a g ξ β σ ρ Z H.size r93.2) (Pic1 := fun H => RD D a g r100 H) (A1 := nA a H.size) E hS (fun _ _ z => nA_le hsz hzs z) (fun _ z => nA_le hsz hzs z) (As := [.int (nI 41)]) (nx_met (tr_must l hst D dT a g ξ β σ ρ Z H.size (nI 41) r93.2 (_, .inr r100) hc103)) RQ_bl (RQ_pre hB hP hS hA) (RD_recv hK hP) (lw_V q714 q716 qs24 q167 q717) dr_must rfl ⟨rfl, rfl⟩ (rmc_ok (by omega) (by decide)) ⟨show _ ≤ N by omega, show _ ≤ 24 * N by omega⟩ hl rfl (Nat.le_of_ble_eq_true rfl) dX3_one_67 (fun H locs hP hz1 hq1 hS => ?_)
                  have hkp := kp_call hq1
                  have hT98 := kpG (gK_T D) (Or.inl hasz) hkp hT98
                  have hzs := hS.1
                  refine lv_aload_n hx hb dX3_one_70 rfl (lv_at hl 2 rfl) ?_
                  refine lv_dup hx hb dX3_one_71 rfl ?_
                  refine gp_get (C := RX3) (T := TX3) E hK (oneO (dT := dT) hP) (if_pos rfl) rfl in_X3 5 (by decide) (hts _ q409) (fun _ z => z) (v := .int (r100 5 0)) rfl dX3_one_72 ?_
                  refine lv_iconst (v := nI 1) hx hb dX3_one_75 rfl ?_
                  refine lv_isub hx hb dX3_one_76 ?_
                  obtain ⟨μ106, hμ106, hf⟩ := ob hf
                  refine gp_put (C := RX3) (T := TX3) (ty := .int) E hK (oneO (dT := dT) hP) hS (Or.inl rfl : nA a sz a) (if_pos rfl) rfl in_X3 tyX3 tyX3_ok nmX3 5 (by decide) (hts _ q409) (fun _ z => z) rfl rfl rfl rfl dX3_one_77 (fun H locs hP oq hS => ?_)
                  have hP := RD_put (by decide) hμ106 hP
                  have hkp := kp_put oq
                  have hT98 := kpG (gK_T D) (Or.inl hasz) hkp hT98
                  have hzs := hS.1
                  refine lv_aload_n hx hb dX3_one_80 rfl (lv_at hl 0 rfl) ?_
                  cases hf
                  exact x_aret (PV := pvG (PT D) sz) E hr hlk hT98 hP hS (by omega) (by omega) dX3_one_81
          · exact absurd (by decide) kc92
      · have hf := ite_t kc85 hf
        refine lv_iconst (v := nI 1) hx hb dX3_one_27 rfl ?_
        refine lv_goto (tgt := 32) hx hb dX3_one_28 (by decide) ?_
        refine lv_istore_n (lv' := [(1, .int (nI 1)), (0, .ref a)]) hx hb dX3_one_32 rfl hl (by decide) rfl (fun ls hl => ?_)
        refine lv_aload_n hx hb dX3_one_33 rfl (lv_at hl 1 rfl) ?_
        rcases xq_in hf with ⟨f111, hc110, hx1⟩ | ⟨m108, r107, n109, hc110, hf, en109⟩
        · subst hx1
          exact x_thrV (A1 := nA a H.size) E hS (fun _ _ z => nA_le hsz hzs z) (fun _ z => nA_le hsz hzs z) (As := []) (tr_opens l hst D dT a g ξ β σ ρ Z H.size μ (_, .inl f111) hc110) (fun _ _ _ _ z => z) RQ_bl (RQ_pre hB hP hS hA) (RD_recv hK hP) (lw_V q700 q702 qs23 q167 q703) dr_opens rfl (by omega) (by decide) (by omega) (by omega) ht hlk hl rfl (Nat.le_of_ble_eq_true rfl) dX3_one_34
        · skip
          refine k_vv (Pic := RQ D dT a g ξ β σ ρ Z H.size μ) (Pic1 := fun H => RD D a g r107 H) (A1 := nA a H.size) E hS (fun _ _ z => nA_le hsz hzs z) (fun _ z => nA_le hsz hzs z) (As := []) (nx_met (tr_opens l hst D dT a g ξ β σ ρ Z H.size μ (_, .inr r107) hc110)) RQ_bl (RQ_pre hB hP hS hA) (RD_recv hK hP) (lw_V q700 q702 qs23 q167 q703) dr_opens rfl ⟨rfl, rfl⟩ (rmc_ok (by omega) (by decide)) ⟨show _ ≤ N by omega, show _ ≤ 24 * N by omega⟩ hl rfl (Nat.le_of_ble_eq_true rfl) dX3_one_34 (fun H locs hP hz1 hq1 hS => ?_)
          have hkp := kp_call hq1
          have hzs := hS.1
          refine lv_iload_n hx hb dX3_one_37 rfl (lv_at hl 0 rfl) ?_
          refine lv_if_eq (tgt := 55) hx hb dX3_one_38 (by decide) (fun kc113 => ?_) (fun kc113 => ?_)
          · exact absurd kc113 (by decide)
          · skip
            obtain ⟨n115, hf, en115⟩ := xn_in hf
            obtain ⟨q114, hqq114⟩ : ∃ z, z = H.size := ⟨_, rfl⟩
            refine x_new (B := 24) (C := RX9) (T := TX9) E hK (ci := 8) rfl in_X9 tyX9 tyX9_ok q704 q705 q179 [.null] (by decide) (by decide) (show _ ≤ N by omega) (show _ ≤ 24 * N by omega) dX3_one_41 (fun H hO114 z1 o1 => ?_)
            have hkp := kp_pure (a := a) o1
            have hP := RD_same hP o1
            have hzs := hS.1
            have hsq114 : sz ≤ q114 := by omega
            have hS := S_new hS z1 o1
            rw [← hqq114] at hO114 ⊢
            have hlq114 : q114 < H.size := by omega
            clear hkp z1 o1
            have hzs := hS.1
            refine lv_dup hx hb dX3_one_44 rfl ?_
            refine lv_aload_n hx hb dX3_one_45 rfl (lv_at hl 1 rfl) ?_
            rcases xq_in hf with ⟨f120, hc119, hx1⟩ | ⟨m117, r116, n118, hc119, hf, en118⟩
            · subst hx1
              exact x_thrV (A1 := nA a H.size) E hS (fun _ _ z => nA_le hsz hzs z) (fun _ z => nA_le hsz hzs z) (As := []) (hF H.size r107 (_, .inl f120) hc119) (fun _ _ _ _ z => z) RQ_bl (RQ_pre hB hP hS hA) (RD_recv hK hP) (lw_V q696 q698 qs22 q167 q699) dr_one rfl (by omega) (by decide) (by omega) (by omega) ht hlk hl rfl (Nat.le_of_ble_eq_true rfl) dX3_one_46
            · skip
              refine k_vr (Pic := RQ D dT a g ξ β σ ρ Z H.size r107) (PicR := fun b H1 => (pvG (PT D) H.size) r116.1 b H1 ∧ RD D a g r116.2 H1) (A1 := nA a H.size) E hS (fun _ _ z => nA_le hsz hzs z) (fun _ z => nA_le hsz hzs z) (As := []) (nx_met (hF H.size r107 (_, .inr r116) hc119)) RQ_bl (RQ_pre hB hP hS hA) (RD_recv hK hP) (lw_V q696 q698 qs22 q167 q699) dr_one rfl ⟨rfl, rfl⟩ (rmc_ok (by omega) (by decide)) ⟨show _ ≤ N by omega, show _ ≤ 24 * N by omega⟩ hl rfl (Nat.le_of_ble_eq_true rfl) dX3_one_46 (fun b121 H locs hR hz1 hq1 hS => ?_)
              obtain ⟨hT121, hP⟩ := hR
              have hlq114 := hO114.lt
              have hT121 : PT D r116.1 (fz sz [q114]) b121 H := wkG (gK_T D) (by omega) (by intro z hz; simp only [List.mem_cons, List.not_mem_nil, or_false] at hz; rcases hz with rfl <;> assumption) hT121
              have hkp := kp_call hq1
              have hO114 := oF_kp hO114 hkp (by omega)
              have hzs := hS.1
              refine k_iv (Pic := oFP D dT 8 1 [.null] q114) (Pic1 := fun H => oF D 8 1 [.ref b121] q114 H) (A1 := eqA q114) E hS (fun z _ ez => Or.inr (by rw [show z = q114 from ez]; omega)) (fun z ez => Or.inr (by rw [show z = q114 from ez]; omega)) (As := [.ref b121]) (tc_Not l D dT q114 b121) oFP_bl (oFP_pre hO114 hE) q706 q707 q179 q708 rfl dc_Not rfl ⟨rfl, rfl⟩ (rmcd_ok (by omega) (by decide)) ⟨show _ ≤ N by omega, show _ ≤ 24 * N by omega⟩ hl rfl (Nat.le_of_ble_eq_true rfl) dX3_one_49 (fun H locs hO114 hz1 hq1 hS => ?_)
              have hkp := kp_init hq1
              have hP := RD_kp hP hkp (by omega)
              have hT121 := kpG (gK_T D) (Or.inr (List.mem_cons_self)) hkp hT121
              have hT121 := dropG (gK_T D) hT121
              have hzs := hS.1
              have hT122 := mkN_ok hO114 (not_fz (L := []) (by omega) (fun h => nomatch h)) hT121
              refine lv_goto (tgt := 59) hx hb dX3_one_52 (by decide) ?_
              refine lv_astore_n (lv' := [(2, .ref q114), (1, .int (nI 1)), (0, .ref a)]) hx hb dX3_one_59 rfl hl (by decide) rfl (fun ls hl => ?_)
              refine lv_iload_n hx hb dX3_one_60 rfl (lv_at hl 1 rfl) ?_
              refine lv_if_ne (tgt := 70) hx hb dX3_one_61 (by decide) (fun kc123 => ?_) (fun kc123 => ?_)
              · skip
                refine lv_aload_n hx hb dX3_one_70 rfl (lv_at hl 2 rfl) ?_
                refine lv_dup hx hb dX3_one_71 rfl ?_
                refine gp_get (C := RX3) (T := TX3) E hK (oneO (dT := dT) hP) (if_pos rfl) rfl in_X3 5 (by decide) (hts _ q409) (fun _ z => z) (v := .int (r116.2 5 0)) rfl dX3_one_72 ?_
                refine lv_iconst (v := nI 1) hx hb dX3_one_75 rfl ?_
                refine lv_isub hx hb dX3_one_76 ?_
                obtain ⟨μ124, hμ124, hf⟩ := ob hf
                refine gp_put (C := RX3) (T := TX3) (ty := .int) E hK (oneO (dT := dT) hP) hS (Or.inl rfl : nA a sz a) (if_pos rfl) rfl in_X3 tyX3 tyX3_ok nmX3 5 (by decide) (hts _ q409) (fun _ z => z) rfl rfl rfl rfl dX3_one_77 (fun H locs hP oq hS => ?_)
                have hP := RD_put (by decide) hμ124 hP
                have hkp := kp_put oq
                have hT121 := kpG (gK_T D) (Or.inl hasz) hkp hT121
                have hT122 := kpG (gK_T D) (Or.inl hasz) hkp hT122
                have hzs := hS.1
                refine lv_aload_n hx hb dX3_one_80 rfl (lv_at hl 0 rfl) ?_
                cases hf
                exact x_aret (PV := pvG (PT D) sz) E hr hlk hT122 hP hS (by omega) (by omega) dX3_one_81
              · exact absurd kc123 (by decide)
