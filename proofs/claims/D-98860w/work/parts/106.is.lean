/-! 106: Reader.is -/
set_option maxRecDepth 100000
def fr_is_L24 (bs : List Int32) (ξ μ : nwM) : (Int32 × Int32) → Option ((Int32 × Int32) ⊕ Int32) := fun st => if nI bs.length ≤ st.2 then some (.inr st.1) else if st.1 = 0 then some (.inr st.1) else (rd_ ξ 0 400 (μ 2 0 + st.2)).bind fun v => (lg_ bs st.2).bind fun b => if v = cha b then some (.inl (nI 1, st.2 + nI 1)) else some (.inl (nI 0, st.2 + nI 1))
noncomputable def fr_is (bs : List Int32) (ξ μ : nwM) : Option Int32 := if (μ 1 0) - (μ 2 0) = nI bs.length then (wh_ (fr_is_L24 bs ξ μ) (nI 1, nI 0)).bind fun x => (zr_ x).bind fun r => some r else (wh_ (fr_is_L24 bs ξ μ) (nI 0, nI 0)).bind fun x => (zr_ x).bind fun r => some r
theorem dr_is : yX3_is.cls = RX3 ∧ dN yX3_is 1 := ⟨rfl, by decide +kernel, by decide +kernel, by decide +kernel⟩
section IS
variable {D : va_G} {dT : Nat → ClassId} {a g : Nat} {ξ : nwM} {β : Nat → Nat} {σ : nwM} {ρ : Nat → Nat} {Z : nwZ} {r : nwM} {s : State} {H : Heap} {locs : List Loc} {A : Nat → Prop} {bs : List Int32} {sa : Nat}
theorem is_bl : ∀ (U : State) (f : JFrame) (mk : MethodId) (x : Array Value), (RP D dT a g ξ β σ ρ Z r U ∧ sC bs sa (ge_ Z.1) U U.heap) → (RP D dT a g ξ β σ ρ Z r (U.calling f mk x) ∧ sC bs sa (ge_ Z.1) (U.calling f mk x) (U.calling f mk x).heap) := fun U f mk x h => ⟨RP_bl U f mk x h.1, sC.moved (u := U) (U := U.calling f mk x) (Vm.Alike.refl U.vm) h.2⟩
theorem sc_at (hB : RB D dT a g ξ β σ ρ Z s) (hs : sC bs sa (ge_ Z.1) s s.heap) (hS : va_S A s.heap H locs) (hA : ∀ q, A q → q = a ∨ s.heap.size ≤ q) : sC bs sa (ge_ Z.1) s H := hs.kept (fun q hz hn => hS.2.1 q hz (fun z => by
  rcases hA q z with rfl | h
  · exact hn hB.2.2.2.2.1
  · omega))
theorem is_pre (hB : RB D dT a g ξ β σ ρ Z s) (hP : RD D a g r H) (hs : sC bs sa (ge_ Z.1) s s.heap) (hS : va_S A s.heap H locs) (hA : ∀ q, A q → q = a ∨ s.heap.size ≤ q) : ∀ U : State, U.heap = H → s.WarmedH U.vm → (RP D dT a g ξ β σ ρ Z r U ∧ sC bs sa (ge_ Z.1) U U.heap) := fun U hU hW => ⟨RP_pre hB hP hS hA U hU hW, by rw [hU]; exact sC.moved hW.alike (sc_at hB hs hS hA)⟩
theorem is_str (hB : RB D dT a g ξ β σ ρ Z s) (hs : sC bs sa (ge_ Z.1) s s.heap) (hS : va_S (fun _ => False) s.heap H locs) : sC bs sa nN s H ∧ zCS nN s H ∧ zSI nN s H :=
  ⟨(sc_at hB hs hS (fun _ z => z.elim)).narrow (fun _ z => z.elim), (RB_sv hB hS (fun _ z => z.elim)).2.1.1.narrow (fun _ z => z.elim), (RB_sv hB hS (fun _ z => z.elim)).2.1.2.narrow (fun _ z => z.elim)⟩
end IS
set_option maxHeartbeats 4000000 in
theorem fr_is_L24_w {p : Program} {l : Launch} {e : Env} {s : State} {m : MethodId} {args : Array Value} {below : List Frame} {meth : Method} {c : Code} {D : va_G} {dT : Nat → ClassId} {Q : State → Prop} {a g : Nat} {ξ σ : nwM} {β ρ : Nat → Nat} {Z : nwZ} {bs : List Int32} {sa : Nat} {μ : nwM} (E : CallFix p m c cX3_is 4 s args lw_all RX3) (hB : RB D dT a g ξ β σ ρ Z s) (hs : sC bs sa (ge_ Z.1) s s.heap) {st : Int32 × Int32} {x : Int32} (hw : wh_ (fr_is_L24 bs ξ μ) st = some x)
    (hk : ∀ (ls : Array Slot) (H : Heap) (locs : List Loc), lv_has ls 4 [(2, .int x)] → RD D a g μ H → va_S (fun _ => False) s.heap H locs → W p l e (rmd 4) s m args below meth c H locs 0 0 Q (F0 m 70 ls [])) :
    ∀ (ls : Array Slot) (H : Heap) (locs : List Loc), lv_has ls 4 [(0, .ref a), (1, .ref sa), (2, .int st.1), (3, .int st.2)] → RD D a g μ H → va_S (fun _ => False) s.heap H locs → W p l e (rmd 4) s m args below meth c H locs 0 0 Q (F0 m 24 ls []) := by
  obtain ⟨hx, hb, hml, hown, hts⟩ := id E
  have hE := hB.2.1
  have hK := hE.1
  refine wh_run (P := fun st : Int32 × Int32 => ∀ (ls : Array Slot) (H : Heap) (locs : List Loc), lv_has ls 4 [(0, .ref a), (1, .ref sa), (2, .int st.1), (3, .int st.2)] → RD D a g μ H → va_S (fun _ => False) s.heap H locs → W p l e (rmd 4) s m args below meth c H locs 0 0 Q (F0 m 24 ls [])) (PE := fun x => ∀ (ls : Array Slot) (H : Heap) (locs : List Loc), lv_has ls 4 [(2, .int x)] → RD D a g μ H → va_S (fun _ => False) s.heap H locs → W p l e (rmd 4) s m args below meth c H locs 0 0 Q (F0 m 70 ls [])) ?_ hw hk
  clear hw hk
  intro st x hf hk ls H locs hl hP hS
  have hf : (if nI bs.length ≤ st.2 then some (.inr st.1) else if st.1 = 0 then some (.inr st.1) else (rd_ ξ 0 400 (μ 2 0 + st.2)).bind fun v => (lg_ bs st.2).bind fun b => if v = cha b then some (.inl (nI 1, st.2 + nI 1)) else some (.inl (nI 0, st.2 + nI 1))) = some x := hf
  refine lv_iload_n hx hb dX3_is_24 rfl (lv_at hl 3 rfl) ?_
  refine lv_aload_n hx hb dX3_is_25 rfl (lv_at hl 1 rfl) ?_
  refine k_vi (Pic := sPic bs sa) (Pic1 := fun _ => True) (A1 := nN) E hS (fun _ _ z => z.elim) (fun _ z => z.elim) (As := []) (tj_length l bs sa) sPic_bl (sPic_pre (is_str hB hs hS)) (sC_recv (is_str hB hs hS).1) (lw_V q458 q459 q460 q168 q461) dj_length rfl ⟨rfl, rfl⟩ (rmd_ok (by decide) (by decide)) ⟨Nat.le_refl 0, Nat.le_refl 0⟩ hl rfl (Nat.le_of_ble_eq_true rfl) dX3_is_26 (fun H1 locs1 _ _ hq1 hS => ?_)
  have hP := RD_same hP (fun q z => hq1 q z (fun y => y))
  refine lv_icmp_ge (tgt := 70) hx hb dX3_is_29 (by decide) (fun kc => ?_) (fun kc => ?_)
  · have hf := ite_t kc hf
    cases hf
    exact hk _ _ _ (lv_sub hl [2] rfl) hP hS
  have hf := ite_f kc hf
  refine lv_iload_n hx hb dX3_is_32 rfl (lv_at hl 2 rfl) ?_
  refine lv_if_eq (tgt := 70) hx hb dX3_is_33 (by decide) (fun kc => ?_) (fun kc => ?_)
  · have hf := ite_t kc hf
    cases hf
    exact hk _ _ _ (lv_sub hl [2] rfl) hP hS
  have hf := ite_f kc hf
  obtain ⟨v, hv, hf⟩ := ob hf
  obtain ⟨b, hb1, hf⟩ := ob hf
  obtain ⟨hbi, hbe⟩ := lg_in hb1
  obtain ⟨j, hj, hst⟩ := vp_in_of hbi hs.1
  rw [hst, nI_clamp (Nat.lt_trans hj hs.1)] at hbe
  have hbg : bs.getD j 0 = b := by rw [List.getD_eq_getElem?_getD, hbe]; rfl
  refine lv_aload_n hx hb dX3_is_36 rfl (lv_at hl 0 rfl) ?_
  refine gp_get (C := RX3) (T := TX3) E hK (oneO (dT := dT) hP) (if_pos rfl) rfl in_X3 6 (by decide) (hts _ q410) (fun _ z => z) (v := .ref g) rfl dX3_is_37 ?_
  refine gp_getN (C := RX0) (T := TX0) E hK (RB_at hB hS (fun _ z => z.elim)).1 (shO_g g) rfl in_X0 0 (by decide) (nfw_31 hE.2) (fun _ z => z) vO_0 dX3_is_40 ?_
  refine lv_aload_n hx hb dX3_is_43 rfl (lv_at hl 0 rfl) ?_
  refine gp_get (C := RX3) (T := TX3) E hK (oneO (dT := dT) hP) (if_pos rfl) rfl in_X3 2 (by decide) (hts _ q406) (fun _ z => z) (v := .int (μ 2 0)) rfl dX3_is_44 ?_
  refine lv_iload_n hx hb dX3_is_47 rfl (lv_at hl 3 rfl) ?_
  refine lv_iadd hx hb dX3_is_48 ?_
  refine gp_bald E hK (RB_at hB hS (fun _ z => z.elim)).1 (shO_t g) (rd_in hv).1 (by rw [vO_te, ← (rd_in hv).2]) dX3_is_49 ?_
  refine lv_aload_n hx hb dX3_is_50 rfl (lv_at hl 1 rfl) ?_
  refine lv_iload_n hx hb dX3_is_51 rfl (lv_at hl 3 rfl) ?_
  refine lv_nm hst ?_
  refine k_vi (Pic := sPic bs sa) (Pic1 := fun _ => True) (A1 := nN) E hS (fun _ _ z => z.elim) (fun _ z => z.elim) (As := [.int (nI j)]) (tj_charAt l bs sa j hj) sPic_bl (sPic_pre (is_str hB hs hS)) (sC_recv (is_str hB hs hS).1) (lw_V q468 q469 q470 q168 q471) dj_charAt rfl ⟨rfl, rfl⟩ (rmd_ok (by decide) (by decide)) ⟨Nat.le_refl 0, Nat.le_refl 0⟩ hl rfl (Nat.le_of_ble_eq_true rfl) dX3_is_52 (fun H1 locs1 _ _ hq1 hS => ?_)
  have hP := RD_same hP (fun q z => hq1 q z (fun y => y))
  rw [hbg]
  refine lv_icmp_ne (tgt := 62) hx hb dX3_is_55 (by decide) (fun kc => ?_) (fun kc => ?_)
  · have hf := ite_f kc hf
    cases hf
    refine lv_iconst (v := nI 0) hx hb dX3_is_62 rfl ?_
    refine lv_istore_n (lv' := [(2, .int (nI 0)), (0, .ref a), (1, .ref sa), (3, .int st.2)]) hx hb dX3_is_63 rfl hl (by decide) rfl (fun ls hl => ?_)
    refine lv_iinc (v := st.2 + nI 1) (lv' := [(3, .int (st.2 + nI 1)), (2, .int (nI 0)), (0, .ref a), (1, .ref sa)]) hx hb dX3_is_64 hl (k := 3) rfl rfl (by decide) rfl (fun ls hl => ?_)
    refine lv_goto (tgt := 24) hx hb dX3_is_67 (by decide) ?_
    exact hk _ _ _ (lv_sub hl [2, 3, 1, 0] rfl) hP hS
  · have hf := ite_t kc hf
    cases hf
    refine lv_iconst (v := nI 1) hx hb dX3_is_58 rfl ?_
    refine lv_goto (tgt := 63) hx hb dX3_is_59 (by decide) ?_
    refine lv_istore_n (lv' := [(2, .int (nI 1)), (0, .ref a), (1, .ref sa), (3, .int st.2)]) hx hb dX3_is_63 rfl hl (by decide) rfl (fun ls hl => ?_)
    refine lv_iinc (v := st.2 + nI 1) (lv' := [(3, .int (st.2 + nI 1)), (2, .int (nI 1)), (0, .ref a), (1, .ref sa)]) hx hb dX3_is_64 hl (k := 3) rfl rfl (by decide) rfl (fun ls hl => ?_)
    refine lv_goto (tgt := 24) hx hb dX3_is_67 (by decide) ?_
    exact hk _ _ _ (lv_sub hl [2, 3, 1, 0] rfl) hP hS
set_option maxHeartbeats 4000000 in
theorem tr_is (l : Launch) (D : va_G) (dT : Nat → ClassId) (a g : Nat) (ξ : nwM) (β : Nat → Nat) (σ : nwM) (ρ : Nat → Nat) (Z : nwZ) (bs : List Int32) (sa : Nat) (μ : nwM) (res : Int32) (hf : fr_is bs ξ μ = some res) : Met l yX3_is (ws_ yX3_is cX3_is 4 (some .boolean)) (rmd 4) (va_Pc [.ref a, .ref sa] (fun U => RP D dT a g ξ β σ ρ Z μ U ∧ sC bs sa (ge_ Z.1) U U.heap)) (va_Qi (fun r' (_ : Unit) => r' = res) (fun _ t => RD D a g μ t.heap) (fun _ => False)) 0 0 (fun _ => False) := by
  refine k_met (own := RX3) (by decide) rfl (Nat.le_of_ble_eq_true rfl) ?_
  intro p e s m below meth c ls E hP hr hlk hl _
  obtain ⟨⟨hP, hB⟩, hs⟩ := hP
  have hE := hB.2.1
  have hK := hE.1
  have hS : va_S (fun _ => False) s.heap s.heap [] := va_S.rf
  obtain ⟨hx, hb, hml, hown, hts⟩ := id E
  have hl : lv_has ls 4 [(0, .ref a), (1, .ref sa)] := hl
  unfold fr_is at hf
  refine lv_aload_n hx hb dX3_is_0 rfl (lv_at hl 0 rfl) ?_
  refine gp_get (C := RX3) (T := TX3) E hK (oneO (dT := dT) hP) (if_pos rfl) rfl in_X3 1 (by decide) (hts _ q405) (fun _ z => z) (v := .int (μ 1 0)) rfl dX3_is_1 ?_
  refine lv_aload_n hx hb dX3_is_4 rfl (lv_at hl 0 rfl) ?_
  refine gp_get (C := RX3) (T := TX3) E hK (oneO (dT := dT) hP) (if_pos rfl) rfl in_X3 2 (by decide) (hts _ q406) (fun _ z => z) (v := .int (μ 2 0)) rfl dX3_is_5 ?_
  refine lv_isub hx hb dX3_is_8 ?_
  refine lv_aload_n hx hb dX3_is_9 rfl (lv_at hl 1 rfl) ?_
  refine k_vi (Pic := sPic bs sa) (Pic1 := fun _ => True) (A1 := nN) E hS (fun _ _ z => z.elim) (fun _ z => z.elim) (As := []) (tj_length l bs sa) sPic_bl (sPic_pre (is_str hB hs hS)) (sC_recv (is_str hB hs hS).1) (lw_V q458 q459 q460 q168 q461) dj_length rfl ⟨rfl, rfl⟩ (rmd_ok (by decide) (by decide)) ⟨Nat.le_refl 0, Nat.le_refl 0⟩ hl rfl (Nat.le_of_ble_eq_true rfl) dX3_is_10 (fun H1 locs1 _ _ hq1 hS => ?_)
  have hP := RD_same hP (fun q z => hq1 q z (fun y => y))
  refine lv_icmp_ne (tgt := 20) hx hb dX3_is_13 (by decide) (fun kc => ?_) (fun kc => ?_)
  · have hf := ite_f kc hf
    obtain ⟨x, hx1, hf⟩ := ob hf
    obtain ⟨v, hv, hf⟩ := ob hf
    cases hf
    refine lv_iconst (v := nI 0) hx hb dX3_is_20 rfl ?_
    refine lv_istore_n (lv' := [(2, .int (nI 0)), (0, .ref a), (1, .ref sa)]) hx hb dX3_is_21 rfl hl (by decide) rfl (fun ls hl => ?_)
    refine lv_iconst (v := nI 0) hx hb dX3_is_22 rfl ?_
    refine lv_istore_n (lv' := [(3, .int (nI 0)), (2, .int (nI 0)), (0, .ref a), (1, .ref sa)]) hx hb dX3_is_23 rfl hl (by decide) rfl (fun ls hl => ?_)
    refine fr_is_L24_w E hB hs hx1 (fun ls H locs hl hP hS => ?_) _ _ _ (lv_sub hl [2, 3, 1, 0] rfl) hP hS
    refine lv_iload_n hx hb dX3_is_70 rfl (lv_at hl 0 rfl) ?_
    exact g_zret (Pic := fun H => RD D a g _ H) E hr hlk hP hS hv dX3_is_71
  · have hf := ite_t kc hf
    obtain ⟨x, hx1, hf⟩ := ob hf
    obtain ⟨v, hv, hf⟩ := ob hf
    cases hf
    refine lv_iconst (v := nI 1) hx hb dX3_is_16 rfl ?_
    refine lv_goto (tgt := 21) hx hb dX3_is_17 (by decide) ?_
    refine lv_istore_n (lv' := [(2, .int (nI 1)), (0, .ref a), (1, .ref sa)]) hx hb dX3_is_21 rfl hl (by decide) rfl (fun ls hl => ?_)
    refine lv_iconst (v := nI 0) hx hb dX3_is_22 rfl ?_
    refine lv_istore_n (lv' := [(3, .int (nI 0)), (2, .int (nI 1)), (0, .ref a), (1, .ref sa)]) hx hb dX3_is_23 rfl hl (by decide) rfl (fun ls hl => ?_)
    refine fr_is_L24_w E hB hs hx1 (fun ls H locs hl hP hS => ?_) _ _ _ (lv_sub hl [2, 3, 1, 0] rfl) hP hS
    refine lv_iload_n hx hb dX3_is_70 rfl (lv_at hl 0 rfl) ?_
    exact g_zret (Pic := fun H => RD D a g _ H) E hr hlk hP hS hv dX3_is_71
