/-! text: written by genf.py -/
set_option maxRecDepth 100000
theorem om {α β : Type} {o : Option α} {f : α → β} {y : β} (h : o.map f = some y) : ∃ x, o = some x ∧ f x = y := by
  cases o with
  | none => cases h
  | some x => cases h; exact ⟨x, rfl, rfl⟩
section TX
variable {p : Program} {l : Launch} {e : Env} {R : Room} {s : State} {m : MethodId} {args : Array Value} {below : List Frame} {meth : Method} {c : Code} {H : Heap} {locs : List Loc} {cells slots N d : Nat} {Q : State → Prop}
variable {cc : ByteArray} {pc nL : Nat} {ls : Array Slot} {rest : List Value} {D : va_G} {dT : Nat → ClassId} {own : String} {A A1 AX : Nat → Prop} {Pic : State → Prop}
theorem FO_ne {f : nwF} {q g : Nat} {χ : nwX} (hK : va_K D nwCl (nwT dT) s) (hF : FO D f q H) (hP : PX D dT g χ H) : q ≠ g := by
  intro e
  subst e
  obtain ⟨V, ⟨c1, h1, h2, -⟩, -⟩ := hF
  obtain ⟨c2, k1, k2, -⟩ := hP.1.1 q 0 13 (shO_g q)
  cases h1.symm.trans k1
  have e2 : D.1 4 = D.1 0 := h2.symm.trans k2
  have n4 := (hK.1 4 (RX4, TX4, 8) rfl).2.1
  have n0 := (hK.1 0 (RX0, TX0, 13) rfl).2.1
  rw [e2] at n4
  obtain ⟨a1, a2, a3⟩ := Vm.findClass_spec n4
  obtain ⟨b1, b2, b3⟩ := Vm.findClass_spec n0
  cases a2.symm.trans b2
  exact absurd (a3.symm.trans b3) (by decide)
theorem FO_get {f : nwF} {q : Nat} {index : Nat} {host : String} (E : CallFix p m c cc nL s args lw_all own) (hK : va_K D nwCl (nwT dT) s) (hF : FO D f q H) (k : Nat) {v : Int32} (hk : (k = 6 ∧ v = f.1) ∨ (k = 7 ∧ v = f.2)) (hlink : (Cond.fieldLinkNest own index RX4 (TX4 k).2.1 (TX4 k).2.2.1 host).before args s = true) (hdg : decode cc pc = .ok (.getfield index, 3))
    (kk : W p l e R s m args below meth c H locs cells slots Q (F0 m (pc + 3) ls (.int v :: rest))) : W p l e R s m args below meth c H locs cells slots Q (F0 m pc ls (.ref q :: rest)) := by
  obtain ⟨V, h1, h2, h3⟩ := hF
  rcases hk with ⟨rfl, rfl⟩ | ⟨rfl, rfl⟩
  · exact gp_getN (C := RX4) (T := TX4) E hK (oneO (dT := dT) h1) (if_pos rfl) rfl in_X4 6 (by decide) hlink (fun _ z => z) h2 hdg kk
  · exact gp_getN (C := RX4) (T := TX4) E hK (oneO (dT := dT) h1) (if_pos rfl) rfl in_X4 7 (by decide) hlink (fun _ z => z) h3 hdg kk
theorem x_iretT {g : Nat} {χ χ' : nwX} {rr : Nat → Nat → Nat} {XC : Addr → String → State → State → Prop} (E : CallFix p m c cc nL s args lw_all own) (hr : meth.sig.returnType = some .int) (hlk : meth.locks = false) (hP : PX D dT g χ' H) (he : χ' = sρ χ rr) (hS : va_S A s.heap H locs) {v : Int32} (hc : cells ≤ N) (hs : slots ≤ 24 * N) (hdg : decode cc pc = .ok (.ireturn, 1)) : W p l e R s m args below meth c H locs cells slots (nx_MQ below (va_Qi (fun r' (_ : Unit) => r' = v) (fun _ t => ∃ r, PX D dT g (sρ χ r) t.heap) A) XC args s N (24 * N) A) (F0 m pc ls [.int v]) :=
  W.widen hc hs (nx_ret (W.iret E.1 E.2.1 hr (fun t ht _ => show va_Qi (fun r' (_ : Unit) => r' = v) (fun _ t => ∃ r, PX D dT g (sρ χ r) t.heap) A args s (.returned (some (.int v))) t from ⟨⟨v, (), rfl, rfl, rr, by rw [ht, ← he]; exact hP⟩, hS.F ht⟩) hS.2.2 hdg hlk))
/-- a call that throws a Fault, caught here -/
theorem x_catch {α : Type} {Qc' : Array Value → State → Outcome → State → Prop} {f : nwF} {free : Nat → Prop} {name : String} (E : CallFix p m c cc nL s args lw_all own) (hS : va_S A s.heap H locs) (hAA : ∀ q, q < H.size → AX q → A q) (hfr : ∀ q, free q → A q) {d' n' maxL index n b : Nat} {C : String} {y : MethodName} {bytes : ByteArray} {ret : Option FieldType} {As : List Value} (hM : nx_Met l y (ws_ y bytes maxL ret) (rmc d' n') (va_Pc (.ref b :: As) Pic) Qc' (XcR (α := α) D AX (.inl f)) n' (24 * n') free) (hQ : ∀ x st o t, ¬ Qc' x st o t) (hbl : ∀ (U : State) (g : JFrame) (mk : MethodId) (a : Array Value), Pic U → Pic (U.calling g mk a)) (hpre : ∀ U : State, U.heap = H → s.WarmedH U.vm → Pic U) (hrc : ∃ cell : Cell, H[b]? = some cell ∧ cell.vm.isStatics = false ∧ s.vm.findClass C = some cell.cls) (hw : GoodIn lw_all (wsV own index C y (ws_ y bytes maxL ret))) (hd : y.cls = C ∧ dN y n) (hlen : As.length = n) (hdd : d' < d) (hL : maxL ≤ 45) (hc : cells + n' ≤ N) (hs : slots + 24 * n' ≤ 24 * N) (pre : List ExceptionTableEntry) (x : ExceptionTableEntry) (suf : List ExceptionTableEntry) (hsplit : c.exceptionTable.toList = pre ++ x :: suf) (hpass : ∀ z ∈ pre, covers z pc = false ∨ (z.catchType ≠ 0 ∧ ∃ nm : String, (Cond.classLink own z.catchType nm).before args s = true ∧ va_Nc "NamesWeather$Fault" nm s)) (hxc : covers x pc = true) (h0 : x.catchType ≠ 0) (hlink : (Cond.classLink own x.catchType name).before args s = true) (hcast : (Cond.castable "NamesWeather$Fault" name).before args s = true) {lv : List (Nat × Value)} (hl : lv_has ls nL lv) {st : List Value} (hst : st = As.reverse ++ .ref b :: rest) (hrs : (rest.map fun v => v.category).sum ≤ 8) (hdg : decode cc pc = .ok (.invokevirtual index, 3))
    (kk : ∀ (q : Nat) (H1 : Heap) (locs1 : List Loc), FO D f q H1 → H.size ≤ H1.size → (∀ z, z < H.size → ¬ AX z → H1[z]? = H[z]?) → va_S A s.heap H1 locs1 → W p l e (rmc d N) s m args below meth c H1 locs1 (cells + n') (slots + 24 * n') Q (F0 m x.handlerPc ls [.ref q])) : W p l e (rmc d N) s m args below meth c H locs cells slots Q (F0 m pc ls st) := by
  subst hst
  intro T hT X
  rcases nx_runV (As := As) (rest := rest) (g := F0 m pc ls (As.reverse ++ .ref b :: rest)) E hM (cwV n E.2.2.2.2 hw rfl rfl rfl hd (rmc_ok hdd hL)) ⟨fun a U g mk q => ⟨q.1, hbl U g mk a q.2⟩, hrc, fun U hU hW => ⟨rfl, hpre U hU hW⟩⟩ rfl hlen hl.1 rfl (lv_room hrs) hdg ⟨hc, hs⟩ T hT X with ⟨v, st₀, t, T', L, h0, X', hL', e1, e2, hq, st⟩ | ⟨q, st₀, t, T', L, E', ce, h9, X', hL', e1, e2, hx, hce, hcv, hcl, st⟩
  · exact absurd hq (hQ _ _ _ _)
  · obtain ⟨rfl, hF, hFr⟩ := hx
    obtain ⟨k1, k2, k3⟩ := nx_keep h9 e1 hS hAA hfr hL' hFr
    obtain ⟨t2, a1, b1⟩ := nx_catch (rest := rest) E.2.2.2.1 pre x suf hsplit hpass hxc h0 hlink hcast (show T'.heap[q]? = some ce by rw [e1]; exact hce) hcv hcl (kk q T'.heap (locs ++ L) (by rw [e1]; exact hF) k1 k2 k3) T' rfl X'
    exact ⟨t2, st.trans a1, b1⟩
end TX
def f0_ (χ : nwX) : nwX := (up_ (up_ χ.1 2 0 (nI 0)) 3 0 (-1), χ.2)
def tp_ (χ : nwX) : nwX := (up_ χ.1 1 0 (nI 0), χ.2)
def sf_ (χ : nwX) (f : nwF) : nwX := (up_ (up_ χ.1 2 0 f.1) 3 0 f.2, χ.2)
/-- how many cells, the answer, the state -/
noncomputable def fx_text (k : Int32) (χ : nwX) : Option (Nat × (Int32 × nwX)) := (fi_isIn k (nI 0) (nI 3) ()).bind fun v => if v = 0 then some (0, ((-1), tp_ (f0_ χ))) else (fx_reads k (f0_ χ)).map fun q => match q.2 with
  | .inl f => (q.1, ((-1), tp_ (sf_ (f0_ χ) f)))
  | .inr r => (q.1, (r.1, tp_ r.2))
set_option maxHeartbeats 4000000 in
theorem dx_text : yX0_text.cls = RX0 ∧ dN yX0_text 1 := ⟨rfl, by decide +kernel, by decide +kernel, by decide +kernel⟩
set_option maxHeartbeats 4000000 in
theorem FO_kq {D : va_G} {f : nwF} {q : Nat} {H H1 : Heap} (h : FO D f q H) (hq : H1[q]? = H[q]?) : FO D f q H1 := by
  obtain ⟨V, h1, h2⟩ := h
  exact ⟨V, t_OB.kept h1 hq, h2⟩
set_option maxHeartbeats 4000000 in
theorem tx_textB {l : Launch} (hst : l.stackTraces = false) {p : Program} {e : Env} {s : State} {m : MethodId} {args : Array Value} {below : List Frame} {meth : Method} {c : Code} {D : va_G} {dT : Nat → ClassId} {g : Nat} {Z : nwZ} {sz : Nat} {k : Int32} {χ χ9 : nwX} {N : Nat} {ans : Int32} {ls : Array Slot} (E : CallFix p m c cX0_text 5 s args lw_all RX0) (hE : EV D dT s) (hP : PX D dT g χ s.heap) (hSV : SV Z s s.heap) (hZg : Z.1 ≤ g) (hsz : s.heap.size = sz) (hgz : g + 1626 ≤ sz) (hf : fx_text k χ = some (N, ans, χ9)) (hr : meth.sig.returnType = some .int) (hlk : meth.locks = false) (htab : c.exceptionTable.toList = tableOf [(10, 29, 36, 98), (10, 29, 62, 0), (36, 55, 62, 0), (62, 64, 62, 0)]) (hl : lv_has ls 5 (lv_args 0 [.ref g, .int k])) : W p l e (rmc 47 N) s m args below meth c s.heap [] 0 0 (nx_MQ below (va_Qi (fun r' (_ : Unit) => r' = ans) (fun _ t => ∃ r, PX D dT g (sρ χ9 r) t.heap) (rdA g sz)) (fun _ _ _ _ => False) args s N (24 * N) (rdA g sz)) (F0 m 0 ls []) := by
  obtain ⟨hx, hb, hml, hown, hts⟩ := id E
  have hK := hE.1
  have hl : lv_has ls 5 [(0, .ref g), (1, .int k)] := hl
  have hS : va_S (rdA g sz) s.heap s.heap [] := va_S.rf
  refine lv_aload_n hx hb dX0_text_0 rfl (lv_at hl 0 rfl) ?_
  refine lv_iconst (v := nI 0) hx hb dX0_text_1 rfl ?_
  refine gp_put (C := RX0) (T := TX0) (ty := .int) E hK hP.1 hS (Or.inl (xA_o (Or.inl rfl))) (shO_g g) rfl in_X0 tyX0 tyX0_ok nmX0 2 (by decide) (hts _ q335) (fun _ z => z) rfl rfl rfl rfl dX0_text_2 (fun H locs hG oq hS => ?_)
  have hz1 := hz_put hG (by rw [shO_g]; exact fun z => by cases z) oq
  have hP : PX D dT g (up_ χ.1 2 0 (nI 0), χ.2) H := PX_put hP (by decide) rfl hG oq hz1
  refine lv_aload_n hx hb dX0_text_5 rfl (lv_at hl 0 rfl) ?_
  refine lv_iconst (v := (-1)) hx hb dX0_text_6 rfl ?_
  refine gp_put (C := RX0) (T := TX0) (ty := .int) E hK hP.1 hS (Or.inl (xA_o (Or.inl rfl))) (shO_g g) rfl in_X0 tyX0 tyX0_ok nmX0 3 (by decide) (hts _ q336) (fun _ z => z) rfl rfl rfl rfl dX0_text_7 (fun H locs hG oq hS => ?_)
  have hz1 := hz_put hG (by rw [shO_g]; exact fun z => by cases z) oq
  have hP : PX D dT g (f0_ χ) H := PX_put hP (by decide) rfl hG oq hz1
  unfold fx_text at hf
  obtain ⟨v, hv, hf⟩ := ob hf
  refine lv_iload_n hx hb dX0_text_10 rfl (lv_at hl 1 rfl) ?_
  refine lv_iconst (v := nI 0) hx hb dX0_text_11 rfl ?_
  refine lv_iconst (v := nI 3) hx hb dX0_text_12 rfl ?_
  refine k_si (Pic := fun _ => True) (Pic1 := fun _ => True) (A1 := nN) E hS (fun _ _ z => z.elim) (fun _ z => z.elim) (As := [.int k, .int (nI 0), .int (nI 3)]) (ti_isIn l k (nI 0) (nI 3) _ hv) (fun _ _ _ _ h => h) (fun _ _ _ => trivial) (lw_S q386 q387 q161 q388) di_isIn rfl ⟨rfl, rfl⟩ (rmcd_ok (by decide) (by decide)) ⟨Nat.zero_le N, Nat.zero_le _⟩ hl rfl (Nat.le_of_ble_eq_true rfl) dX0_text_13 (fun H locs _ _ hq1 hS => ?_)
  have hP := PX_same hP (hz_all (fun q z => hq1 q z (fun y => y))) (fun q z => hq1 q z (fun y => y))
  refine lv_if_eq (tgt := 27) hx hb dX0_text_16 (by decide) (fun kc => ?_) (fun kc => ?_)
  · have hf := ite_t kc hf
    cases hf
    refine lv_iconst (v := (-1)) hx hb dX0_text_27 rfl ?_
    refine lv_istore_n (lv' := [(2, .int (-1)), (0, .ref g), (1, .int k)]) hx hb dX0_text_28 rfl hl (by decide) rfl (fun ls hl => ?_)
    refine lv_aload_n hx hb dX0_text_29 rfl (lv_at hl 1 rfl) ?_
    refine lv_iconst (v := nI 0) hx hb dX0_text_30 rfl ?_
    refine gp_put (C := RX0) (T := TX0) (ty := .int) E hK hP.1 hS (Or.inl (xA_o (Or.inl rfl))) (shO_g g) rfl in_X0 tyX0 tyX0_ok nmX0 1 (by decide) (hts _ q334) (fun _ z => z) rfl rfl rfl rfl dX0_text_31 (fun H locs hG oq hS => ?_)
    have hz1 := hz_put hG (by rw [shO_g]; exact fun z => by cases z) oq
    have hP : PX D dT g (sρ (tp_ (f0_ χ)) χ.2.2.2.1) H := PX_put hP (by decide) rfl hG oq hz1
    refine lv_iload_n hx hb dX0_text_34 rfl (lv_at hl 0 rfl) ?_
    exact x_iretT E hr hlk hP rfl hS (by omega) (by omega) dX0_text_35
  · have hf := ite_f kc hf
    obtain ⟨⟨n1, y⟩, hc, hf⟩ := om hf
    refine lv_aload_n hx hb dX0_text_19 rfl (lv_at hl 0 rfl) ?_
    refine lv_iload_n hx hb dX0_text_20 rfl (lv_at hl 1 rfl) ?_
    have hSV1 : SV Z s H := hSV.kept (fun q hz hn => hS.2.1 q hz (fun z => hn (by
      rcases z with z | z
      · have := xA_lt z; show Z.1 ≤ q; omega
      · omega)))
    have hzs := hS.1
    have hpre : ∀ U : State, U.heap = H → s.WarmedH U.vm → XP D dT g Z H.size (f0_ χ) U := fun U hU hW => ⟨by rw [hU]; exact hP, hE.warm hW, by rw [hU]; exact hSV1.warm hW, hZg, by rw [hU], by omega⟩
    have hbl : ∀ (U : State) (fr : JFrame) (mk : MethodId) (x : Array Value), XP D dT g Z H.size (f0_ χ) U → XP D dT g Z H.size (f0_ χ) (U.calling fr mk x) := fun U fr mk x h => ⟨h.1, h.2.1.same (u := U) (U := U.calling fr mk x) rfl, h.2.2.1.same (u := U) (U := U.calling fr mk x) rfl, h.2.2.2⟩
    have hAA : ∀ z, rdA g H.size z → rdA g sz z := fun z h => h.imp id (fun h => by omega)
    cases y with
    | inr y =>
      cases hf
      refine k_vi (Pic := XP D dT g Z H.size (f0_ χ)) (Pic1 := fun H => ∃ r, PX D dT g (sρ y.2 r) H) (A1 := rdA g H.size) E hS (fun _ _ z => hAA _ z) (fun _ z => hAA _ z) (As := [.int k]) (nx_met (tx_reads l hst D dT g Z H.size k (f0_ χ) (_, .inr y) hc)) hbl hpre (g_recv hK hP.1 (shO_g g) rfl) (lw_V q394 q396 qs1 q161 q397) dx_reads rfl ⟨rfl, rfl⟩ (rmc_ok (by decide) (by decide)) ⟨show 0 + 0 + n1 ≤ n1 by omega, show 0 + 0 + 24 * n1 ≤ 24 * n1 by omega⟩ hl rfl (Nat.le_of_ble_eq_true rfl) dX0_text_21 (fun H locs hP _ _ hS => ?_)
      obtain ⟨rr, hP⟩ := hP
      refine lv_goto (tgt := 28) hx hb dX0_text_24 (by decide) ?_
      refine lv_istore_n (lv' := [(2, .int y.1), (0, .ref g), (1, .int k)]) hx hb dX0_text_28 rfl hl (by decide) rfl (fun ls hl => ?_)
      refine lv_aload_n hx hb dX0_text_29 rfl (lv_at hl 1 rfl) ?_
      refine lv_iconst (v := nI 0) hx hb dX0_text_30 rfl ?_
      refine gp_put (C := RX0) (T := TX0) (ty := .int) E hK hP.1 hS (Or.inl (xA_o (Or.inl rfl))) (shO_g g) rfl in_X0 tyX0 tyX0_ok nmX0 1 (by decide) (hts _ q334) (fun _ z => z) rfl rfl rfl rfl dX0_text_31 (fun H locs hG oq hS => ?_)
      have hz1 := hz_put hG (by rw [shO_g]; exact fun z => by cases z) oq
      have hP : PX D dT g (sρ (tp_ y.2) rr) H := PX_put hP (by decide) rfl hG oq hz1
      refine lv_iload_n hx hb dX0_text_34 rfl (lv_at hl 0 rfl) ?_
      exact x_iretT E hr hlk hP rfl hS (by omega) (by omega) dX0_text_35
    | inl f =>
      cases hf
      refine x_catch E hS (fun _ _ z => Or.inr (show sz ≤ _ from Nat.le_trans (by omega) z)) (fun _ z => hAA _ z) (As := [.int k]) (tx_reads l hst D dT g Z H.size k (f0_ χ) (_, .inl f) hc) (fun _ _ _ _ z => z) hbl hpre (g_recv hK hP.1 (shO_g g) rfl) (lw_V q394 q396 qs1 q161 q397) dx_reads rfl (by decide) (by decide) (by omega) (by omega) [] ⟨10, 29, 36, 98⟩ [⟨10, 29, 62, 0⟩, ⟨36, 55, 62, 0⟩, ⟨62, 64, 62, 0⟩] htab (fun z hz => nomatch hz) (by decide) (by decide) (hts _ q393) (va_Nw.use rfl (ncw_20 hE.2)) hl rfl (Nat.le_of_ble_eq_true rfl) dX0_text_21 (fun q H1 locs1 hF hz2 hq2 hS => ?_)
      skip
      have hP := PX_same hP hz2 (fun z h => hq2 z h (fun y => absurd (show H.size ≤ z from y) (by omega)))
      skip
      refine lv_astore_n (lv' := [(2, .ref q), (0, .ref g), (1, .int k)]) hx hb dX0_text_36 rfl hl (by decide) rfl (fun ls hl => ?_)
      refine lv_aload_n hx hb dX0_text_37 rfl (lv_at hl 1 rfl) ?_
      refine lv_aload_n hx hb dX0_text_38 rfl (lv_at hl 0 rfl) ?_
      have hqg : q ≠ g := FO_ne hK hF hP
      refine FO_get E hK hF 6 (Or.inl ⟨rfl, rfl⟩) (nfw_19 hE.2) dX0_text_39 ?_
      refine gp_put (C := RX0) (T := TX0) (ty := .int) E hK hP.1 hS (Or.inl (xA_o (Or.inl rfl))) (shO_g g) rfl in_X0 tyX0 tyX0_ok nmX0 2 (by decide) (hts _ q335) (fun _ z => z) rfl rfl rfl rfl dX0_text_42 (fun H locs hG oq hS => ?_)
      have hz1 := hz_put hG (by rw [shO_g]; exact fun z => by cases z) oq
      have hP : PX D dT g (up_ (f0_ χ).1 2 0 f.1, χ.2) H := PX_put hP (by decide) rfl hG oq hz1
      have hF := FO_kq hF (oq q hqg)
      refine lv_aload_n hx hb dX0_text_45 rfl (lv_at hl 1 rfl) ?_
      refine lv_aload_n hx hb dX0_text_46 rfl (lv_at hl 0 rfl) ?_
      refine FO_get E hK hF 7 (Or.inr ⟨rfl, rfl⟩) (nfw_20 hE.2) dX0_text_47 ?_
      refine gp_put (C := RX0) (T := TX0) (ty := .int) E hK hP.1 hS (Or.inl (xA_o (Or.inl rfl))) (shO_g g) rfl in_X0 tyX0 tyX0_ok nmX0 3 (by decide) (hts _ q336) (fun _ z => z) rfl rfl rfl rfl dX0_text_50 (fun H locs hG oq hS => ?_)
      have hz1 := hz_put hG (by rw [shO_g]; exact fun z => by cases z) oq
      have hP : PX D dT g (sf_ (f0_ χ) f) H := PX_put hP (by decide) rfl hG oq hz1
      refine lv_iconst (v := (-1)) hx hb dX0_text_53 rfl ?_
      refine lv_istore_n (lv' := [(3, .int (-1)), (2, .ref q), (0, .ref g), (1, .int k)]) hx hb dX0_text_54 rfl hl (by decide) rfl (fun ls hl => ?_)
      refine lv_aload_n hx hb dX0_text_55 rfl (lv_at hl 2 rfl) ?_
      refine lv_iconst (v := nI 0) hx hb dX0_text_56 rfl ?_
      refine gp_put (C := RX0) (T := TX0) (ty := .int) E hK hP.1 hS (Or.inl (xA_o (Or.inl rfl))) (shO_g g) rfl in_X0 tyX0 tyX0_ok nmX0 1 (by decide) (hts _ q334) (fun _ z => z) rfl rfl rfl rfl dX0_text_57 (fun H locs hG oq hS => ?_)
      have hz1 := hz_put hG (by rw [shO_g]; exact fun z => by cases z) oq
      have hP : PX D dT g (sρ (tp_ (sf_ (f0_ χ) f)) χ.2.2.2.1) H := PX_put hP (by decide) rfl hG oq hz1
      refine lv_iload_n hx hb dX0_text_60 rfl (lv_at hl 0 rfl) ?_
      exact x_iretT E hr hlk hP rfl hS (by omega) (by omega) dX0_text_61
set_option maxHeartbeats 4000000 in
theorem tx_text_ (l : Launch) (hst : l.stackTraces = false) (D : va_G) (dT : Nat → ClassId) (g : Nat) (Z : nwZ) (sz : Nat) (k : Int32) (χ : nwX) (res : Nat × (Int32 × nwX)) (hf : fx_text k χ = some res) : nx_Met l yX0_text (wsW_ yX0_text cX0_text 5 (some .int) [(10, 29, 36, 98), (10, 29, 62, 0), (36, 55, 62, 0), (62, 64, 62, 0)]) (rmc 47 res.1) (va_Pc [.ref g, .int k] (XP D dT g Z sz χ)) (va_Qi (fun r' (_ : Unit) => r' = res.2.1) (fun _ t => ∃ r, PX D dT g (sρ res.2.2 r) t.heap) (rdA g sz)) (fun _ _ _ _ => False) res.1 (24 * res.1) (rdA g sz) := by
  obtain ⟨N, ans, χ9⟩ := res
  refine nx_ofWH (cc := cX0_text) (maxL := 5) (ret := some .int) (by decide) rfl ?_
  intro p e s m args below meth c s₁ B hml hv
  obtain ⟨rfl, hP⟩ := hv
  have hts := atoms_spec (ws := wsW_ yX0_text cX0_text 5 (some .int) [(10, 29, 36, 98), (10, 29, 62, 0), (36, 55, 62, 0), (62, 64, 62, 0)]) B.pre
  have htab := vx_table (x := yX0_text) B (hts _ List.mem_cons_self)
  have hts : ∀ w ∈ lw_all, w.before _ s = true := fun w h => hts w (List.mem_cons_of_mem _ h)
  have hown : s.vm.findClass RX0 = some m.cls := findClass_of_methodNamed B.named
  have hl := lv_entry [.ref g, .int k] (n := 5) (Nat.le_of_ble_eq_true rfl)
  rw [lg_entry_eq]
  have E : CallFix p m c cX0_text 5 s _ lw_all RX0 := ⟨B.exec, B.bytes, hml, hown, hts⟩
  have hr := B.returns
  have hlk := B.notSynchronized
  have hx := B.exec
  have hb := B.bytes
  revert hl
  intro hl
  obtain ⟨hP, hE, hSV, hZg, hsz, hgz⟩ := hP
  have hK := hE.1
  have hS : va_S (rdA g sz) s.heap s.heap [] := va_S.rf
  have hSV0 := hSV
  skip
  exact tx_textB hst E hE hP hSV hZg hsz hgz hf hr hlk htab hl
set_option maxHeartbeats 4000000 in
theorem tx_text (l : Launch) (hst : l.stackTraces = false) (D : va_G) (dT : Nat → ClassId) (g : Nat) (Z : nwZ) (sz : Nat) (k : Int32) (χ : nwX) (res : Nat × (Int32 × nwX)) (hf : fx_text k χ = some res) : Met l yX0_text (wsW_ yX0_text cX0_text 5 (some .int) [(10, 29, 36, 98), (10, 29, 62, 0), (36, 55, 62, 0), (62, 64, 62, 0)]) (rmc 47 res.1) (va_Pc [.ref g, .int k] (XP D dT g Z sz χ)) (va_Qi (fun r' (_ : Unit) => r' = res.2.1) (fun _ t => ∃ r, PX D dT g (sρ res.2.2 r) t.heap) (rdA g sz)) res.1 (24 * res.1) (rdA g sz) := mf_imp (tx_text_ l hst D dT g Z sz k χ res hf) (fun a s o s' hq => by
  rcases hq with hq | ⟨q, -, E, ce, L, hx, -⟩
  · exact hq
  · exact hx.elim)
