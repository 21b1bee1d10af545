/-! 109: rows of methods that may throw a Fault -/
set_option maxRecDepth 100000
section THR
variable {p : Program} {l : Launch} {e : Env} {R : Room} {s : State} {m : MethodId} {args : Array Value} {below : List Frame} {meth : Method} {c : Code} {H : Heap} {locs : List Loc} {cells slots N : Nat} {Q : State → Prop}
variable {cc : ByteArray} {pc nL : Nat} {ls : Array Slot} {rest : List Value} {own : String} {A A1 : Nat → Prop} {Pic : State → Prop} {D : va_G} {dT : Nat → ClassId} {a g : Nat} {r : nwM}
theorem x_iret (E : CallFix p m c cc nL s args lw_all own) (hr : meth.sig.returnType = some .int) (hlk : meth.locks = false) (hP : RD D a g r H) (hS : va_S A s.heap H locs) {v : Int32} (hc : cells ≤ N) (hs : slots ≤ 24 * N) (hdg : decode cc pc = .ok (.ireturn, 1)) : W p l e R s m args below meth c H locs cells slots (nx_MQ below (QcI D a g A (.inr (v, r))) (XcR D A (.inr (v, r))) args s N (24 * N) A) (F0 m pc ls [.int v]) :=
  W.widen hc hs (nx_ret (W.iret E.1 E.2.1 hr (fun t ht _ => show va_Qi (fun r' (_ : Unit) => r' = v) (fun _ t => RD D a g r t.heap) A args s (.returned (some (.int v))) t from ⟨⟨v, (), rfl, rfl, by show RD D a g r t.heap; rw [ht]; exact hP⟩, hS.F ht⟩) hS.2.2 hdg hlk))
theorem x_vret (E : CallFix p m c cc nL s args lw_all own) (hr : meth.sig.returnType = none) (hlk : meth.locks = false) (hP : RD D a g r H) (hS : va_S A s.heap H locs) (hc : cells ≤ N) (hs : slots ≤ 24 * N) (hdg : decode cc pc = .ok (.return_, 1)) : W p l e R s m args below meth c H locs cells slots (nx_MQ below (QcV D a g A (.inr r)) (XcR D A (.inr r)) args s N (24 * N) A) (F0 m pc ls []) :=
  W.widen hc hs (nx_ret (W.vret E.1 E.2.1 hr (fun t ht _ => show va_Qv (fun (_ : Unit) => True) (fun _ t => RD D a g r t.heap) A args s (.returned none) t from ⟨⟨(), rfl, trivial, by show RD D a g r t.heap; rw [ht]; exact hP⟩, hS.F ht⟩) hS.2.2 hdg hlk))
theorem x_aret {α : Type} {PV : α → Nat → Heap → Prop} {v : α} {b : Nat} {rt : String} (E : CallFix p m c cc nL s args lw_all own) (hr : meth.sig.returnType = some (.object rt)) (hlk : meth.locks = false) (hV : PV v b H) (hP : RD D a g r H) (hS : va_S A s.heap H locs) (hc : cells ≤ N) (hs : slots ≤ 24 * N) (hdg : decode cc pc = .ok (.areturn, 1)) : W p l e R s m args below meth c H locs cells slots (nx_MQ below (QcR D a g A PV (.inr (v, r))) (XcR D A (.inr (v, r))) args s N (24 * N) A) (F0 m pc ls [.ref b]) :=
  W.widen hc hs (nx_ret (W.aret E.1 E.2.1 hr (Or.inl ⟨_, rfl⟩) (Or.inr ⟨b, rfl⟩) (fun t ht _ => show va_Qr (fun (_ : Unit) => True) (fun _ b t => PV v b t.heap ∧ RD D a g r t.heap) A args s (.returned (some (.ref b))) t from ⟨⟨(), b, rfl, trivial, by show PV v b t.heap ∧ RD D a g r t.heap; rw [ht]; exact ⟨hV, hP⟩⟩, hS.F ht⟩) hS.2.2 hdg hlk))
theorem FO_cell (hK : va_K D nwCl (nwT dT) s) {f : nwF} {q : Nat} (h : FO D f q H) : ∃ ce : Cell, H[q]? = some ce ∧ ce.vm = .none ∧ s.vm.findClass "NamesWeather$Fault" = some ce.cls := by
  obtain ⟨V, ⟨cell, h1, h2, h3, -⟩, -⟩ := h
  exact ⟨cell, h1, h3, by rw [h2]; exact (hK.1 4 (RX4, TX4, 8) rfl).2.1⟩
/-- a Fault is thrown -/
theorem x_athrow {α : Type} {Qc : Array Value → State → Outcome → State → Prop} {f : nwF} {q : Nat} (E : CallFix p m c cc nL s args lw_all own) (hK : va_K D nwCl (nwT dT) s) (ht : ∀ x ∈ c.exceptionTable.toList, False) (hlk : meth.locks = false) (hF : FO D f q H) (hS : va_S A s.heap H locs) (hc : cells ≤ N) (hs : slots ≤ 24 * N) (hdg : decode cc pc = .ok (.athrow, 1)) : W p l e R s m args below meth c H locs cells slots (nx_MQ below Qc (XcR (α := α) D A (.inl f)) args s N (24 * N) A) (F0 m pc ls (.ref q :: rest)) := by
  obtain ⟨ce, h1, h2, h3⟩ := FO_cell hK hF
  exact vx_athrow E.1 E.2.1 hdg (nx_out (XC := XcR (α := α) D A (.inl f)) (fun x hx => (ht x hx).elim) hlk h1 h2 h3 (fun t e1 _ => ⟨rfl, by rw [e1]; exact hF, hS.F e1⟩) hS.2.2 hc hs)
/-- a call that throws: its Fault goes on -/
theorem x_thrV {α β : Type} {Qc Qc' : Array Value → State → Outcome → State → Prop} {f : nwF} (E : CallFix p m c cc nL s args lw_all own) (hS : va_S A s.heap H locs) (hAA : ∀ q, q < H.size → A1 q → A q) (hfr : ∀ q, A1 q → A q) {d d' n' maxL index n b : Nat} {C : String} {y : MethodName} {bytes : ByteArray} {ret : Option FieldType} {As : List Value} (hM : nx_Met l y (ws_ y bytes maxL ret) (rmc d' n') (va_Pc (.ref b :: As) Pic) Qc' (XcR (α := α) D A1 (.inl f)) n' (24 * n') A1) (hQ : ∀ x st o t, ¬ Qc' x st o t) (hbl : ∀ (U : State) (g : JFrame) (mk : MethodId) (a : Array Value), Pic U → Pic (U.calling g mk a)) (hpre : ∀ U : State, U.heap = H → s.WarmedH U.vm → Pic U) (hrc : ∃ cell : Cell, H[b]? = some cell ∧ cell.vm.isStatics = false ∧ s.vm.findClass C = some cell.cls) (hw : GoodIn lw_all (wsV own index C y (ws_ y bytes maxL ret))) (hd : y.cls = C ∧ dN y n) (hlen : As.length = n) (hdd : d' < d) (hL : maxL ≤ 45) (hc : cells + n' ≤ N) (hs : slots + 24 * n' ≤ 24 * N) (ht : ∀ x ∈ c.exceptionTable.toList, False) (hlk : meth.locks = false) {lv : List (Nat × Value)} (hl : lv_has ls nL lv) {st : List Value} (hst : st = As.reverse ++ .ref b :: rest) (hrs : (rest.map fun v => v.category).sum ≤ 8) (hdg : decode cc pc = .ok (.invokevirtual index, 3)) : W p l e (rmc d N) s m args below meth c H locs cells slots (nx_MQ below Qc (XcR (α := β) D A (.inl f)) args s N (24 * N) A) (F0 m pc ls st) := by
  subst hst
  intro T hT X
  rcases nx_runV (As := As) (rest := rest) (g := F0 m pc ls (As.reverse ++ .ref b :: rest)) E hM (cwV n E.2.2.2.2 hw rfl rfl rfl hd (rmc_ok hdd hL)) ⟨fun a U g mk q => ⟨q.1, hbl U g mk a q.2⟩, hrc, fun U hU hW => ⟨rfl, hpre U hU hW⟩⟩ rfl hlen hl.1 rfl (lv_room hrs) hdg ⟨hc, hs⟩ T hT X with ⟨v, st₀, t, T', L, h0, X', hL', e1, e2, hq, st⟩ | ⟨q, st₀, t, T', L, E', ce, h0, X', hL', e1, e2, hx, hce, hcv, hcl, st⟩
  · exact absurd hq (hQ _ _ _ _)
  · obtain ⟨rfl, hF, hFr⟩ := hx
    obtain ⟨k1, k2, k3⟩ := nx_keep h0 e1 hS hAA hfr hL' hFr
    obtain ⟨t2, a1, b1⟩ := nx_out (Qc := Qc) (XC := XcR (α := β) D A (.inl f)) (p := p) (l := l) (e := e) (R := rmc d N) (m := m) (args := args) (below := below) (meth := meth) (pc := pc) (ls := ls) (rest := rest) (cells := cells + n') (slots := slots + 24 * n') (mc := N) (ms := 24 * N) (fun x hx => (ht x hx).elim) hlk (show T'.heap[q]? = some ce by rw [e1]; exact hce) hcv hcl (fun t9 e9 _ => ⟨rfl, by rw [e9, e1]; exact hF, k3.F e9⟩) k3.2.2 hc hs T' rfl X'
    exact ⟨t2, st.trans a1, b1⟩
/-- the contract of a method that may throw, out of its body's walk -/
theorem x_met {L mc ms : Nat} {rm : Room} {y : MethodName} {ret : Option FieldType} {As : List Value} {Qc : Array Value → State → Outcome → State → Prop} {XC : Addr → String → State → State → Prop} {free : Nat → Prop} (hy : plainName y.cls = true) (hc : y.cls = own) (hL : (lg_sl As).length ≤ L)
    (body : ∀ (p : Program) (e : Env) (s : State) (m : MethodId) (below : List Frame) (meth : Method) (c : Code) (ls : Array Slot), CallFix p m c cc L s (As : List Value).toArray lw_all own → Pic s → meth.sig.returnType = ret → meth.locks = false → (∀ x ∈ c.exceptionTable.toList, False) → lv_has ls L (lv_args 0 As) → W p l e rm s m (As : List Value).toArray below meth c s.heap [] 0 0 (nx_MQ below Qc XC (As : List Value).toArray s mc ms free) (F0 m 0 ls [])) :
    nx_Met l y (ws_ y cc L ret) rm (va_Pc As Pic) Qc XC mc ms free := by
  refine nx_ofW (cc := cc) (maxL := L) (ret := ret) hy rfl ?_
  intro p e s m args below meth c s₁ B hml ht hv
  obtain ⟨rfl, hP⟩ := hv
  have hts := atoms_spec (ws := ws_ y cc L ret) B.pre
  have hts : ∀ w ∈ lw_all, w.before _ s = true := fun w h => hts w (List.mem_cons_of_mem _ h)
  have hown : s.vm.findClass own = some m.cls := by rw [← hc]; exact findClass_of_methodNamed B.named
  have hl := lv_entry As (n := L) hL
  rw [lg_entry_eq]
  exact body p e s m below meth c _ ⟨B.exec, B.bytes, hml, hown, hts⟩ hP B.returns B.notSynchronized ht hl
end THR
theorem dc_Fault : dN yX4_init 2 := ⟨by decide +kernel, by decide +kernel, by decide +kernel⟩
abbrev eqA (q : Nat) : Nat → Prop := fun z => z = q
def FP (D : va_G) (dT : Nat → ClassId) (Z : nwZ) (q : Nat) (U : State) : Prop := FB D q U.heap ∧ EV D dT U ∧ SV Z U U.heap ∧ Z.1 ≤ q
theorem FP_bl {D : va_G} {dT : Nat → ClassId} {Z : nwZ} {q : Nat} : ∀ (U : State) (f : JFrame) (mk : MethodId) (x : Array Value), FP D dT Z q U → FP D dT Z q (U.calling f mk x) := fun U f mk x h => ⟨h.1, h.2.1.same (u := U) (U := U.calling f mk x) rfl, h.2.2.1.same (u := U) (U := U.calling f mk x) rfl, h.2.2.2⟩
set_option maxHeartbeats 4000000 in
theorem tc_Fault (l : Launch) (hst : l.stackTraces = false) (D : va_G) (dT : Nat → ClassId) (Z : nwZ) (q : Nat) (k pl : Int32) : Met l yX4_init (ws_ yX4_init cX4_init 3 none) (rmd 6) (va_Pc [.ref q, .int k, .int pl] (FP D dT Z q)) (va_Qv (fun (_ : Unit) => True) (fun _ t => FO D (k, pl) q t.heap) (eqA q)) 0 0 (eqA q) := by
  refine k_met (own := RX4) (by decide) rfl (Nat.le_of_ble_eq_true rfl) ?_
  intro p e s m below meth c ls E hP hr hlk hl hnm
  obtain ⟨hF, hE, hSV, hq⟩ := hP
  obtain ⟨hx, hb, hml, hown, hts⟩ := id E
  have hl : lv_has ls 3 [(0, .ref q), (1, .int k), (2, .int pl)] := hl
  have hAB : ∀ z, eqA q z → ge_ Z.1 z := fun z hz => by rw [show z = q from hz]; exact hq
  refine lv_aload_n hx hb dX4_init_0 rfl (lv_at hl 0 rfl) ?_
  refine fl_super (dT := dT) (A := eqA q) hx hb hst hts hE.2 hown hE.1 (vx_Zq.narrow hSV.2.2.1.1 hAB) (vx_Zq.narrow hSV.2.2.1.2 hAB) (hl.1.trans hml.symm) rfl hF dX4_init_1 (Nat.le_of_ble_eq_true rfl) (Nat.le_of_ble_eq_true rfl) (fun H1 locs1 hV oq hS => ?_)
  obtain ⟨V, hV⟩ := hV
  refine lv_aload_n hx hb dX4_init_4 rfl (lv_at hl 0 rfl) ?_
  refine lv_iload_n hx hb dX4_init_5 rfl (lv_at hl 1 rfl) ?_
  refine gp_putF (C := RX4) (T := TX4) (ty := .int) E hE.1 (oneO (dT := dT) hV) hS rfl (if_pos rfl) rfl in_X4 tyX4 tyX4_ok nmX4 6 (by decide) (hts _ q609) (fun _ z => z) rfl hnm rfl rfl rfl rfl dX4_init_6 (fun H1 locs1 hG oq hS => ?_)
  have hV1 := hG.1 q 4 8 (if_pos rfl)
  rw [upV_self] at hV1
  refine lv_aload_n hx hb dX4_init_9 rfl (lv_at hl 0 rfl) ?_
  refine lv_iload_n hx hb dX4_init_10 rfl (lv_at hl 2 rfl) ?_
  refine gp_putF (C := RX4) (T := TX4) (ty := .int) E hE.1 (oneO (dT := dT) hV1) hS rfl (if_pos rfl) rfl in_X4 tyX4 tyX4_ok nmX4 7 (by decide) (hts _ q611) (fun _ z => z) rfl hnm rfl rfl rfl rfl dX4_init_11 (fun H1 locs1 hG oq hS => ?_)
  have hV2 := hG.1 q 4 8 (if_pos rfl)
  rw [upV_self] at hV2
  exact g_vret (Pic := fun H => FO D (k, pl) q H) E hr hlk ⟨_, hV2, rfl, rfl⟩ hS dX4_init_14
def oFP (D : va_G) (dT : Nat → ClassId) (ci N : Nat) (vs : List Value) (q : Nat) (U : State) : Prop := oF D ci N vs q U.heap ∧ EV D dT U
theorem oFP_bl {D : va_G} {dT : Nat → ClassId} {ci N q : Nat} {vs : List Value} : ∀ (U : State) (f : JFrame) (mk : MethodId) (x : Array Value), oFP D dT ci N vs q U → oFP D dT ci N vs q (U.calling f mk x) := fun U f mk x h => ⟨h.1, h.2.same (u := U) (U := U.calling f mk x) rfl⟩
theorem oFP_pre {D : va_G} {dT : Nat → ClassId} {ci N q : Nat} {vs : List Value} {s : State} {H : Heap} (hP : oF D ci N vs q H) (hE : EV D dT s) : ∀ U : State, U.heap = H → s.WarmedH U.vm → oFP D dT ci N vs q U := fun U hU hW => ⟨by rw [hU]; exact hP, hE.warm hW⟩
