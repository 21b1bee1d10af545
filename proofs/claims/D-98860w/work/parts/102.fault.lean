/-! 102: a Fault, made and thrown -/
set_option maxRecDepth 100000
/-- a Fault as new has made it: no field written, nobody in its monitor -/
def FB (D : va_G) (a : Nat) (H : Heap) : Prop := ∃ cell : Cell, H[a]? = some cell ∧ cell.cls = D.1 4 ∧ cell.vm = .none ∧ cell.monitor.owner = none ∧ cell.monitor.count = 0 ∧ ∀ k, k < 8 → cell.slots[D.2 4 k]? = some (defaultValue (tyX4 k))
section FLT
variable {p : Program} {l : Launch} {e : Env} {R : Room} {s : State} {m : MethodId} {args : Array Value} {below : List Frame} {meth : Method} {c : Code} {Q : State → Prop} {cc : ByteArray} {pc : Nat} {ls : Array Slot} {rest : List Value} {D : va_G} {dT : Nat → ClassId} {A : Nat → Prop}
set_option maxHeartbeats 4000000 in
/-- super() of a Fault's constructor -/
theorem fl_super (hexec : p.tables.exec = Jvm.exec) (hb : c.code = cc) (htr : l.stackTraces = false) (hts : ∀ w ∈ lw_all, w.before args s = true) (hNW : NW s) (hown : s.vm.findClass RX4 = some m.cls) (hK : va_K D nwCl (nwT dT) s)
    (hU : vx_Zq Bundle.tN "UNASSIGNED_STACK" Bundle.steD A s s.heap) (hN : vx_Zq Bundle.tN "SUPPRESSED_SENTINEL" Bundle.listD A s s.heap) (hsize : ls.size = c.maxLocals) {a : Nat} (hA : A a) (hF : FB D a s.heap) (hd : decode cc pc = .ok (.invokespecial 1, 3))
    (hRf : 4 < R.frames) (hRl : (rest.map fun v => v.category).sum + 55 ≤ R.locals)
    (kk : ∀ (H1 : Heap) (locs1 : List Loc), (∃ V : Nat → Value, t_OB a (D.1 4) 8 (D.2 4) H1 V) → (∀ q, q ≠ a → H1[q]? = s.heap[q]?) → va_S A s.heap H1 locs1 → W p l e R s m args below meth c H1 locs1 0 0 Q (F0 m (pc + 3) ls rest)) : W p l e R s m args below meth c s.heap [] 0 0 Q (F0 m pc ls (.ref a :: rest)) := by
  intro W0 hT X
  obtain ⟨cell, f1, f2, f3, f4, f5, f6⟩ := hF
  have htr' : e.platform.stackTraces = false := (show e.platform.stackTraces = l.stackTraces by rw [X.admits.platform]).trans htr
  have howns : e.platform.frameOwnsMonitors = true := by rw [X.admits.platform]
  have hfin : e.platform.finalization = false := by rw [X.admits.platform]
  have hpl : e.platform.magicAccessors = ({} : Platform).magicAccessors := by rw [X.admits.platform]
  have hat : ∀ w ∈ Bundle.throwableAtoms, w.before args s = true :=
    vx_c (hts _ q172) <| vx_c (hts _ q585) <| vx_c (hts _ q594) <| vx_c (hts _ q596) <| vx_c (hts _ q599) <| vx_c (hts _ q601) <| vx_c (hts _ q586) <| vx_c (hts _ q587) <| vx_c (hts _ q201) <| vx_c (hts _ q202) <| vx_c (hts _ q588) <| vx_c (hts _ q593) <| vx_c (hts _ q597) <| vx_c (hts _ q614) <| vx_c (hts _ q575) <| vx_c (hts _ q615) <| vx_c (hts _ q577) <| vx_c (hts _ q616) <| vx_c (hts _ q579) <| vx_c (hts _ q589) <| vx_c hU.2.word <| vx_c (hts _ q591) <| vx_c hN.2.word <| vx_c (hts _ q581) vx_n
  have hdecl : (Cond.declares (Bundle.init0 Bundle.tN)).before args s = true := va_Nw.use rfl (hNW.2.2.2.1 _ (List.mem_of_getElem? (i := 1) rfl))
  have hch : ∀ w ∈ Bundle.chain0Atoms "java/lang/Exception" [], w.before args s = true :=
    vx_c (hts _ q606) <| vx_c (hts _ q607) <| vx_c (hts _ q608) <| vx_c (hts _ q586) <| vx_c hdecl vx_n
  obtain ⟨T, Z, L, LZ, Y⟩ := ThrowableC.of_atoms (args := args) howns hfin hpl hat
  obtain ⟨P1, Ps, hlen, L1, hL, hP1m, hlink1, hlink⟩ := Bundle.chain0 (args := args) hpl Y.init0 [] "java/lang/Exception" (by decide) (fun n hn => nomatch hn) hch
  obtain ⟨hSl, hfound, kX, hk, hord⟩ := hK.1 4 _ rfl
  have hsel0 : selectMethod e.platform s.vm cell.cls T.fill0 = .method T.fill0 := by
    rw [f2]
    obtain ⟨c2, r2, m2, q1, q2, q3, q4, -⟩ := Cond.selects_spec (hts _ q572)
    cases Option.some.inj (q1.symm.trans hfound)
    cases Option.some.inj (q2.symm.trans (State.methodFound?_of_named Y.fill0 (by decide)))
    cases Option.some.inj (q3.symm.trans Y.fill0)
    rw [Launch.admits_selectMethod X.admits]; exact q4
  have hselF : selectMethod e.platform s.vm cell.cls T.fill = .method T.fill := by
    rw [f2]
    obtain ⟨c2, r2, m2, q1, q2, q3, q4, -⟩ := Cond.selects_spec (hts _ q573)
    cases Option.some.inj (q1.symm.trans hfound)
    cases Option.some.inj (q2.symm.trans (State.methodFound?_of_named Y.fill (by decide)))
    cases Option.some.inj (q3.symm.trans Y.fill)
    rw [Launch.admits_selectMethod X.admits]; exact q4
  obtain ⟨cellS0, hcS0, hiss⟩ := Y.statics
  obtain ⟨u0, hu0⟩ := Cond.staticRefV Y.unassigned L.unassignedStatic L.statics hcS0 hiss (vx_isRefq (args := args) hU.1)
  obtain ⟨sen, hsen⟩ := Cond.staticRefV Y.sentinel L.sentinelStatic L.statics hcS0 hiss (vx_isRefq (args := args) hN.1)
  obtain ⟨ci198, i198, fB, hk198, hg198, ha198, hsB, -, hnB, htB, hffB⟩ := Cond.ownField (t := .object "java/lang/Object") Y.found L.cls (by decide +kernel) (hts _ q584) (hts _ q583) e.platform hpl
  have hcellS : W0.heap[T.aS]? = some cellS0 := by rw [hT]; exact hcS0
  have hcellA : W0.heap[a]? = some cell := by rw [hT]; exact f1
  have hknownS : cellS0.vm ≠ .unknown := by
    intro hu
    rw [show cellS0.vm = .unknown from hu] at hiss
    cases hiss
  have hneS : T.aS ≠ a := by
    intro h
    rw [h, f1] at hcS0
    cases hcS0
    rw [f3] at hiss
    cases hiss
  obtain ⟨iM, hffM⟩ := Y.msg
  obtain ⟨tyC, dC, hdC, hdnC⟩ := Cond.laysAt hfound hk Y.cause (hts _ q574)
  obtain ⟨tyS, dS, hdS, hdnS⟩ := Cond.laysAt hfound hk Y.stack (hts _ q576)
  obtain ⟨tyP, dP, hdP, hdnP⟩ := Cond.laysAt hfound hk Y.supp (hts _ q578)
  obtain ⟨tyB, dB, hdB, hdnB⟩ := Cond.laysAt hfound hk hffB (hts _ q582)
  have bC := Cond.laysApart hdB hdC hdnB hdnC (by rw [hnB, Y.causeName]; decide)
  have bS := Cond.laysApart hdB hdS hdnB hdnS (by rw [hnB, Y.stackName]; decide)
  have bP := Cond.laysApart hdB hdP hdnB hdnP (by rw [hnB, Y.suppName]; decide)
  have slot : ∀ (k : Nat) (f : Field) (c9 : ClassId) (k9 : Class) (i9 : Nat), k < 8 → s.fieldFound? (TX4 k).1 (TX4 k).2.1 (TX4 k).2.2.1 = some (c9, k9, i9, f) → f.slot = D.2 4 k := by
    intro k f c9 k9 i9 h1 h2
    obtain ⟨cf, kf, fi, f', hi, hsl⟩ := hSl k h1
    have := hi.symm.trans h2
    simp only [Option.some.injEq, Prod.mk.injEq] at this
    rw [← this.2.2.2]; exact hsl
  have takes : ∀ (k : Nat) (f : Field) (v : Value), k < 8 → f.slot = D.2 4 k → kX.instanceTypes[f.slot]? = some f.type → fits f.type v = true → Takes s cell f v := by
    intro k f v h1 h2 h3 h4
    refine ⟨?_, ?_⟩
    · rw [h2]; exact (Array.getElem?_eq_some_iff.mp (f6 k h1)).1
    · simp [State.fitsSlot, State.slotType?, f2, f3, hk, hord, h3, h4]
  have sC0 : T.fCause.slot = D.2 4 0 := slot 0 _ _ _ _ (by decide) Y.cause
  have sS0 : T.fStack.slot = D.2 4 1 := slot 1 _ _ _ _ (by decide) Y.stack
  have sP0 : T.fSupp.slot = D.2 4 2 := slot 2 _ _ _ _ (by decide) Y.supp
  have sB0 : fB.slot = D.2 4 4 := slot 4 _ _ _ _ (by decide) hffB
  have hskip : SkipFacts T e.platform s (fun u => u) u0 ((preparedCellV T.toThrowableT cell a u0 sen).withEntry W0.cur) :=
    ⟨{ ci198 := ci198, i198 := i198, fBack := fB }, ⟨hk198, hg198, ha198, hsB⟩, by
      have := f6 4 (by decide)
      rw [← sB0] at this
      simpa [preparedCellV, Cell.setSlot, Cell.withEntry, Array.getElem?_setIfInBounds, bC, bS, bP, bC.symm, bS.symm, bP.symm, defaultValue, tyX4] using this, fun _ _ => rfl⟩
  obtain ⟨tm, methC, cdC, kC, vm₁, hnC, -, -, -, -, -, -, -, hW₁, st1⟩ := Steps.initCold (tb := p.tables) (e := e) (below := below) (s := s) (U := W0) X.here hexec X.warmed hpl hown (t := Bundle.init0 "java/lang/Exception") rfl rfl (Bundle.fit_spec (by decide)).2
    (hts _ q605) (hts _ q606) (bytes := Bundle.five) (maxL := 1) (hts _ q607)
    (f := F0 m pc ls (.ref a :: rest)) rfl (a := a) (rest := rest) rfl (by rw [hb]; exact hd)
  cases Option.some.inj (hnC.symm.trans hP1m)
  have X₁ := X.noted hW₁
  have hlen0 : Ps = [] := List.length_eq_zero_iff.mp hlen
  obtain ⟨vm₂, X₂, st2⟩ := X₁.ctorPlainOffV hexec (g := F0 m pc ls rest) rfl hsize T L Z LZ (P1 :: Ps)
    (fun P hP => by rcases List.mem_cons.mp hP with rfl | hP; exact L1; exact hL P hP) ⟨hlink1, hlink⟩ (u0 := u0) (sen := sen) (self := a) (cell := cell) (cellS := cellS0)
    hcellA (fun k => by rw [f3]; exact fun h => by cases h) (by rw [f3]; exact fun h => by cases h) f4 f5 hsel0 hselF hcellS hneS hknownS hu0 hsen
    (takes 0 _ _ (by decide) sC0 tyC (by rw [Y.causeType]; rfl)) (takes 1 _ _ (by decide) sS0 tyS (by rw [Y.stackType]; exact fits_refV_array _ u0)) (takes 2 _ _ (by decide) sP0 tyP (by rw [Y.suppType]; exact fits_refV_object _ sen)) Y.objLocals hskip htr' [] (by rw [hb]; exact hd)
    (by subst hlen0; show 1 + 2 < R.frames; omega) (by subst hlen0; show 2 * 0 + (rest.map fun v => v.category).sum + (13 * 1 + 41) ≤ R.locals; omega)
  have hlt : a < ((W0.setVm vm₁).setVm vm₂).heap.size := (Array.getElem?_eq_some_iff.mp hcellA).1
  obtain ⟨V, hV⟩ : ∃ ce : Cell, ce = ((preparedCellV T.toThrowableT cell a u0 sen).setSlot T.fStack.slot u0.v) := ⟨_, rfl⟩
  rw [← hV] at X₂ st2
  have hvc : V.cls = cell.cls ∧ V.vm = cell.vm ∧ V.slots.size = cell.slots.size := by
    rw [hV]
    simp [preparedCellV, Cell.setSlot]
  have hself := heapAt_setCell_self (s := (W0.setVm vm₁).setVm vm₂) V hlt
  obtain ⟨t, a1, b1⟩ := kk ((((W0.setVm vm₁).setVm vm₂).setCell a V).heap) _ ⟨fun k => (V.slots[D.2 4 k]?).getD .null, V, hself, by rw [hvc.1, f2], by rw [hvc.2.1, f3], fun k hk => by
      have hz := (Array.getElem?_eq_some_iff.mp (f6 k hk)).1
      rw [← hvc.2.2] at hz
      show _ = some ((V.slots[D.2 4 k]?).getD .null)
      rw [Array.getElem?_eq_getElem hz]; rfl⟩
    (fun q hq => by rw [heapAt_setCell_ne (s := (W0.setVm vm₁).setVm vm₂) V (Ne.symm hq)]; show W0.heap[q]? = _; rw [hT])
    ⟨by rw [← hT]; exact Nat.le_of_eq (by simp), fun q h1 h2 => by rw [heapAt_setCell_ne (s := (W0.setVm vm₁).setVm vm₂) V (fun z : a = q => h2 (by rw [← z]; exact hA))]; show W0.heap[q]? = _; rw [hT], fun z hz => by
      simp only [List.nil_append, List.mem_cons, List.not_mem_nil, or_false] at hz
      rcases hz with rfl | rfl | rfl | rfl <;> exact hA⟩ _ rfl X₂
  refine ⟨t, st1 _ (fun acts => ?_), b1⟩
  rw [doInvoke_state]
  exact st2 _ a1
end FLT
