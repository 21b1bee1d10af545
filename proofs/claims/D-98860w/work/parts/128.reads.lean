/-! reads, text: written by genf.py -/
set_option maxRecDepth 100000
def geA (sz : Nat) : Nat → Prop := fun q => sz ≤ q
def rdA (g sz : Nat) : Nat → Prop := fun q => xA g q ∨ sz ≤ q
theorem xA_lt {g q : Nat} (h : xA g q) : g ≤ q ∧ q < g + 1626 := by
  rcases h with h | ⟨j, hj, h⟩
  · unfold oA at h; omega
  · unfold sA skA at h
    split at h <;> omega
/-- NamesWeather stands at g, the heap has sz cells -/
def XP (D : va_G) (dT : Nat → ClassId) (g : Nat) (Z : nwZ) (sz : Nat) (χ : nwX) (U : State) : Prop := PX D dT g χ U.heap ∧ EV D dT U ∧ SV Z U U.heap ∧ Z.1 ≤ g ∧ U.heap.size = sz ∧ g + 1626 ≤ sz
/-- the addresses of the lists may be others -/
def sρ (χ : nwX) (r : Nat → Nat → Nat) : nwX := (χ.1, χ.2.1, χ.2.2.1, r, χ.2.2.2.2)
def QcX (D : va_G) (dT : Nat → ClassId) (g : Nat) (A : Nat → Prop) : nwF ⊕ (Int32 × nwX) → Array Value → State → Outcome → State → Prop
  | .inl _ => fun _ _ _ _ => False
  | .inr v => va_Qi (fun r' (_ : Unit) => r' = v.1) (fun _ t => ∃ r, PX D dT g (sρ v.2 r) t.heap) A
def r0_ (k : Int32) : nwM := fun i _ => if i = 0 then k else 0
theorem oF_RD {D : va_G} {q g : Nat} {k : Int32} {H : Heap} (h : oF D 3 7 [.int k, .int 0, .int 0, .int 0, .int 0, .int 0, .ref g] q H) : RD D q g (r0_ k) H := by
  obtain ⟨cell, h1, h2, h3, h4⟩ := h
  refine ⟨cell, h1, h2, h3, fun i hi => ?_⟩
  rw [h4 i hi]
  rcases (show i = 0 ∨ i = 1 ∨ i = 2 ∨ i = 3 ∨ i = 4 ∨ i = 5 ∨ i = 6 by omega) with rfl | rfl | rfl | rfl | rfl | rfl | rfl <;> rfl
theorem vS_w {A A' : Nat → Prop} {H0 H : Heap} {locs : List Loc} (hS : va_S A H0 H locs) (h : ∀ q, A q → A' q) : va_S A' H0 H locs := ⟨hS.1, fun q a b => hS.2.1 q a (fun z => b (h q z)), fun z hz => h _ (hS.2.2 z hz)⟩
theorem PX_of {D : va_G} {dT : Nat → ClassId} {g sz : Nat} {χ : nwX} {H0 H : Heap} {locs : List Loc} (hP : PX D dT g χ H0) (hz : H0.size = sz) (hS : va_S (geA sz) H0 H locs) : PX D dT g χ H := PX_same hP hS.1 (fun q h => hS.2.1 q h (fun z => absurd (show sz ≤ q from z) (by omega)))
theorem nx_free {p : Program} {l : Launch} {e : Env} {R : Room} {s : State} {m : MethodId} {args : Array Value} {below : List Frame} {meth : Method} {c : Code} {H : Heap} {locs : List Loc} {cells slots : Nat} {Qc : Array Value → State → Outcome → State → Prop} {XC : Addr → String → State → State → Prop} {mc ms : Nat} {f1 f2 : Addr → Prop} {fr : JFrame} (k : W p l e R s m args below meth c H locs cells slots (nx_MQ below Qc XC args s mc ms f1) fr) (h : ∀ q, f1 q → f2 q) : W p l e R s m args below meth c H locs cells slots (nx_MQ below Qc XC args s mc ms f2) fr := by
  intro T hT X
  obtain ⟨t, a1, o, b1, b2, b3⟩ := k T hT X
  refine ⟨t, a1, o, b1, b2, ?_⟩
  rcases b3 with ⟨h1, L, h2, h3⟩ | ⟨q, h1, E, ce, L, k1, k2, k3, k4, k5, k6, k7⟩
  · exact Or.inl ⟨h1, L, h2, fun z hz => h _ (h3 z hz)⟩
  · exact Or.inr ⟨q, h1, E, ce, L, k1, k2, k3, k4, k5, k6, fun z hz => h _ (k7 z hz)⟩
/-- a Line as the Skies see it -/
def toLn (v : nwL2) : nwLn := (v.1, v.2.1.1, v.2.2.map Prod.fst)
def okL (vs : List nwL2) : Bool := vs.all fun v => decide (v.2.1.2 ≤ 400) && (match v.2.2 with | none => true | some t => decide (t.2 ≤ 400))
theorem LF_nLS {α : Type} {D : va_G} {dT : Nat → ClassId} {Z : nwZ} {P : α → (Nat → Prop) → Nat → Heap → Prop} {sz al : Nat} {vs : List α} {H : Heap} {Nn : Nat → Prop} (hg : gK P) (hn : ∀ q, Nn q → q < sz) (h : LF D dT Z P sz vs al H) : nLS D dT P vs Nn al H := by
  obtain ⟨ed, els, h1, h2, h3, h4, h5⟩ := h
  refine ⟨els, ?_, h4, fun i x b e1 e2 => hg.2.1 _ _ _ _ _ (fun q hq => Or.inl (hn q hq)) (h5 i x b e1 e2)⟩
  obtain ⟨⟨mc, ho⟩, hh⟩ := h1
  have hal : ¬ Nn al := fun z => by have := hn _ z; omega
  rcases hh with hh | ⟨g1, g2, n, f, g3, g4, g5, g6, g7⟩
  · exact ⟨by rw [hh.1]; decide, mc, ed, ⟨hal, ho⟩, Or.inl hh.1⟩
  · exact ⟨by omega, mc, ed, ⟨hal, ho⟩, Or.inr ⟨fun z => by have := hn _ z; omega, n, _, g3, g4, by omega, fun i x e => by show va_rf (f i) = _; rw [g7, e]; rfl⟩⟩
theorem nLS_ln {D : va_G} {dT : Nat → ClassId} {vs : List nwL2} {Nn : Nat → Prop} {al : Nat} {H : Heap} (hok : okL vs = true) (h : nLS D dT (PL D) vs Nn al H) : nLS D dT (oLn D) (vs.map toLn) Nn al H := by
  obtain ⟨els, h1, h2, h3⟩ := h
  refine ⟨els, h1, by rw [List.length_map]; exact h2, fun i x b e1 e2 => ?_⟩
  rw [List.getElem?_map] at e1
  cases hv : vs[i]? with
  | none => rw [hv] at e1; cases e1
  | some v =>
    rw [hv] at e1
    cases e1
    have hd := List.all_eq_true.mp hok v (List.mem_of_getElem? hv)
    obtain ⟨d1, d2⟩ := (Bool.and_eq_true _ _).mp hd
    have d1 := of_decide_eq_true d1
    obtain ⟨ct, k1, k2⟩ := h3 i v b hv e2
    refine ⟨ct, TR_up d1 k1, ?_⟩
    rcases k2 with ⟨k2, k3⟩ | ⟨t, w, k2, k3, k4⟩
    · exact Or.inl ⟨by show v.2.2.map Prod.fst = none; rw [k2]; rfl, k3⟩
    · refine Or.inr ⟨t.1, w, by show v.2.2.map Prod.fst = _; rw [k2]; rfl, TR_up ?_ k3, k4⟩
      rw [k2] at d2
      exact of_decide_eq_true d2
theorem LR_set0 {D : va_G} {dT : Nat → ClassId} {Nn : Nat → Prop} {ρ : Nat → Nat} {L : nwL} {H : Heap} {xs : List nwLn} {al : Nat} (h : LR D dT Nn ρ L H) (hx : nLS D dT (oLn D) xs Nn al H) : LR D dT Nn (va_up ρ (9 - 9) al) (xs, L.2) H := ⟨hx, h.2.1, h.2.2.1, h.2.2.2⟩
def setL0 (χ : nwX) (xs : List nwLn) : nwX := (χ.1, χ.2.1, χ.2.2.1, χ.2.2.2.1, va_up χ.2.2.2.2 0 (xs, (χ.2.2.2.2 0).2))
theorem LR_set1 {D : va_G} {dT : Nat → ClassId} {Nn : Nat → Prop} {ρ : Nat → Nat} {L : nwL} {H : Heap} {xs : List nwQ} {al : Nat} (h : LR D dT Nn ρ L H) (hx : nLS D dT (oQu D) xs Nn al H) : LR D dT Nn (va_up ρ (10 - 9) al) (L.1, xs, L.2.2) H := ⟨h.1, hx, h.2.2.1, h.2.2.2⟩
def setL1 (χ : nwX) (xs : List nwQ) : nwX := (χ.1, χ.2.1, χ.2.2.1, χ.2.2.2.1, va_up χ.2.2.2.2 0 ((χ.2.2.2.2 0).1, xs, (χ.2.2.2.2 0).2.2))
theorem LR_set2 {D : va_G} {dT : Nat → ClassId} {Nn : Nat → Prop} {ρ : Nat → Nat} {L : nwL} {H : Heap} {xs : List nwW} {al : Nat} (h : LR D dT Nn ρ L H) (hx : nLS D dT (oWa D) xs Nn al H) : LR D dT Nn (va_up ρ (11 - 9) al) (L.1, L.2.1, xs, L.2.2.2) H := ⟨h.1, h.2.1, hx, h.2.2.2⟩
def setL2 (χ : nwX) (xs : List nwW) : nwX := (χ.1, χ.2.1, χ.2.2.1, χ.2.2.2.1, va_up χ.2.2.2.2 0 ((χ.2.2.2.2 0).1, (χ.2.2.2.2 0).2.1, xs, (χ.2.2.2.2 0).2.2.2))
theorem LR_set3 {D : va_G} {dT : Nat → ClassId} {Nn : Nat → Prop} {ρ : Nat → Nat} {L : nwL} {H : Heap} {xs : List nwD} {al : Nat} (h : LR D dT Nn ρ L H) (hx : nLS D dT (oDe D) xs Nn al H) : LR D dT Nn (va_up ρ (12 - 9) al) (L.1, L.2.1, L.2.2.1, xs) H := ⟨h.1, h.2.1, h.2.2.1, hx⟩
def setL3 (χ : nwX) (xs : List nwD) : nwX := (χ.1, χ.2.1, χ.2.2.1, χ.2.2.2.1, va_up χ.2.2.2.2 0 ((χ.2.2.2.2 0).1, (χ.2.2.2.2 0).2.1, (χ.2.2.2.2 0).2.2.1, xs))
section KX
variable {p : Program} {l : Launch} {e : Env} {s : State} {m : MethodId} {args : Array Value} {below : List Frame} {meth : Method} {c : Code} {H : Heap} {locs : List Loc} {cells slots N d : Nat} {Q : State → Prop}
variable {cc : ByteArray} {pc nL : Nat} {ls : Array Slot} {rest : List Value} {D : va_G} {dT : Nat → ClassId} {own : String} {A : Nat → Prop} {Nn : Nat → Prop}
theorem kx_size {α : Type} {P : α → (Nat → Prop) → Nat → Heap → Prop} {xs : List α} {a index : Nat} (E : CallFix p m c cc nL s args lw_all own) (hE : EV D dT s) (h0 : nLS D dT P xs Nn a H) (hS : va_S A s.heap H locs) (hw : GoodIn lw_all (wsV own index RJ2 yJ2_size (ws_ yJ2_size cJ2_size 1 (some .int)))) (hd : 0 < d) (hc : cells ≤ N) (hs : slots ≤ 24 * N) {lv : List (Nat × Value)} (hl : lv_has ls nL lv) (hrm : (rest.map fun v => v.category).sum ≤ 8) (hdg : decode cc pc = .ok (.invokevirtual index, 3))
    (kk : ∀ (H1 : Heap) (locs1 : List Loc), (∀ q, q < H.size → H1[q]? = H[q]?) → va_S A s.heap H1 locs1 → W p l e (rmc d N) s m args below meth c H1 locs1 cells slots Q (F0 m (pc + 3) ls (.int (nI xs.length) :: rest))) : W p l e (rmc d N) s m args below meth c H locs cells slots Q (F0 m pc ls (.ref a :: rest)) := by
  obtain ⟨els, h1, h2, -⟩ := h0
  have h3 : AL D dT nN a els H := h1.weak (fun _ z => z.elim)
  rw [← h2] at kk
  obtain ⟨-, _, _, ho, -⟩ := id h3
  refine k_vi (Pic := fun U => AL D dT nN a els U.heap ∧ EV D dT U) (Pic1 := fun _ => True) (A1 := nN) E hS (fun _ _ z => z.elim) (fun _ z => z.elim) (As := []) (tj_size l D dT a els) sz_bl (fun U hU hW => ⟨by rw [hU]; exact h3, hE.warm hW⟩) (o_recv hE.1 ho rfl) hw dj_size rfl ⟨rfl, rfl⟩ (rmcd_ok hd (by decide)) ⟨hc, hs⟩ hl rfl hrm hdg (fun H1 locs1 _ _ hq1 hS => kk H1 locs1 (fun q z => hq1 q z (fun y => y)) hS)
theorem x_iretX {g : Nat} {χ χ' : nwX} {rr : Nat → Nat → Nat} {AX : Nat → Prop} {R : Room} (E : CallFix p m c cc nL s args lw_all own) (hr : meth.sig.returnType = some .int) (hlk : meth.locks = false) (hP : PX D dT g χ' H) (he : χ' = sρ χ rr) (hS : va_S A s.heap H locs) {v : Int32} (hc : cells ≤ N) (hs : slots ≤ 24 * N) (hdg : decode cc pc = .ok (.ireturn, 1)) : W p l e R s m args below meth c H locs cells slots (nx_MQ below (QcX D dT g A (.inr (v, χ))) (XcR D AX (.inr (v, χ))) args s N (24 * N) A) (F0 m pc ls [.int v]) :=
  W.widen hc hs (nx_ret (W.iret E.1 E.2.1 hr (fun t ht _ => show va_Qi (fun r' (_ : Unit) => r' = v) (fun _ t => ∃ r, PX D dT g (sρ χ r) t.heap) A args s (.returned (some (.int v))) t from ⟨⟨v, (), rfl, rfl, rr, by rw [ht, ← he]; exact hP⟩, hS.F ht⟩) hS.2.2 hdg hlk))
end KX
set_option maxHeartbeats 4000000 in
noncomputable def fx_reads (k : Int32) (χ : nwX) : nwR (Int32 × nwX) := xn_ 1 (if k = nI 0 then xq_ (fr_law χ.1 (r0_ k)) fun v => (if okL v.1 = true then some (0, .inr (nI v.1.length, setL0 χ (v.1.map toLn))) else none) else (if k = nI 1 then xq_ (fr_quenching χ.1 (r0_ k)) fun v => some (0, .inr (nI v.1.length, setL1 χ v.1)) else (if k = nI 2 then xq_ (fr_wants χ.1 (r0_ k)) fun v => some (0, .inr (nI v.1.length, setL2 χ v.1)) else xq_ (fr_plan χ.1 (χ.2.1 0 13 0) (r0_ k)) fun v => some (0, .inr (nI v.1.length, (up_ χ.1 8 0 (nI 0), (setL3 χ v.1).2))))))
set_option maxHeartbeats 4000000 in
theorem dx_reads : yX0_reads.cls = RX0 ∧ dN yX0_reads 1 := ⟨rfl, by decide +kernel, by decide +kernel, by decide +kernel⟩
set_option maxHeartbeats 4000000 in
theorem tx_reads (l : Launch) (hst : l.stackTraces = false) (D : va_G) (dT : Nat → ClassId) (g : Nat) (Z : nwZ) (sz : Nat) (k : Int32) (χ : nwX) (res : Nat × (nwF ⊕ (Int32 × nwX))) (hf : fx_reads k χ = some res) : nx_Met l yX0_reads (ws_ yX0_reads cX0_reads 3 (some .int)) (rmc 46 res.1) (va_Pc [.ref g, .int k] (XP D dT g Z sz χ)) (QcX D dT g (rdA g sz) res.2) (XcR D (geA sz) res.2) res.1 (24 * res.1) (rdA g sz) := by
  obtain ⟨N, out⟩ := res
  refine x_met (own := RX0) (by decide) rfl (Nat.le_of_ble_eq_true rfl) ?_
  intro p e s m below meth c ls E hP hr hlk ht hl
  obtain ⟨hP0, hE, hSV, hZg, hsz, hgz⟩ := hP
  have hK := hE.1
  have hS : va_S (geA sz) s.heap s.heap [] := va_S.rf
  obtain ⟨hx, hb, hml, hown, hts⟩ := id E
  have hl : lv_has ls 3 [(0, .ref g), (1, .int k)] := hl
  obtain ⟨q, hq⟩ : ∃ z, z = s.heap.size := ⟨_, rfl⟩
  unfold fx_reads at hf
  obtain ⟨n1, hf, en1⟩ := xn_in hf
  refine x_new (B := 24) (C := RX3) (T := TX3) E hK (ci := 3) rfl in_X3 tyX3 tyX3_ok q398 q399 q167 [.int 0, .int 0, .int 0, .int 0, .int 0, .int 0, .null] (by decide) (by decide) (show 0 + 1 ≤ N by omega) (show 0 + 24 ≤ 24 * N by omega) dX0_reads_0 (fun H hO z1 o1 => ?_)
  have hS := S_new hS z1 o1
  rw [← hq] at hO ⊢
  refine lv_dup hx hb dX0_reads_3 rfl ?_
  refine lv_aload_n hx hb dX0_reads_4 rfl (lv_at hl 0 rfl) ?_
  refine lv_iload_n hx hb dX0_reads_5 rfl (lv_at hl 1 rfl) ?_
  refine k_iv (Pic := oFP D dT 3 7 [.int 0, .int 0, .int 0, .int 0, .int 0, .int 0, .null] q) (Pic1 := fun H => oF D 3 7 [.int k, .int 0, .int 0, .int 0, .int 0, .int 0, .ref g] q H) (A1 := eqA q) E hS (fun z _ ez => show sz ≤ z by rw [show z = q from ez]; omega) (fun z ez => show sz ≤ z by rw [show z = q from ez]; omega) (As := [.ref g, .int k]) (tc_Reader l D dT q g k) oFP_bl (oFP_pre hO hE) q400 q401 q167 q402 rfl dc_Reader rfl ⟨rfl, rfl⟩ (rmcd_ok (by decide) (by decide)) ⟨show 0 + 1 + 0 ≤ N by omega, show 0 + 24 + 0 ≤ 24 * N by omega⟩ hl rfl (Nat.le_of_ble_eq_true rfl) dX0_reads_6 (fun H locs hO _ _ hS => ?_)
  have hR : RD D q g (r0_ k) H := oF_RD hO
  have hzs := hS.1
  have hRl := RD_lt hR
  refine lv_astore_n (lv' := [(2, .ref q), (0, .ref g), (1, .int k)]) hx hb dX0_reads_9 rfl hl (by decide) rfl (fun ls hl => ?_)
  refine lv_iload_n hx hb dX0_reads_10 rfl (lv_at hl 2 rfl) ?_
  have hB : RB D dT q g χ.1 χ.2.2.1 (χ.2.1 0) (χ.2.2.2.1 0) Z s := ⟨⟨hP0.1, (hP0.2.1 0 (by decide)).1⟩, hE, hSV, fun h => by have := xA_lt h; omega, by omega, hZg⟩
  have hA : ∀ z, geA sz z → z = q ∨ s.heap.size ≤ z := fun z h => Or.inr (by rw [hsz]; exact h)
  have hAA : ∀ z, nA q H.size z → geA sz z := fun z h => by rcases h with h | h <;> (show sz ≤ z) <;> omega
  have hP := PX_of hP0 hsz hS
  by_cases kc0 : k = nI 0
  · have hf := ite_t kc0 hf
    refine lv_tableIn (tgt := 36) hx hb dX0_reads_11 (sw_lo kc0 (by decide) (by decide)) (sw_hi kc0 (by decide) (by decide)) (sw_at kc0 (by decide) rfl) (by decide) ?_
    refine lv_aload_n hx hb dX0_reads_36 rfl (lv_at hl 1 rfl) ?_
    refine gp_get (C := RX0) (T := TX0) E hK hP.1 (shO_g g) rfl in_X0 4 (by decide) (hts _ q337) (fun _ z => z) vO_4 dX0_reads_37 ?_
    refine lv_aload_n hx hb dX0_reads_40 rfl (lv_at hl 0 rfl) ?_
    rcases xq_in hf with ⟨f, hc, hx1⟩ | ⟨m1, v, n2, hc, hf, en2⟩
    · subst hx1
      exact nx_free (x_thrV (A := geA sz) (A1 := nA q H.size) E hS (fun _ _ z => hAA _ z) (fun _ z => hAA _ z) (As := []) (tr_law l hst D dT q g χ.1 χ.2.2.1 (χ.2.1 0) (χ.2.2.2.1 0) Z H.size (r0_ k) (_, .inl f) hc) (fun _ _ _ _ z => z) RQ_bl (RQ_pre hB hR hS hA) (RD_recv hK hR) (lw_V q426 q427 q428 q167 q429) dr_law rfl (by decide) (by decide) (by omega) (by omega) ht hlk hl rfl (Nat.le_of_ble_eq_true rfl) dX0_reads_41) (fun _ z => Or.inr z)
    · skip
      refine k_vr (Pic := RQ D dT q g χ.1 χ.2.2.1 (χ.2.1 0) (χ.2.2.2.1 0) Z H.size (r0_ k)) (PicR := fun b H1 => (pvL D dT Z (PL D) H.size) v.1 b H1 ∧ RD D q g v.2 H1) (A1 := nA q H.size) E hS (fun _ _ z => hAA _ z) (fun _ z => hAA _ z) (As := []) (nx_met (tr_law l hst D dT q g χ.1 χ.2.2.1 (χ.2.1 0) (χ.2.2.2.1 0) Z H.size (r0_ k) (_, .inr v) hc)) RQ_bl (RQ_pre hB hR hS hA) (RD_recv hK hR) (lw_V q426 q427 q428 q167 q429) dr_law rfl ⟨rfl, rfl⟩ (rmc_ok (by decide) (by decide)) ⟨show 0 + 1 + 0 + _ ≤ N by omega, show 0 + 24 + 0 + _ ≤ 24 * N by omega⟩ hl rfl (Nat.le_of_ble_eq_true rfl) dX0_reads_41 (fun al H locs hR2 _ _ hS => ?_)
      obtain ⟨hT, -⟩ := hR2
      have hP := PX_of hP0 hsz hS
      obtain ⟨hok, hf⟩ := ite_s hf
      cases hf
      have hLS := nLS_ln hok (LF_nLS (Nn := xA g) (gK_L D) (fun z hz => by have := xA_lt hz; omega) hT)
      have hLR := LR_set0 (hP.2.1 0 (by decide)).2 hLS
      have hS := vS_w (A' := rdA g sz) hS (fun _ z => Or.inr z)
      refine gp_putN (C := RX1) (T := TX1) (ty := .object "java/util/ArrayList") E hK (hP.2.1 0 (by decide)).1 hS (Or.inl (xA_s (by decide) (sA_h _))) (shS_h _) rfl in_X1 tyX1 tyX1_ok nmX1 9 (by decide) (nfw_8 hE.2) (fun _ z => z) rfl rfl rfl rfl dX0_reads_44 (fun H locs hG oq hS => ?_)
      have hP := PX_sk hP (by decide) (PS_putl (by decide) (by decide) hG) hLR (hz_put hG (by rw [shS_h]; exact fun z => by cases z) oq) (fun q _ z => oq q (fun e => z (by rw [e]; exact sA_h _)))
      rw [vu_self] at hP
      refine lv_aload_n hx hb dX0_reads_47 rfl (lv_at hl 1 rfl) ?_
      refine gp_get (C := RX0) (T := TX0) E hK hP.1 (shO_g g) rfl in_X0 4 (by decide) (hts _ q337) (fun _ z => z) vO_4 dX0_reads_48 ?_
      refine gp_getN (C := RX1) (T := TX1) E hK (hP.2.1 0 (by decide)).1 (shS_h _) rfl in_X1 9 (by decide) (nfw_8 hE.2) (fun _ z => z) (vS_l (by decide) (by decide)) dX0_reads_51 ?_
      refine kx_size E hE ((hP.2.1 0 (by decide)).2.1) hS (lw_V q801 q630 q631 q165 q632) (by decide) (show _ ≤ N by omega) (show _ ≤ 24 * N by omega) hl (Nat.le_of_ble_eq_true rfl) dX0_reads_54 (fun H locs hq1 hS => ?_)
      have hP := PX_same hP (hz_all hq1) hq1
      refine lv_nm (y := nI v.1.length) (congrArg nI (List.length_map _)) ?_
      exact x_iretX E hr hlk hP rfl hS (by omega) (by omega) dX0_reads_57
  · have hf := ite_f kc0 hf
    by_cases kc1 : k = nI 1
    · have hf := ite_t kc1 hf
      refine lv_tableIn (tgt := 58) hx hb dX0_reads_11 (sw_lo kc1 (by decide) (by decide)) (sw_hi kc1 (by decide) (by decide)) (sw_at kc1 (by decide) rfl) (by decide) ?_
      refine lv_aload_n hx hb dX0_reads_58 rfl (lv_at hl 1 rfl) ?_
      refine gp_get (C := RX0) (T := TX0) E hK hP.1 (shO_g g) rfl in_X0 4 (by decide) (hts _ q337) (fun _ z => z) vO_4 dX0_reads_59 ?_
      refine lv_aload_n hx hb dX0_reads_62 rfl (lv_at hl 0 rfl) ?_
      rcases xq_in hf with ⟨f, hc, hx1⟩ | ⟨m1, v, n2, hc, hf, en2⟩
      · subst hx1
        exact nx_free (x_thrV (A := geA sz) (A1 := nA q H.size) E hS (fun _ _ z => hAA _ z) (fun _ z => hAA _ z) (As := []) (tr_quenching l hst D dT q g χ.1 χ.2.2.1 (χ.2.1 0) (χ.2.2.2.1 0) Z H.size (r0_ k) (_, .inl f) hc) (fun _ _ _ _ z => z) RQ_bl (RQ_pre hB hR hS hA) (RD_recv hK hR) (lw_V q802 q803 q804 q167 q805) dr_quenching rfl (by decide) (by decide) (by omega) (by omega) ht hlk hl rfl (Nat.le_of_ble_eq_true rfl) dX0_reads_63) (fun _ z => Or.inr z)
      · skip
        refine k_vr (Pic := RQ D dT q g χ.1 χ.2.2.1 (χ.2.1 0) (χ.2.2.2.1 0) Z H.size (r0_ k)) (PicR := fun b H1 => (pvL D dT Z (oQu D) H.size) v.1 b H1 ∧ RD D q g v.2 H1) (A1 := nA q H.size) E hS (fun _ _ z => hAA _ z) (fun _ z => hAA _ z) (As := []) (nx_met (tr_quenching l hst D dT q g χ.1 χ.2.2.1 (χ.2.1 0) (χ.2.2.2.1 0) Z H.size (r0_ k) (_, .inr v) hc)) RQ_bl (RQ_pre hB hR hS hA) (RD_recv hK hR) (lw_V q802 q803 q804 q167 q805) dr_quenching rfl ⟨rfl, rfl⟩ (rmc_ok (by decide) (by decide)) ⟨show 0 + 1 + 0 + _ ≤ N by omega, show 0 + 24 + 0 + _ ≤ 24 * N by omega⟩ hl rfl (Nat.le_of_ble_eq_true rfl) dX0_reads_63 (fun al H locs hR2 _ _ hS => ?_)
        obtain ⟨hT, -⟩ := hR2
        have hP := PX_of hP0 hsz hS
        cases hf
        have hLS := LF_nLS (Nn := xA g) (gK_Q D) (fun z hz => by have := xA_lt hz; omega) hT
        have hLR := LR_set1 (hP.2.1 0 (by decide)).2 hLS
        have hS := vS_w (A' := rdA g sz) hS (fun _ z => Or.inr z)
        refine gp_putN (C := RX1) (T := TX1) (ty := .object "java/util/ArrayList") E hK (hP.2.1 0 (by decide)).1 hS (Or.inl (xA_s (by decide) (sA_h _))) (shS_h _) rfl in_X1 tyX1 tyX1_ok nmX1 10 (by decide) (nfw_9 hE.2) (fun _ z => z) rfl rfl rfl rfl dX0_reads_66 (fun H locs hG oq hS => ?_)
        have hP := PX_sk hP (by decide) (PS_putl (by decide) (by decide) hG) hLR (hz_put hG (by rw [shS_h]; exact fun z => by cases z) oq) (fun q _ z => oq q (fun e => z (by rw [e]; exact sA_h _)))
        rw [vu_self] at hP
        refine lv_aload_n hx hb dX0_reads_69 rfl (lv_at hl 1 rfl) ?_
        refine gp_get (C := RX0) (T := TX0) E hK hP.1 (shO_g g) rfl in_X0 4 (by decide) (hts _ q337) (fun _ z => z) vO_4 dX0_reads_70 ?_
        refine gp_getN (C := RX1) (T := TX1) E hK (hP.2.1 0 (by decide)).1 (shS_h _) rfl in_X1 10 (by decide) (nfw_9 hE.2) (fun _ z => z) (vS_l (by decide) (by decide)) dX0_reads_73 ?_
        refine kx_size E hE ((hP.2.1 0 (by decide)).2.2.1) hS (lw_V q801 q630 q631 q165 q632) (by decide) (show _ ≤ N by omega) (show _ ≤ 24 * N by omega) hl (Nat.le_of_ble_eq_true rfl) dX0_reads_76 (fun H locs hq1 hS => ?_)
        have hP := PX_same hP (hz_all hq1) hq1
        exact x_iretX E hr hlk hP rfl hS (by omega) (by omega) dX0_reads_79
    · have hf := ite_f kc1 hf
      by_cases kc2 : k = nI 2
      · have hf := ite_t kc2 hf
        refine lv_tableIn (tgt := 80) hx hb dX0_reads_11 (sw_lo kc2 (by decide) (by decide)) (sw_hi kc2 (by decide) (by decide)) (sw_at kc2 (by decide) rfl) (by decide) ?_
        refine lv_aload_n hx hb dX0_reads_80 rfl (lv_at hl 1 rfl) ?_
        refine gp_get (C := RX0) (T := TX0) E hK hP.1 (shO_g g) rfl in_X0 4 (by decide) (hts _ q337) (fun _ z => z) vO_4 dX0_reads_81 ?_
        refine lv_aload_n hx hb dX0_reads_84 rfl (lv_at hl 0 rfl) ?_
        rcases xq_in hf with ⟨f, hc, hx1⟩ | ⟨m1, v, n2, hc, hf, en2⟩
        · subst hx1
          exact nx_free (x_thrV (A := geA sz) (A1 := nA q H.size) E hS (fun _ _ z => hAA _ z) (fun _ z => hAA _ z) (As := []) (tr_wants l hst D dT q g χ.1 χ.2.2.1 (χ.2.1 0) (χ.2.2.2.1 0) Z H.size (r0_ k) (_, .inl f) hc) (fun _ _ _ _ z => z) RQ_bl (RQ_pre hB hR hS hA) (RD_recv hK hR) (lw_V q837 q838 q839 q167 q840) dr_wants rfl (by decide) (by decide) (by omega) (by omega) ht hlk hl rfl (Nat.le_of_ble_eq_true rfl) dX0_reads_85) (fun _ z => Or.inr z)
        · skip
          refine k_vr (Pic := RQ D dT q g χ.1 χ.2.2.1 (χ.2.1 0) (χ.2.2.2.1 0) Z H.size (r0_ k)) (PicR := fun b H1 => (pvL D dT Z (oWa D) H.size) v.1 b H1 ∧ RD D q g v.2 H1) (A1 := nA q H.size) E hS (fun _ _ z => hAA _ z) (fun _ z => hAA _ z) (As := []) (nx_met (tr_wants l hst D dT q g χ.1 χ.2.2.1 (χ.2.1 0) (χ.2.2.2.1 0) Z H.size (r0_ k) (_, .inr v) hc)) RQ_bl (RQ_pre hB hR hS hA) (RD_recv hK hR) (lw_V q837 q838 q839 q167 q840) dr_wants rfl ⟨rfl, rfl⟩ (rmc_ok (by decide) (by decide)) ⟨show 0 + 1 + 0 + _ ≤ N by omega, show 0 + 24 + 0 + _ ≤ 24 * N by omega⟩ hl rfl (Nat.le_of_ble_eq_true rfl) dX0_reads_85 (fun al H locs hR2 _ _ hS => ?_)
          obtain ⟨hT, -⟩ := hR2
          have hP := PX_of hP0 hsz hS
          cases hf
          have hLS := LF_nLS (Nn := xA g) (gK_W D) (fun z hz => by have := xA_lt hz; omega) hT
          have hLR := LR_set2 (hP.2.1 0 (by decide)).2 hLS
          have hS := vS_w (A' := rdA g sz) hS (fun _ z => Or.inr z)
          refine gp_putN (C := RX1) (T := TX1) (ty := .object "java/util/ArrayList") E hK (hP.2.1 0 (by decide)).1 hS (Or.inl (xA_s (by decide) (sA_h _))) (shS_h _) rfl in_X1 tyX1 tyX1_ok nmX1 11 (by decide) (nfw_10 hE.2) (fun _ z => z) rfl rfl rfl rfl dX0_reads_88 (fun H locs hG oq hS => ?_)
          have hP := PX_sk hP (by decide) (PS_putl (by decide) (by decide) hG) hLR (hz_put hG (by rw [shS_h]; exact fun z => by cases z) oq) (fun q _ z => oq q (fun e => z (by rw [e]; exact sA_h _)))
          rw [vu_self] at hP
          refine lv_aload_n hx hb dX0_reads_91 rfl (lv_at hl 1 rfl) ?_
          refine gp_get (C := RX0) (T := TX0) E hK hP.1 (shO_g g) rfl in_X0 4 (by decide) (hts _ q337) (fun _ z => z) vO_4 dX0_reads_92 ?_
          refine gp_getN (C := RX1) (T := TX1) E hK (hP.2.1 0 (by decide)).1 (shS_h _) rfl in_X1 11 (by decide) (nfw_10 hE.2) (fun _ z => z) (vS_l (by decide) (by decide)) dX0_reads_95 ?_
          refine kx_size E hE ((hP.2.1 0 (by decide)).2.2.2.1) hS (lw_V q801 q630 q631 q165 q632) (by decide) (show _ ≤ N by omega) (show _ ≤ 24 * N by omega) hl (Nat.le_of_ble_eq_true rfl) dX0_reads_98 (fun H locs hq1 hS => ?_)
          have hP := PX_same hP (hz_all hq1) hq1
          exact x_iretX E hr hlk hP rfl hS (by omega) (by omega) dX0_reads_101
      · have hf := ite_f kc2 hf
        refine lv_tableOut (tgt := 102) hx hb dX0_reads_11 (sw_no 0 2 rfl rfl (fun k a b => by rcases (show k = 0 ∨ k = 1 ∨ k = 2 by omega) with rfl | rfl | rfl <;> assumption)) (by decide) ?_
        refine lv_aload_n hx hb dX0_reads_102 rfl (lv_at hl 1 rfl) ?_
        refine gp_get (C := RX0) (T := TX0) E hK hP.1 (shO_g g) rfl in_X0 4 (by decide) (hts _ q337) (fun _ z => z) vO_4 dX0_reads_103 ?_
        refine lv_aload_n hx hb dX0_reads_106 rfl (lv_at hl 0 rfl) ?_
        rcases xq_in hf with ⟨f, hc, hx1⟩ | ⟨m1, v, n2, hc, hf, en2⟩
        · subst hx1
          exact nx_free (x_thrV (A := geA sz) (A1 := nA q H.size) E hS (fun _ _ z => hAA _ z) (fun _ z => hAA _ z) (As := []) (tr_plan l hst D dT q g χ.1 χ.2.2.1 (χ.2.1 0) (χ.2.2.2.1 0) Z H.size rfl (r0_ k) (_, .inl f) hc) (fun _ _ _ _ z => z) RQ_bl (RQ_pre hB hR hS hA) (RD_recv hK hR) (lw_V q882 q883 q884 q167 q885) dr_plan rfl (by decide) (by decide) (by omega) (by omega) ht hlk hl rfl (Nat.le_of_ble_eq_true rfl) dX0_reads_107) (fun _ z => Or.inr z)
        · skip
          refine k_vr (Pic := RQ D dT q g χ.1 χ.2.2.1 (χ.2.1 0) (χ.2.2.2.1 0) Z H.size (r0_ k)) (PicR := fun b H1 => (pvL D dT Z (oDe D) H.size) v.1 b H1 ∧ RD D q g v.2 H1) (A1 := nA q H.size) E hS (fun _ _ z => hAA _ z) (fun _ z => hAA _ z) (As := []) (nx_met (tr_plan l hst D dT q g χ.1 χ.2.2.1 (χ.2.1 0) (χ.2.2.2.1 0) Z H.size rfl (r0_ k) (_, .inr v) hc)) RQ_bl (RQ_pre hB hR hS hA) (RD_recv hK hR) (lw_V q882 q883 q884 q167 q885) dr_plan rfl ⟨rfl, rfl⟩ (rmc_ok (by decide) (by decide)) ⟨show 0 + 1 + 0 + _ ≤ N by omega, show 0 + 24 + 0 + _ ≤ 24 * N by omega⟩ hl rfl (Nat.le_of_ble_eq_true rfl) dX0_reads_107 (fun al H locs hR2 _ _ hS => ?_)
          obtain ⟨hT, -⟩ := hR2
          have hP := PX_of hP0 hsz hS
          cases hf
          have hLS := LF_nLS (Nn := xA g) (gK_D D) (fun z hz => by have := xA_lt hz; omega) hT
          have hLR := LR_set3 (hP.2.1 0 (by decide)).2 hLS
          have hS := vS_w (A' := rdA g sz) hS (fun _ z => Or.inr z)
          refine gp_putN (C := RX1) (T := TX1) (ty := .object "java/util/ArrayList") E hK (hP.2.1 0 (by decide)).1 hS (Or.inl (xA_s (by decide) (sA_h _))) (shS_h _) rfl in_X1 tyX1 tyX1_ok nmX1 12 (by decide) (nfw_11 hE.2) (fun _ z => z) rfl rfl rfl rfl dX0_reads_110 (fun H locs hG oq hS => ?_)
          have hP := PX_sk hP (by decide) (PS_putl (by decide) (by decide) hG) hLR (hz_put hG (by rw [shS_h]; exact fun z => by cases z) oq) (fun q _ z => oq q (fun e => z (by rw [e]; exact sA_h _)))
          rw [vu_self] at hP
          refine lv_aload_n hx hb dX0_reads_113 rfl (lv_at hl 1 rfl) ?_
          refine k_vv (Pic := fun U => PX D dT g _ U.heap ∧ EV D dT U) (Pic1 := fun H => PX D dT g _ H) (A1 := xA g) E hS (fun _ _ z => Or.inl z) (fun _ z => Or.inl z) (As := []) (tx_forgets l D dT g _ _ rfl) (fun U f mk x h => ⟨h.1, h.2.same (u := U) (U := U.calling f mk x) rfl⟩) (fun U hU hW => ⟨by rw [hU]; exact hP, hE.warm hW⟩) (g_recv hK hP.1 (shO_g g) rfl) (lw_V q930 q932 qs33 q161 q933) dx_forgets rfl ⟨rfl, rfl⟩ (rmcd_ok (by decide) (by decide)) ⟨show 0 + 1 + 0 + _ + 0 ≤ N by omega, show 0 + 24 + 0 + _ + 0 ≤ 24 * N by omega⟩ hl rfl (Nat.le_of_ble_eq_true rfl) dX0_reads_114 (fun H locs hP _ _ hS => ?_)
          refine lv_aload_n hx hb dX0_reads_117 rfl (lv_at hl 1 rfl) ?_
          refine gp_get (C := RX0) (T := TX0) E hK hP.1 (shO_g g) rfl in_X0 4 (by decide) (hts _ q337) (fun _ z => z) vO_4 dX0_reads_118 ?_
          refine gp_getN (C := RX1) (T := TX1) E hK (hP.2.1 0 (by decide)).1 (shS_h _) rfl in_X1 12 (by decide) (nfw_11 hE.2) (fun _ z => z) (vS_l (by decide) (by decide)) dX0_reads_121 ?_
          refine kx_size E hE ((hP.2.1 0 (by decide)).2.2.2.2) hS (lw_V q801 q630 q631 q165 q632) (by decide) (show _ ≤ N by omega) (show _ ≤ 24 * N by omega) hl (Nat.le_of_ble_eq_true rfl) dX0_reads_124 (fun H locs hq1 hS => ?_)
          have hP := PX_same hP (hz_all hq1) hq1
          exact x_iretX E hr hlk hP rfl hS (by omega) (by omega) dX0_reads_127
