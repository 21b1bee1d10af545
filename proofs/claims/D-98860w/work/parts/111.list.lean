/-! 111: ArrayList: made, added to -/
set_option maxRecDepth 100000
/-- something that may lie in a list: a Line, a Quench, a Want, a Deed -/
def isE (D : va_G) (x : Nat) (H : Heap) : Prop := ∃ ci cell, 9 ≤ ci ∧ ci ≤ 15 ∧ H[x]? = some cell ∧ Cell.cls cell = D.1 ci ∧ Cell.vm cell = .none
theorem isE.kq {D : va_G} {x : Nat} {H H1 : Heap} (h : isE D x H) (hq : H1[x]? = H[x]?) : isE D x H1 := by
  obtain ⟨ci, cell, h1, h2, h3, h4⟩ := h
  exact ⟨ci, cell, h1, h2, by rw [hq]; exact h3, h4⟩
theorem isE.lt {D : va_G} {x : Nat} {H : Heap} (h : isE D x H) : x < H.size := by
  obtain ⟨ci, cell, h1, h2, h3, h4⟩ := h
  exact (Array.getElem?_eq_some_iff.mp h3).1
theorem isE_any0 {D : va_G} {dT : Nat → ClassId} {s : State} {H : Heap} {x ci N : Nat} {C : String} {T : u_T} {cell : Cell} (hE : EV D dT s) (hc : nwCl[ci]? = some (C, T, N)) (hw : va_Nw (.castable C "java/lang/Object") s) (h3 : H[x]? = some cell) (h4 : cell.cls = D.1 ci) (h5 : cell.vm = .none) : va_Any "java/lang/Object" s H x := by
  have hk := (hE.1.1 ci _ hc).2
  obtain ⟨kC, hkC, -⟩ := hk.2
  refine ⟨cell, h3, by rw [h5]; rfl, ⟨kC, by rw [h4]; exact hkC⟩, fun comp hcomp => ?_⟩
  obtain ⟨c0, t1, f1, f2, f3⟩ := Cond.castable_spec (va_Nw.use (A := #[]) rfl hw)
  have e1 : D.1 ci = c0 := Option.some.inj (hk.1.symm.trans f1)
  have e2 : comp = t1 := Option.some.inj (hcomp.symm.trans f2)
  rw [h4, e1, e2]
  exact f3
theorem isE.any {D : va_G} {dT : Nat → ClassId} {s : State} {H : Heap} {x : Nat} (hE : EV D dT s) (h : isE D x H) : va_Any "java/lang/Object" s H x := by
  obtain ⟨ci, cell, h1, h2, h3, h4, h5⟩ := h
  rcases (show ci = 9 ∨ ci = 10 ∨ ci = 11 ∨ ci = 12 ∨ ci = 13 ∨ ci = 14 ∨ ci = 15 by omega) with rfl | rfl | rfl | rfl | rfl | rfl | rfl
  · exact isE_any0 (C := RX10) (T := TX10) hE rfl (ncw_6 hE.2) h3 h4 h5
  · exact isE_any0 (C := RX11) (T := TX11) hE rfl (ncw_7 hE.2) h3 h4 h5
  · exact isE_any0 (C := RX13) (T := TX13) hE rfl (ncw_9 hE.2) h3 h4 h5
  · exact isE_any0 (C := RX14) (T := TX14) hE rfl (ncw_11 hE.2) h3 h4 h5
  · exact isE_any0 (C := RX16) (T := TX16) hE rfl (ncw_13 hE.2) h3 h4 h5
  · exact isE_any0 (C := RX17) (T := TX17) hE rfl (ncw_15 hE.2) h3 h4 h5
  · exact isE_any0 (C := RX18) (T := TX18) hE rfl (ncw_17 hE.2) h3 h4 h5
/-- an array of n places for objects, at ed -/
def aO (dT : Nat → ClassId) (ed n : Nat) (f : Nat → Option Nat) (H : Heap) : Prop := H[ed]? = some (arrV (dT 4) n (fun j => va_rf (f j)))
/-- a list at al, with its array ed -/
def LB (D : va_G) (dT : Nat → ClassId) (e0 al ed : Nat) (els : List Nat) (H : Heap) : Prop := (∃ mc : Int32, oF D 16 3 [.int mc, .ref ed, .int (nI els.length)] al H) ∧ ((els = [] ∧ ed = e0) ∨ (ed ≠ e0 ∧ ed ≠ al ∧ ∃ n f, aO dT ed n f H ∧ els.length ≤ n ∧ 10 ≤ n ∧ n ≤ 22 ∧ (∀ i, f i = els[i]?)))
theorem LB.kq {D : va_G} {dT : Nat → ClassId} {e0 al ed : Nat} {els : List Nat} {H H1 : Heap} (h : LB D dT e0 al ed els H) (h1 : H1[al]? = H[al]?) (h2 : ed ≠ e0 → H1[ed]? = H[ed]?) : LB D dT e0 al ed els H1 := by
  obtain ⟨⟨mc, ho⟩, hh⟩ := h
  refine ⟨⟨mc, ho.same h1⟩, ?_⟩
  rcases hh with h | ⟨g1, g2, n, f, g3, g4⟩
  · exact Or.inl h
  · exact Or.inr ⟨g1, g2, n, f, by unfold aO; rw [h2 g1]; exact g3, g4⟩
def aLP (D : va_G) (dT : Nat → ClassId) (Z : nwZ) (q : Nat) (U : State) : Prop := oF D 16 3 [.int 0, .null, .int 0] q U.heap ∧ EV D dT U ∧ SV Z U U.heap ∧ Z.1 ≤ q
theorem aLP_bl {D : va_G} {dT : Nat → ClassId} {Z : nwZ} {q : Nat} : ∀ (U : State) (f : JFrame) (mk : MethodId) (x : Array Value), aLP D dT Z q U → aLP D dT Z q (U.calling f mk x) := fun U f mk x h => ⟨h.1, h.2.1.same (u := U) (U := U.calling f mk x) rfl, h.2.2.1.same (u := U) (U := U.calling f mk x) rfl, h.2.2.2⟩
theorem dl_ac : dN yJ0_init 0 := ⟨by decide +kernel, by decide +kernel, by decide +kernel⟩
theorem dl_ab : dN yJ1_init 0 := ⟨by decide +kernel, by decide +kernel, by decide +kernel⟩
theorem dl_init : dN yJ2_init 0 := ⟨by decide +kernel, by decide +kernel, by decide +kernel⟩
theorem tl_ac (l : Launch) (D : va_G) (dT : Nat → ClassId) (q : Nat) : Met l yJ0_init (ws_ yJ0_init cJ0_init 1 none) (rmd 1) (va_Pc [.ref q] (oFP D dT 16 3 [.int 0, .null, .int 0] q)) (va_Qv (fun (_ : Unit) => True) (fun _ t => oF D 16 3 [.int 0, .null, .int 0] q t.heap) (eqA q)) 0 0 (eqA q) := by
  refine k_met (own := RJ0) (by decide) rfl (Nat.le_of_ble_eq_true rfl) ?_
  intro p e s m below meth c ls E hP hr hlk hl hnm
  obtain ⟨hP, hE⟩ := hP
  obtain ⟨hx, hb, hml, hown, hts⟩ := id E
  have hS : va_S (eqA q) s.heap s.heap [] := va_S.rf
  have hl : lv_has ls 1 [(0, .ref q)] := hl
  refine lv_aload_n hx hb dJ0_init_0 rfl (lv_at hl 0 rfl) ?_
  refine W.objInit hx hb hown (hts _ q222) (hts _ q201) (hts _ q202) rfl (by rw [hml]; exact hl.1) rfl dJ0_init_1 (Nat.le_of_ble_eq_true rfl) (Nat.le_of_ble_eq_true rfl) ?_
  exact g_vret (Pic := fun H => oF D 16 3 [.int 0, .null, .int 0] q H) E hr hlk hP hS dJ0_init_4
theorem tl_ab (l : Launch) (D : va_G) (dT : Nat → ClassId) (q : Nat) : Met l yJ1_init (ws_ yJ1_init cJ1_init 1 none) (rmd 2) (va_Pc [.ref q] (oFP D dT 16 3 [.int 0, .null, .int 0] q)) (va_Qv (fun (_ : Unit) => True) (fun _ t => oF D 16 3 [.int 0, .null, .int 0] q t.heap) (eqA q)) 0 0 (eqA q) := by
  refine k_met (own := RJ1) (by decide) rfl (Nat.le_of_ble_eq_true rfl) ?_
  intro p e s m below meth c ls E hP hr hlk hl hnm
  obtain ⟨hP, hE⟩ := hP
  obtain ⟨hx, hb, hml, hown, hts⟩ := id E
  have hS : va_S (eqA q) s.heap s.heap [] := va_S.rf
  have hl : lv_has ls 1 [(0, .ref q)] := hl
  refine lv_aload_n hx hb dJ1_init_0 rfl (lv_at hl 0 rfl) ?_
  refine k_iv (Pic := oFP D dT 16 3 [.int 0, .null, .int 0] q) (Pic1 := fun H => oF D 16 3 [.int 0, .null, .int 0] q H) (A1 := eqA q) E hS (fun _ _ z => z) (fun _ z => z) (As := []) (tl_ac l D dT q) oFP_bl (oFP_pre hP hE) q219 q220 q163 q221 rfl dl_ac rfl ⟨rfl, rfl⟩ (rmd_ok (by decide) (by decide)) ⟨Nat.le_refl 0, Nat.le_refl 0⟩ hl rfl (Nat.le_of_ble_eq_true rfl) dJ1_init_1 (fun H locs hP _ _ hS => ?_)
  refine lv_aload_n hx hb dJ1_init_4 rfl (lv_at hl 0 rfl) ?_
  refine lv_iconst (v := 0) hx hb dJ1_init_5 rfl ?_
  refine gp_put (C := RJ2) (T := TJ2) (ty := .int) E hE.1 (oneO (dT := dT) hP) hS rfl (if_pos rfl) rfl in_J2 tyJ2 tyJ2_ok nmJ2 0 (by decide) (hts _ q227) (fun _ z => z) rfl rfl rfl rfl dJ1_init_6 (fun H locs hP _ hS => ?_)
  have hP : oF D 16 3 [.int 0, .null, .int 0] q H := cf_put (Nat.le_of_ble_eq_true rfl) hP
  exact g_vret (Pic := fun H => oF D 16 3 [.int 0, .null, .int 0] q H) E hr hlk hP hS dJ1_init_9
theorem tl_init (l : Launch) (D : va_G) (dT : Nat → ClassId) (Z : nwZ) (q : Nat) : Met l yJ2_init (ws_ yJ2_init cJ2_init 1 none) (rmd 3) (va_Pc [.ref q] (aLP D dT Z q)) (va_Qv (fun (_ : Unit) => True) (fun _ t => LB D dT Z.2.2.1 q Z.2.2.1 [] t.heap) (eqA q)) 0 0 (eqA q) := by
  refine k_met (own := RJ2) (by decide) rfl (Nat.le_of_ble_eq_true rfl) ?_
  intro p e s m below meth c ls E hP hr hlk hl hnm
  obtain ⟨hP, hE, hSV, hq⟩ := hP
  obtain ⟨hx, hb, hml, hown, hts⟩ := id E
  have hS : va_S (eqA q) s.heap s.heap [] := va_S.rf
  have hl : lv_has ls 1 [(0, .ref q)] := hl
  have hAB : ∀ z, eqA q z → ge_ Z.1 z := fun z hz => by rw [show z = q from hz]; exact hq
  refine lv_aload_n hx hb dJ2_init_0 rfl (lv_at hl 0 rfl) ?_
  refine k_iv (Pic := oFP D dT 16 3 [.int 0, .null, .int 0] q) (Pic1 := fun H => oF D 16 3 [.int 0, .null, .int 0] q H) (A1 := eqA q) E hS (fun _ _ z => z) (fun _ z => z) (As := []) (tl_ab l D dT q) oFP_bl (oFP_pre hP hE) q216 q217 q164 q218 rfl dl_ab rfl ⟨rfl, rfl⟩ (rmd_ok (by decide) (by decide)) ⟨Nat.le_refl 0, Nat.le_refl 0⟩ hl rfl (Nat.le_of_ble_eq_true rfl) dJ2_init_1 (fun H locs hP _ _ hS => ?_)
  refine lv_aload_n hx hb dJ2_init_4 rfl (lv_at hl 0 rfl) ?_
  refine va_gets hx hb (hSV.2.2.2.1.1.narrow hAB) hS hown (hts _ q223) (fun _ z => z) dJ2_init_5 ?_
  refine gp_put (C := RJ2) (T := TJ2) (ty := .array (.object "java/lang/Object")) E hE.1 (oneO (dT := dT) hP) hS rfl (if_pos rfl) rfl in_J2 tyJ2 tyJ2_ok nmJ2 1 (by decide) (hts _ q225) (fun _ z => z) rfl rfl rfl rfl dJ2_init_8 (fun H locs hP _ hS => ?_)
  have hP : oF D 16 3 [.int 0, .ref Z.2.2.1, .int 0] q H := cf_put (Nat.le_of_ble_eq_true rfl) hP
  exact g_vret (Pic := fun H => LB D dT Z.2.2.1 q Z.2.2.1 [] H) E hr hlk ⟨⟨0, hP⟩, Or.inl ⟨rfl, rfl⟩⟩ hS dJ2_init_11
/-! newLength -/
theorem dl_nl : dN yJ9_newLength 3 := ⟨by decide +kernel, by decide +kernel, by decide +kernel⟩
theorem tl_nl (l : Launch) (o mg pg : Nat) (h1 : 0 < o) (h2 : o ≤ 1000) (h3 : mg ≤ 1000) (h4 : pg ≤ 1000) : Met l yJ9_newLength (ws_ yJ9_newLength cJ9_newLength 4 (some .int)) (rmd 1) (pPc [.int (nI o), .int (nI mg), .int (nI pg)]) (pQi (nI (o + max mg pg))) 0 0 (fun _ => False) := by
  refine p_met (by decide) rfl (Nat.le_of_ble_eq_true rfl) ?_
  intro p e s m below meth c ls E hr hlk hl
  have hP := trivial
  have hS : va_S (fun _ => False) s.heap s.heap [] := va_S.rf
  obtain ⟨hx, hb, hml, hown, hts⟩ := id E
  have hl : lv_has ls 4 [(0, .int (nI o)), (1, .int (nI mg)), (2, .int (nI pg))] := hl
  refine lv_iload_n hx hb dJ9_newLength_0 rfl (lv_at hl 0 rfl) ?_
  refine lv_iload_n hx hb dJ9_newLength_1 rfl (lv_at hl 1 rfl) ?_
  refine lv_iload_n hx hb dJ9_newLength_2 rfl (lv_at hl 2 rfl) ?_
  refine mx_calli E (by decide) hl q756 q757 q182 q758 (Nat.le_of_ble_eq_true rfl) dJ9_newLength_3 ?_
  refine lv_nm (y := nI (max mg pg)) (by
    by_cases hc : mg < pg
    · rw [if_pos (nI_lt hc (by omega))]; congr 1; omega
    · rw [if_neg (nI_nlt (by omega) (by omega))]; congr 1; omega) ?_
  refine lv_iadd hx hb dJ9_newLength_6 ?_
  refine lv_nm (nI_add o (max mg pg)) ?_
  refine lv_istore_n (lv' := [(3, .int (nI (o + max mg pg))), (0, .int (nI o)), (1, .int (nI mg)), (2, .int (nI pg))]) hx hb dJ9_newLength_7 rfl hl (by decide) rfl (fun ls hl => ?_)
  refine lv_iconst (v := nI 0) hx hb dJ9_newLength_8 rfl ?_
  refine lv_iload_n hx hb dJ9_newLength_9 rfl (lv_at hl 0 rfl) ?_
  refine lv_icmp_ge (tgt := 21) hx hb dJ9_newLength_10 (by decide) (fun k => absurd k (nI_ge (by omega) (by omega))) (fun k => ?_)
  refine lv_iload_n hx hb dJ9_newLength_13 rfl (lv_at hl 0 rfl) ?_
  refine lv_ldc (v := 2147483639) hx hb hown (hts _ q759) dJ9_newLength_14 ?_
  refine lv_icmp_gt (tgt := 21) hx hb dJ9_newLength_16 (by decide) (fun k => absurd k (nI_nlt (a := 2147483639) (b := o + max mg pg) (by omega) (by decide))) (fun k => ?_)
  refine lv_iload_n hx hb dJ9_newLength_19 rfl (lv_at hl 0 rfl) ?_
  exact g_iret (Pic := fun _ => True) E hr hlk hP hS rfl dJ9_newLength_20
